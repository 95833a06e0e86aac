/-! ===== J: rows of the class's side: words of the tables that don't ride in the lists, nest mates, interfaces, inherited and overriding methods, super, casts, Math, statics, System.arraycopy ===== -/
set_option maxRecDepth 100000
/-- words that stay as the tables warm -/
def nwk : Cond → Bool
  | .methodLinkNest _ _ _ _ => true
  | .fieldLinkNest _ _ _ _ _ _ => true
  | .castable _ _ => true
  | .declares _ => true
  | .arrayOver (.object _) => true
  | _ => false
/-- the words of a call through an interface -/
def FwIn (C : String) (x y : MethodName) : Prop := Cond.declares x ∈ lw_tbl ∧ Cond.interfaceMethod x.cls x.cls x.name x.desc ∈ lw_tbl ∧ Cond.publicMethod y ∈ lw_tbl ∧ Cond.unhidden C x.name x.desc ∈ lw_tbl ∧ Cond.castable C x.cls ∈ lw_tbl ∧ (x.cls ≠ "java/lang/invoke/MethodHandle" ∧ x.cls ≠ "java/lang/invoke/VarHandle")
/-- what the tables say beside the lists; the heap at the law's entry: ArrayList's shared empty array -/
def XT (G : gl_T) (U : State) : Prop :=
  (∀ w ∈ lw_tbl, nwk w = true → va_Nw w U) ∧ (∀ C x y, FwIn C x y → va_Fw C x y U) ∧
  va_Z "java/util/ArrayList" "DEFAULTCAPACITY_EMPTY_ELEMENTDATA" "[Ljava/lang/Object;" (.ref (gl_z G 0)) (gl_fr G) U (gl_H G)
theorem XT.warm {G : gl_T} {s U : State} (hW : s.WarmedH U.vm) (h : XT G s) : XT G U := by
  refine ⟨fun w hw hk => ?_, fun C x y hf => va_Fw.moved hf.2.2.2.2.2 hW.alike (h.2.1 C x y hf), h.2.2.moved hW.alike⟩
  have h0 := h.1 w hw hk
  cases w
  case methodLinkNest => exact va_Nw.warmM hW h0
  case fieldLinkNest => exact va_Nw.warmF hW h0
  case castable => exact va_Nw.warmC hW h0
  case declares => exact va_Nw.warmD hW h0
  case arrayOver t =>
    cases t
    case object D => exact va_AO.moved hW.alike h0
    all_goals cases hk
  all_goals cases hk
theorem XT.same {G : gl_T} {u V : State} (e : u.vm = V.vm) (h : XT G u) : XT G V := h.warm (e ▸ State.WarmedH.refl u)
/-- what the class's side asks of G -/
def GH (G : gl_T) : Prop := (∀ U, gl_X G U → XT G U) ∧ 0 < (gl_H G).size ∧ gl_z G 0 < (gl_H G).size ∧ ∃ cell : Cell, (gl_H G)[gl_z G 0]? = some cell ∧ cell.slots.size = 0 ∧ ∀ U, gl_X G U → U.isArrayOf cell (.object "java/lang/Object")
section J2
variable {G : gl_T} {k : KX} {cc : ByteArray} {own nm : String} {nL hh mc ms : Nat} {rt : Option FieldType} {post : Outcome → wd_T → Prop}
variable {w : wd_T} {lv : List (Nat × Value)} {pc ce sl : Nat} {rest st st0 : List Value}
variable {y : MethodName} {bytes : ByteArray} {maxL h' mc' ms' index : Nat} {ret' : Option FieldType} {As : List Value} {a b : Nat} {post' : Outcome → wd_T → Prop}
theorem Cx.xt (C : Cx G k cc own nm nL rt hh mc ms post) (hG : GH G) : XT G (k_s k) := hG.1 _ C.hK.X
theorem Cx.nw (C : Cx G k cc own nm nL rt hh mc ms post) (hG : GH G) {w : Cond} (h : w ∈ lw_tbl) (hk : nwk w = true) : va_Nw w (k_s k) := (C.xt hG).1 w h hk
theorem Cx.fw (C : Cx G k cc own nm nL rt hh mc ms post) (hG : GH G) {D : String} {x y : MethodName} (h : FwIn D x y) : va_Fw D x y (k_s k) := (C.xt hG).2.1 D x y h
theorem j_callVN (C : Cx G k cc own nm nL rt hh mc ms post) (hM : Mt G y bytes maxL ret' h' (.ref b :: As) w post' mc' ms') (hret : ∀ o w', post' o w' → ∃ v, o = .returned v) {host : String} {ci τ N : Nat} {fs : List Value} {D : String} {T : u_T} (hb : w.1 b = some (τ, .inr (ci, fs))) (hcl : jcl[ci]? = some (D, T, N)) (n : Nat)
    (q1 : va_Nw (.methodLinkNest own index y host) (k_s k)) (q2 : Cond.instanceMethod y ∈ lw_all) (q3 : Cond.selects D y y ∈ lw_all) (q4 : Cond.initialized y.cls ∈ lw_all) (q5 : Cond.code y bytes maxL ret' ∈ lw_all) (hd0 : y.cls ≠ "java/lang/invoke/MethodHandle" ∧ y.cls ≠ "java/lang/invoke/VarHandle" ∧ (parseMethodDescriptor y.desc).map (fun d => d.parameters.length) = some n) (hn : As.length = n)
    (hh1 : h' + 1 ≤ hh) (hh2 : maxL + 19 + 60 * h' ≤ 60 * hh) (hst : (rest.map fun v => v.category).sum ≤ 8) (hs : st0 = As.reverse ++ .ref b :: rest) (hd : decode cc pc = .ok (.invokevirtual index, 3)) (h1 : ce + mc' ≤ mc) (h2 : sl + ms' ≤ ms)
    (kk : ∀ (v : Option Value) (w' : wd_T), post' (.returned v) w' → J G k w' lv (pc + 3) (v.toList ++ rest) (ce + mc') (sl + ms')) : J G k w lv pc st0 ce sl := by
  subst hs
  refine j_run (post' := post') (fun ls H locs hl2 hpp => ?_) kk
  exact va_runVN (C := D) ⟨C.hx, C.hb, C.hml.trans C.hn.symm, C.hown, C.hts⟩ (hM.met hret) ⟨va_cnB n C.hts (lw_meth q5) rfl rfl rfl q1 (C.hts _ q4) hd0 ⟨by rw [C.hR]; show h' + 12 + 1 ≤ hh + 12; omega, by rw [C.hR]; show 8 + (maxL + 11) + (60 * h' + 10500) ≤ 60 * hh + 10500; omega⟩, C.hts _ q2, C.hts _ q3⟩
    ⟨Mt.blind, va_recv C.hK.1 (hpp.at' hb) (q0 := 0) hcl rfl, fun U hU hW => ⟨rfl, by rw [hU]; exact hpp, C.hK.warm hW⟩⟩ rfl hn hl2.1 rfl (lv_room hst) hd ⟨by rw [C.hR]; exact h1, by rw [C.hR]; exact h2⟩
theorem j_callSN (C : Cx G k cc own nm nL rt hh mc ms post) (hM : Mt G y bytes maxL ret' h' As w post' mc' ms') (hret : ∀ o w', post' o w' → ∃ v, o = .returned v) {host : String} (n : Nat)
    (q1 : va_Nw (.methodLinkNest own index y host) (k_s k)) (q2 : Cond.static y ∈ lw_all) (q4 : Cond.initialized y.cls ∈ lw_all) (q5 : Cond.code y bytes maxL ret' ∈ lw_all) (hd0 : y.cls ≠ "java/lang/invoke/MethodHandle" ∧ y.cls ≠ "java/lang/invoke/VarHandle" ∧ (parseMethodDescriptor y.desc).map (fun d => d.parameters.length) = some n) (hn : As.length = n)
    (hh1 : h' + 1 ≤ hh) (hh2 : maxL + 19 + 60 * h' ≤ 60 * hh) (hst : (rest.map fun v => v.category).sum ≤ 8) (hs : st0 = As.reverse ++ rest) (hd : decode cc pc = .ok (.invokestatic index, 3)) (h1 : ce + mc' ≤ mc) (h2 : sl + ms' ≤ ms)
    (kk : ∀ (v : Option Value) (w' : wd_T), post' (.returned v) w' → J G k w' lv (pc + 3) (v.toList ++ rest) (ce + mc') (sl + ms')) : J G k w lv pc st0 ce sl := by
  subst hs
  refine j_run (post' := post') (fun ls H locs hl2 hpp => ?_) kk
  exact va_runSN ⟨C.hx, C.hb, C.hml.trans C.hn.symm, C.hown, C.hts⟩ (hM.met hret) ⟨va_cnB n C.hts (lw_meth q5) rfl rfl rfl q1 (C.hts _ q4) hd0 ⟨by rw [C.hR]; show h' + 12 + 1 ≤ hh + 12; omega, by rw [C.hR]; show 8 + (maxL + 11) + (60 * h' + 10500) ≤ 60 * hh + 10500; omega⟩, C.hts _ q2, trivial⟩
    ⟨Mt.blind, fun U hU hW => ⟨rfl, by rw [hU]; exact hpp, C.hK.warm hW⟩⟩ rfl hn hl2.1 rfl (lv_room hst) hd ⟨by rw [C.hR]; exact h1, by rw [C.hR]; exact h2⟩
theorem j_callIN (C : Cx G k cc own nm nL rt hh mc ms post) (hM : Mt G y bytes maxL none h' (.ref b :: As) w post' mc' ms') (hret : ∀ o w', post' o w' → ∃ v, o = .returned v) {host : String} (n : Nat)
    (q1 : va_Nw (.methodLinkNest own index y host) (k_s k)) (q2 : Cond.instanceMethod y ∈ lw_all) (q4 : Cond.initialized y.cls ∈ lw_all) (q5 : Cond.code y bytes maxL none ∈ lw_all) (hy1 : y.name = "<init>") (hd0 : y.cls ≠ "java/lang/invoke/MethodHandle" ∧ y.cls ≠ "java/lang/invoke/VarHandle" ∧ (parseMethodDescriptor y.desc).map (fun d => d.parameters.length) = some n) (hn : As.length = n)
    (hh1 : h' + 1 ≤ hh) (hh2 : maxL + 19 + 60 * h' ≤ 60 * hh) (hst : (rest.map fun v => v.category).sum ≤ 8) (hs : st0 = As.reverse ++ .ref b :: rest) (hd : decode cc pc = .ok (.invokespecial index, 3)) (h1 : ce + mc' ≤ mc) (h2 : sl + ms' ≤ ms)
    (kk : ∀ (v : Option Value) (w' : wd_T), post' (.returned v) w' → J G k w' lv (pc + 3) (v.toList ++ rest) (ce + mc') (sl + ms')) : J G k w lv pc st0 ce sl := by
  subst hs
  refine j_run (post' := post') (fun ls H locs hl2 hpp => ?_) kk
  exact va_runIN ⟨C.hx, C.hb, C.hml.trans C.hn.symm, C.hown, C.hts⟩ (hM.met hret) ⟨va_cnB n C.hts (lw_meth q5) rfl rfl rfl q1 (C.hts _ q4) hd0 ⟨by rw [C.hR]; show h' + 12 + 1 ≤ hh + 12; omega, by rw [C.hR]; show 8 + (maxL + 11) + (60 * h' + 10500) ≤ 60 * hh + 10500; omega⟩, hy1, C.hts _ q2⟩
    ⟨Mt.blind, fun U hU hW => ⟨rfl, by rw [hU]; exact hpp, C.hK.warm hW⟩⟩ rfl hn hl2.1 rfl (lv_room hst) hd ⟨by rw [C.hR]; exact h1, by rw [C.hR]; exact h2⟩
/-- behind a call through an interface that returns -/
theorem j_run5 (hr : ∀ (ls : Array Slot) (H : Heap) (locs : List Loc), lv_has ls (k_n k) lv → hp G w H → va_Run5 (k_p k) (gl_l G) (k_e k) (k_R k) (k_s k) (k_m k) (k_a k) (k_b k) (k_me k) (k_c k) H locs ce sl mc' ms' (F0 (k_m k) pc ls st0) rest (fun _ o t => ∃ w', post' o w' ∧ hp G w' t.heap) (gl_fr G)) (kk : ∀ (v : Option Value) (w' : wd_T), post' (.returned v) w' → J G k w' lv (pc + 5) (v.toList ++ rest) (ce + mc') (sl + ms')) : J G k w lv pc st0 ce sl := by
  intro ls H locs hl2 hpp hf T hT X
  obtain ⟨v, st₀, t, T', L, h0, X', hL, e1, e2, ⟨w', hq, hw⟩, stp⟩ := hr ls H locs hl2 hpp T hT X
  obtain ⟨t2, a1, b1⟩ := kk v w' hq ls t.heap (locs ++ L) hl2 hw (fun q hq2 => by
    rcases List.mem_append.mp hq2 with h1 | h1
    · exact hf q h1
    · exact hL q h1) T' e1 X'
  exact ⟨t2, stp t2 a1, b1⟩
theorem lw_F {own C : String} {idx L : Nat} {x y : MethodName} {b : ByteArray} {r : Option FieldType} (h1 : Cond.methodLink own idx x ∈ lw_all) (h2 : Cond.selects C x y ∈ lw_all) (h3 : Cond.instanceMethod y ∈ lw_all) (h4 : Cond.initialized y.cls ∈ lw_all) (h5 : Cond.code y b L r ∈ lw_all) : GoodIn lw_all (va_wsF own idx C x y (ws_ y b L r)) := by
  refine lw_app ?_ (lw_meth h5)
  intro w hw
  simp only [List.mem_cons, List.not_mem_nil, or_false] at hw
  rcases hw with e | e | e | e
  · rw [e]; exact h1
  · rw [e]; exact h2
  · rw [e]; exact h3
  · rw [e]; exact h4
theorem lw_U {own C owner : String} {idx L : Nat} {x y : MethodName} {b : ByteArray} {r : Option FieldType} (h1 : Cond.methodLink own idx x ∈ lw_all) (h2 : Cond.sameMethod x.cls owner x.name x.desc ∈ lw_all) (h3 : Cond.selects C x y ∈ lw_all) (h4 : Cond.instanceMethod y ∈ lw_all) (h5 : Cond.initialized y.cls ∈ lw_all) (h6 : Cond.code y b L r ∈ lw_all) : GoodIn lw_all (va_wsU own idx C owner x y (ws_ y b L r)) := by
  refine lw_app ?_ (lw_meth h6)
  intro w hw
  simp only [List.mem_cons, List.not_mem_nil, or_false] at hw
  rcases hw with e | e | e | e | e
  · rw [e]; exact h1
  · rw [e]; exact h2
  · rw [e]; exact h3
  · rw [e]; exact h4
  · rw [e]; exact h5
theorem lw_SU {own : String} {idx L : Nat} {y : MethodName} {b : ByteArray} {r : Option FieldType} (h1 : Cond.methodLink own idx y ∈ lw_all) (h2 : Cond.sameMethod y.cls y.cls y.name y.desc ∈ lw_all) (h3 : Cond.superclass own y.cls ∈ lw_all) (h4 : Cond.instanceMethod y ∈ lw_all) (h5 : Cond.initialized y.cls ∈ lw_all) (h6 : Cond.code y b L r ∈ lw_all) : GoodIn lw_all (va_wsSU own idx y (ws_ y b L r)) := by
  refine lw_app ?_ (lw_meth h6)
  intro w hw
  simp only [List.mem_cons, List.not_mem_nil, or_false] at hw
  rcases hw with e | e | e | e | e
  · rw [e]; exact h1
  · rw [e]; exact h2
  · rw [e]; exact h3
  · rw [e]; exact h4
  · rw [e]; exact h5
/-- a call through an interface: x is what the code names, y what runs -/
theorem j_callF (C : Cx G k cc own nm nL rt hh mc ms post) (hM : Mt G y bytes maxL ret' h' (.ref b :: As) w post' mc' ms') (hret : ∀ o w', post' o w' → ∃ v, o = .returned v) {x : MethodName} {count ci τ N : Nat} {fs : List Value} {D : String} {T : u_T} (hb : w.1 b = some (τ, .inr (ci, fs))) (hcl : jcl[ci]? = some (D, T, N)) (n : Nat)
    (hF : va_Fw D x y (k_s k)) (q1 : Cond.methodLink own index x ∈ lw_all) (q2 : Cond.selects D x y ∈ lw_all) (q3 : Cond.instanceMethod y ∈ lw_all) (q4 : Cond.initialized y.cls ∈ lw_all) (q5 : Cond.code y bytes maxL ret' ∈ lw_all) (hd0 : x.cls ≠ "java/lang/invoke/MethodHandle" ∧ x.cls ≠ "java/lang/invoke/VarHandle" ∧ (parseMethodDescriptor x.desc).map (fun d => d.parameters.length) = some n) (hn : As.length = n)
    (hh1 : h' + 1 ≤ hh) (hh2 : maxL + 19 + 60 * h' ≤ 60 * hh) (hst : (rest.map fun v => v.category).sum ≤ 8) (hs : st0 = As.reverse ++ .ref b :: rest) (hd : decode cc pc = .ok (.invokeinterface index count, 5)) (h1 : ce + mc' ≤ mc) (h2 : sl + ms' ≤ ms)
    (kk : ∀ (v : Option Value) (w' : wd_T), post' (.returned v) w' → J G k w' lv (pc + 5) (v.toList ++ rest) (ce + mc') (sl + ms')) : J G k w lv pc st0 ce sl := by
  subst hs
  refine j_run5 (post' := post') (fun ls H locs hl2 hpp => ?_) kk
  exact va_runF (C := D) (C.hK.1.1 ci _ hcl).2 ⟨C.hx, C.hb, C.hml.trans C.hn.symm, C.hown, C.hts⟩ (hM.met hret) (va_cwF n C.hts (lw_F q1 q2 q3 q4 q5) rfl rfl rfl hF hd0 ⟨by rw [C.hR]; show h' + 12 + 1 ≤ hh + 12; omega, by rw [C.hR]; show 8 + (maxL + 11) + (60 * h' + 10500) ≤ 60 * hh + 10500; omega⟩)
    ⟨Mt.blind, va_recv C.hK.1 (hpp.at' hb) (q0 := 0) hcl rfl, fun U hU hW => ⟨rfl, by rw [hU]; exact hpp, C.hK.warm hW⟩⟩ rfl hn hl2.1 rfl (lv_room hst) hd ⟨by rw [C.hR]; exact h1, by rw [C.hR]; exact h2⟩
/-- a call whose named method another class declares (inherited: y is the owner's; overriding or abstract: another) -/
theorem j_callA (C : Cx G k cc own nm nL rt hh mc ms post) (hM : Mt G y bytes maxL ret' h' (.ref b :: As) w post' mc' ms') (hret : ∀ o w', post' o w' → ∃ v, o = .returned v) {x : MethodName} {owner : String} {ci τ N : Nat} {fs : List Value} {D : String} {T : u_T} (hb : w.1 b = some (τ, .inr (ci, fs))) (hcl : jcl[ci]? = some (D, T, N)) (n : Nat)
    (hz : va_Decl (k_s k) ⟨owner, x.name, x.desc⟩) (q1 : Cond.methodLink own index x ∈ lw_all) (q2 : Cond.sameMethod x.cls owner x.name x.desc ∈ lw_all) (q3 : Cond.selects D x y ∈ lw_all) (q4 : Cond.instanceMethod y ∈ lw_all) (q5 : Cond.initialized y.cls ∈ lw_all) (q6 : Cond.code y bytes maxL ret' ∈ lw_all) (hd0 : owner ≠ "java/lang/invoke/MethodHandle" ∧ owner ≠ "java/lang/invoke/VarHandle" ∧ (parseMethodDescriptor x.desc).map (fun d => d.parameters.length) = some n) (hn : As.length = n)
    (hh1 : h' + 1 ≤ hh) (hh2 : maxL + 19 + 60 * h' ≤ 60 * hh) (hst : (rest.map fun v => v.category).sum ≤ 8) (hs : st0 = As.reverse ++ .ref b :: rest) (hd : decode cc pc = .ok (.invokevirtual index, 3)) (h1 : ce + mc' ≤ mc) (h2 : sl + ms' ≤ ms)
    (kk : ∀ (v : Option Value) (w' : wd_T), post' (.returned v) w' → J G k w' lv (pc + 3) (v.toList ++ rest) (ce + mc') (sl + ms')) : J G k w lv pc st0 ce sl := by
  subst hs
  refine j_run (post' := post') (fun ls H locs hl2 hpp => ?_) kk
  have hG := lw_U q1 q2 q3 q4 q5 q6
  have ok : ∀ w ∈ va_wsU own index D owner x y (ws_ y bytes maxL ret'), w.before (k_a k) (k_s k) = true := fun w h => C.hts w (hG w h).1
  have cw : va_CU (k_R k) (k_s k) (k_a k) own D owner index x y bytes maxL ret' (ws_ y bytes maxL ret') (rmh h' mc' ms') mc' ms' n :=
    ⟨⟨rfl, rfl, by rw [C.hR]; show h' + 12 + 1 ≤ hh + 12; omega, by rw [C.hR]; show 8 + (maxL + 11) + (60 * h' + 10500) ≤ 60 * hh + 10500; omega, pay_in C.hts (lw_meth q6), List.mem_cons_self⟩, C.hts _ q6, C.hts _ q5, ⟨hd0.1, hd0.2.1⟩, fun sig h => by
      have h2 := hd0.2.2
      rw [h] at h2
      exact (Option.some.inj h2).symm, C.hts _ q1, C.hts _ q2, hz, C.hts _ q3, C.hts _ q4⟩
  exact va_runU (C := D) ⟨C.hx, C.hb, C.hml.trans C.hn.symm, C.hown, C.hts⟩ (hM.met hret) cw
    ⟨Mt.blind, va_recv C.hK.1 (hpp.at' hb) (q0 := 0) hcl rfl, fun U hU hW => ⟨rfl, by rw [hU]; exact hpp, C.hK.warm hW⟩⟩ rfl hn hl2.1 rfl (lv_room hst) hd ⟨by rw [C.hR]; exact h1, by rw [C.hR]; exact h2⟩
/-- super's method -/
theorem j_callSU (C : Cx G k cc own nm nL rt hh mc ms post) (hM : Mt G y bytes maxL ret' h' (.ref b :: As) w post' mc' ms') (hret : ∀ o w', post' o w' → ∃ v, o = .returned v) {ci τ N : Nat} {fs : List Value} {D : String} {T : u_T} (hb : w.1 b = some (τ, .inr (ci, fs))) (hcl : jcl[ci]? = some (D, T, N)) (n : Nat)
    (q1 : Cond.methodLink own index y ∈ lw_all) (q2 : Cond.sameMethod y.cls y.cls y.name y.desc ∈ lw_all) (q3 : Cond.superclass own y.cls ∈ lw_all) (q4 : Cond.instanceMethod y ∈ lw_all) (q5 : Cond.initialized y.cls ∈ lw_all) (q6 : Cond.code y bytes maxL ret' ∈ lw_all) (hd0 : y.name ≠ "<init>" ∧ (parseMethodDescriptor y.desc).map (fun d => d.parameters.length) = some n) (hn : As.length = n)
    (hh1 : h' + 1 ≤ hh) (hh2 : maxL + 19 + 60 * h' ≤ 60 * hh) (hst : (rest.map fun v => v.category).sum ≤ 8) (hs : st0 = As.reverse ++ .ref b :: rest) (hd : decode cc pc = .ok (.invokespecial index, 3)) (h1 : ce + mc' ≤ mc) (h2 : sl + ms' ≤ ms)
    (kk : ∀ (v : Option Value) (w' : wd_T), post' (.returned v) w' → J G k w' lv (pc + 3) (v.toList ++ rest) (ce + mc') (sl + ms')) : J G k w lv pc st0 ce sl := by
  subst hs
  refine j_run (post' := post') (fun ls H locs hl2 hpp => ?_) kk
  exact va_runSU (C := D) (C.hK.1.1 ci _ hcl).2 ⟨C.hx, C.hb, C.hml.trans C.hn.symm, C.hown, C.hts⟩ (hM.met hret) (va_cwSU n C.hts (lw_SU q1 q2 q3 q4 q5 q6) rfl rfl rfl hd0 ⟨by rw [C.hR]; show h' + 12 + 1 ≤ hh + 12; omega, by rw [C.hR]; show 8 + (maxL + 11) + (60 * h' + 10500) ≤ 60 * hh + 10500; omega⟩)
    ⟨Mt.blind, va_recv C.hK.1 (hpp.at' hb) (q0 := 0) hcl rfl, fun U hU hW => ⟨rfl, by rw [hU]; exact hpp, C.hK.warm hW⟩⟩ rfl hn hl2.1 rfl (lv_room hst) hd ⟨by rw [C.hR]; exact h1, by rw [C.hR]; exact h2⟩
/-- Math's own -/
theorem j_mmin (C : Cx G k cc own nm nL rt hh mc ms post) {x y : Int32} (q1 : Cond.methodLink own index Lib.Math.min.name ∈ lw_all) (q2 : Cond.static Lib.Math.min.name ∈ lw_all) (q3 : Cond.initialized "java/lang/Math" ∈ lw_all) (q4 : Cond.code Lib.Math.min.name Lib.Math.min.code 2 (some .int) ∈ lw_all) (hst : (rest.map fun v => v.category).sum ≤ 8) (h1 : ce ≤ mc) (h2 : sl ≤ ms) (hd : decode cc pc = .ok (.invokestatic index, 3)) (h : J G k w lv (pc + 3) (.int (if y < x then y else x) :: rest) ce sl) : J G k w lv pc (.int y :: .int x :: rest) ce sl := by
  intro ls H locs hl2 hpp hf
  exact va_mmin C.hx C.hb (by rw [C.hml, ← C.hn]; exact hl2.1.symm) C.hown (C.hts _ q1) (C.hts _ q2) (C.hts _ q3) (C.hts _ q4) (by rw [C.hR]; show 1 ≤ hh + 12; omega) (by rw [C.hR]; show _ + 13 ≤ 60 * hh + 10500; omega) (by rw [C.hR]; exact h1) (by rw [C.hR]; exact h2) hd (h ls H locs hl2 hpp hf)
theorem j_mmax (C : Cx G k cc own nm nL rt hh mc ms post) {x y : Int32} (q1 : Cond.methodLink own index Lib.Math.max.name ∈ lw_all) (q2 : Cond.static Lib.Math.max.name ∈ lw_all) (q3 : Cond.initialized "java/lang/Math" ∈ lw_all) (q4 : Cond.code Lib.Math.max.name Lib.Math.max.code 2 (some .int) ∈ lw_all) (hst : (rest.map fun v => v.category).sum ≤ 8) (h1 : ce ≤ mc) (h2 : sl ≤ ms) (hd : decode cc pc = .ok (.invokestatic index, 3)) (h : J G k w lv (pc + 3) (.int (if x < y then y else x) :: rest) ce sl) : J G k w lv pc (.int y :: .int x :: rest) ce sl := by
  intro ls H locs hl2 hpp hf
  exact va_mmax C.hx C.hb (by rw [C.hml, ← C.hn]; exact hl2.1.symm) C.hown (C.hts _ q1) (C.hts _ q2) (C.hts _ q3) (C.hts _ q4) (by rw [C.hR]; show 1 ≤ hh + 12; omega) (by rw [C.hR]; show _ + 13 ≤ 60 * hh + 10500; omega) (by rw [C.hR]; exact h1) (by rw [C.hR]; exact h2) hd (h ls H locs hl2 hpp hf)
theorem j_mabs (C : Cx G k cc own nm nL rt hh mc ms post) {x : Int32} (q1 : Cond.methodLink own index Lib.Math.abs.name ∈ lw_all) (q2 : Cond.static Lib.Math.abs.name ∈ lw_all) (q3 : Cond.initialized "java/lang/Math" ∈ lw_all) (q4 : Cond.code Lib.Math.abs.name Lib.Math.abs.code 1 (some .int) ∈ lw_all) (hst : (rest.map fun v => v.category).sum ≤ 8) (h1 : ce ≤ mc) (h2 : sl ≤ ms) (hd : decode cc pc = .ok (.invokestatic index, 3)) (h : J G k w lv (pc + 3) (.int (if 0 ≤ x then x else 0 - x) :: rest) ce sl) : J G k w lv pc (.int x :: rest) ce sl := by
  intro ls H locs hl2 hpp hf
  exact va_mabs C.hx C.hb (by rw [C.hml, ← C.hn]; exact hl2.1.symm) C.hown (C.hts _ q1) (C.hts _ q2) (C.hts _ q3) (C.hts _ q4) (by rw [C.hR]; show 1 ≤ hh + 12; omega) (by rw [C.hR]; show _ + 13 ≤ 60 * hh + 10500; omega) (by rw [C.hR]; exact h1) (by rw [C.hR]; exact h2) hd (h ls H locs hl2 hpp hf)
/-- casts -/
theorem j_castY (C : Cx G k cc own nm nL rt hh mc ms post) {ci τ N : Nat} {fs : List Value} {D E : String} {T : u_T} (hb : w.1 a = some (τ, .inr (ci, fs))) (hcl : jcl[ci]? = some (D, T, N)) (q1 : Cond.classLink own index E ∈ lw_all) (hc : va_Nw (.castable D E) (k_s k)) (hd : decode cc pc = .ok (.checkcast index, 3)) (h : J G k w lv (pc + 3) (.ref a :: st) ce sl) : J G k w lv pc (.ref a :: st) ce sl :=
  fun ls H locs hl2 hpp hf => va_castY C.hx C.hb C.hown (C.hts _ q1) hc (va_recv C.hK.1 (hpp.at' hb) (q0 := 0) hcl rfl) hd (h ls H locs hl2 hpp hf)
theorem j_castS (C : Cx G k cc own nm nL rt hh mc ms post) {ci τ N : Nat} {fs : List Value} {D : String} {T : u_T} (hb : w.1 a = some (τ, .inr (ci, fs))) (hcl : jcl[ci]? = some (D, T, N)) (q1 : Cond.classLink own index D ∈ lw_all) (hd : decode cc pc = .ok (.checkcast index, 3)) (h : J G k w lv (pc + 3) (.ref a :: st) ce sl) : J G k w lv pc (.ref a :: st) ce sl :=
  fun ls H locs hl2 hpp hf => va_castS C.hx C.hb C.hown (C.hts _ q1) (C.hK.1.1 ci _ hcl).2 (va_recv C.hK.1 (hpp.at' hb) (q0 := 0) hcl rfl) hd (h ls H locs hl2 hpp hf)
/-- references compared -/
theorem j_acmp_eq (C : Cx G k cc own nm nL rt hh mc ms post) {x y : Nat} {off : Int} (tgt : Nat) (hd : decode cc pc = .ok (.if_acmp .eq off, 3)) (ht : (pc : Int) + off = (tgt : Int)) (kt : x = y → J G k w lv tgt st ce sl) (kf : ¬ x = y → J G k w lv (pc + 3) st ce sl) : J G k w lv pc (.ref y :: .ref x :: st) ce sl := fun ls H locs hl hp hf => lv_acmp_eq (rx := some x) (ry := some y) C.hx C.hb hd ht (fun z => kt (Option.some.inj z) ls H locs hl hp hf) (fun z => kf (fun e => z (congrArg some e)) ls H locs hl hp hf)
/-- ArrayList's shared empty array: the static, and its length -/
theorem j_getsE (C : Cx G k cc own nm nL rt hh mc ms post) (hG : GH G) (q1 : Cond.fieldLink own index "java/util/ArrayList" "DEFAULTCAPACITY_EMPTY_ELEMENTDATA" "[Ljava/lang/Object;" ∈ lw_all) (hd : decode cc pc = .ok (.getstatic index, 3)) (h : J G k w lv (pc + 3) (.ref (gl_z G 0) :: st) ce sl) : J G k w lv pc st ce sl := by
  intro ls H locs hl2 hpp hf
  obtain ⟨cf, kf, fi, f, a, cell, h1, h2, h3, h4, h5, h6, h7, h8⟩ := (C.xt hG).2.2
  have hlt : a < (gl_H G).size := (Array.getElem?_eq_some_iff.mp h5).1
  exact W.gets C.hx C.hb C.hown (C.hts _ q1) h1 h2 h3 h4 (by rw [hpp.2.2.1.1 a hlt]; exact h5) (fun e => by rw [e] at h6; cases h6) h7 rfl hd (h ls H locs hl2 hpp hf)
theorem j_alenE (C : Cx G k cc own nm nL rt hh mc ms post) (hG : GH G) (hd : decode cc pc = .ok (.arraylength, 1)) (h : J G k w lv (pc + 1) (.int (nI 0) :: st) ce sl) : J G k w lv pc (.ref (gl_z G 0) :: st) ce sl := by
  intro ls H locs hl2 hpp hf
  obtain ⟨cell, h1, h2, h3⟩ := hG.2.2.2
  exact W.alen (n := nI 0) C.hx C.hb (by rw [hpp.2.2.1.1 _ hG.2.2.1]; exact h1) (h3 _ C.hK.X) (by rw [h2]; rfl) rfl rfl hd (h ls H locs hl2 hpp hf)
/-- System.arraycopy between two arrays of ints (bytes, shorts) that are one type's -/
theorem j_copyi (C : Cx G k cc own nm nL rt hh mc ms post) (t0 : Nat) {a0 τ0 τ : Nat} {c n0 n1 : Nat} {f g : Nat → Int32} {ty : FieldType} (h0 : w.1 a0 = some (τ0, ai c n0 f)) (h1 : w.1 a = some (τ, ai c n1 g)) (ht : (gl_tys G)[t0]? = some (c, ty)) (hprim : refKind ty = false) (q1 : Cond.methodLink own index arraycopyName ∈ lw_all) (q2 : Cond.native arraycopyName ∈ lw_all) (q3 : Cond.static arraycopyName ∈ lw_all) (q4 : Cond.initialized "java/lang/System" ∈ lw_all)
    {sp dp n : Int32} (x y z : Nat) (hx : sp = nI x) (hy : dp = nI y) (hz : n = nI z) (h4 : x + z ≤ n0) (h5 : y + z ≤ n1) (hn0 : n0 < 2 ^ 31) (hn1 : n1 < 2 ^ 31) (hfit : ∀ i, i < z → fits ty (.int (f (x + i))) = true) (hst : (rest.map fun v => v.category).sum ≤ 8) (hd : decode cc pc = .ok (.invokestatic index, 3))
    (h : J G k (mu w.1 a τ (ai c n1 (va_cpy f g x y z)), w.2) lv (pc + 3) rest ce sl) : J G k w lv pc (.int n :: .int dp :: .ref a :: .int sp :: .ref a0 :: rest) ce sl := by
  subst hx; subst hy; subst hz
  intro ls H locs hl2 hpp hf
  have cx : (nI x).toNatClampNeg = x := nI_clamp (by omega)
  have cy : (nI y).toNatClampNeg = y := nI_clamp (by omega)
  have cz : (nI z).toNatClampNeg = z := nI_clamp (by omega)
  obtain ⟨hA0, e0⟩ := hpp.2.2.2 a0 τ0 _ h0
  obtain ⟨hA1, e1⟩ := hpp.2.2.2 a τ _ h1
  have hc0 : H[a0]? = some (vp_cell c (n0, .inl f)) := e0
  have hc1 : H[a]? = some (vp_cell c (n1, .inl g)) := e1
  intro T hT X
  obtain ⟨-, k0, hk0, cm0, hkk0⟩ := (C.hK.1.2 t0 _ ht).1 n0 (fun j => .int (f j))
  obtain ⟨-, k1, hk1, cm1, hkk1⟩ := (C.hK.1.2 t0 _ ht).1 n1 (fun j => .int (g j))
  obtain ⟨vm', X', step⟩ := X.arraycopy C.hx C.hown (C.hts _ q1) (C.hts _ q2) (C.hts _ q3) (C.hts _ q4) (src := a0) (dst := a) (cs := vp_cell c (n0, .inl f)) (cd := vp_cell c (n1, .inl g)) (srcPos := nI x) (destPos := nI y) (n := nI z) (by rw [hT]; exact hc0) (by rw [hT]; exact hc1)
    (fun _ h => by cases h) (fun _ h => by cases h) (fun h => by cases h) (fun h => by cases h) hk0 hk1 hkk0 hkk1 (by simp [hprim]) (Int32.not_lt.mpr (nI_pos' (by omega))) (Int32.not_lt.mpr (nI_pos' (by omega))) (Int32.not_lt.mpr (nI_pos' (by omega)))
    (by rw [nI_toInt (by omega), nI_toInt (by omega)]; show ¬ _ > ((arrV c n0 (fun j => .int (f j))).slots.size : Int); rw [arrV_size]; omega)
    (by rw [nI_toInt (by omega), nI_toInt (by omega)]; show ¬ _ > ((arrV c n1 (fun j => .int (g j))).slots.size : Int); rw [arrV_size]; omega)
    (fun vm₁ _ i hi => by
      have e : (vp_cell c (n0, .inl f)).slots.getD ((nI x).toNatClampNeg + i) .null = .int (f ((nI x).toNatClampNeg + i)) := by
        show (arrV c n0 (fun j => .int (f j))).slots.getD _ _ = _
        rw [Array.getD_eq_getD_getElem?, arrV_read _ _ (by rw [cx]; rw [cz] at hi; omega)]
        rfl
      refine ⟨?_, ?_⟩
      · rw [e, cx]
        exact hfit i (by rw [cz] at hi; exact hi)
      · rw [e]
        exact trivial)
    (g := F0 (k_m k) pc ls (.int (nI z) :: .int (nI y) :: .ref a :: .int (nI x) :: .ref a0 :: rest)) rfl (by rw [C.hml, ← C.hn]; exact hl2.1) (rest := rest) rfl (by rw [C.hb]; exact hd) (by rw [C.hR]; show 1 ≤ hh + 12; omega) (by
      rw [C.hR]
      show 2 * 0 + _ + _ ≤ 60 * hh + 10500
      have : nativeFrameWords "java/lang/System" "arraycopy" 5 ≤ 1000 := by decide +kernel
      omega)
  have e2 : copied (vp_cell c (n0, .inl f)) (vp_cell c (n1, .inl g)) (nI x) (nI y) (nI z) = vp_cell c (n1, .inl (va_cpy f g (nI x).toNatClampNeg (nI y).toNatClampNeg (nI z).toNatClampNeg)) := va_copied (fun z => .int z) c c f g (by rw [cx, cz]; exact h4)
  rw [cx, cy, cz] at e2
  rw [e2] at X' step
  have hl : a < H.size := (Array.getElem?_eq_some_iff.mp hc1).1
  have hheap : ((T.setVm vm').setCell a (vp_cell c (n1, .inl (va_cpy f g x y z)))).heap = H.setIfInBounds a (vp_cell c (n1, .inl (va_cpy f g x y z))) := by rw [← hT]; rfl
  have oq : ∀ q : Nat, q ≠ a → (H.setIfInBounds a (vp_cell c (n1, .inl (va_cpy f g x y z))))[q]? = H[q]? := fun q hq => by simp [Array.getElem?_setIfInBounds, Ne.symm hq]
  obtain ⟨t, a1, b1⟩ := h ls _ _ hl2 (hpp.set h1 (show (H.setIfInBounds a _)[a]? = some _ by simp [Array.getElem?_setIfInBounds, hl]) (by simp) oq) (fun q hq => by
      rcases List.mem_append.mp hq with h | h
      · exact hf q h
      · obtain ⟨z, -, hz⟩ := List.mem_map.mp h
        rw [← hz]
        exact hA1) _ hheap X'
  exact ⟨t, step t a1, b1⟩
end J2
