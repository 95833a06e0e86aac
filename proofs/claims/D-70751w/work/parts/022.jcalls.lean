/-! ===== J: contracts' ends, and calls ===== -/
set_option maxRecDepth 100000
/-- it returned an int; nothing; a reference -/
def pI (P : Int32 → wd_T → Prop) : Outcome → wd_T → Prop := fun o w => ∃ r, o = .returned (some (.int r)) ∧ P r w
def pV (P : wd_T → Prop) : Outcome → wd_T → Prop := fun o w => o = .returned none ∧ P w
def pA (P : Value → wd_T → Prop) : Outcome → wd_T → Prop := fun o w => ∃ v, o = .returned (some v) ∧ P v w
theorem pI.ret {P : Int32 → wd_T → Prop} : ∀ o w, pI P o w → ∃ v, o = .returned v := fun _ _ ⟨_, h, _⟩ => ⟨_, h⟩
theorem pV.ret {P : wd_T → Prop} : ∀ o w, pV P o w → ∃ v, o = .returned v := fun _ _ ⟨h, _⟩ => ⟨_, h⟩
theorem pA.ret {P : Value → wd_T → Prop} : ∀ o w, pA P o w → ∃ v, o = .returned v := fun _ _ ⟨_, h, _⟩ => ⟨_, h⟩
theorem pI.k {P : Int32 → wd_T → Prop} {K : Option Value → wd_T → Prop} (h : ∀ r w, P r w → K (some (.int r)) w) : ∀ v w, pI P (.returned v) w → K v w := fun v w ⟨r, hv, hp⟩ => by
  cases hv
  exact h r w hp
theorem pV.k {P : wd_T → Prop} {K : Option Value → wd_T → Prop} (h : ∀ w, P w → K none w) : ∀ v w, pV P (.returned v) w → K v w := fun v w ⟨hv, hp⟩ => by
  cases hv
  exact h w hp
theorem pA.k {P : Value → wd_T → Prop} {K : Option Value → wd_T → Prop} (h : ∀ r w, P r w → K (some r) w) : ∀ v w, pA P (.returned v) w → K v w := fun v w ⟨r, hv, hp⟩ => by
  cases hv
  exact h r w hp
theorem pI.mk {P : Int32 → wd_T → Prop} {r : Int32} {w : wd_T} (h : P r w) : pI P (.returned (some (.int r))) w := ⟨r, rfl, h⟩
theorem pV.mk {P : wd_T → Prop} {w : wd_T} (h : P w) : pV P (.returned none) w := ⟨rfl, h⟩
theorem pA.mk {P : Value → wd_T → Prop} {r : Value} {w : wd_T} (h : P r w) : pA P (.returned (some r)) w := ⟨r, rfl, h⟩
/-- just this answer and this world -/
abbrev qI (r : Int32) (w : wd_T) : Outcome → wd_T → Prop := pI (fun r' w' => r' = r ∧ w' = w)
abbrev qV (w : wd_T) : Outcome → wd_T → Prop := pV (fun w' => w' = w)
abbrev qA (v : Value) (w : wd_T) : Outcome → wd_T → Prop := pA (fun r' w' => r' = v ∧ w' = w)
theorem qI.k {r : Int32} {w : wd_T} {K : Option Value → wd_T → Prop} (h : K (some (.int r)) w) : ∀ v w', qI r w (.returned v) w' → K v w' := pI.k (fun r' w' e => by
  obtain ⟨rfl, rfl⟩ := e
  exact h)
theorem qV.k {w : wd_T} {K : Option Value → wd_T → Prop} (h : K none w) : ∀ v w', qV w (.returned v) w' → K v w' := pV.k (fun w' e => by
  cases e
  exact h)
theorem qA.k {r : Value} {w : wd_T} {K : Option Value → wd_T → Prop} (h : K (some r) w) : ∀ v w', qA r w (.returned v) w' → K v w' := pA.k (fun r' w' e => by
  obtain ⟨rfl, rfl⟩ := e
  exact h)
/-- a weaker end -/
theorem Mt.mono {G : gl_T} {y : MethodName} {bytes : ByteArray} {maxL : Nat} {ret : Option FieldType} {h : Nat} {av : List Value} {w : wd_T} {post post' : Outcome → wd_T → Prop} {mc ms : Nat} (hM : Mt G y bytes maxL ret h av w post mc ms) (hi : ∀ o w', post o w' → post' o w') : Mt G y bytes maxL ret h av w post' mc ms := by
  intro p e h1 h2 h3 s m args below h4 h5 h6 h7
  obtain ⟨n, o, a1, a2, a3, ⟨w', a4, a5⟩, a6⟩ := hM p e h1 h2 h3 s m args below h4 h5 h6 h7
  exact ⟨n, o, a1, a2, a3, ⟨w', hi _ _ a4, a5⟩, a6⟩
/-- the kit's contract -/
theorem Mt.met {G : gl_T} {y : MethodName} {bytes : ByteArray} {maxL : Nat} {ret : Option FieldType} {h : Nat} {av : List Value} {w : wd_T} {post : Outcome → wd_T → Prop} {mc ms : Nat} (hM : Mt G y bytes maxL ret h av w post mc ms) (hret : ∀ o w', post o w' → ∃ v, o = .returned v) :
    Met (gl_l G) y (ws_ y bytes maxL ret) (rmh h mc ms) (fun v U => v = av.toArray ∧ hp G w U.heap ∧ KK G U) (fun _ _ o t => ∃ w', post o w' ∧ hp G w' t.heap) mc ms (gl_fr G) := by
  intro p e h1 h2 h3 s m args below h4 h5 h6 h7
  obtain ⟨n, o, a1, a2, a3, ⟨w', a4, a5⟩, L, a6, a7⟩ := hM p e h1 h2 h3 s m args below h4 h5 h6 h7
  exact ⟨n, o, a1, a2, a3, ⟨w', a4, a5⟩, L, ⟨hret _ _ a4, a6.1, a6.2⟩, a7⟩
theorem Mt.blind {G : gl_T} {w : wd_T} {av : List Value} : FrameBlind (fun v U => v = av.toArray ∧ hp G w U.heap ∧ KK G U) := fun _ _ _ _ h => ⟨h.1, h.2.1, h.2.2.call⟩
section JC
variable {G : gl_T} {k : KX} {cc : ByteArray} {own nm : String} {nL hh mc ms : Nat} {rt : Option FieldType} {post : Outcome → wd_T → Prop}
variable {w : wd_T} {lv : List (Nat × Value)} {pc ce sl : Nat} {rest st0 : List Value}
variable {y : MethodName} {bytes : ByteArray} {maxL h' mc' ms' index : Nat} {ret' : Option FieldType} {As : List Value} {b : Nat} {post' : Outcome → wd_T → Prop}
/-- behind a call that returns -/
theorem j_run (hr : ∀ (ls : Array Slot) (H : Heap) (locs : List Loc), lv_has ls (k_n k) lv → hp G w H → va_Run (k_p k) (gl_l G) (k_e k) (k_R k) (k_s k) (k_m k) (k_a k) (k_b k) (k_me k) (k_c k) H locs ce sl mc' ms' (F0 (k_m k) pc ls st0) rest (fun _ o t => ∃ w', post' o w' ∧ hp G w' t.heap) (gl_fr G)) (kk : ∀ (v : Option Value) (w' : wd_T), post' (.returned v) w' → J G k w' lv (pc + 3) (v.toList ++ rest) (ce + mc') (sl + ms')) : J G k w lv pc st0 ce sl := by
  intro ls H locs hl2 hpp hf T hT X
  obtain ⟨v, st₀, t, T', L, h0, X', hL, e1, e2, ⟨w', hq, hw⟩, stp⟩ := hr ls H locs hl2 hpp T hT X
  obtain ⟨t2, a1, b1⟩ := kk v w' hq ls t.heap (locs ++ L) hl2 hw (fun q hq2 => by
    rcases List.mem_append.mp hq2 with h1 | h1
    · exact hf q h1
    · exact hL q h1) T' e1 X'
  exact ⟨t2, stp t2 a1, b1⟩
theorem j_callV (C : Cx G k cc own nm nL rt hh mc ms post) (hM : Mt G y bytes maxL ret' h' (.ref b :: As) w post' mc' ms') (hret : ∀ o w', post' o w' → ∃ v, o = .returned v) {ci τ N : Nat} {fs : List Value} {D : String} {T : u_T} (hb : w.1 b = some (τ, .inr (ci, fs))) (hcl : jcl[ci]? = some (D, T, N)) (n : Nat)
    (q1 : Cond.methodLink own index y ∈ lw_all) (q2 : Cond.instanceMethod y ∈ lw_all) (q3 : Cond.selects D y y ∈ lw_all) (q4 : Cond.initialized D ∈ lw_all) (q5 : Cond.code y bytes maxL ret' ∈ lw_all) (hd0 : y.cls = D ∧ y.cls ≠ "java/lang/invoke/MethodHandle" ∧ y.cls ≠ "java/lang/invoke/VarHandle" ∧ (parseMethodDescriptor y.desc).map (fun d => d.parameters.length) = some n) (hn : As.length = n)
    (hh1 : h' + 1 ≤ hh) (hh2 : maxL + 19 + 60 * h' ≤ 60 * hh) (hst : (rest.map fun v => v.category).sum ≤ 8) (hs : st0 = As.reverse ++ .ref b :: rest) (hd : decode cc pc = .ok (.invokevirtual index, 3)) (h1 : ce + mc' ≤ mc) (h2 : sl + ms' ≤ ms)
    (kk : ∀ (v : Option Value) (w' : wd_T), post' (.returned v) w' → J G k w' lv (pc + 3) (v.toList ++ rest) (ce + mc') (sl + ms')) : J G k w lv pc st0 ce sl := by
  subst hs
  refine j_run (post' := post') (fun ls H locs hl2 hpp => ?_) kk
  exact va_runV (C := D) ⟨C.hx, C.hb, C.hml.trans C.hn.symm, C.hown, C.hts⟩ (hM.met hret) (cwV n C.hts (lw_V q1 q2 q3 q4 q5) rfl rfl rfl hd0 ⟨by rw [C.hR]; show h' + 12 + 1 ≤ hh + 12; omega, by rw [C.hR]; show 8 + (maxL + 11) + (60 * h' + 10500) ≤ 60 * hh + 10500; omega⟩)
    ⟨Mt.blind, va_recv C.hK.1 (hpp.at' hb) (q0 := 0) hcl rfl, fun U hU hW => ⟨rfl, by rw [hU]; exact hpp, C.hK.warm hW⟩⟩ rfl hn hl2.1 rfl (lv_room hst) hd ⟨by rw [C.hR]; exact h1, by rw [C.hR]; exact h2⟩
theorem j_callS (C : Cx G k cc own nm nL rt hh mc ms post) (hM : Mt G y bytes maxL ret' h' As w post' mc' ms') (hret : ∀ o w', post' o w' → ∃ v, o = .returned v) (n : Nat)
    (q1 : Cond.methodLink own index y ∈ lw_all) (q2 : Cond.static y ∈ lw_all) (q3 : Cond.initialized y.cls ∈ lw_all) (q4 : Cond.code y bytes maxL ret' ∈ lw_all) (hd0 : y.cls ≠ "java/lang/invoke/MethodHandle" ∧ y.cls ≠ "java/lang/invoke/VarHandle" ∧ (parseMethodDescriptor y.desc).map (fun d => d.parameters.length) = some n) (hn : As.length = n)
    (hh1 : h' + 1 ≤ hh) (hh2 : maxL + 19 + 60 * h' ≤ 60 * hh) (hst : (rest.map fun v => v.category).sum ≤ 8) (hs : st0 = As.reverse ++ rest) (hd : decode cc pc = .ok (.invokestatic index, 3)) (h1 : ce + mc' ≤ mc) (h2 : sl + ms' ≤ ms)
    (kk : ∀ (v : Option Value) (w' : wd_T), post' (.returned v) w' → J G k w' lv (pc + 3) (v.toList ++ rest) (ce + mc') (sl + ms')) : J G k w lv pc st0 ce sl := by
  subst hs
  refine j_run (post' := post') (fun ls H locs hl2 hpp => ?_) kk
  exact va_runS ⟨C.hx, C.hb, C.hml.trans C.hn.symm, C.hown, C.hts⟩ (hM.met hret) (va_cwS n C.hts (lw_S q1 q2 q3 q4) rfl rfl rfl hd0 ⟨by rw [C.hR]; show h' + 12 + 1 ≤ hh + 12; omega, by rw [C.hR]; show 8 + (maxL + 11) + (60 * h' + 10500) ≤ 60 * hh + 10500; omega⟩)
    ⟨Mt.blind, fun U hU hW => ⟨rfl, by rw [hU]; exact hpp, C.hK.warm hW⟩⟩ rfl hn hl2.1 rfl (lv_room hst) hd ⟨by rw [C.hR]; exact h1, by rw [C.hR]; exact h2⟩
theorem j_callI (C : Cx G k cc own nm nL rt hh mc ms post) (hM : Mt G y bytes maxL none h' (.ref b :: As) w post' mc' ms') (hret : ∀ o w', post' o w' → ∃ v, o = .returned v) (n : Nat)
    (q1 : Cond.methodLink own index y ∈ lw_all) (q2 : Cond.instanceMethod y ∈ lw_all) (q3 : Cond.initialized y.cls ∈ lw_all) (q4 : Cond.code y bytes maxL none ∈ lw_all) (hy1 : y.name = "<init>") (hd0 : y.cls ≠ "java/lang/invoke/MethodHandle" ∧ y.cls ≠ "java/lang/invoke/VarHandle" ∧ (parseMethodDescriptor y.desc).map (fun d => d.parameters.length) = some n) (hn : As.length = n)
    (hh1 : h' + 1 ≤ hh) (hh2 : maxL + 19 + 60 * h' ≤ 60 * hh) (hst : (rest.map fun v => v.category).sum ≤ 8) (hs : st0 = As.reverse ++ .ref b :: rest) (hd : decode cc pc = .ok (.invokespecial index, 3)) (h1 : ce + mc' ≤ mc) (h2 : sl + ms' ≤ ms)
    (kk : ∀ (v : Option Value) (w' : wd_T), post' (.returned v) w' → J G k w' lv (pc + 3) (v.toList ++ rest) (ce + mc') (sl + ms')) : J G k w lv pc st0 ce sl := by
  subst hs
  refine j_run (post' := post') (fun ls H locs hl2 hpp => ?_) kk
  exact va_runI ⟨C.hx, C.hb, C.hml.trans C.hn.symm, C.hown, C.hts⟩ (hM.met hret) (cwI n C.hts (lw_meth q4) rfl rfl rfl (C.hts _ q3) (C.hts _ q1) (C.hts _ q2) hy1 hd0 ⟨by rw [C.hR]; show h' + 12 + 1 ≤ hh + 12; omega, by rw [C.hR]; show 8 + (maxL + 11) + (60 * h' + 10500) ≤ 60 * hh + 10500; omega⟩)
    ⟨Mt.blind, fun U hU hW => ⟨rfl, by rw [hU]; exact hpp, C.hK.warm hW⟩⟩ rfl hn hl2.1 rfl (lv_room hst) hd ⟨by rw [C.hR]; exact h1, by rw [C.hR]; exact h2⟩
/-- Object's own constructor -/
theorem j_objInit (C : Cx G k cc own nm nL rt hh mc ms post) {a : Nat} (q1 : Cond.methodLink own index Lib.objectInit ∈ lw_all) (q2 : Cond.instanceMethod Lib.objectInit ∈ lw_all) (q3 : Cond.code Lib.objectInit ⟨#[0xb1]⟩ 1 none ∈ lw_all) (hst : (rest.map fun v => v.category).sum ≤ 8) (hd : decode cc pc = .ok (.invokespecial index, 3)) (h : J G k w lv (pc + 3) rest ce sl) : J G k w lv pc (.ref a :: rest) ce sl := by
  intro ls H locs hl2 hpp hf
  refine W.objInit C.hx C.hb C.hown (C.hts _ q1) (C.hts _ q2) (C.hts _ q3) rfl (by rw [C.hml, ← C.hn]; exact hl2.1) rfl hd (by rw [C.hR]; show 1 ≤ hh + 12; omega) ?_ (h ls H locs hl2 hpp hf)
  rw [C.hR]
  show 2 * 0 + _ + 12 ≤ 60 * hh + 10500
  omega
end JC
