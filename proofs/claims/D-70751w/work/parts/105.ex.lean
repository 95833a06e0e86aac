/-! ===== exceptions: a call by going into the callee; what is thrown; what is caught ===== -/
set_option maxRecDepth 100000
theorem st_low {tb : Tables} {e : Env} {below : List Frame} {f : Frame} {s s' : State} (h : Steps tb e (f :: below) s s') : Steps tb e below s s' := by
  obtain ⟨n, h1, h2⟩ := h
  refine ⟨n, h1, fun k hk => ?_⟩
  obtain ⟨ab, g1, g2, g3⟩ := h2 k hk
  refine ⟨ab ++ [f], by rw [g1]; simp, by simp, fun a z => ?_⟩
  cases ab with
  | nil => exact g2 rfl
  | cons x t =>
    have := congrArg List.length z
    simp at this
/-- a method's table of handlers; its code word -/
abbrev xtab (c : Code) : List (Nat × Nat × Nat × Nat) := c.exceptionTable.toList.map (fun h => (h.startPc, h.endPc, h.handlerPc, h.catchType))
def CW (y : MethodName) (bytes : ByteArray) (maxL : Nat) (ret : Option FieldType) (hd : List (Nat × Nat × Nat × Nat)) : Prop := Cond.codeWith y bytes maxL ret hd ∈ lw_all ∨ (hd = [] ∧ Cond.code y bytes maxL ret ∈ lw_all)
theorem CW.spec {y : MethodName} {bytes : ByteArray} {maxL : Nat} {ret : Option FieldType} {hd : List (Nat × Nat × Nat × Nat)} (h : CW y bytes maxL ret hd) {args : Array Value} {s : State} (hts : ∀ w ∈ lw_all, w.before args s = true) :
    ∃ m meth c, s.methodNamed? y = some m ∧ s.vm.method? m = some meth ∧ meth.code = some c ∧ c.code = bytes ∧ c.maxLocals = maxL ∧ xtab c = hd ∧ meth.sig.returnType = ret ∧ meth.locks = false ∧ parseMethodDescriptor y.desc = some meth.sig := by
  rcases h with h | ⟨rfl, h⟩
  · exact Cond.codeWith_spec (hts _ h)
  · obtain ⟨m, hn⟩ := Cond.code_named (hts _ h)
    obtain ⟨meth, c, h1, h2, h3, h4, h5, h6, h7, h8⟩ := Cond.code_spec hn (hts _ h)
    refine ⟨m, meth, c, hn, h1, h2, h3, h4, ?_, h5, h6, h8⟩
    have e : c.exceptionTable = #[] := by simpa using h7
    unfold xtab
    rw [e]
    rfl
abbrev KS (G : gl_T) (k : KX) (T : State) (locs : List Loc) (ce sl : Nat) : Prop := Stand (k_p k) (gl_l G) (k_e k) (k_R k) (k_s k) (k_m k) (k_a k) (k_b k) (k_me k) (k_c k) T locs ce sl
/-- the way from an invoke instruction to the callee -/
def Iv (G : gl_T) (k : KX) (w : wd_T) (lv : List (Nat × Value)) (pc : Nat) (st0 rest : List Value) (y : MethodName) (av : List Value) (len : Nat) : Prop :=
  (∃ ig, decode (k_c k).code pc = .ok (ig, len)) ∧ ∀ (ls : Array Slot) (H : Heap) (locs : List Loc) (ce sl : Nat), lv_has ls (k_n k) lv → hp G w H → ∀ T : State, T.heap = H → KS G k T locs ce sl →
    ∃ (vm₁ : Vm) (mk : MethodId), (k_s k).methodNamed? y = some mk ∧ KS G k (T.setVm vm₁) locs ce sl ∧
      ∀ target, Steps (k_p k).tables (k_e k) (k_b k) (doInvoke (k_e k) ((T.setVm vm₁).setTop (F0 (k_m k) pc ls rest)) [] mk av.toArray).1 target → Steps (k_p k).tables (k_e k) (k_b k) (T.setTop (F0 (k_m k) pc ls st0)) target
/-- a method's contract by its walk: it may end by throwing -/
def Mb (G : gl_T) (y : MethodName) (bytes : ByteArray) (maxL : Nat) (ret : Option FieldType) (hd : List (Nat × Nat × Nat × Nat)) (h : Nat) (av : List Value) (w : wd_T) (post : Outcome → wd_T → Prop) (mc ms : Nat) : Prop :=
  (lg_sl av).length ≤ maxL ∧ ∀ k : KX, Cx G k bytes y.cls y.name maxL ret h mc ms post → xtab (k_c k) = hd → J G k w (lv_args 0 av) 0 [] 0 0
theorem Mb.mono {G : gl_T} {y : MethodName} {bytes : ByteArray} {maxL : Nat} {ret : Option FieldType} {hd : List (Nat × Nat × Nat × Nat)} {h : Nat} {av : List Value} {w : wd_T} {post post' : Outcome → wd_T → Prop} {mc ms : Nat} (hM : Mb G y bytes maxL ret hd h av w post mc ms) (hi : ∀ o w', post o w' → post' o w') : Mb G y bytes maxL ret hd h av w post' mc ms := by
  refine ⟨hM.1, fun k C hx => ?_⟩
  obtain ⟨p, e, R, s, m, a, b, me, c, po, mc0, ms0, n⟩ := k
  have hpo : po = post' := C.hpo
  subst hpo
  have C' : Cx G (p, e, R, s, m, a, b, me, c, post, mc0, ms0, n) bytes y.cls y.name maxL ret h mc ms post := ⟨C.1, C.2.1, C.2.2.1, C.2.2.2.1, C.2.2.2.2.1, C.2.2.2.2.2.1, C.2.2.2.2.2.2.1, C.2.2.2.2.2.2.2.1, C.2.2.2.2.2.2.2.2.1, C.2.2.2.2.2.2.2.2.2.1, C.2.2.2.2.2.2.2.2.2.2.1, C.2.2.2.2.2.2.2.2.2.2.2.1, C.2.2.2.2.2.2.2.2.2.2.2.2.1, C.hh0, rfl⟩
  intro ls H locs hl hpp hf T hT X
  obtain ⟨t, a1, o, b1, b2, ⟨w', b3, b4⟩, b5⟩ := hM.2 _ C' hx ls H locs hl hpp hf T hT X
  exact ⟨t, a1, o, b1, b2, ⟨w', hi _ _ b3, b4⟩, b5⟩
/-- a is being thrown at pc -/
def JT (G : gl_T) (k : KX) (w : wd_T) (a : Nat) (lv : List (Nat × Value)) (pc : Nat) (st : List Value) (ce sl : Nat) : Prop :=
  ∀ (ls : Array Slot) (H : Heap) (locs : List Loc), lv_has ls (k_n k) lv → hp G w H → (∀ q ∈ locs, gl_fr G q.base) → ∀ T : State, T.heap = H → KS G k T locs ce sl →
    ∃ t, Steps (k_p k).tables (k_e k) (k_b k) ((T.setTop (F0 (k_m k) pc ls st)).pushFrame (.throwing a)) t ∧ MX G k t
section EX
variable {G : gl_T} {k : KX} {cc : ByteArray} {own nm : String} {nL hh mc ms : Nat} {rt : Option FieldType} {post : Outcome → wd_T → Prop}
variable {w : wd_T} {lv : List (Nat × Value)} {pc ce sl : Nat} {rest st st0 : List Value}
variable {y : MethodName} {bytes : ByteArray} {maxL h' mc' ms' index : Nat} {ret' : Option FieldType} {hd : List (Nat × Nat × Nat × Nat)} {As av : List Value} {a b : Nat} {post' : Outcome → wd_T → Prop}
theorem iv_V (C : Cx G k cc own nm nL rt hh mc ms post) {ci τ N : Nat} {fs : List Value} {D : String} {Tt : u_T} (hb : w.1 b = some (τ, .inr (ci, fs))) (hcl : jcl[ci]? = some (D, Tt, N)) (hw : CW y bytes maxL ret' hd) (n : Nat)
    (q1 : Cond.methodLink own index y ∈ lw_all) (q2 : Cond.instanceMethod y ∈ lw_all) (q3 : Cond.selects D y y ∈ lw_all) (hd0 : y.cls ≠ "java/lang/invoke/MethodHandle" ∧ y.cls ≠ "java/lang/invoke/VarHandle" ∧ (parseMethodDescriptor y.desc).map (fun d => d.parameters.length) = some n) (hn : As.length = n)
    (hs : st0 = As.reverse ++ .ref b :: rest) (hdg : decode cc pc = .ok (.invokevirtual index, 3)) : Iv G k w lv pc st0 rest y (.ref b :: As) 3 := by
  subst hs
  refine ⟨⟨_, by rw [C.hb]; exact hdg⟩, fun ls H locs ce sl hl hpp T hT X => ?_⟩
  obtain ⟨mk, methM, hnamed, hmethM, hstM, habM⟩ := Cond.instanceMethod_spec (C.hts _ q2)
  obtain ⟨mk', methM', cM, hnamed', hmethM', -, -, -, -, -, -, hsigM⟩ := hw.spec C.hts
  cases hnamed.symm.trans hnamed'
  cases hmethM.symm.trans hmethM'
  obtain ⟨-, r', hr', cellB, g1, g2, g3, -⟩ := hpp.2.2.2 b τ _ hb
  have hcls : (k_s k).vm.findClass D = some cellB.cls := by rw [g2]; exact (C.hK.1.1 ci _ hcl).2.1
  obtain ⟨c2, r2, m2, p1, p2, p3, p4, kP, hkP, hkPi⟩ := Cond.selects_spec (C.hts _ q3)
  cases hcls.symm.trans p1
  cases (State.methodFound?_of_named hnamed ⟨hd0.1, hd0.2.1⟩).symm.trans p2
  cases hnamed.symm.trans p3
  have hselP : selectMethod (k_e k).platform (k_s k).vm cellB.cls mk = .method mk := by rw [Launch.admits_selectMethod X.admits]; exact p4
  have hlen : As.length = methM.sig.parameters.length := by
    have h2 := hd0.2.2
    rw [hsigM] at h2
    rw [hn]
    exact (Option.some.inj h2).symm
  obtain ⟨vm₁, X₁, hstep₁⟩ := X.invokevirtual C.hx C.hown (C.hts _ q1) hnamed hmethM hstM hkP hkPi ⟨hd0.1, hd0.2.1⟩ (a := b) (cell := cellB) (by rw [hT]; exact g1) (fun z h => by rw [g3] at h; cases h) hselP hmethM habM hkP hkPi (g := F0 (k_m k) pc ls (As.reverse ++ .ref b :: rest)) rfl (argsL := As) (rest := rest) hlen rfl (by rw [C.hb]; exact hdg)
  exact ⟨vm₁, mk, hnamed, X₁, fun target h => hstep₁ _ fun acts => by rw [doInvoke_state]; exact h⟩
theorem iv_VN (C : Cx G k cc own nm nL rt hh mc ms post) {host : String} {ci τ N : Nat} {fs : List Value} {D : String} {Tt : u_T} (hb : w.1 b = some (τ, .inr (ci, fs))) (hcl : jcl[ci]? = some (D, Tt, N)) (hw : CW y bytes maxL ret' hd) (n : Nat)
    (q1 : va_Nw (.methodLinkNest own index y host) (k_s k)) (q2 : Cond.instanceMethod y ∈ lw_all) (q3 : Cond.selects D y y ∈ lw_all) (hd0 : y.cls ≠ "java/lang/invoke/MethodHandle" ∧ y.cls ≠ "java/lang/invoke/VarHandle" ∧ (parseMethodDescriptor y.desc).map (fun d => d.parameters.length) = some n) (hn : As.length = n)
    (hs : st0 = As.reverse ++ .ref b :: rest) (hdg : decode cc pc = .ok (.invokevirtual index, 3)) : Iv G k w lv pc st0 rest y (.ref b :: As) 3 := by
  subst hs
  refine ⟨⟨_, by rw [C.hb]; exact hdg⟩, fun ls H locs ce sl hl hpp T hT X => ?_⟩
  obtain ⟨mk, methM, hnamed, hmethM, hstM, habM⟩ := Cond.instanceMethod_spec (C.hts _ q2)
  obtain ⟨mk', methM', cM, hnamed', hmethM', -, -, -, -, -, -, hsigM⟩ := hw.spec C.hts
  cases hnamed.symm.trans hnamed'
  cases hmethM.symm.trans hmethM'
  obtain ⟨-, r', hr', cellB, g1, g2, g3, -⟩ := hpp.2.2.2 b τ _ hb
  have hcls : (k_s k).vm.findClass D = some cellB.cls := by rw [g2]; exact (C.hK.1.1 ci _ hcl).2.1
  obtain ⟨c2, r2, m2, p1, p2, p3, p4, kP, hkP, hkPi⟩ := Cond.selects_spec (C.hts _ q3)
  cases hcls.symm.trans p1
  cases (State.methodFound?_of_named hnamed ⟨hd0.1, hd0.2.1⟩).symm.trans p2
  cases hnamed.symm.trans p3
  have hselP : selectMethod (k_e k).platform (k_s k).vm cellB.cls mk = .method mk := by rw [Launch.admits_selectMethod X.admits]; exact p4
  have hlen : As.length = methM.sig.parameters.length := by
    have h2 := hd0.2.2
    rw [hsigM] at h2
    rw [hn]
    exact (Option.some.inj h2).symm
  obtain ⟨vm₁, X₁, hstep₁⟩ := X.invokevirtualNest C.hx C.hown (va_Nw.use rfl q1) hnamed hmethM hstM hkP hkPi ⟨hd0.1, hd0.2.1⟩ (a := b) (cell := cellB) (by rw [hT]; exact g1) (fun z h => by rw [g3] at h; cases h) hselP hmethM habM hkP hkPi (g := F0 (k_m k) pc ls (As.reverse ++ .ref b :: rest)) rfl (argsL := As) (rest := rest) hlen rfl (by rw [C.hb]; exact hdg)
  exact ⟨vm₁, mk, hnamed, X₁, fun target h => hstep₁ _ fun acts => by rw [doInvoke_state]; exact h⟩
theorem iv_S (C : Cx G k cc own nm nL rt hh mc ms post) (hw : CW y bytes maxL ret' hd) (n : Nat)
    (q1 : Cond.methodLink own index y ∈ lw_all) (q2 : Cond.static y ∈ lw_all) (q3 : Cond.initialized y.cls ∈ lw_all) (hd0 : y.cls ≠ "java/lang/invoke/MethodHandle" ∧ y.cls ≠ "java/lang/invoke/VarHandle" ∧ (parseMethodDescriptor y.desc).map (fun d => d.parameters.length) = some n) (hn : As.length = n)
    (hs : st0 = As.reverse ++ rest) (hdg : decode cc pc = .ok (.invokestatic index, 3)) : Iv G k w lv pc st0 rest y As 3 := by
  subst hs
  refine ⟨⟨_, by rw [C.hb]; exact hdg⟩, fun ls H locs ce sl hl hpp T hT X => ?_⟩
  obtain ⟨mk, methM, cM, hnamed, hmethM, -, -, -, -, -, -, hsigM⟩ := hw.spec C.hts
  have hstatic : methM.isStatic = true := Cond.static_spec hnamed hmethM (C.hts _ q2)
  obtain ⟨kP, hkP, -⟩ := className_of_methodNamed hnamed
  have hinitP : kP.init = .initialized := Cond.initialized_spec (findClass_of_methodNamed hnamed) hkP (C.hts _ q3)
  have hlen : As.length = methM.sig.parameters.length := by
    have h2 := hd0.2.2
    rw [hsigM] at h2
    rw [hn]
    exact (Option.some.inj h2).symm
  obtain ⟨vm₁, X₁, hstep₁⟩ := X.invokestatic C.hx C.hown (C.hts _ q1) hnamed hmethM hstatic hkP hinitP ⟨hd0.1, hd0.2.1⟩ (g := F0 (k_m k) pc ls (As.reverse ++ rest)) rfl (argsL := As) (rest := rest) hlen rfl (by rw [C.hb]; exact hdg)
  exact ⟨vm₁, mk, hnamed, X₁, fun target h => hstep₁ _ fun acts => by rw [doInvoke_state]; exact h⟩
/-- **a call by going in**: it returned, or threw -/
theorem j_in (C : Cx G k cc own nm nL rt hh mc ms post) {len : Nat} (hI : Iv G k w lv pc st0 rest y av len) (hM : Mb G y bytes maxL ret' hd h' av w post' mc' ms') (hw : CW y bytes maxL ret' hd) (hy : plainName y.cls = true)
    (hh1 : h' + 1 ≤ hh) (hh2 : maxL + 19 + 60 * h' ≤ 60 * hh) (hst : (rest.map fun v => v.category).sum ≤ 8) (h1 : ce + mc' ≤ mc) (h2 : sl + ms' ≤ ms)
    (kr : ∀ (v : Option Value) (w' : wd_T), post' (.returned v) w' → J G k w' lv (pc + len) (v.toList ++ rest) (ce + mc') (sl + ms'))
    (kt : ∀ (x : Nat) (w' : wd_T), post' (.threw x) w' → JT G k w' x lv pc rest (ce + mc') (sl + ms')) : J G k w lv pc st0 ce sl := by
  intro ls H locs hl hpp hf T hT X
  obtain ⟨⟨ig, hdg⟩, hI⟩ := hI
  obtain ⟨vm₁, mk, hn, X1, stp⟩ := hI ls H locs ce sl hl hpp T hT X
  obtain ⟨mk', methk, ck, hn', hmk, hck, hb, hml, htab, hret, hlk, -⟩ := hw.spec C.hts
  cases hn.symm.trans hn'
  obtain ⟨kY, hkY, hkN⟩ := className_of_methodNamed hn
  have hpk : (T.setVm vm₁).plainMethod mk := X1.warmed.plainAt (fun k' hk' => by
    cases hk'.symm.trans hkY
    rw [hkN]
    exact hy)
  have hroom := lv_room (m := k_m k) (pc := pc) (ls := ls) (rest := rest) hst
  obtain ⟨Y, hdo⟩ := X1.into (g := F0 (k_m k) pc ls rest) rfl (by show ls.size = _; rw [C.hml, ← C.hn]; exact hl.1) hdg (mk := mk) av.toArray (R' := rmh h' mc' ms') (X1.warmed.methodAt hmk) hck hlk hpk
    (by rw [C.hR]; show h' + 12 + 1 ≤ hh + 12; omega) (by rw [C.hR, hml]; show 2 * (F0 (k_m k) pc ls rest).monitorRoom + (rest.map fun v => v.category).sum + (maxL + 11) + (60 * h' + 10500) ≤ 60 * hh + 10500; omega) (by rw [C.hR]; exact h1) (by rw [C.hR]; exact h2)
  have hWc : (k_s k).WarmedH ((T.setVm vm₁).calling (F0 (k_m k) pc ls rest) mk av.toArray).vm := X1.warmed
  have C' : Cx G (k_p k, k_e k, rmh h' mc' ms', (T.setVm vm₁).calling (F0 (k_m k) pc ls rest) mk av.toArray, mk, av.toArray, .java (F0 (k_m k) pc ls rest) :: k_b k, methk, ck, post', mc', ms', maxL) bytes y.cls y.name maxL ret' h' mc' ms' post' :=
    ⟨C.hx, hb, hret, hml, rfl, by rw [hWc.alike.findClass]; exact findClass_of_methodNamed hn, fun w hw => pay_in C.hts lw_self w hw _ _ hWc, C.hK.warm hWc, hlk, (name_of_methodNamed hn hmk).1, rfl, rfl, rfl, ⟨w, by show hp G w T.heap; rw [hT]; exact hpp⟩, rfl⟩
  have hJ := hM.2 _ C' htab _ H [] (lv_entry av hM.1) hpp (fun q h => by cases h) (((T.setVm vm₁).setTop (F0 (k_m k) pc ls rest)).pushFrame (.java (entryFrame mk av.toArray ck.maxLocals))) (by show T.heap = H; exact hT) Y
  obtain ⟨t, a1, o, b1, b2, ⟨w', b3, b4⟩, L, ⟨b5, b6⟩, b7⟩ := hJ
  have a2 : Steps (k_p k).tables (k_e k) (k_b k) (doInvoke (k_e k) ((T.setVm vm₁).setTop (F0 (k_m k) pc ls rest)) [] mk av.toArray).1 t := by
    rw [hdo, hml, lg_entry_eq]
    rw [hml, lg_entry_eq] at a1
    exact st_low a1
  have hf' : ∀ q ∈ locs ++ L, gl_fr G q.base := fun q hq => by
    rcases List.mem_append.mp hq with h | h
    · exact hf q h
    · exact b7 q h
  cases o with
  | returned v =>
    obtain ⟨T2, X2, -, -, e2⟩ := X1.outOf (g := F0 (k_m k) pc ls rest) rfl hdg b2 b5 b6
    have hh2' : t.heap = T2.heap := by rw [e2]; rfl
    obtain ⟨t3, c1, c2⟩ := kr v w' b3 ls t.heap (locs ++ L) hl b4 hf' T2 hh2'.symm X2
    refine ⟨t3, stp _ (a2.trans ?_), c2⟩
    rw [e2]
    exact c1
  | threw x =>
    obtain ⟨T2, X2, -, -, e2⟩ := X1.outOfThrown (g := F0 (k_m k) pc ls rest) rfl b2 b5 b6
    have hh2' : t.heap = T2.heap := by rw [e2]; rfl
    obtain ⟨t3, c1, c2⟩ := kt x w' b3 ls t.heap (locs ++ L) hl b4 hf' T2 hh2'.symm X2
    refine ⟨t3, stp _ (a2.trans ?_), c2⟩
    rw [e2]
    exact c1
/-- out of the method -/
theorem jt_out (C : Cx G k cc own nm nL rt hh mc ms post) (hx : xtab (k_c k) = hd) (hout : ∀ x ∈ hd, ¬ (x.1 ≤ pc ∧ pc < x.2.1)) (h1 : ce ≤ mc) (h2 : sl ≤ ms) (hq : post (.threw a) w) : JT G k w a lv pc st ce sl := by
  intro ls H locs hl hpp hf T hT X
  have hlocks : (k_me k).locks = false := C.hlocks
  obtain ⟨s1, s2, s3, s4, s5⟩ := X.leaveThrown a (g := F0 (k_m k) pc ls st) rfl rfl rfl (fun x hx' => by
    have h := hout _ (by rw [← hx]; exact List.mem_map.mpr ⟨x, hx', rfl⟩)
    have h3 : ¬ (x.startPc ≤ pc ∧ pc < x.endPc) := h
    simp only [covers, Bool.and_eq_false_iff, decide_eq_false_iff_not]
    show ¬ x.startPc ≤ pc ∨ ¬ pc < x.endPc
    omega)
  exact ⟨_, s1, MX.of C.hpo C.hmc C.hms h1 h2 s2 s3 hT hq hpp hf s4 s5⟩
end EX
/-- the walk's start moved to where it stands: nothing written yet, nothing made -/
theorem st_rebase {p : Program} {l : Launch} {e : Env} {R R' : Room} {s : State} {m : MethodId} {args : Array Value} {below : List Frame} {meth : Method} {c : Code} {T : State} {locs : List Loc} {cells slots : Nat} (X : Stand p l e R s m args below meth c T locs cells slots)
    (hf : R'.frames ≤ R.frames) (hl : R'.locals ≤ R.locals) (hc : cells + R'.cells ≤ R.cells) (hs : slots + R'.slots ≤ R.slots) : Stand p l e R' (T.setFrames (.invoking m args :: below)) m args below meth c T [] 0 0 := by
  obtain ⟨g₀, hfr⟩ := X.frames_eq
  have hcur : T.cur < T.threads.size := State.cur_lt_of_frames hfr
  have hF : (T.setFrames (.invoking m args :: below)).frames = .invoking m args :: below := State.frames_setFrames _ hcur
  have hm : (T.setFrames (.invoking m args :: below)).vm.method? m = some meth := X.method'
  have hv : ∀ q, (T.setFrames (.invoking m args :: below)).vm.method? q = s.vm.method? q := fun q => by
    show T.vm.method? q = _
    rw [X.warmed.alike.method?]
  have hcd : ∀ q, (T.setFrames (.invoking m args :: below)).code? q = s.code? q := fun q => by rw [State.code?_eq, State.code?_eq, hv]
  refine ⟨X.admits, X.cas, X.clock, hF, ?_, ?_, hm, X.code, X.here, X.tail, State.WarmedH.refl _, (State.stackLimits_setFrames _ _ _).symm, (State.stackBytes_setFrames _ _).symm, ?_⟩
  · obtain ⟨r1, r2, r3, r4⟩ := State.hasRoom_stack X.room
    have r5 := State.hasRoom_real X.room
    have h := X.room
    simp only [State.hasRoom, Bool.and_eq_true, decide_eq_true_eq] at h
    rw [State.localsInUse_invoking X.frames X.method X.code] at r3 r4 r5
    rw [X.frames, List.length_cons] at r1 r2
    have hU := State.localsInUse_invoking hF hm X.code
    have q1 := X.heapSize
    have q2 := X.used
    simp only [State.hasRoom, Bool.and_eq_true, decide_eq_true_eq, hF, hU, List.length_cons, State.stackLimits_setFrames, State.stackBytes_setFrames, X.limits, X.bytes]
    refine ⟨⟨⟨⟨by omega, by omega, by omega, by omega, by omega, h.1.1.1.2.2.2.2.2⟩, ?_⟩, ?_⟩, X.book⟩
    · have := h.1.1.2
      show T.heap.size + R'.cells ≤ _
      omega
    · have := h.1.2
      show T.slotsUsed + R'.slots ≤ _
      omega
  · have h := X.hears
    cases below with
    | nil => simpa only [State.hears, hv] using h
    | cons f r => cases f <;> simpa only [State.hears, hv, hcd] using h
  · obtain ⟨th, hth, -⟩ := State.frames_cons hF
    obtain ⟨th0, hth0, -⟩ := State.frames_cons hfr
    have h := (State.sameButNew.refl (T.setFrames (.invoking m args :: below)) hth).setFrames T.frames (State.cur_lt_of_frames hF)
    rw [State.setFrames_setFrames, State.setFrames_self hth0] at h
    exact h
