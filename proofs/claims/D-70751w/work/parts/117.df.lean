/-! ===== calls that land in an interface's default ===== -/
set_option maxRecDepth 100000
theorem phole : ∀ (n : Nat) (f : Nat → Nat), (∀ i, i ≤ n → f i < n) → ∃ i j, i < j ∧ j ≤ n ∧ f i = f j := by
  intro n
  induction n with
  | zero => intro f h; exact absurd (h 0 (Nat.le_refl _)) (by omega)
  | succ n ih =>
    intro f h
    by_cases z : ∃ i, i ≤ n ∧ f i = f (n + 1)
    · obtain ⟨i, h1, h2⟩ := z
      exact ⟨i, n + 1, by omega, Nat.le_refl _, h2⟩
    · have z' : ∀ i, i ≤ n → f i ≠ f (n + 1) := fun i hi he => z ⟨i, hi, he⟩
      obtain ⟨i, j, h1, h2, h3⟩ := ih (fun i => if f i = n then f (n + 1) else f i) (fun i hi => by
        show (if f i = n then f (n + 1) else f i) < n
        have := h i (by omega)
        have := h (n + 1) (by omega)
        have := z' i hi
        split <;> omega)
      have h3 : (if f i = n then f (n + 1) else f i) = (if f j = n then f (n + 1) else f j) := h3
      have a1 := z' i (by omega)
      have a2 := z' j (by omega)
      refine ⟨i, j, h1, by omega, ?_⟩
      split at h3 <;> split at h3 <;> omega
/-- the classes above c, step by step -/
def supN (vm : Vm) (c : ClassId) : Nat → Option ClassId
  | 0 => some c
  | i + 1 => (supN vm c i).bind fun p => vm.classes[p]?.bind (·.super)
theorem supN_s (vm : Vm) {c q : ClassId} (h : (vm.classes[c]?.bind (·.super)) = some q) : ∀ i, supN vm c (i + 1) = supN vm q i := by
  intro i
  induction i with
  | zero => exact h
  | succ i ih => show (supN vm c (i + 1)).bind _ = (supN vm q i).bind _; rw [ih]
theorem supN_none (vm : Vm) {c : ClassId} (h : (vm.classes[c]?.bind (·.super)) = none) : ∀ i, supN vm c (i + 1) = none := by
  intro i
  induction i with
  | zero => exact h
  | succ i ih => show (supN vm c (i + 1)).bind _ = none; rw [ih]; rfl
theorem supN_per (vm : Vm) (c : ClassId) {i j : Nat} (h : supN vm c i = supN vm c j) : ∀ k, supN vm c (i + k) = supN vm c (j + k) := by
  intro k
  induction k with
  | zero => exact h
  | succ k ih => show (supN vm c (i + k)).bind _ = (supN vm c (j + k)).bind _; rw [ih]
theorem supN_def (vm : Vm) (c : ClassId) {n : Nat} {p : ClassId} (h : supN vm c n = some p) : ∀ i, i < n → ∃ q, supN vm c i = some q ∧ q < vm.classes.size := by
  induction n generalizing p with
  | zero => intro i hi; omega
  | succ n ih =>
    have h9 : (supN vm c n).bind (fun p => vm.classes[p]?.bind (·.super)) = some p := h
    intro i hi
    cases hq : supN vm c n with
    | none => rw [hq] at h9; cases h9
    | some q =>
      rw [hq] at h9
      by_cases z : i = n
      · subst z
        refine ⟨q, hq, ?_⟩
        cases hk : vm.classes[q]? with
        | none => rw [Option.bind_some, hk] at h9; cases h9
        | some k => exact (Array.getElem?_eq_some_iff.mp hk).1
      · exact ih hq i (by omega)
theorem lk_none (vm : Vm) (name desc : String) : ∀ (n : Nat) (c : ClassId), lookupInSuperclasses vm name desc n c = none → ∀ i, i < n → ∀ p, supN vm c i = some p → ownMethod vm name desc p = none := by
  intro n
  induction n with
  | zero => intro c _ i hi; omega
  | succ n ih =>
    intro c h i hi p hp
    unfold lookupInSuperclasses at h
    cases hk : vm.classes[c]? with
    | none =>
      cases i with
      | zero => cases hp; simp [ownMethod, hk]
      | succ i => rw [supN_none vm (by rw [hk]; rfl) i] at hp; cases hp
    | some k =>
      simp only [hk, Option.bind_eq_bind, Option.bind_some] at h
      cases hf : k.findMethod name desc with
      | some j => simp [hf] at h
      | none =>
        simp only [hf] at h
        cases i with
        | zero => cases hp; simp [ownMethod, hk, hf]
        | succ i =>
          cases hs : k.super with
          | none => rw [supN_none vm (by rw [hk]; exact hs) i] at hp; cases hp
          | some q =>
            rw [supN_s vm (by rw [hk]; exact hs) i] at hp
            rw [hs] at h
            exact ih q h i (by omega) p hp
theorem sup_mem (vm : Vm) : ∀ (n : Nat) (c p : ClassId), p ∈ vm.superclassesAux n c → ∃ i, 1 ≤ i ∧ i ≤ n ∧ supN vm c i = some p := by
  intro n
  induction n with
  | zero => intro c p h; simp [Vm.superclassesAux] at h
  | succ n ih =>
    intro c p h
    unfold Vm.superclassesAux at h
    cases hs : (vm.classes[c]?.bind (·.super)) with
    | none => rw [hs] at h; cases h
    | some q =>
      rw [hs] at h
      rcases List.mem_cons.mp h with rfl | h
      · exact ⟨1, by omega, by omega, hs⟩
      · obtain ⟨i, h1, h2, h3⟩ := ih q p h
        exact ⟨i + 1, by omega, by omega, by rw [supN_s vm hs i]; exact h3⟩
/-- nothing of that name in the class or above it: however far one looks -/
theorem lk_all {vm : Vm} {name desc : String} {c : ClassId} (h : lookupInSuperclasses vm name desc (vm.classes.size + 1) c = none) : ownMethod vm name desc c = none ∧ superclassMethods vm c name desc = [] := by
  refine ⟨lk_none vm name desc _ c h 0 (by omega) c rfl, ?_⟩
  unfold superclassMethods
  rw [List.filterMap_eq_nil_iff]
  intro p hp
  obtain ⟨i, h1, h2, h3⟩ := sup_mem vm _ c p hp
  by_cases z : i ≤ vm.classes.size
  · exact lk_none vm name desc _ c h i (by omega) p h3
  · have e : i = vm.classes.size + 1 := by omega
    subst e
    have hd := supN_def vm c h3
    obtain ⟨i, j, a1, a2, a3⟩ := phole vm.classes.size (fun i => (supN vm c i).getD 0) (fun i hi => by
      obtain ⟨q, g1, g2⟩ := hd i (by omega)
      show (supN vm c i).getD 0 < _
      rw [g1]
      exact g2)
    obtain ⟨q1, b1, -⟩ := hd i (by omega)
    obtain ⟨q2, b2, -⟩ := hd j (by omega)
    have a3 : (supN vm c i).getD 0 = (supN vm c j).getD 0 := a3
    have a4 : supN vm c i = supN vm c j := by rw [b1, b2] at a3 ⊢; exact congrArg some a3
    have a5 := supN_per vm c a4 (vm.classes.size + 1 - j)
    rw [show j + (vm.classes.size + 1 - j) = vm.classes.size + 1 by omega] at a5
    exact lk_none vm name desc _ c h (i + (vm.classes.size + 1 - j)) (by omega) p (a5.trans h3)
theorem sel_none (vm : Vm) (r : MethodId) (name desc : String) : ∀ (n : Nat) (c : ClassId), lookupInSuperclasses vm name desc n c = none → selectInSuperclasses vm r name desc n c = none := by
  intro n
  induction n with
  | zero => intro c _; rfl
  | succ n ih =>
    intro c h
    unfold lookupInSuperclasses at h
    unfold selectInSuperclasses
    cases hk : vm.classes[c]? with
    | none => rfl
    | some k =>
      simp only [hk, Option.bind_eq_bind, Option.bind_some] at h
      cases hf : k.findMethod name desc with
      | some j => simp [hf] at h
      | none =>
        simp only [hf] at h
        cases hs : k.super with
        | none => simp [hf, hs]
        | some q =>
          rw [hs] at h
          simpa [hf, hs] using ih q h
/-- what is found from a class by its name is, by super's call, that default -/
theorem ls_default {vm : Vm} {c : ClassId} {k mk : Class} {name desc : String} {m : MethodId} {meth : Method} (hk : vm.classes[c]? = some k) (hni : k.isInterface = false) (hl : vm.lookupUp c name desc = some m) (hm : vm.method? m = some meth) (hst : meth.isStatic = false) (hn : meth.name = name) (hd : meth.desc = desc) (hp : meth.isPrivate = false)
    (hmk : vm.classes[m.cls]? = some mk) (hi : mk.isInterface = true) (hsel : selectMethod {} vm c m = .method m) : lookupSpecial vm c name desc = .method m := by
  cases hx : lookupInSuperclasses vm name desc (vm.classes.size + 1) c with
  | some x => exact lookupSpecial_of_lookupUp hk hni hl (by rw [hx]; rfl) hm hst
  | none =>
    obtain ⟨h1, h2⟩ := lk_all hx
    have h3 := sel_none vm m name desc _ c hx
    unfold selectMethod at hsel
    simp only [hm, hp, hn, hd, h3, hmk, hi, Option.any_some, Bool.not_true, Bool.and_false, Bool.false_eq_true, if_false] at hsel
    unfold lookupSpecial
    have h1' : ((vm.classes[c]?.bind (·.findMethod name desc)).map fun i => (⟨c, i⟩ : MethodId)) = none := h1
    simp only [h1', h2, Option.toList_none, List.filter_nil, List.append_nil, List.find?_nil]
    split at hsel
    · cases hsel
    · exact hsel

def dSig : String := "(LMoodFare$Trail;LMoodFare$Held;)I"
/-- what the tables say of Corner.size and Corner.mark, that no class declares -/
def XD (U : State) : Prop := (∀ w ∈ defaultWords_1, w.before #[] U = true) ∧ ∀ nm : String, nm = "size" ∨ nm = "mark" → ∃ c m, U.vm.findClass "MoodFare$Corner" = some c ∧ U.methodNamed? ⟨"MoodFare$Marked", nm, dSig⟩ = some m ∧ lookupSpecial U.vm c nm dSig = .method m
theorem XD.warm {s U : State} (hW : s.WarmedH U.vm) (h : XD s) : XD U := by
  refine ⟨fun w hw => word_at hW (Or.inl ?_) (h.1 w hw), fun nm hn => ?_⟩
  · have : defaultWords_1.all (fun c => c.onTables && c.keeps) = true := by decide
    exact List.all_eq_true.mp this w hw
  · obtain ⟨c, m, h1, h2, h3⟩ := h.2 nm hn
    refine ⟨c, m, by rw [hW.alike.findClass]; exact h1, ?_, by rw [hW.alike.lookupSpecial]; exact h3⟩
    have := State.methodNamed?_setVm (s := s) (vm' := U.vm) hW.alike ⟨"MoodFare$Marked", nm, dSig⟩
    exact this.trans h2
def GD (G : gl_T) : Prop := ∀ U, gl_X G U → XD U
/-- the words at the law's start give it -/
theorem ld_spec {args : Array Value} {s : State} {nm : String} (h : (Cond.landsInDefault "MoodFare$Corner" ⟨"MoodFare$Corner", nm, dSig⟩ ⟨"MoodFare$Marked", nm, dSig⟩).before args s = true) (hs : (Cond.sameMethod "MoodFare$Corner" "MoodFare$Marked" nm dSig).before args s = true)
    (hi : (Cond.instanceMethod ⟨"MoodFare$Marked", nm, dSig⟩).before args s = true) (hp : ∀ c ck, s.vm.findClass "MoodFare$Corner" = some c → s.vm.classes[c]? = some ck → ∀ y, signaturePolymorphic ck y = false) : ∃ c m, s.vm.findClass "MoodFare$Corner" = some c ∧ s.methodNamed? ⟨"MoodFare$Marked", nm, dSig⟩ = some m ∧ lookupSpecial s.vm c nm dSig = .method m := by
  obtain ⟨c, ck, r, hc, hck, hni, hf, hn⟩ := Cond.sameMethod_found hs
  obtain ⟨r', rm, hn', hrm, hst, -⟩ := Cond.instanceMethod_spec hi
  cases hn.symm.trans hn'
  obtain ⟨e1, e2⟩ := name_of_methodNamed hn hrm
  have hup : s.vm.lookupUp c nm dSig = some r := ((State.methodFound?_class hc hck hni (hp c ck hc hck) r).mp hf).1
  refine ⟨c, r, hc, hn, ?_⟩
  simp only [Cond.before, Cond.holds, Cond.value, hc, hf, hn, hrm, Option.map_some, beq_iff_eq, Option.some.injEq] at h
  split at h
  · rename_i m' hsel
    simp only [Bool.and_eq_true, decide_eq_true_eq, Bool.not_eq_true', Option.any_eq_true] at h
    obtain ⟨⟨⟨⟨rfl, mk, hmk, hi⟩, hpv⟩, -⟩, -⟩ := h
    exact ls_default hck hni hup hrm hst e1 e2 hpv hmk hi hsel
  · cases h
section DF
variable {G : gl_T} {k : KX} {cc : ByteArray} {own nm : String} {nL hh mc ms : Nat} {rt : Option FieldType} {post : Outcome → wd_T → Prop}
variable {w : wd_T} {lv : List (Nat × Value)} {pc ce sl : Nat} {rest st st0 : List Value}
variable {y : MethodName} {bytes : ByteArray} {maxL h' mc' ms' index : Nat} {ret' : Option FieldType} {hd : List (Nat × Nat × Nat × Nat)} {As av : List Value} {a b : Nat} {post' : Outcome → wd_T → Prop} {bytes' : ByteArray}
theorem Cx.xd (C : Cx G k cc own nm nL rt hh mc ms post) (hD : GD G) : XD (k_s k) := hD _ C.hK.X
/-- Corner.size, Corner.mark asked of an object -/
theorem iv_U (C : Cx G k cc own nm nL rt hh mc ms post) (hD : GD G) {wh : String} {ci τ N : Nat} {fs : List Value} {D : String} {Tt : u_T} (hb : w.1 b = some (τ, .inr (ci, fs))) (hcl : jcl[ci]? = some (D, Tt, N)) (hw : CW y bytes maxL ret' hd)
    (q1 : Cond.methodLink own index ⟨"MoodFare$Corner", wh, dSig⟩ ∈ defaultWords_1) (q2 : Cond.sameMethod "MoodFare$Corner" "MoodFare$Marked" wh dSig ∈ defaultWords_1) (q3 : Cond.instanceMethod ⟨"MoodFare$Marked", wh, dSig⟩ ∈ lw_all) (q4 : Cond.selects D ⟨"MoodFare$Marked", wh, dSig⟩ y ∈ lw_all) (q5 : Cond.instanceMethod y ∈ lw_all) (q6 : Cond.code ⟨"MoodFare$Marked", wh, dSig⟩ bytes' 3 (some .int) ∈ lw_all)
    (hn : As.length = 2) (hs : st0 = As.reverse ++ .ref b :: rest) (hdg : decode cc pc = .ok (.invokevirtual index, 3)) : Iv G k w lv pc st0 rest y (.ref b :: As) 3 := by
  subst hs
  refine ⟨⟨_, by rw [C.hb]; exact hdg⟩, fun ls H locs ce sl hl hpp T hT X => ?_⟩
  obtain ⟨r0, rM, hr0, hrm, hstR, -⟩ := Cond.instanceMethod_spec (C.hts _ q3)
  obtain ⟨rM', cM, hrm', -, -, -, -, -, -, hsig⟩ := Cond.code_spec hr0 (C.hts _ q6)
  cases hrm.symm.trans hrm'
  obtain ⟨mk, methM, hnamed, hmethM, hstM, habM⟩ := Cond.instanceMethod_spec (C.hts _ q5)
  obtain ⟨-, r', hr', cellB, g1, g2, g3, -⟩ := hpp.2.2.2 b τ _ hb
  have hcls : (k_s k).vm.findClass D = some cellB.cls := by rw [g2]; exact (C.hK.1.1 ci _ hcl).2.1
  obtain ⟨c2, r2, m2, p1, p2, p3, p4, kP, hkP, hkPi⟩ := Cond.selects_spec (C.hts _ q4)
  cases hcls.symm.trans p1
  cases (State.methodFound?_of_named hr0 ⟨show ("MoodFare$Marked" : String) ≠ _ by decide, show ("MoodFare$Marked" : String) ≠ _ by decide⟩).symm.trans p2
  cases hnamed.symm.trans p3
  have hselP : selectMethod (k_e k).platform (k_s k).vm cellB.cls r0 = .method mk := by rw [Launch.admits_selectMethod X.admits]; exact p4
  have hlen : As.length = rM.sig.parameters.length := by
    have h2 : (parseMethodDescriptor dSig).map (fun d => d.parameters.length) = some 2 := by decide +kernel
    rw [hsig] at h2
    rw [hn]
    exact (Option.some.inj h2).symm
  obtain ⟨vm₁, X₁, hstep₁⟩ := X.invokevirtualUp C.hx C.hown (x := ⟨"MoodFare$Corner", wh, dSig⟩) (owner := "MoodFare$Marked") ((C.xd hD).1 _ q1) ((C.xd hD).1 _ q2) (by decide) hr0 hrm hstR (a := b) (cell := cellB) (by rw [hT]; exact g1) (fun z h => by rw [g3] at h; cases h) hselP hmethM habM hkP hkPi (g := F0 (k_m k) pc ls (As.reverse ++ .ref b :: rest)) rfl (argsL := As) (rest := rest) hlen rfl (by rw [C.hb]; exact hdg)
  exact ⟨vm₁, mk, hnamed, X₁, fun target h => hstep₁ _ fun acts => by rw [doInvoke_state]; exact h⟩
/-- super.size, super.mark where the default runs -/
theorem iv_D (C : Cx G k cc own nm nL rt hh mc ms post) (hD : GD G) {wh : String} {ci τ N : Nat} {fs : List Value} {D : String} {Tt : u_T} (hb : w.1 b = some (τ, .inr (ci, fs))) (hcl : jcl[ci]? = some (D, Tt, N)) (hwh : wh = "size" ∨ wh = "mark")
    (q1 : Cond.methodLink own index ⟨"MoodFare$Corner", wh, dSig⟩ ∈ defaultWords_1) (q2 : Cond.sameMethod "MoodFare$Corner" "MoodFare$Marked" wh dSig ∈ defaultWords_1) (q3 : Cond.instanceMethod ⟨"MoodFare$Marked", wh, dSig⟩ ∈ lw_all) (q4 : Cond.superclass own "MoodFare$Corner" ∈ lw_all) (q6 : Cond.code ⟨"MoodFare$Marked", wh, dSig⟩ bytes' 3 (some .int) ∈ lw_all)
    (hn : As.length = 2) (hs : st0 = As.reverse ++ .ref b :: rest) (hdg : decode cc pc = .ok (.invokespecial index, 3)) : Iv G k w lv pc st0 rest ⟨"MoodFare$Marked", wh, dSig⟩ (.ref b :: As) 3 := by
  subst hs
  refine ⟨⟨_, by rw [C.hb]; exact hdg⟩, fun ls H locs ce sl hl hpp T hT X => ?_⟩
  obtain ⟨r0, rM, hr0, hrm, hstR, habR⟩ := Cond.instanceMethod_spec (C.hts _ q3)
  obtain ⟨rM', cM, hrm', -, -, -, -, -, -, hsig⟩ := Cond.code_spec hr0 (C.hts _ q6)
  cases hrm.symm.trans hrm'
  obtain ⟨-, r', hr', cellB, g1, g2, g3, -⟩ := hpp.2.2.2 b τ _ hb
  have hkn := (C.hK.1.1 ci _ hcl).2
  obtain ⟨kc, hkc⟩ : ∃ kc, (k_s k).vm.classes[cellB.cls]? = some kc := by
    rw [g2]
    exact hkn.2.imp fun _ h => h.1
  have hlen : As.length = rM.sig.parameters.length := by
    have h2 : (parseMethodDescriptor dSig).map (fun d => d.parameters.length) = some 2 := by decide +kernel
    rw [hsig] at h2
    rw [hn]
    exact (Option.some.inj h2).symm
  obtain ⟨cS, mS, hcS, hmS, hfound0⟩ := (C.xd hD).2 wh hwh
  cases hr0.symm.trans hmS
  have hpl : (k_e k).platform.magicAccessors = ({} : Platform).magicAccessors := by rw [X.admits.platform]
  obtain ⟨cn', ck, r1, hcn', hck, hni, hf, hn1⟩ := Cond.sameMethod_found ((C.xd hD).1 _ q2)
  cases hr0.symm.trans hn1
  cases hcS.symm.trans hcn'
  obtain ⟨pS, dk, kp, hpS, hd, -, hsup, -, -, hnid⟩ := Cond.superclass_spec C.hown (C.hts _ q4)
  cases hcS.symm.trans hpS
  obtain ⟨ci', hl', hright⟩ := Cond.methodLink_specUp C.hown hcS hck hni hf ((C.xd hD).1 _ q1) (k_e k).platform hpl (by rw [X.admits.platform])
  obtain ⟨kr, hkr, -⟩ := className_of_methodNamed hr0
  obtain ⟨hrn, hrd⟩ := name_of_methodNamed hr0 hrm
  obtain ⟨dk₀, cfile, nt, _, _, ck₀, _, _, hd₀, hcf, hcp, -⟩ := hl'.here
  cases hd.symm.trans hd₀
  have hnoinit : wh ≠ "<init>" := by rcases hwh with rfl | rfl <;> decide
  obtain ⟨vm', hW', st'⟩ := Steps.invokeSuperColdArgs (tb := (k_p k).tables) (e := k_e k) (s₀ := k_s k) (U := T) (f := F0 (k_m k) pc ls (As.reverse ++ .ref b :: rest)) (args := As) (rest := rest) (a := b) (cell := cellB) (m := r0) X.here C.hx (by rw [C.hb]; exact hdg) X.warmed hl' hright hd hcf hcp hrm hck
    (by rw [hrn]; simp [hnoinit]) hstR (by rw [hrn, hrd, hsup]; simpa using hfound0) hnid hkr habR hlen rfl (by rw [hT]; exact g1) (fun z h => by rw [g3] at h; cases h) hkc
  exact ⟨vm', r0, hr0, X.noted hW', fun target h => st' _ h⟩
end DF
