/-! ===== a cast that fails ===== -/
set_option maxRecDepth 100000
theorem fc_facts {vm : Vm} {A : String} {c : ClassId} {k : Class} (h : vm.findClass A = some c) (hk : vm.classes[c]? = some k) : k.name = A ∧ k.hidden = none ∧ k.loader = none := by
  obtain ⟨hlt, hp, _⟩ := Array.findIdx?_eq_some_iff_getElem.mp h
  have e : vm.classes[c] = k := by
    rw [Array.getElem?_eq_getElem hlt] at hk
    exact Option.some.inj hk
  rw [e] at hp
  simp only [Bool.and_eq_true, beq_iff_eq, Option.isNone_iff_eq_none] at hp
  exact ⟨hp.1.1.1, hp.1.1.2, hp.2⟩
theorem turned_len (a b : Char) (s : String) : (turned a b s).toList.length = s.toList.length := by
  simp [turned]
theorem shown_len {vm : Vm} {A : String} {c : ClassId} {k : Class} (h : vm.findClass A = some c) (hk : vm.classes[c]? = some k) : k.shown.toList.length = A.toList.length := by
  obtain ⟨h1, h2, -⟩ := fc_facts h hk
  unfold Class.shown
  rw [h2, h1]
  exact turned_len _ _ _
/-- the machine's modules are told -/
def GM (G : gl_T) : Prop := ∀ U, gl_X G U → modulesRight_1 U = true
theorem mod_warm {s U : State} (hW : s.WarmedH U.vm) (h : modulesRight_1 s = true) : modulesRight_1 U = true := by
  have e : U.vm.modules = s.vm.modules := by rw [hW.alike.1]
  unfold modulesRight_1 at h ⊢
  rw [e]
  exact h
theorem home_len {U : State} {A : String} {c : ClassId} {k : Class} (h : U.vm.findClass A = some c) (hk : U.vm.classes[c]? = some k) (ho : k.kind = .ordinary) (hp : packageOf A = "") (hm : modulesRight_1 U = true) : (U.vm.home k).toList.length ≤ 60 := by
  obtain ⟨h1, h2, h3⟩ := fc_facts h hk
  unfold Vm.home
  rw [h3]
  have hl : (U.vm.loaderName none).toList.length = 11 := by
    show ("'bootstrap'" : String).toList.length = 11
    decide
  have hlo : (" of loader " : String).toList.length = 11 := by decide
  rw [String.toList_append, String.toList_append, List.length_append, List.length_append, hl, hlo]
  cases hmo : U.vm.moduleOf k with
  | none =>
    have : ("unnamed module" : String).toList.length = 14 := by decide
    show ("unnamed module" : String).toList.length + 11 + 11 ≤ 60
    omega
  | some m =>
    have hn : m.name = "java.base" := by
      unfold Vm.moduleOf at hmo
      have hop : k.ofPrimitives = false := by
        unfold Class.ofPrimitives
        rw [ho]
      rw [hop] at hmo
      have hmo' : (U.vm.modules.find? fun m => m.loader == k.loader && m.packages.contains (packageOf k.name)) = some m := hmo
      have hpr := List.find?_some hmo'
      have hmem := List.mem_of_find?_eq_some hmo'
      simp only [Bool.and_eq_true, beq_iff_eq] at hpr
      have hall := List.all_eq_true.mp hm m hmem
      rw [hpr.1, h3] at hall
      have hc : castPackages_1.any (fun p => m.packages.contains p) = true := by
        rw [List.any_eq_true]
        refine ⟨"", by decide, ?_⟩
        rw [h1, hp] at hpr
        exact hpr.2
      rw [hc] at hall
      simpa using hall
    show ("module " ++ m.name : String).toList.length + 11 + 11 ≤ 60
    rw [hn]
    decide
theorem homes_len {U : State} {A B : String} {ca cb : ClassId} {ka kb : Class} (hA : U.vm.findClass A = some ca) (hka : U.vm.classes[ca]? = some ka) (hoa : ka.kind = .ordinary) (pA : packageOf A = "") (lA : A.toList.length ≤ 20) (hB : U.vm.findClass B = some cb) (hkb : U.vm.classes[cb]? = some kb) (hob : kb.kind = .ordinary) (pB : packageOf B = "") (lB : B.toList.length ≤ 20) (hm : modulesRight_1 U = true) : (U.vm.homes ka kb).toList.length ≤ 180 := by
  have a1 := shown_len hA hka
  have a2 := shown_len hB hkb
  have a3 := home_len hA hka hoa pA hm
  have a4 := home_len hB hkb hob pB hm
  unfold Vm.homes
  split
  · show (toString ka.shown ++ toString " and " ++ toString kb.shown ++ toString " are in " ++ toString (U.vm.home ka)).toList.length ≤ 180
    simp only [String.toList_append, List.length_append]
    have b1 : (toString " and ").toList.length = 5 := by decide
    have b2 : (toString " are in ").toList.length = 8 := by decide
    have b3 : (toString ka.shown).toList.length = ka.shown.toList.length := rfl
    have b4 : (toString kb.shown).toList.length = kb.shown.toList.length := rfl
    have b5 : (toString (U.vm.home ka)).toList.length = (U.vm.home ka).toList.length := rfl
    omega
  · show (toString ka.shown ++ toString " is in " ++ toString (U.vm.home ka) ++ toString "; " ++ toString kb.shown ++ toString " is in " ++ toString (U.vm.home kb)).toList.length ≤ 180
    simp only [String.toList_append, List.length_append]
    have b1 : (toString " is in ").toList.length = 7 := by decide
    have b2 : (toString "; ").toList.length = 2 := by decide
    have b3 : (toString ka.shown).toList.length = ka.shown.toList.length := rfl
    have b4 : (toString kb.shown).toList.length = kb.shown.toList.length := rfl
    have b5 : (toString (U.vm.home ka)).toList.length = (U.vm.home ka).toList.length := rfl
    have b6 : (toString (U.vm.home kb)).toList.length = (U.vm.home kb).toList.length := rfl
    omega
theorem cce_text {U : State} {A B : String} {ca cb : ClassId} {ka kb : Class} (hA : U.vm.findClass A = some ca) (hka : U.vm.classes[ca]? = some ka) (hoa : ka.kind = .ordinary) (pA : packageOf A = "") (lA : A.toList.length ≤ 20) (hB : U.vm.findClass B = some cb) (hkb : U.vm.classes[cb]? = some kb) (hob : kb.kind = .ordinary) (pB : packageOf B = "") (lB : B.toList.length ≤ 20) (hm : modulesRight_1 U = true) :
    ((Op.checkcast.message U.vm ka kb) == notModelled) = false ∧ (stringBytes (stringToUtf16 (Op.checkcast.message U.vm ka kb))).size ≤ 1200 := by
  have a0 := homes_len hA hka hoa pA lA hB hkb hob pB lB hm
  have a1 := shown_len hA hka
  have a2 := shown_len hB hkb
  have e : Op.checkcast.message U.vm ka kb = toString "class " ++ toString ka.shown ++ toString " cannot be cast to class " ++ toString kb.shown ++ toString " (" ++ toString (U.vm.homes ka kb) ++ toString ")" := rfl
  constructor
  · rw [beq_eq_false_iff_ne]
    intro h
    have h2 := congrArg (fun s => s.toList.head?) h
    rw [e] at h2
    have h3 : (toString "class " ++ toString ka.shown ++ toString " cannot be cast to class " ++ toString kb.shown ++ toString " (" ++ toString (U.vm.homes ka kb) ++ toString ")").toList.head? = some 'c' := by
      simp only [String.toList_append]
      rfl
    have h4 : notModelled.toList.head? = some '\u0000' := by decide
    have h5 : some 'c' = some '\u0000' := h3.symm.trans (h2.trans h4)
    revert h5
    decide
  · have b1 := stringBytes_size_le (stringToUtf16 (Op.checkcast.message U.vm ka kb))
    have b2 := utf16_size_le (Op.checkcast.message U.vm ka kb)
    have b3 : (Op.checkcast.message U.vm ka kb).toList.length ≤ 300 := by
      rw [e]
      simp only [String.toList_append, List.length_append]
      have c1 : (toString "class ").toList.length = 6 := by decide
      have c2 : (toString " cannot be cast to class ").toList.length = 25 := by decide
      have c3 : (toString " (").toList.length = 2 := by decide
      have c4 : (toString ")").toList.length = 1 := by decide
      have b3 : (toString ka.shown).toList.length = ka.shown.toList.length := rfl
      have b4 : (toString kb.shown).toList.length = kb.shown.toList.length := rfl
      have b5 : (toString (U.vm.homes ka kb)).toList.length = (U.vm.homes ka kb).toList.length := rfl
      omega
    omega
section CC
variable {G : gl_T} {k : KX} {cc : ByteArray} {own nm : String} {nL hh mc ms : Nat} {rt : Option FieldType} {post : Outcome → wd_T → Prop}
variable {w : wd_T} {lv : List (Nat × Value)} {pc ce sl index : Nat} {st : List Value} {hd : List (Nat × Nat × Nat × Nat)} {a τ : Nat}
theorem j_castX (C : Cx G k cc own nm nL rt hh mc ms post) (hE : GE G) (hM : GM G) (hx : xtab (k_c k) = hd) (hout : ∀ x ∈ hd, ¬ (x.1 ≤ pc ∧ pc < x.2.1)) (σ : Nat) (hst : ((Value.ref a :: st).map fun v => v.category).sum ≤ 8) {ci cj N N' : Nat} {fs : List Value} {A B : String} {Ta Tb : u_T} (he : w.1 a = some (τ, .inr (ci, fs))) (hcl : jcl[ci]? = some (A, Ta, N)) (hcj : jcl[cj]? = some (B, Tb, N')) (hn : NC A B (k_s k)) (pA : packageOf A = "") (lA : A.toList.length ≤ 20) (pB : packageOf B = "") (lB : B.toList.length ≤ 20) (hl : Cond.classLink own index B ∈ lw_all) (hdg : decode cc pc = .ok (.checkcast index, 3)) (h1 : ce + 3 ≤ mc) (h2 : sl + 1210 ≤ ms)
    (hq : post (.threw (w.2 + 2)) (mu w.1 (w.2 + 2) σ (.inr (25, [])), w.2 + 3)) : J G k w lv pc (.ref a :: st) ce sl := by
  refine j_msgT (names := ["java/lang/RuntimeException", "java/lang/Exception"]) (ci := 25) (nb := 1200) (cls := "java/lang/ClassCastException") C hE hx hout σ hst (rest := .ref a :: st) (fun ls H locs ce sl T hl2 hpp hT X => ?_) rfl (by decide +kernel) (by decide +kernel) (by decide) (by decide) (by decide) at_cce (by decide) h1 h2 hq
  obtain ⟨-, r', hr', cell, g1, g2, g3, -⟩ := hpp.2.2.2 a τ _ he
  have hpl : (k_e k).platform.magicAccessors = ({} : Platform).magicAccessors := by rw [X.admits.platform]
  obtain ⟨c', hc', hcl'⟩ := Cond.classLink_spec C.hown (C.hts _ hl) (k_e k).platform hpl
  obtain ⟨dk, _, _, kt, hdk, _, _, _, _, hkt, _, hopen⟩ := hcl'.here
  have hcl₀ := X.warmed.classLinks hcl'
  have hW' : (k_s k).WarmedH (T.vm.noted (k_m k).cls index (.cls c')) := X.warmed.noted hdk hopen (State.rightAt_cls hcl')
  obtain ⟨hfA, kA, hkA, hoA⟩ := (C.hK.1.1 ci _ hcl).2
  obtain ⟨hfB, kB, hkB, hoB⟩ := (C.hK.1.1 cj _ hcj).2
  have e1 : c' = (gl_D G).1 cj := Option.some.inj (hc'.symm.trans hfB)
  obtain ⟨ks', hks', hes⟩ := hW'.alike.2.2 _ _ hkA
  obtain ⟨kt', hkt', het⟩ := hW'.alike.2.2 _ _ hkB
  have hfA' : (T.setVm (T.vm.noted (k_m k).cls index (.cls c'))).vm.findClass A = some ((gl_D G).1 ci) := (hW'.alike.findClass _ _).trans hfA
  have hfB' : (T.setVm (T.vm.noted (k_m k).cls index (.cls c'))).vm.findClass B = some ((gl_D G).1 cj) := (hW'.alike.findClass _ _).trans hfB
  have hmod : modulesRight_1 (T.setVm (T.vm.noted (k_m k).cls index (.cls c'))) = true := mod_warm (U := T.setVm (T.vm.noted (k_m k).cls index (.cls c'))) hW' (hM _ C.hK.X)
  obtain ⟨t1, t2⟩ := cce_text (U := T.setVm (T.vm.noted (k_m k).cls index (.cls c'))) hfA' hks' (by rw [hes]; exact hoA) pA lA hfB' hkt' (by rw [het]; exact hoB) pB lB hmod
  refine ⟨T.vm.noted (k_m k).cls index (.cls c'), _, X.noted hW', t1, t2, fun target hrest => ?_⟩
  have hobj : ∀ k, cell.vm ≠ .statics k := fun k h => by rw [g3] at h; cases h
  have hcell : T.heap[a]? = some cell := by rw [hT]; exact g1
  have hnc : (T.vm.noted (k_m k).cls index (.cls c')).assignable cell.cls c' = false := by
    obtain ⟨x1, x2, y1, y2, y3⟩ := hn
    cases hfA.symm.trans y1
    cases hfB.symm.trans y2
    rw [hW'.alike.assignable, g2, e1]
    exact y3
  have hkt1 : (T.vm.noted (k_m k).cls index (.cls c')).classes[c']? = some kt' := by
    have z : ∀ q, q = (gl_D G).1 cj → (T.vm.noted (k_m k).cls index (.cls c')).classes[q]? = some kt' := fun q hq => by rw [hq]; exact hkt'
    exact z c' e1
  have hdg' : decode (k_c k).code (F0 (k_m k) pc ls (.ref a :: st)).pc = .ok (.checkcast index, 3) := by rw [C.hb]; exact hdg
  have hexec := C.hx
  jvm_step X.here [hexec, hdg', Op.checkcast.wp_cold (e := k_e k) (s := T) (f := F0 (k_m k) pc ls (.ref a :: st)) X.here.top rfl (resolveClass_links (k_e k).toSetting hcl₀) hcl₀.ready,
    Op.checkcast.wp_ready (e := k_e k) (s := T.setVm (T.vm.noted (k_m k).cls index (.cls c'))) (f := F0 (k_m k) pc ls (.ref a :: st)) X.here.top hcl₀.ready rfl]
  refine ⟨cell, hcell, hobj, ks', by rw [g2]; exact hks', kt', hkt1, ?_⟩
  rw [if_neg (by rw [hnc]; decide)]
  exact hrest
end CC
