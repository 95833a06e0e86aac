/-! ===== exceptions that the machine itself throws ===== -/
set_option maxRecDepth 100000
theorem same_keep {s U : State} {k n : Nat} (h : s.sameButNew U [] k n) : s.heap.size ≤ U.heap.size ∧ U.heap.size ≤ s.heap.size + k ∧ ∀ q : Nat, q < s.heap.size → U.heap[q]? = s.heap[q]? := by
  refine ⟨h.2.1, h.2.2.1, fun q hq => ?_⟩
  obtain ⟨c', h1, h2, h3, h4⟩ := h.2.2.2.2.2 q s.heap[q] (Array.getElem?_eq_getElem hq)
  rw [h1, Array.getElem?_eq_getElem hq]
  congr 1
  rw [h2]
  have e : c'.slots = s.heap[q].slots := Array.ext_getElem? (fun i => h4 i (by simp))
  rw [e]
/-- new cells, of which the last is known by its class alone -/
theorem hp_new {G : gl_T} {w : wd_T} {H H1 : Heap} (h : hp G w H) (n τ : Nat) {ci : Nat} {r : vw_C} (hr : jcl[ci]? = some r) (hr0 : r.2.2 = 0) {cell : Cell} (hs : H1.size = H.size + n + 1) (ho : ∀ q : Nat, q < H.size → H1[q]? = H[q]?) (hc : H1[H.size + n]? = some cell) (hcls : cell.cls = (gl_D G).1 ci) (hvm : cell.vm = .none)
    (hns : ∀ (q : Nat) (cl : Cell), H.size ≤ q → H1[q]? = some cl → cl.vm.isStatics = false) : hp G (mu w.1 (w.2 + n) τ (.inr (ci, [])), w.2 + n + 1) H1 := by
  have h0 := h.1
  refine ⟨by rw [hs, h0], by have := h.2.1; omega, ⟨fun q hq => ?_, fun q cl hq hcl => ?_⟩, fun b σ e2 hb => ?_⟩
  · rw [ho q (by have := h.2.1; omega)]
    exact h.2.2.1.1 q hq
  · by_cases z : q < H.size
    · rw [ho q z] at hcl
      exact h.2.2.1.2 q cl hq hcl
    · exact hns q cl (by omega) hcl
  · by_cases z : b = w.2 + n
    · subst z
      have hb2 : mu w.1 (w.2 + n) τ (.inr (ci, [])) (w.2 + n) = some (σ, e2) := hb
      rw [mu_s] at hb2
      cases hb2
      refine ⟨by have := h.2.1; omega, r, hr, cell, ?_, hcls, hvm, fun k hk => ?_⟩
      · rw [← h0]
        exact hc
      · rw [hr0] at hk
        omega
    · have hb2 : mu w.1 (w.2 + n) τ (.inr (ci, [])) b = some (σ, e2) := hb
      rw [mu_n z] at hb2
      have hlt := h.lt hb2
      exact ⟨(h.2.2.2 b σ e2 hb2).1, (h.2.2.2 b σ e2 hb2).2.kept (ho b (by rw [h0]; exact hlt))⟩
section EZ
variable {G : gl_T} {k : KX} {cc : ByteArray} {own nm : String} {nL hh mc ms : Nat} {rt : Option FieldType} {post : Outcome → wd_T → Prop}
variable {w : wd_T} {lv : List (Nat × Value)} {pc ce sl : Nat} {rest st st0 : List Value} {hd : List (Nat × Nat × Nat × Nat)} {a : Nat}
/-- the end of an arm -/
theorem j_arm (C : Cx G k cc own nm nL rt hh mc ms post) {T U : State} {locs : List Loc} {kc kn x : Nat} {w' : wd_T} (X : KS G k T locs ce sl) (hf : ∀ q ∈ locs, gl_fr G q.base) (hrun : U.status = .running) (hend : Ended U (k_b k) (.threw x))
    (hW : (T.setFrames (.invoking (k_m k) (k_a k) :: k_b k)).WarmedH U.vm) (hs : (T.setFrames (.invoking (k_m k) (k_a k) :: k_b k)).sameButNew ({ U with vm := (T.setFrames (.invoking (k_m k) (k_a k) :: k_b k)).vm } : State) [] kc kn)
    (h1 : ce + kc ≤ mc) (h2 : sl + kn ≤ ms) (hw : hp G w' U.heap) (hq : post (.threw x) w') : MX G k U := by
  have h6 := (X.same.setFrames (.invoking (k_m k) (k_a k) :: k_b k) X.cur).trans (hs.setVm (k_s k).vm)
  rw [List.append_nil] at h6
  exact MX.of C.hpo C.hmc C.hms h1 h2 hrun hend rfl hq hw hf (State.WarmedH.trans X.warmed hW) h6
/-- the step from an instruction to the machine's note -/
def Nt (G : gl_T) (k : KX) (w : wd_T) (lv : List (Nat × Value)) (pc : Nat) (st0 rest : List Value) (cls : String) (msg : Option String) : Prop :=
  ∀ (ls : Array Slot) (H : Heap) (locs : List Loc) (ce sl : Nat) (T : State), lv_has ls (k_n k) lv → hp G w H → T.heap = H → KS G k T locs ce sl → ∃ vm₁, KS G k (T.setVm vm₁) locs ce sl ∧
    ∀ target, Steps (k_p k).tables (k_e k) (k_b k) (((T.setVm vm₁).setTop (F0 (k_m k) pc ls rest)).pushFrame (.throwNew cls msg none)) target → Steps (k_p k).tables (k_e k) (k_b k) (T.setTop (F0 (k_m k) pc ls st0)) target
theorem xt_cov {c : Code} (hx : xtab c = hd) (hout : ∀ x ∈ hd, ¬ (x.1 ≤ pc ∧ pc < x.2.1)) : ∀ x ∈ c.exceptionTable.toList, covers x pc = false := fun x hx' => by
  have h := hout _ (by rw [← hx]; exact List.mem_map.mpr ⟨x, hx', rfl⟩)
  have h3 : ¬ (x.startPc ≤ pc ∧ pc < x.endPc) := h
  simp only [covers, Bool.and_eq_false_iff, decide_eq_false_iff_not]
  omega
theorem Cx.xe (C : Cx G k cc own nm nL rt hh mc ms post) (hE : GE G) : XE G (k_s k) := hE.2.1 _ C.hK.X
/-- NullPointerException -/
theorem j_npe (C : Cx G k cc own nm nL rt hh mc ms post) (hE : GE G) (hx : xtab (k_c k) = hd) (hout : ∀ x ∈ hd, ¬ (x.1 ≤ pc ∧ pc < x.2.1)) (τ : Nat) (hst : (rest.map fun v => v.category).sum ≤ 8) (hN : Nt G k w lv pc st0 rest "java/lang/NullPointerException" none) (h1 : ce + 1 ≤ mc) (h2 : sl + 8 ≤ ms)
    (hq : post (.threw w.2) (mu w.1 w.2 τ (.inr (21, [])), w.2 + 1)) : J G k w lv pc st0 ce sl := by
  intro ls H locs hl hpp hf T hT X
  obtain ⟨vm₁, X1, stp⟩ := hN ls H locs ce sl T hl hpp hT X
  have hlocks : (k_me k).locks = false := C.hlocks
  have X2 := st_rebase (R' := { frames := 12, cells := 1, slots := 8, locals := 10500 }) X1 (by rw [C.hR]; show 12 ≤ hh + 12; omega) (by rw [C.hR]; show 10500 ≤ 60 * hh + 10500; omega) (by rw [C.hR]; exact h1) (by rw [C.hR]; exact h2)
  have hroom := lv_room (m := k_m k) (pc := pc) (ls := ls) (rest := rest) hst
  have hh : ∀ q : Nat, q < (gl_H G).size → T.heap[q]? = (gl_H G)[q]? := fun q hq => by rw [hT]; exact hpp.2.2.1.1 q hq
  obtain ⟨U, s1, s2, s3, s4, s5, cell, s6, s7⟩ := X2.npeArm C.hx (hE.2.2 _ X.admits) (n := 8) (at_npe (U := (T.setVm vm₁).setFrames (.invoking (k_m k) (k_a k) :: k_b k)) C.hts (C.xt hE.1) (C.xe hE) X1.warmed hh _) (fun x h => by cases h) (g := F0 (k_m k) pc ls rest) rfl (by show ls.size = _; rw [C.hml, ← C.hn]; exact hl.1) rfl rfl (xt_cov hx hout)
    (by show 7 < 12; omega) (by show 2 * (F0 (k_m k) pc ls rest).monitorRoom + (rest.map fun v => v.category).sum + 10240 ≤ 10500; omega) (by show 0 + 1 ≤ 1; omega) (by show 0 + 8 ≤ 8; omega)
  obtain ⟨k1, k2, k3⟩ := same_keep s5
  have hTs : T.heap.size = w.2 := by rw [hT]; exact hpp.1
  have s6' : U.heap[T.heap.size]? = some cell := s6
  have hlt := (Array.getElem?_eq_some_iff.mp s6').1
  have k2' : U.heap.size ≤ T.heap.size + (0 + 1) := k2
  have hKc := (C.hK.1.1 21 _ rfl).2
  have hcl : cell.cls = (gl_D G).1 21 := by
    have e1 : ((T.setVm vm₁).setFrames (.invoking (k_m k) (k_a k) :: k_b k)).vm.findClass "java/lang/NullPointerException" = some cell.cls := s7.cls
    have e2 : vm₁.findClass "java/lang/NullPointerException" = some cell.cls := e1
    exact Option.some.inj (e2.symm.trans ((X1.warmed.alike.findClass _ _).trans hKc.1))
  have hw' := hp_new (H1 := U.heap) hpp 0 τ (ci := 21) rfl rfl (by rw [← hT]; omega) (fun q hq => by rw [← hT]; exact k3 q (by rw [← hT] at hq; exact hq)) (cell := cell) (by rw [← hT]; exact s6') hcl s7.vm (fun q cl hq hcq => by
    have := (Array.getElem?_eq_some_iff.mp hcq).1
    have e : q = T.heap.size := by rw [← hT] at hq; omega
    rw [e, s6'] at hcq
    cases hcq
    rw [s7.vm]
    rfl)
  refine ⟨U, stp U s1, j_arm (w' := (mu w.1 w.2 τ (.inr (21, [])), w.2 + 1)) (x := w.2) C X1 hf s2 (by rw [← hTs]; exact s3) s4 s5 (by omega) (by omega) hw' hq⟩
/-- the same with a message that is known in part -/
def NtT (G : gl_T) (k : KX) (w : wd_T) (lv : List (Nat × Value)) (pc : Nat) (st0 rest : List Value) (cls : String) (nb : Nat) : Prop :=
  ∀ (ls : Array Slot) (H : Heap) (locs : List Loc) (ce sl : Nat) (T : State), lv_has ls (k_n k) lv → hp G w H → T.heap = H → KS G k T locs ce sl → ∃ (vm₁ : Vm) (text : String), KS G k (T.setVm vm₁) locs ce sl ∧ (text == notModelled) = false ∧ (stringBytes (stringToUtf16 text)).size ≤ nb ∧
    ∀ target, Steps (k_p k).tables (k_e k) (k_b k) (((T.setVm vm₁).setTop (F0 (k_m k) pc ls rest)).pushFrame (.throwNew cls (some text) none)) target → Steps (k_p k).tables (k_e k) (k_b k) (T.setTop (F0 (k_m k) pc ls st0)) target
/-- an exception with a message -/
theorem j_msgT (C : Cx G k cc own nm nL rt hh mc ms post) (hE : GE G) (hx : xtab (k_c k) = hd) (hout : ∀ x ∈ hd, ¬ (x.1 ≤ pc ∧ pc < x.2.1)) (τ : Nat) (hst : (rest.map fun v => v.category).sum ≤ 8) {cls : String} {names : List String} {ci nb : Nat} (hN : NtT G k w lv pc st0 rest cls nb) (hcl0 : jcl[ci]? = some (cls, TX0, 0))
    (hcls : Bundle.fit cls = true) (hnames : ∀ n ∈ names, Bundle.fit n = true) (hsoe : (cls == "java/lang/StackOverflowError") = false) (hoom : (cls == "java/lang/OutOfMemoryError") = false) (hlen : names.length ≤ 3)
    (hat : ∀ {s U : State} {A : Array Value}, (∀ w ∈ lw_all, w.before A s = true) → XT G s → XE G s → s.WarmedH U.vm → (∀ q : Nat, q < (gl_H G).size → U.heap[q]? = (gl_H G)[q]?) → ∀ A' : Array Value, ∀ a ∈ Bundle.messageArmAtoms cls names, a.before A' U = true)
    (hnb : nb ≤ 100000) (h1 : ce + 3 ≤ mc) (h2 : sl + (nb + 10) ≤ ms)
    (hq : post (.threw (w.2 + 2)) (mu w.1 (w.2 + 2) τ (.inr (ci, [])), w.2 + 3)) : J G k w lv pc st0 ce sl := by
  intro ls H locs hl hpp hf T hT X
  obtain ⟨vm₁, text, X1, htext, hb, stp⟩ := hN ls H locs ce sl T hl hpp hT X
  have hlocks : (k_me k).locks = false := C.hlocks
  have X2 := st_rebase (R' := { frames := 12, cells := 3, slots := nb + 10, locals := 10500 }) X1 (by rw [C.hR]; show 12 ≤ hh + 12; omega) (by rw [C.hR]; show 10500 ≤ 60 * hh + 10500; omega) (by rw [C.hR]; exact h1) (by rw [C.hR]; exact h2)
  have hroom := lv_room (m := k_m k) (pc := pc) (ls := ls) (rest := rest) hst
  have hh : ∀ q : Nat, q < (gl_H G).size → T.heap[q]? = (gl_H G)[q]? := fun q hq => by rw [hT]; exact hpp.2.2.1.1 q hq
  have hcb : componentBytes .byte = 1 := rfl
  obtain ⟨U, s1, s2, s3, s4, ⟨n, hn, s5⟩, cb, cs, cell, sb, ss, s6, kb, ks, s7⟩ := X2.messageArmCells C.hx (hE.2.2 _ X.admits) (cls := cls) (names := names) (text := text) hcls hnames hsoe hoom (hat (U := (T.setVm vm₁).setFrames (.invoking (k_m k) (k_a k) :: k_b k)) C.hts (C.xt hE.1) (C.xe hE) X1.warmed hh _) (fun x h => by cases h) htext
    (by rw [Launch.admits_arrayLengthLimit X.admits]; omega) (by rw [Launch.admits_maxHeapBytes X.admits, hcb]; omega) (g := F0 (k_m k) pc ls rest) rfl (by show ls.size = _; rw [C.hml, ← C.hn]; exact hl.1) rfl rfl (xt_cov hx hout)
    (by show names.length + 4 < 12; omega) (by show 2 * (F0 (k_m k) pc ls rest).monitorRoom + (rest.map fun v => v.category).sum + 10240 ≤ 10500; omega) (by omega) (by show 0 + 3 ≤ 3; omega) (by show 0 + _ ≤ nb + 10; omega)
  obtain ⟨k1, k2, k3⟩ := same_keep s5
  have hTs : T.heap.size = w.2 := by rw [hT]; exact hpp.1
  have sb' : U.heap[T.heap.size]? = some cb := sb
  have ss' : U.heap[T.heap.size + 1]? = some cs := ss
  have s6' : U.heap[T.heap.size + 2]? = some cell := s6
  have hlt := (Array.getElem?_eq_some_iff.mp s6').1
  have k2' : U.heap.size ≤ T.heap.size + (0 + 3) := k2
  have hKc := (C.hK.1.1 ci _ hcl0).2
  have hcl : cell.cls = (gl_D G).1 ci := by
    have e1 : ((T.setVm vm₁).setFrames (.invoking (k_m k) (k_a k) :: k_b k)).vm.findClass cls = some cell.cls := s7.cls
    have e2 : vm₁.findClass cls = some cell.cls := e1
    exact Option.some.inj (e2.symm.trans ((X1.warmed.alike.findClass _ _).trans hKc.1))
  have hw' := hp_new (H1 := U.heap) hpp 2 τ hcl0 rfl (by rw [← hT]; omega) (fun q hq => by rw [← hT]; exact k3 q (by rw [← hT] at hq; exact hq)) (cell := cell) (by rw [← hT]; exact s6') hcl s7.vm (fun q cl hq hcq => by
    have := (Array.getElem?_eq_some_iff.mp hcq).1
    rw [← hT] at hq
    rcases (show q = T.heap.size ∨ q = T.heap.size + 1 ∨ q = T.heap.size + 2 by omega) with e | e | e
    · rw [e, sb'] at hcq
      cases hcq
      rw [kb.vm]
      rfl
    · rw [e, ss'] at hcq
      cases hcq
      rw [ks.vm]
      rfl
    · rw [e, s6'] at hcq
      cases hcq
      rw [s7.vm]
      rfl)
  refine ⟨U, stp U s1, j_arm (w' := (mu w.1 (w.2 + 2) τ (.inr (ci, [])), w.2 + 3)) (x := w.2 + 2) C X1 hf s2 (by rw [← hTs]; exact s3) s4 s5 (by omega) (by omega) hw' hq⟩
theorem j_msg (C : Cx G k cc own nm nL rt hh mc ms post) (hE : GE G) (hx : xtab (k_c k) = hd) (hout : ∀ x ∈ hd, ¬ (x.1 ≤ pc ∧ pc < x.2.1)) (τ : Nat) (hst : (rest.map fun v => v.category).sum ≤ 8) {cls text : String} {names : List String} {ci nb : Nat} (hN : Nt G k w lv pc st0 rest cls (some text)) (hcl0 : jcl[ci]? = some (cls, TX0, 0))
    (hcls : Bundle.fit cls = true) (hnames : ∀ n ∈ names, Bundle.fit n = true) (hsoe : (cls == "java/lang/StackOverflowError") = false) (hoom : (cls == "java/lang/OutOfMemoryError") = false) (hlen : names.length ≤ 3)
    (hat : ∀ {s U : State} {A : Array Value}, (∀ w ∈ lw_all, w.before A s = true) → XT G s → XE G s → s.WarmedH U.vm → (∀ q : Nat, q < (gl_H G).size → U.heap[q]? = (gl_H G)[q]?) → ∀ A' : Array Value, ∀ a ∈ Bundle.messageArmAtoms cls names, a.before A' U = true)
    (htext : (text == notModelled) = false) (hb : (stringBytes (stringToUtf16 text)).size ≤ nb) (hnb : nb ≤ 100000) (h1 : ce + 3 ≤ mc) (h2 : sl + (nb + 10) ≤ ms)
    (hq : post (.threw (w.2 + 2)) (mu w.1 (w.2 + 2) τ (.inr (ci, [])), w.2 + 3)) : J G k w lv pc st0 ce sl :=
  j_msgT C hE hx hout τ hst (fun ls H locs ce sl T hl hpp hT X => by
    obtain ⟨vm₁, X1, stp⟩ := hN ls H locs ce sl T hl hpp hT X
    exact ⟨vm₁, text, X1, htext, hb, stp⟩) hcl0 hcls hnames hsoe hoom hlen hat hnb h1 h2 hq
end EZ
