/-! ===== System.arraycopy throws: rows ===== -/
set_option maxRecDepth 100000
theorem frs_push {T : State} {g g0 : JFrame} {below : List Frame} (h : T.frames = .java g0 :: below) (f : Frame) : (T.setTop g).pushFrame f = T.setFrames (f :: .java g :: below) := by
  rw [State.pushFrame, State.frames_setTop _ h, State.setTop_of_frames _ h, State.setFrames_setFrames]
theorem frs_push2 {T : State} {g g0 : JFrame} {below : List Frame} (h : T.frames = .java g0 :: below) (f f' : Frame) : ((T.setTop g).pushFrame f).pushFrame f' = T.setFrames (f' :: f :: .java g :: below) := by
  rw [frs_push h, State.pushFrame, State.frames_setFrames _ (State.cur_lt_of_frames h), State.setFrames_setFrames]
section CPR
variable {G : gl_T} {k : KX} {cc : ByteArray} {own nm : String} {nL hh mc ms : Nat} {rt : Option FieldType} {post : Outcome → wd_T → Prop}
variable {w : wd_T} {lv : List (Nat × Value)} {pc ce sl index : Nat} {rest : List Value} {v0 v2 : Value} {sp dp n : Int32}
theorem cp_go (C : Cx G k cc own nm nL rt hh mc ms post) (q1 : Cond.methodLink own index arraycopyName ∈ lw_all) (q2 : Cond.native arraycopyName ∈ lw_all) (q3 : Cond.static arraycopyName ∈ lw_all) (q4 : Cond.initialized "java/lang/System" ∈ lw_all) (hst : (rest.map fun v => v.category).sum ≤ 8) (hdg : decode cc pc = .ok (.invokestatic index, 3))
    (hw5 : operandWords [v0, .int sp, v2, .int dp, .int n] = 5) {ls : Array Slot} (hl : lv_has ls (k_n k) lv) {T : State} {locs : List Loc} (X : KS G k T locs ce sl) :
    ∃ (vm' : Vm) (nf : NFrame), KS G k (T.setVm vm') locs ce sl ∧ nf.words = 0 ∧ nf.locked = none ∧ nf.awaiting = false ∧ ∀ cls msg, (∀ U : State, U.heap = T.heap → U.vm = vm' → cpT (k_e k) U #[v0, .int sp, v2, .int dp, .int n] cls msg) → ∀ target, Steps (k_p k).tables (k_e k) (k_b k) ((T.setVm vm').setFrames (.throwNew cls msg none :: .native nf :: .java (F0 (k_m k) pc ls rest) :: k_b k)) target →
      Steps (k_p k).tables (k_e k) (k_b k) (T.setTop (F0 (k_m k) pc ls (.int n :: .int dp :: v2 :: .int sp :: v0 :: rest))) target := by
  obtain ⟨r, kS, methS, hnS, hmS, hkS, N⟩ := NativeOf.of_static (C.hts _ q2) (C.hts _ q3) (ps := [.object "java/lang/Object", .int, .object "java/lang/Object", .int, .int]) (ret := none) (by decide +kernel)
  have hinitS : kS.init = .initialized := Cond.initialized_spec (findClass_of_methodNamed hnS) hkS (C.hts _ q4)
  obtain ⟨vm', X', step⟩ := X.invokestatic C.hx C.hown (C.hts _ q1) hnS hmS N.static hkS hinitS (by decide) (g := F0 (k_m k) pc ls (.int n :: .int dp :: v2 :: .int sp :: v0 :: rest)) rfl (argsL := [v0, .int sp, v2, .int dp, .int n]) (rest := rest) (by rw [N.sig]; rfl) rfl (by rw [C.hb]; exact hdg)
  obtain ⟨kS', N'⟩ := N.alike X'.warmed.alike
  obtain ⟨g₀, hfr⟩ := X'.frames_eq
  have hseen : seenByNative methS #[v0, .int sp, v2, .int dp, .int n] = #[v0, .int sp, v2, .int dp, .int n] := by simp [seenByNative, N'.static, N'.sig, narrow]
  refine ⟨vm', { method := r, args := seenByNative methS #[v0, .int sp, v2, .int dp, .int n], locked := none }, X', rfl, rfl, rfl, fun cls msg hc target hrest => step target fun acts => ?_⟩
  refine nat_call (row := arraycopyRow) (g := F0 (k_m k) pc ls rest) X'.here acts N'.cls N'.meth N'.boot N'.native N'.noCode N'.noLock (by rw [N'.className, N'.name, N'.desc]; exact arraycopy_row _) ?_ (cls := cls) (msg := msg) ?_ ?_
  · rw [N'.className, N'.name]
    show (k_e k).platform.stackFull _ _ (nativeFrameWords "java/lang/System" "arraycopy" (operandWords [v0, .int sp, v2, .int dp, .int n])) = false
    rw [hw5]
    refine X'.notFull (g := F0 (k_m k) pc ls rest) (by rw [C.hml, ← C.hn]; exact hl.1) (vars := nativeFrameWords "java/lang/System" "arraycopy" 5) (by rw [C.hR]; show 1 ≤ hh + 12; omega) ?_
    rw [C.hR]
    show 2 * 0 + _ + _ ≤ 60 * hh + 10500
    have : nativeFrameWords "java/lang/System" "arraycopy" 5 ≤ 1000 := by decide +kernel
    have e : (F0 (k_m k) pc ls rest).stack = rest := rfl
    rw [e]
    omega
  · rw [hseen, arraycopyRow_sem]
    exact hc _ (by rw [frs_push hfr]; rfl) (by rw [frs_push hfr]; rfl)
  · rw [frs_push2 hfr]
    exact hrest
/-- arraycopy of null -/
theorem j_copyN (C : Cx G k cc own nm nL rt hh mc ms post) (hE : GE G) (τ : Nat) (q1 : Cond.methodLink own index arraycopyName ∈ lw_all) (q2 : Cond.native arraycopyName ∈ lw_all) (q3 : Cond.static arraycopyName ∈ lw_all) (q4 : Cond.initialized "java/lang/System" ∈ lw_all) (hst : (rest.map fun v => v.category).sum ≤ 8) (hdg : decode cc pc = .ok (.invokestatic index, 3))
    (hv : v0 = .null ∧ (v2 = .null ∨ ∃ a, v2 = .ref a) ∨ (∃ a, v0 = .ref a) ∧ v2 = .null) (h1 : ce + 1 ≤ mc) (h2 : sl + 8 ≤ ms)
    (h : JT G k (mu w.1 w.2 τ (.inr (21, [])), w.2 + 1) w.2 lv pc rest (ce + 1) (sl + 8)) : J G k w lv pc (.int n :: .int dp :: v2 :: .int sp :: v0 :: rest) ce sl := by
  intro ls H locs hl hpp hf T hT X
  obtain ⟨vm', nf, X', n1, n2, n3, stp⟩ := cp_go (v0 := v0) (v2 := v2) (sp := sp) (dp := dp) (n := n) C q1 q2 q3 q4 hst hdg (by rcases hv with ⟨rfl, rfl | ⟨a, rfl⟩⟩ | ⟨⟨a, rfl⟩, rfl⟩ <;> rfl) hl X
  have hroom := lv_room (m := k_m k) (pc := pc) (ls := ls) (rest := rest) hst
  obtain ⟨w0, hp0⟩ := C.hh0
  have hat := at_npe (U := k_s k) C.hts (C.xt hE.1) (C.xe hE) (State.WarmedH.refl _) (fun q hq => hp0.2.2.1.1 q hq) (k_a k)
  obtain ⟨U, L, cell, Y, u1, u2, u3, u4, u5, u6, u7⟩ := nat_npe X' C.hx (hE.2.2 _ X.admits) (n := 8) hat (fun x hx cl hcl => hp0.2.2.1.2 _ cl (hf x hx) hcl) (g := F0 (k_m k) pc ls rest) (by rw [C.hml, ← C.hn]; exact hl.1) n1 (by rw [C.hR]; show 9 < hh + 12; omega) (by rw [C.hR]; show 2 * (F0 (k_m k) pc ls rest).monitorRoom + (rest.map fun v => v.category).sum + 10240 ≤ 60 * hh + 10500; omega) (by rw [C.hR]; exact h1) (by rw [C.hR]; exact h2)
  have hTs : T.heap.size = w.2 := by rw [hT]; exact hpp.1
  have u1' : ∀ q ∈ L, q.base = T.heap.size := u1
  have u2' : U.heap.size = T.heap.size + 1 := u2
  have u3' : ∀ q : Nat, q < T.heap.size → U.heap[q]? = T.heap[q]? := u3
  have u4' : U.heap[T.heap.size]? = some cell := u4
  have hcl : cell.cls = (gl_D G).1 21 := Option.some.inj (u5.symm.trans (C.hK.1.1 21 _ rfl).2.1)
  have hw' := hp_new (H1 := U.heap) hpp 0 τ (ci := 21) rfl rfl (by rw [← hT]; omega) (fun q hq => by rw [← hT]; exact u3' q (by rw [← hT] at hq; exact hq)) (cell := cell) (by rw [← hT]; exact u4') hcl u6 (fun q cl hq hcq => by
    have := (Array.getElem?_eq_some_iff.mp hcq).1
    have e : q = T.heap.size := by rw [← hT] at hq; omega
    rw [e, u4'] at hcq
    cases hcq
    rw [u6]
    rfl)
  obtain ⟨t, a1, b1⟩ := h ls U.heap (locs ++ L) hl hw' (fun q hq => by
    rcases List.mem_append.mp hq with z | z
    · exact hf q z
    · rw [u1' q z, hT]
      exact hpp.2.1) U rfl Y
  obtain ⟨g₀, hfr⟩ := Y.frames_eq
  rw [frs_push hfr] at a1
  refine ⟨t, stp _ none (fun V _ _ => ?_) t (u7 t (nat_pop (nat_ov Y _ nf) ⟨[_], rfl⟩ n2 n3 ?_)), b1⟩
  · rcases hv with ⟨rfl, -⟩ | ⟨⟨a, rfl⟩, rfl⟩
    · exact cp_null1 _ _ _ _
    · exact cp_null2 _ _ _ _
  · show Steps _ _ _ (U.setFrames (.throwing T.heap.size :: .java (F0 (k_m k) pc ls rest) :: k_b k)) t
    rw [hTs]
    exact a1
/-- arraycopy throws with a message -/
theorem j_copyM (C : Cx G k cc own nm nL rt hh mc ms post) (hE : GE G) (τ : Nat) (q1 : Cond.methodLink own index arraycopyName ∈ lw_all) (q2 : Cond.native arraycopyName ∈ lw_all) (q3 : Cond.static arraycopyName ∈ lw_all) (q4 : Cond.initialized "java/lang/System" ∈ lw_all) (hst : (rest.map fun v => v.category).sum ≤ 8) (hdg : decode cc pc = .ok (.invokestatic index, 3))
    {a b : Nat} {cls : String} {names : List String} {ci : Nat} (hcl0 : jcl[ci]? = some (cls, TX0, 0))
    (hcls : Bundle.fit cls = true) (hnames : ∀ n ∈ names, Bundle.fit n = true) (hsoe : (cls == "java/lang/StackOverflowError") = false) (hoom : (cls == "java/lang/OutOfMemoryError") = false) (hlen : names.length ≤ 3)
    (hat : ∀ {s U : State} {A : Array Value}, (∀ w ∈ lw_all, w.before A s = true) → XT G s → XE G s → s.WarmedH U.vm → (∀ q : Nat, q < (gl_H G).size → U.heap[q]? = (gl_H G)[q]?) → ∀ A' : Array Value, ∀ a ∈ Bundle.messageArmAtoms cls names, a.before A' U = true)
    (hcp : ∀ (U : State) (H : Heap), U.heap = H → hp G w H → (k_s k).WarmedH U.vm → ∃ text : String, (text == notModelled) = false ∧ (stringBytes (stringToUtf16 text)).size ≤ 800 ∧ ∀ V : State, V.heap = H → V.vm = U.vm → cpT (k_e k) V #[.ref a, .int sp, .ref b, .int dp, .int n] cls (some text))
    (h1 : ce + 3 ≤ mc) (h2 : sl + 810 ≤ ms)
    (h : JT G k (mu w.1 (w.2 + 2) τ (.inr (ci, [])), w.2 + 3) (w.2 + 2) lv pc rest (ce + 3) (sl + 810)) : J G k w lv pc (.int n :: .int dp :: .ref b :: .int sp :: .ref a :: rest) ce sl := by
  intro ls H locs hl hpp hf T hT X
  obtain ⟨vm', nf, X', n1, n2, n3, stp⟩ := cp_go (v0 := .ref a) (v2 := .ref b) (sp := sp) (dp := dp) (n := n) C q1 q2 q3 q4 hst hdg rfl hl X
  obtain ⟨text, htext, hb, hcpt⟩ := hcp (T.setVm vm') H hT hpp X'.warmed
  have hroom := lv_room (m := k_m k) (pc := pc) (ls := ls) (rest := rest) hst
  obtain ⟨w0, hp0⟩ := C.hh0
  have ha := hat (U := k_s k) C.hts (C.xt hE.1) (C.xe hE) (State.WarmedH.refl _) (fun q hq => hp0.2.2.1.1 q hq) (k_a k)
  have hcb : componentBytes .byte = 1 := rfl
  obtain ⟨U, L, cell, Y, u1, u2, u3, u4, u5, u6, u8, u7⟩ := nat_msg X' C.hx (hE.2.2 _ X.admits) (cls := cls) (names := names) (text := text) hcls hnames hsoe hoom ha (fun x hx cl hcl => hp0.2.2.1.2 _ cl (hf x hx) hcl) htext
    (by rw [Launch.admits_arrayLengthLimit X.admits]; omega) (by rw [Launch.admits_maxHeapBytes X.admits, hcb]; omega) (g := F0 (k_m k) pc ls rest) (by rw [C.hml, ← C.hn]; exact hl.1) n1 (by rw [C.hR]; show names.length + 6 < hh + 12; omega) (by rw [C.hR]; show 2 * (F0 (k_m k) pc ls rest).monitorRoom + (rest.map fun v => v.category).sum + 10240 ≤ 60 * hh + 10500; omega) (by omega) (by rw [C.hR]; exact h1) (by rw [C.hR]; show sl + _ ≤ ms; omega)
  have hTs : T.heap.size = w.2 := by rw [hT]; exact hpp.1
  have u1' : ∀ q ∈ L, q.base = T.heap.size + 2 := u1
  have u2' : U.heap.size = T.heap.size + 3 := u2
  have u3' : ∀ q : Nat, q < T.heap.size → U.heap[q]? = T.heap[q]? := u3
  have u4' : U.heap[T.heap.size + 2]? = some cell := u4
  have u8' : ∀ (q : Nat) (cl : Cell), T.heap.size ≤ q → U.heap[q]? = some cl → cl.vm.isStatics = false := u8
  have hcl : cell.cls = (gl_D G).1 ci := Option.some.inj (u5.symm.trans (C.hK.1.1 ci _ hcl0).2.1)
  have hw' := hp_new (H1 := U.heap) hpp 2 τ hcl0 rfl (by rw [← hT]; omega) (fun q hq => by rw [← hT]; exact u3' q (by rw [← hT] at hq; exact hq)) (cell := cell) (by rw [← hT]; exact u4') hcl u6 (fun q cl hq hcq => u8' q cl (by rw [hT]; exact hq) hcq)
  have Y2 : KS G k U (locs ++ L) (ce + 3) (sl + 810) := Y.more (by omega) (by omega)
  obtain ⟨t, a1, b1⟩ := h ls U.heap (locs ++ L) hl hw' (fun q hq => by
    rcases List.mem_append.mp hq with z | z
    · exact hf q z
    · rw [u1' q z, hT]
      have := hpp.2.1
      show (gl_H G).size ≤ H.size + 2
      omega) U rfl Y2
  obtain ⟨g₀, hfr⟩ := Y.frames_eq
  rw [frs_push hfr] at a1
  refine ⟨t, stp _ (some text) (fun V e1 e2 => hcpt V (e1.trans hT) e2) t (u7 t (nat_pop (nat_ov Y _ nf) ⟨[_], rfl⟩ n2 n3 ?_)), b1⟩
  show Steps _ _ _ (U.setFrames (.throwing (T.heap.size + 2) :: .java (F0 (k_m k) pc ls rest) :: k_b k)) t
  rw [hTs]
  exact a1
end CPR
