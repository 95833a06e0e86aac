/-! ===== rows: arrays told apart, places beyond, null, a negative size; a method's own throw ===== -/
set_option maxRecDepth 100000
theorem vp_none (c : Nat) (x : vp_A) : (vp_cell c x).vm = .none ∧ (vp_cell c x).cls = c := by
  obtain ⟨n, f | f | f | f | f⟩ := x <;> exact ⟨rfl, rfl⟩
section E4
variable {G : gl_T} {k : KX} {cc : ByteArray} {own nm : String} {nL hh mc ms : Nat} {rt : Option FieldType} {post : Outcome → wd_T → Prop}
variable {w : wd_T} {lv : List (Nat × Value)} {pc ce sl index : Nat} {st : List Value} {hd : List (Nat × Nat × Nat × Nat)} {a τ : Nat}
theorem Cx.an (C : Cx G k cc own nm nL rt hh mc ms post) : (k_s k).vm.findClass "[B" = some (gl_A G 1) ∧ (k_s k).vm.findClass "[S" = some (gl_A G 2) ∧ (k_s k).vm.findClass "[I" = some (gl_A G 0) := ⟨(C.hK.1.2 1 _ rfl).2, (C.hK.1.2 2 _ rfl).2, (C.hK.1.2 0 _ rfl).2⟩
theorem j_instAy (C : Cx G k cc own nm nL rt hh mc ms post) {c : Nat} {x : vp_A} {nm' : String} (he : w.1 a = some (τ, .inl (c, x))) (hnm : (k_s k).vm.findClass nm' = some c) (hl : Cond.classLink own index nm' ∈ lw_all) (hd : decode cc pc = .ok (.instanceof index, 3)) (h : J G k w lv (pc + 3) (.int (nI 1) :: st) ce sl) : J G k w lv pc (.ref a :: st) ce sl := by
  intro ls H locs hl2 hpp hf T hT X
  obtain ⟨vm', X', stp⟩ := X.instanceofYes C.hx C.hown (C.hts _ hl) (by rw [hT]; exact (hpp.2.2.2 a τ _ he).2) (by rw [(vp_none c x).1]; rfl) hnm (by rw [(vp_none c x).2]; exact va_asg _ _) (g := F0 (k_m k) pc ls (.ref a :: st)) rfl rfl (by rw [C.hb]; exact hd)
  obtain ⟨t, a1, b1⟩ := h ls H locs hl2 hpp hf (T.setVm vm') hT X'
  exact ⟨t, stp t a1, b1⟩
theorem j_instAn (C : Cx G k cc own nm nL rt hh mc ms post) {c : Nat} {x : vp_A} {D nm' : String} (he : w.1 a = some (τ, .inl (c, x))) (hD : (k_s k).vm.findClass D = some c) (hn : NC D nm' (k_s k)) (hl : Cond.classLink own index nm' ∈ lw_all) (hd : decode cc pc = .ok (.instanceof index, 3)) (h : J G k w lv (pc + 3) (.int (nI 0) :: st) ce sl) : J G k w lv pc (.ref a :: st) ce sl := fun ls H locs hl2 hpp hf =>
  va_instNo C.hx C.hb C.hown (C.hts _ hl) hn ⟨_, (hpp.2.2.2 a τ _ he).2, by rw [(vp_none c x).1]; rfl, by rw [(vp_none c x).2]; exact hD⟩ hd (h ls H locs hl2 hpp hf)
theorem j_instN (C : Cx G k cc own nm nL rt hh mc ms post) (hd : decode cc pc = .ok (.instanceof index, 3)) (h : J G k w lv (pc + 3) (.int (nI 0) :: st) ce sl) : J G k w lv pc (.null :: st) ce sl := fun ls H locs hl2 hpp hf => lv_instN C.hx C.hb hd (h ls H locs hl2 hpp hf)
theorem j_castN (C : Cx G k cc own nm nL rt hh mc ms post) (hd : decode cc pc = .ok (.checkcast index, 3)) (h : J G k w lv (pc + 3) (.null :: st) ce sl) : J G k w lv pc (.null :: st) ce sl := fun ls H locs hl2 hpp hf => lv_castN C.hx C.hb hd (h ls H locs hl2 hpp hf)
theorem j_castA (C : Cx G k cc own nm nL rt hh mc ms post) {c : Nat} {x : vp_A} {nm' : String} (he : w.1 a = some (τ, .inl (c, x))) (hnm : (k_s k).vm.findClass nm' = some c) (hl : Cond.classLink own index nm' ∈ lw_all) (hd : decode cc pc = .ok (.checkcast index, 3)) (h : J G k w lv (pc + 3) (.ref a :: st) ce sl) : J G k w lv pc (.ref a :: st) ce sl := fun ls H locs hl2 hpp hf =>
  va_castA (D := gl_D G) (cl := jcl) (ws := [(a, .inl (c, x))]) C.hx C.hb C.hown (C.hts _ hl) (hpp.at' he) 0 rfl hnm hd (h ls H locs hl2 hpp hf)
theorem j_alenX (C : Cx G k cc own nm nL rt hh mc ms post) (hE : GE G) (hx : xtab (k_c k) = hd) (hout : ∀ x ∈ hd, ¬ (x.1 ≤ pc ∧ pc < x.2.1)) (τ : Nat) (hst : (st.map fun v => v.category).sum ≤ 8) (hdg : decode cc pc = .ok (.arraylength, 1)) (h1 : ce + 1 ≤ mc) (h2 : sl + 8 ≤ ms) (hq : post (.threw w.2) (mu w.1 w.2 τ (.inr (21, [])), w.2 + 1)) : J G k w lv pc (.null :: st) ce sl :=
  j_npe C hE hx hout τ hst (fun ls H locs ce sl T hl hpp hT X => ⟨T.vm, X, X.arraylengthNull C.hx (g := F0 (k_m k) pc ls (.null :: st)) rfl rfl (by rw [C.hb]; exact hdg)⟩) h1 h2 hq
theorem j_iastNX (C : Cx G k cc own nm nL rt hh mc ms post) (hE : GE G) (hx : xtab (k_c k) = hd) (hout : ∀ x ∈ hd, ¬ (x.1 ≤ pc ∧ pc < x.2.1)) (τ : Nat) (hst : (st.map fun v => v.category).sum ≤ 8) {x i : Int32} (hdg : decode cc pc = .ok (.iastore, 1)) (h1 : ce + 1 ≤ mc) (h2 : sl + 8 ≤ ms) (hq : post (.threw w.2) (mu w.1 w.2 τ (.inr (21, [])), w.2 + 1)) : J G k w lv pc (.int x :: .int i :: .null :: st) ce sl :=
  j_npe C hE hx hout τ hst (fun ls H locs ce sl T hl hpp hT X => ⟨T.vm, X, X.iastoreNull C.hx (g := F0 (k_m k) pc ls (.int x :: .int i :: .null :: st)) rfl rfl (by rw [C.hb]; exact hdg)⟩) h1 h2 hq
theorem j_bastX (C : Cx G k cc own nm nL rt hh mc ms post) (hE : GE G) (hx : xtab (k_c k) = hd) (hout : ∀ x ∈ hd, ¬ (x.1 ≤ pc ∧ pc < x.2.1)) (σ : Nat) (hst : (st.map fun v => v.category).sum ≤ 8) {n : Nat} {f : Nat → Int32} {x i : Int32} (he : w.1 a = some (τ, ai (gl_A G 1) n f)) (ho : i < 0 ∨ n ≤ i.toNatClampNeg) (hn : n < 2 ^ 31) (hdg : decode cc pc = .ok (.bastore, 1)) (h1 : ce + 3 ≤ mc) (h2 : sl + 222 ≤ ms) (hq : post (.threw (w.2 + 2)) (mu w.1 (w.2 + 2) σ (.inr (22, [])), w.2 + 3)) : J G k w lv pc (.int x :: .int i :: .ref a :: st) ce sl := by
  refine j_msg (names := ["java/lang/IndexOutOfBoundsException", "java/lang/RuntimeException", "java/lang/Exception"]) (ci := 22) (nb := 212) C hE hx hout σ hst (fun ls H locs ce sl T hl hpp hT X => ⟨T.vm, X, ?_⟩) rfl (by decide +kernel) (by decide +kernel) (by decide) (by decide) (by decide) at_idx (index_text_modelled i n) (index_text_bytes i hn) (by decide) h1 h2 hq
  have h := X.bastoreOut C.hx (cell := vp_cell (gl_A G 1) (n, .inl f)) (ty := .byte) (j := i) (x := x) (by rw [hT]; exact (hpp.2.2.2 a τ _ he).2) ((C.hK.1.2 1 _ rfl).1 n (fun j => .int (f j))) (by show i < 0 ∨ (arrV _ _ _).slots.size ≤ _; rw [arrV_size]; exact ho) (g := F0 (k_m k) pc ls (.int x :: .int i :: .ref a :: st)) rfl rfl (by rw [C.hb]; exact hdg)
  have hsz : (vp_cell (gl_A G 1) (n, .inl f)).slots.size = n := arrV_size _ _ _
  rw [hsz] at h
  exact h
theorem j_sastX (C : Cx G k cc own nm nL rt hh mc ms post) (hE : GE G) (hx : xtab (k_c k) = hd) (hout : ∀ x ∈ hd, ¬ (x.1 ≤ pc ∧ pc < x.2.1)) (σ : Nat) (hst : (st.map fun v => v.category).sum ≤ 8) {n : Nat} {f : Nat → Int32} {x i : Int32} (he : w.1 a = some (τ, ai (gl_A G 2) n f)) (ho : i < 0 ∨ n ≤ i.toNatClampNeg) (hn : n < 2 ^ 31) (hdg : decode cc pc = .ok (.sastore, 1)) (h1 : ce + 3 ≤ mc) (h2 : sl + 222 ≤ ms) (hq : post (.threw (w.2 + 2)) (mu w.1 (w.2 + 2) σ (.inr (22, [])), w.2 + 3)) : J G k w lv pc (.int x :: .int i :: .ref a :: st) ce sl := by
  refine j_msg (names := ["java/lang/IndexOutOfBoundsException", "java/lang/RuntimeException", "java/lang/Exception"]) (ci := 22) (nb := 212) C hE hx hout σ hst (fun ls H locs ce sl T hl hpp hT X => ⟨T.vm, X, ?_⟩) rfl (by decide +kernel) (by decide +kernel) (by decide) (by decide) (by decide) at_idx (index_text_modelled i n) (index_text_bytes i hn) (by decide) h1 h2 hq
  have h := X.sastoreOut C.hx (cell := vp_cell (gl_A G 2) (n, .inl f)) (ty := .short) (j := i) (x := x) (by rw [hT]; exact (hpp.2.2.2 a τ _ he).2) ((C.hK.1.2 2 _ rfl).1 n (fun j => .int (f j))) (by show i < 0 ∨ (arrV _ _ _).slots.size ≤ _; rw [arrV_size]; exact ho) (g := F0 (k_m k) pc ls (.int x :: .int i :: .ref a :: st)) rfl rfl (by rw [C.hb]; exact hdg)
  have hsz : (vp_cell (gl_A G 2) (n, .inl f)).slots.size = n := arrV_size _ _ _
  rw [hsz] at h
  exact h
theorem j_iastX (C : Cx G k cc own nm nL rt hh mc ms post) (hE : GE G) (hx : xtab (k_c k) = hd) (hout : ∀ x ∈ hd, ¬ (x.1 ≤ pc ∧ pc < x.2.1)) (σ : Nat) (hst : (st.map fun v => v.category).sum ≤ 8) {n : Nat} {f : Nat → Int32} {x i : Int32} (he : w.1 a = some (τ, ai (gl_A G 0) n f)) (ho : i < 0 ∨ n ≤ i.toNatClampNeg) (hn : n < 2 ^ 31) (hdg : decode cc pc = .ok (.iastore, 1)) (h1 : ce + 3 ≤ mc) (h2 : sl + 222 ≤ ms) (hq : post (.threw (w.2 + 2)) (mu w.1 (w.2 + 2) σ (.inr (22, [])), w.2 + 3)) : J G k w lv pc (.int x :: .int i :: .ref a :: st) ce sl := by
  refine j_msg (names := ["java/lang/IndexOutOfBoundsException", "java/lang/RuntimeException", "java/lang/Exception"]) (ci := 22) (nb := 212) C hE hx hout σ hst (fun ls H locs ce sl T hl hpp hT X => ⟨T.vm, X, ?_⟩) rfl (by decide +kernel) (by decide +kernel) (by decide) (by decide) (by decide) at_idx (index_text_modelled i n) (index_text_bytes i hn) (by decide) h1 h2 hq
  have h := X.iastoreOut C.hx (cell := vp_cell (gl_A G 0) (n, .inl f)) (ty := .int) (j := i) (x := x) (by rw [hT]; exact (hpp.2.2.2 a τ _ he).2) ((C.hK.1.2 0 _ rfl).1 n (fun j => .int (f j))) (by show i < 0 ∨ (arrV _ _ _).slots.size ≤ _; rw [arrV_size]; exact ho) (g := F0 (k_m k) pc ls (.int x :: .int i :: .ref a :: st)) rfl rfl (by rw [C.hb]; exact hdg)
  have hsz : (vp_cell (gl_A G 0) (n, .inl f)).slots.size = n := arrV_size _ _ _
  rw [hsz] at h
  exact h
theorem j_negX (C : Cx G k cc own nm nL rt hh mc ms post) (hE : GE G) (hx : xtab (k_c k) = hd) (hout : ∀ x ∈ hd, ¬ (x.1 ≤ pc ∧ pc < x.2.1)) (σ : Nat) (hst : (st.map fun v => v.category).sum ≤ 8) {n : Int32} (hn : n < 0) {ty : ArrayType} (hdg : decode cc pc = .ok (.newarray ty, 2)) (h1 : ce + 3 ≤ mc) (h2 : sl + 54 ≤ ms) (hq : post (.threw (w.2 + 2)) (mu w.1 (w.2 + 2) σ (.inr (23, [])), w.2 + 3)) : J G k w lv pc (.int n :: st) ce sl :=
  j_msg (names := ["java/lang/RuntimeException", "java/lang/Exception"]) (ci := 23) (nb := 44) (text := toString n) C hE hx hout σ hst (fun ls H locs ce sl T hl hpp hT X => ⟨T.vm, X, X.newarrayNegative C.hx (g := F0 (k_m k) pc ls (.int n :: st)) rfl hn rfl (by rw [C.hb]; exact hdg)⟩) rfl (by decide +kernel) (by decide +kernel) (by decide) (by decide) (by decide) at_neg (negative_text_modelled hn) (negative_text_bytes n) (by decide) h1 h2 hq
end E4
theorem at_own {G : gl_T} {s U : State} {A : Array Value} (hts : ∀ w ∈ lw_all, w.before A s = true) (hX : XT G s) (hE : XE G s) (hW : s.WarmedH U.vm) (hh : ∀ q : Nat, q < (gl_H G).size → U.heap[q]? = (gl_H G)[q]?) (A' : Array Value) : ∀ a ∈ Bundle.ownAtoms0 "MoodFare" 134 "java/lang/ArrayIndexOutOfBoundsException" ["java/lang/IndexOutOfBoundsException", "java/lang/RuntimeException", "java/lang/Exception"], a.before A' U = true := by
  have g : ∀ {c : Cond}, c ∈ lw_all → c.before A' U = true := fun h => pay_in hts lw_self _ h _ _ hW
  have n : ∀ {c : Cond}, c ∈ lw_tbl → nwk c = true → c.onTables = true → c.before A' U = true := fun h hk ho => va_Nw.use ho ((hX.warm hW).1 _ h hk)
  have hU := (hE.1.moved hW.alike).use hh A'
  have hS := (hE.2.1.moved hW.alike).use hh A'
  exact List.forall_mem_append.mpr ⟨List.forall_mem_append.mpr ⟨at_throwable hts hX hE hW hh A', List.forall_mem_append.mpr ⟨List.forall_mem_cons.mpr ⟨g q1172, List.forall_mem_cons.mpr ⟨g q1173, List.forall_mem_cons.mpr ⟨g q1174, List.forall_mem_cons.mpr ⟨g q1175, List.forall_mem_cons.mpr ⟨n q450 rfl rfl, fun _ h => absurd h List.not_mem_nil⟩⟩⟩⟩⟩, List.forall_mem_append.mpr ⟨List.forall_mem_cons.mpr ⟨g q1175, List.forall_mem_cons.mpr ⟨g q1176, List.forall_mem_cons.mpr ⟨g q1177, List.forall_mem_cons.mpr ⟨g q413, List.forall_mem_cons.mpr ⟨n q362 rfl rfl, fun _ h => absurd h List.not_mem_nil⟩⟩⟩⟩⟩, List.forall_mem_append.mpr ⟨List.forall_mem_cons.mpr ⟨g q413, List.forall_mem_cons.mpr ⟨g q414, List.forall_mem_cons.mpr ⟨g q415, List.forall_mem_cons.mpr ⟨g q416, List.forall_mem_cons.mpr ⟨n q364 rfl rfl, fun _ h => absurd h List.not_mem_nil⟩⟩⟩⟩⟩, List.forall_mem_cons.mpr ⟨g q416, List.forall_mem_cons.mpr ⟨g q417, List.forall_mem_cons.mpr ⟨g q418, List.forall_mem_cons.mpr ⟨g q376, List.forall_mem_cons.mpr ⟨n q366 rfl rfl, fun _ h => absurd h List.not_mem_nil⟩⟩⟩⟩⟩⟩⟩⟩⟩, List.forall_mem_cons.mpr ⟨g q1171, List.forall_mem_cons.mpr ⟨g q435, List.forall_mem_cons.mpr ⟨n q449 rfl rfl, List.forall_mem_cons.mpr ⟨g q452, List.forall_mem_cons.mpr ⟨g q319, List.forall_mem_cons.mpr ⟨g q444, List.forall_mem_cons.mpr ⟨g q445, List.forall_mem_cons.mpr ⟨g q447, List.forall_mem_cons.mpr ⟨g q443, List.forall_mem_cons.mpr ⟨hU.2, List.forall_mem_cons.mpr ⟨hS.2, List.forall_mem_cons.mpr ⟨g q374, List.forall_mem_cons.mpr ⟨g q373, List.forall_mem_cons.mpr ⟨g q442, fun _ h => absurd h List.not_mem_nil⟩⟩⟩⟩⟩⟩⟩⟩⟩⟩⟩⟩⟩⟩⟩
/-- 'throw new ArrayIndexOutOfBoundsException()' in the class's own method -/
theorem j_throw0 {G : gl_T} {k : KX} {cc : ByteArray} {nm : String} {nL hh mc ms : Nat} {rt : Option FieldType} {post : Outcome → wd_T → Prop} {w : wd_T} {lv : List (Nat × Value)} {pc ce sl : Nat} {st : List Value} {hd : List (Nat × Nat × Nat × Nat)} (C : Cx G k cc "MoodFare" nm nL rt hh mc ms post) (hE : GE G) (hx : xtab (k_c k) = hd) (hout : ∀ x ∈ hd, ¬ (x.1 ≤ pc + 7 ∧ pc + 7 < x.2.1)) (σ : Nat) (hst : (st.map fun v => v.category).sum ≤ 8)
    (d1 : decode cc pc = .ok (.new 118, 3)) (d2 : decode cc (pc + 3) = .ok (.dup, 1)) (d3 : decode cc (pc + 4) = .ok (.invokespecial 134, 3)) (d4 : decode cc (pc + 7) = .ok (.athrow, 1)) (h1 : ce + 1 ≤ mc) (h2 : sl + 6 ≤ ms) (hq : post (.threw w.2) (mu w.1 w.2 σ (.inr (22, [])), w.2 + 1)) : J G k w lv pc st ce sl := by
  intro ls H locs hl hpp hf T hT X
  have hlocks : (k_me k).locks = false := C.hlocks
  have X2 := st_rebase (R' := { frames := 12, cells := 1, slots := 6, locals := 10500 }) X (by rw [C.hR]; show 12 ≤ hh + 12; omega) (by rw [C.hR]; show 10500 ≤ 60 * hh + 10500; omega) (by rw [C.hR]; exact h1) (by rw [C.hR]; exact h2)
  have hroom := lv_room (m := k_m k) (pc := pc) (ls := ls) (rest := st) hst
  have hh : ∀ q : Nat, q < (gl_H G).size → T.heap[q]? = (gl_H G)[q]? := fun q hq => by rw [hT]; exact hpp.2.2.1.1 q hq
  have gw : ∀ {c : Cond}, c ∈ lw_all → c.before (k_a k) (T.setFrames (.invoking (k_m k) (k_a k) :: k_b k)) = true := fun h => pay_in C.hts lw_self _ h _ _ X.warmed
  have hKc := (C.hK.1.1 22 _ rfl).2
  have hTs : T.heap.size = w.2 := by rw [hT]; exact hpp.1
  have hfc : (T.setFrames (.invoking (k_m k) (k_a k) :: k_b k)).vm.findClass "java/lang/ArrayIndexOutOfBoundsException" = some ((gl_D G).1 22) := (X.warmed.alike.findClass _ _).trans hKc.1
  have hown : (T.setFrames (.invoking (k_m k) (k_a k) :: k_b k)).vm.findClass "MoodFare" = some (k_m k).cls := (X.warmed.alike.findClass _ _).trans C.hown
  have hW : W (k_p k) (gl_l G) (k_e k) { frames := 12, cells := 1, slots := 6, locals := 10500 } (T.setFrames (.invoking (k_m k) (k_a k) :: k_b k)) (k_m k) (k_a k) (k_b k) (k_me k) (k_c k) H [] 0 0 (MX G k) (F0 (k_m k) pc ls st) := by
    refine W.newcK C.hx C.hb hown (gw q434) (gw q435) (gw q81) rfl d1 (by show 0 + 1 ≤ 1; omega) (by show 0 + 6 ≤ 6; omega) hfc hpp.1 fun H1 kC hkC e1 z1 o1 => ?_
    refine lv_dup C.hx C.hb d2 rfl ?_
    intro T2 hT2 X3
    obtain ⟨U, s1, s2, s3, s4, s5, cell, s6, s7⟩ := X3.ctorThrow0 C.hx (hE.2.2 _ X.admits) (own := "MoodFare") (cls := "java/lang/ArrayIndexOutOfBoundsException") (names := ["java/lang/IndexOutOfBoundsException", "java/lang/RuntimeException", "java/lang/Exception"]) (ic := 134) hown (by decide +kernel) (by decide +kernel) (at_own (U := T.setFrames (.invoking (k_m k) (k_a k) :: k_b k)) C.hts (C.xt hE.1) (C.xe hE) X.warmed hh _) (fun x h => by cases h) hfc hkC (a := w.2) (by rw [hT2]; exact e1) (by show T.heap.size ≤ w.2; omega)
      (g := F0 (k_m k) (pc + 3 + 1) ls (.ref w.2 :: .ref w.2 :: st)) rfl (by show ls.size = _; rw [C.hml, ← C.hn]; exact hl.1) rfl rfl (rest := st) rfl (by rw [C.hb]; exact d3) (by rw [C.hb]; exact d4) (xt_cov hx hout) (by show 3 + 3 < 12; omega)
      (by show 2 * (F0 (k_m k) (pc + 3 + 1) ls (.ref w.2 :: .ref w.2 :: st)).monitorRoom + (1 + (st.map fun v => v.category).sum) + (13 * (3 + 1) + 41) ≤ 10500; have : (F0 (k_m k) (pc + 3 + 1) ls (.ref w.2 :: .ref w.2 :: st)).monitorRoom = (F0 (k_m k) pc ls st).monitorRoom := rfl; omega)
    obtain ⟨k1, k2, k3⟩ := same_keep s5
    have s6' : U.heap[w.2]? = some cell := s6
    have hlt := (Array.getElem?_eq_some_iff.mp s6').1
    have k2' : U.heap.size ≤ T.heap.size + (0 + 1) := k2
    have hcl : cell.cls = (gl_D G).1 22 := Option.some.inj (s7.cls.symm.trans hfc)
    have hw' := hp_new (H1 := U.heap) hpp 0 σ (ci := 22) rfl rfl (by rw [← hT]; omega) (fun q hq => by rw [← hT]; exact k3 q (by rw [← hT] at hq; exact hq)) (cell := cell) (by rw [← hT, hTs]; exact s6') hcl s7.vm (fun q cl hq hcq => by
      have := (Array.getElem?_eq_some_iff.mp hcq).1
      have e : q = w.2 := by rw [← hT] at hq; omega
      rw [e, s6'] at hcq
      cases hcq
      rw [s7.vm]
      rfl)
    exact ⟨U, s1, j_arm (w' := (mu w.1 w.2 σ (.inr (22, [])), w.2 + 1)) (x := w.2) C X hf s2 s3 s4 s5 (by omega) (by omega) hw' hq⟩
  exact hW T hT X2
