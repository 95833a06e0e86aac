/-! ===== System.arraycopy between lanes: rows ===== -/
set_option maxRecDepth 100000
theorem toInt_nn {x : Int32} (h : ¬ x < 0) : ∃ a : Nat, a < 2 ^ 31 ∧ x = nI a ∧ x.toInt = a := by
  obtain ⟨a, ha, rfl⟩ := nI_of h
  exact ⟨a, ha, rfl, nI_toInt (by omega)⟩
theorem cp_part {sp dp n : Int32} {na nb : Nat} (ha : na ≤ 40) (hb : nb ≤ 40) (h : ¬ sp < 0 ∧ ¬ dp < 0 ∧ ¬ n < 0 ∧ ¬ sp.toInt + n.toInt > na ∧ ¬ dp.toInt + n.toInt > nb) : partB na sp n = true ∧ partB nb dp n = true := by
  obtain ⟨h1, h2, h3, h4, h5⟩ := h
  obtain ⟨a, a1, rfl, a3⟩ := toInt_nn h1
  obtain ⟨b, b1, rfl, b3⟩ := toInt_nn h2
  obtain ⟨m, m1, rfl, m3⟩ := toInt_nn h3
  rw [a3, m3] at h4
  rw [b3, m3] at h5
  exact ⟨partB_t (by omega) (by omega), partB_t (by omega) (by omega)⟩
theorem fit_0 {v : Int32} (h : cutZ (nI 0) v = v) : fits .byte (.int v) = true := by
  have e : v.toInt8.toInt32 = v := by rw [← pk_vb, cut_0, h]
  have h1 := Int8.le_toInt v.toInt8
  have h2 := Int8.toInt_lt v.toInt8
  have h3 : (v.toInt8.toInt32).toInt = v.toInt8.toInt := Int8.toInt_toInt32 _
  rw [e] at h3
  have e1 : (-128 : Int32).toInt = -128 := by decide +kernel
  have e2 : (127 : Int32).toInt = 127 := by decide +kernel
  show (decide (-128 ≤ v) && decide (v ≤ 127)) = true
  rw [Bool.and_eq_true_iff]
  exact ⟨decide_eq_true (Int32.le_iff_toInt_le.mpr (by rw [e1, h3]; omega)), decide_eq_true (Int32.le_iff_toInt_le.mpr (by rw [e2, h3]; omega))⟩
theorem fit_1 {v : Int32} (h : cutZ (nI 1) v = v) : fits .short (.int v) = true := by
  have e : v.toInt16.toInt32 = v := by rw [← pk_vs, cut_1, h]
  have h1 := Int16.le_toInt v.toInt16
  have h2 := Int16.toInt_lt v.toInt16
  have h3 : (v.toInt16.toInt32).toInt = v.toInt16.toInt := Int16.toInt_toInt32 _
  rw [e] at h3
  have e1 : (-32768 : Int32).toInt = -32768 := by decide +kernel
  have e2 : (32767 : Int32).toInt = 32767 := by decide +kernel
  show (decide (-32768 ≤ v) && decide (v ≤ 32767)) = true
  rw [Bool.and_eq_true_iff]
  exact ⟨decide_eq_true (Int32.le_iff_toInt_le.mpr (by rw [e1, h3]; omega)), decide_eq_true (Int32.le_iff_toInt_le.mpr (by rw [e2, h3]; omega))⟩
section CPK
variable {G : gl_T} {k : KX} {cc : ByteArray} {own nm : String} {nL hh mc ms : Nat} {rt : Option FieldType} {post : Outcome → wd_T → Prop}
variable {w : wd_T} {lv : List (Nat × Value)} {pc ce sl index : Nat} {rest : List Value} {sp dp n : Int32}
/-- the cells of two arrays, as the native sees them -/
theorem cp_cells (C : Cx G k cc own nm nL rt hh mc ms post) {a τ0 t0 c n0 : Nat} {f : Nat → Int32} {ty : FieldType} (h0 : w.1 a = some (τ0, ai c n0 f)) (ht : (gl_tys G)[t0]? = some (c, ty)) {U : State} {H : Heap} (hpp : hp G w H) (hW : (k_s k).WarmedH U.vm) : ∃ (cs : Cell) (ks : Class) (cm : ClassId), H[a]? = some cs ∧ (∀ k, cs.vm ≠ .statics k) ∧ cs.slots.size = n0 ∧ U.vm.classes[cs.cls]? = some ks ∧ ks.kind = .array cm ty := by
  obtain ⟨-, e0⟩ := hpp.2.2.2 a τ0 _ h0
  have hc0 : H[a]? = some (vp_cell c (n0, .inl f)) := e0
  obtain ⟨-, k0, hk0, cm0, hkk0⟩ := (C.hK.1.2 t0 _ ht).1 n0 (fun j => .int (f j))
  obtain ⟨ks', hks', hes⟩ := hW.alike.2.2 _ _ hk0
  exact ⟨_, ks', cm0, hc0, (fun _ h => by cases h), arrV_size _ _ _, hks', by rw [hes]; exact hkk0⟩
theorem j_copyK (C : Cx G k cc own nm nL rt hh mc ms post) (hE : GE G) (τ : Nat) {a b τ0 τ1 t0 t1 c0 c1 n0 n1 : Nat} {f g : Nat → Int32} {ty0 ty1 : FieldType} (h0 : w.1 a = some (τ0, ai c0 n0 f)) (h1 : w.1 b = some (τ1, ai c1 n1 g)) (ht0 : (gl_tys G)[t0]? = some (c0, ty0)) (ht1 : (gl_tys G)[t1]? = some (c1, ty1)) (hty : ((refKind ty0 != refKind ty1) || (!refKind ty0 && ty0 != ty1)) = true)
    (q1 : Cond.methodLink own index arraycopyName ∈ lw_all) (q2 : Cond.native arraycopyName ∈ lw_all) (q3 : Cond.static arraycopyName ∈ lw_all) (q4 : Cond.initialized "java/lang/System" ∈ lw_all) (hst : (rest.map fun v => v.category).sum ≤ 8) (hdg : decode cc pc = .ok (.invokestatic index, 3)) (b1 : ce + 3 ≤ mc) (b2 : sl + 810 ≤ ms)
    (h : JT G k (mu w.1 (w.2 + 2) τ (.inr (24, [])), w.2 + 3) (w.2 + 2) lv pc rest (ce + 3) (sl + 810)) : J G k w lv pc (.int n :: .int dp :: .ref b :: .int sp :: .ref a :: rest) ce sl := by
  refine j_copyM (cls := "java/lang/ArrayStoreException") (names := ["java/lang/RuntimeException", "java/lang/Exception"]) (ci := 24) C hE τ q1 q2 q3 q4 hst hdg rfl (by decide +kernel) (by decide +kernel) (by decide) (by decide) (by decide) at_ase (fun U H hU hpp hW => ?_) b1 b2 h
  obtain ⟨cs, ks, cm, p1, p2, p3, p4, p5⟩ := cp_cells C h0 ht0 hpp hW
  obtain ⟨cd, kd, cm', r1, r2, r3, r4, r5⟩ := cp_cells C h1 ht1 hpp hW
  obtain ⟨text, x1, x2, x3⟩ := cp_kind (sp := sp) (dp := dp) (n := n) (src := a) (dst := b) p2 r2 p5 r5 hty
  exact ⟨text, x1, x2, fun V e1 e2 => x3 _ V (by rw [e1]; exact p1) (by rw [e1]; exact r1) (by rw [e2]; exact p4) (by rw [e2]; exact r4)⟩
theorem j_copyO (C : Cx G k cc own nm nL rt hh mc ms post) (hE : GE G) (τ : Nat) {a b τ0 τ1 t0 c0 n0 n1 : Nat} {f g : Nat → Int32} {ty0 : FieldType} (h0 : w.1 a = some (τ0, ai c0 n0 f)) (h1 : w.1 b = some (τ1, ai c0 n1 g)) (ht0 : (gl_tys G)[t0]? = some (c0, ty0)) (hty : ((refKind ty0 != refKind ty0) || (!refKind ty0 && ty0 != ty0)) = false) (hn0 : n0 ≤ 40) (hn1 : n1 ≤ 40) (ho : partB n0 sp n = false ∨ partB n1 dp n = false)
    (q1 : Cond.methodLink own index arraycopyName ∈ lw_all) (q2 : Cond.native arraycopyName ∈ lw_all) (q3 : Cond.static arraycopyName ∈ lw_all) (q4 : Cond.initialized "java/lang/System" ∈ lw_all) (hst : (rest.map fun v => v.category).sum ≤ 8) (hdg : decode cc pc = .ok (.invokestatic index, 3)) (b1 : ce + 3 ≤ mc) (b2 : sl + 810 ≤ ms)
    (h : JT G k (mu w.1 (w.2 + 2) τ (.inr (22, [])), w.2 + 3) (w.2 + 2) lv pc rest (ce + 3) (sl + 810)) : J G k w lv pc (.int n :: .int dp :: .ref b :: .int sp :: .ref a :: rest) ce sl := by
  refine j_copyM (cls := "java/lang/ArrayIndexOutOfBoundsException") (names := ["java/lang/IndexOutOfBoundsException", "java/lang/RuntimeException", "java/lang/Exception"]) (ci := 22) C hE τ q1 q2 q3 q4 hst hdg rfl (by decide +kernel) (by decide +kernel) (by decide) (by decide) (by decide) at_idx (fun U H hU hpp hW => ?_) b1 b2 h
  obtain ⟨cs, ks, cm, p1, p2, p3, p4, p5⟩ := cp_cells C h0 ht0 hpp hW
  obtain ⟨cd, kd, cm', r1, r2, r3, r4, r5⟩ := cp_cells C h1 ht0 hpp hW
  obtain ⟨text, x1, x2, x3⟩ := cp_out (sp := sp) (dp := dp) (n := n) (src := a) (dst := b) p2 r2 p5 r5 hty (by rw [p3]; omega) (by rw [r3]; omega) (fun z => by
    rw [p3, r3] at z
    have q := cp_part hn0 hn1 z
    rcases ho with o | o
    · rw [q.1] at o; cases o
    · rw [q.2] at o; cases o)
  exact ⟨text, x1, x2, fun V e1 e2 => x3 _ V (by rw [e1]; exact p1) (by rw [e1]; exact r1) (by rw [e2]; exact p4) (by rw [e2]; exact r4)⟩
end CPK
