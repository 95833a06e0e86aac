/-! ===== the class: items of a row, plain words ===== -/
set_option maxRecDepth 100000
def itF (f : Nat → Int32) (a k : Nat) : Nat → Int32 := fun i => if i < k then f (a + i) else 0
theorem itF_0 {f : Nat → Int32} {a : Nat} : itF f a 0 = fun _ => 0 := by
  funext i
  simp [itF]
theorem itF_s {f : Nat → Int32} {a k : Nat} : upd (itF f a k) k (f (a + k)) = itF f a (k + 1) := by
  funext i
  unfold upd itF
  by_cases z : i = k
  · rw [if_pos z, if_pos (by omega), z]
  · rw [if_neg z]
    by_cases z2 : i < k
    · rw [if_pos z2, if_pos (by omega)]
    · rw [if_neg z2, if_neg (by omega)]
theorem lc_le {a n m : Nat} (ha : a < 2 ^ 31) (hn : n < 2 ^ 31) (hm : m < 2 ^ 31) : lg_cmp ((nI a).toInt64 + (nI n).toInt64) (nI m).toInt64 ≤ 0 ↔ a + n ≤ m := by
  rw [lg_cmp_le, nI_l ha, nI_l hn, nI_l hm, lN_add]
  exact pk_lLE (by omega) (by omega)
/-- the numbers of all rows, one behind another -/
def itV (R : Nat → Option (Nat × Nat × (Nat → Int32))) (q : Nat) : Int32 := match R (q / 40) with
  | some (_, _, f) => f (q % 40)
  | none => 0
theorem itV_r {R : Nat → Option (Nat × Nat × (Nat → Int32))} {r l m c : Nat} {f : Nat → Int32} (hr : R r = some (l, m, f)) (hc : c < 40) : itV R (40 * r + c) = f c := by
  unfold itV
  rw [show (40 * r + c) / 40 = r by omega, show (40 * r + c) % 40 = c by omega, hr]
/-! ===== the class: items of a row ===== -/
set_option maxRecDepth 100000
set_option maxHeartbeats 400000 in
theorem kX0_items_N (G : gl_T) (hG : GH G) (w0 w : wd_T) (x : Nat) (O : Nat → Prop) (V : fv_T) (Z : fz_T) (hF : FX G w0 w x O V Z) (hE : GE G) (j n : Nat) (i : Int32) (hj8 : j < 8) (hn : n ≤ 8) (hr : V.2.2.2.2.1 j = none) : Mb G yX0_items cX0_items 7 (some (.array .int)) [] 2 [.ref x, .int (nI j), .int i, .int (nI n)] w (qT w.2 (mu w.1 w.2 w.2 (.inr (21, [])), w.2 + 1)) 1 8 := by
  refine ⟨Nat.le_of_ble_eq_true rfl, fun k C hx => ?_⟩
  have C : Cx G k cX0_items "MoodFare" "items" 7 (some (.array .int)) 2 1 8 _ := C
  obtain ⟨W, hA, hv⟩ := id hF
  have hw := hA.wf
  have hx27 : x + 27 < w.2 := hw _ _ _ hA.c27
  have hsh : w.1 (x + 2 + j) = some (x, .inr (1, [.null])) := by
    rcases RW.full hA hv (k := j) hj8 with ⟨hr2, hsh⟩ | ⟨l2, m2, f2, b, hr2, hsh, hb, hl, hm40, hA40⟩
    · exact hsh
    · rw [hr] at hr2; cases hr2
  refine j_aload_n C dX0_items_0 rfl 0 rfl ?_
  refine j_get (w := w) C in_X0 (ci := 0) (T := TX0) rfl (hA.d0 hv) 0 (by decide) q245 (fun _ z => z) (v := .ref (x + 1)) rfl dX0_items_1 ?_
  refine j_iload_n C dX0_items_4 rfl 1 rfl ?_
  refine j_aald (w := w) C 6 hA.c1 rfl (j) rfl (by omega) (by decide) dX0_items_5 ?_
  refine j_asv (y := .ref (x + 2 + j)) rfl ?_
  refine j_in (w := w) C (iv_VN C (ci := 1) (Tt := TX1) hsh rfl (Or.inr ⟨rfl, q493⟩) 0 (C.nw hG q490 rfl) q492 qs6 (by decide +kernel) rfl rfl dX0_items_6) (kX1_many_N G w hG hE (x + 2 + j) x hsh) (Or.inr ⟨rfl, q493⟩) (by decide +kernel) (by decide) (by decide) (Nat.le_of_ble_eq_true rfl) (by omega) (by omega) (fun v w1 h1 => h1.no) ?_
  rintro a1 w1 ⟨h1, rfl⟩
  cases h1
  exact jt_out C hx (by intro x h; simp at h) (by omega) (by omega) qT.mk
set_option maxHeartbeats 400000 in
theorem kX0_items_X (G : gl_T) (hG : GH G) (w0 w : wd_T) (x : Nat) (O : Nat → Prop) (V : fv_T) (Z : fz_T) (hF : FX G w0 w x O V Z) (hE : GE G) (j n l m : Nat) (f : Nat → Int32) (i : Int32) (hj8 : j < 8) (hn : n ≤ 8) (hr : V.2.2.2.2.1 j = some (l, m, f)) (hp : partB m i (nI n) = false) : Mb G yX0_items cX0_items 7 (some (.array .int)) [] 2 [.ref x, .int (nI j), .int i, .int (nI n)] w (qT w.2 (mu w.1 w.2 w.2 (.inr (22, [])), w.2 + 1)) 1 8 := by
  refine ⟨Nat.le_of_ble_eq_true rfl, fun k C hx => ?_⟩
  have C : Cx G k cX0_items "MoodFare" "items" 7 (some (.array .int)) 2 1 8 _ := C
  obtain ⟨W, hA, hv⟩ := id hF
  have hw := hA.wf
  have hx27 : x + 27 < w.2 := hw _ _ _ hA.c27
  rcases RW.full hA hv (k := j) hj8 with ⟨hr2, hsh⟩ | ⟨l2, m2, f2, b, hr2, hsh, hb, hl, hm40, hA40⟩
  · rw [hr] at hr2; cases hr2
  rw [hr] at hr2
  cases hr2
  have hbw := hw _ _ _ hb
  refine j_aload_n C dX0_items_0 rfl 0 rfl ?_
  refine j_get (w := w) C in_X0 (ci := 0) (T := TX0) rfl (hA.d0 hv) 0 (by decide) q245 (fun _ z => z) (v := .ref (x + 1)) rfl dX0_items_1 ?_
  refine j_iload_n C dX0_items_4 rfl 1 rfl ?_
  refine j_aald (w := w) C 6 hA.c1 rfl (j) rfl (by omega) (by decide) dX0_items_5 ?_
  refine j_asv (y := .ref (x + 2 + j)) rfl ?_
  rcases (show l = 0 ∨ l = 1 ∨ l = 2 by omega) with rfl | rfl | rfl
  · refine j_callVN (w := w) C (kX1_many_0 G w hG hE (x + 2 + j) b x (x + 2 + j) m f hsh hb (by omega)) pI.ret (ci := 1) (T := TX1) hsh rfl 0 (C.nw hG q490 rfl) q492 qs6 q67 q493 (by decide +kernel) rfl (by decide) (by decide) (Nat.le_of_ble_eq_true rfl) rfl dX0_items_6 (by omega) (by omega) (qI.k ?_)
    refine j_istore (lv' := [(4, .int (nI m)), (0, .ref x), (1, .int (nI j)), (2, .int i), (3, .int (nI n))]) C dX0_items_9 (by decide) rfl ?_
    refine j_iload_n C dX0_items_11 rfl 3 rfl ?_
    refine j_if_lt C 27 dX0_items_12 (by decide) (fun c12 => ?_) (fun c12 => ?_)
    · exact j_throw0 C hE hx (by intro x h; simp at h) w.2 (Nat.le_of_ble_eq_true rfl) dX0_items_27 dX0_items_30 dX0_items_31 dX0_items_34 (by omega) (by omega) qT.mk
    · obtain ⟨a, ha, rfl⟩ := nI_of c12
      refine j_iload_n C dX0_items_15 rfl 3 rfl ?_
      refine j_i2l C dX0_items_16 ?_
      refine j_iload_n C dX0_items_17 rfl 4 rfl ?_
      refine j_i2l C dX0_items_18 ?_
      refine j_ladd C dX0_items_19 ?_
      refine j_iload C dX0_items_20 0 rfl ?_
      refine j_i2l C dX0_items_22 ?_
      refine j_lcmp C dX0_items_23 ?_
      refine j_if_le C 35 dX0_items_24 (by decide) (fun c24 => ?_) (fun c24 => ?_)
      · rw [partB_t (by omega) ((lc_le (by omega) (by omega) (by omega)).mp c24)] at hp
        cases hp
      · exact j_throw0 C hE hx (by intro x h; simp at h) w.2 (Nat.le_of_ble_eq_true rfl) dX0_items_27 dX0_items_30 dX0_items_31 dX0_items_34 (by omega) (by omega) qT.mk
  · refine j_callVN (w := w) C (kX1_many_1 G w hG hE (x + 2 + j) b x (x + 2 + j) m f hsh hb (by omega)) pI.ret (ci := 1) (T := TX1) hsh rfl 0 (C.nw hG q490 rfl) q492 qs6 q67 q493 (by decide +kernel) rfl (by decide) (by decide) (Nat.le_of_ble_eq_true rfl) rfl dX0_items_6 (by omega) (by omega) (qI.k ?_)
    refine j_istore (lv' := [(4, .int (nI m)), (0, .ref x), (1, .int (nI j)), (2, .int i), (3, .int (nI n))]) C dX0_items_9 (by decide) rfl ?_
    refine j_iload_n C dX0_items_11 rfl 3 rfl ?_
    refine j_if_lt C 27 dX0_items_12 (by decide) (fun c12 => ?_) (fun c12 => ?_)
    · exact j_throw0 C hE hx (by intro x h; simp at h) w.2 (Nat.le_of_ble_eq_true rfl) dX0_items_27 dX0_items_30 dX0_items_31 dX0_items_34 (by omega) (by omega) qT.mk
    · obtain ⟨a, ha, rfl⟩ := nI_of c12
      refine j_iload_n C dX0_items_15 rfl 3 rfl ?_
      refine j_i2l C dX0_items_16 ?_
      refine j_iload_n C dX0_items_17 rfl 4 rfl ?_
      refine j_i2l C dX0_items_18 ?_
      refine j_ladd C dX0_items_19 ?_
      refine j_iload C dX0_items_20 0 rfl ?_
      refine j_i2l C dX0_items_22 ?_
      refine j_lcmp C dX0_items_23 ?_
      refine j_if_le C 35 dX0_items_24 (by decide) (fun c24 => ?_) (fun c24 => ?_)
      · rw [partB_t (by omega) ((lc_le (by omega) (by omega) (by omega)).mp c24)] at hp
        cases hp
      · exact j_throw0 C hE hx (by intro x h; simp at h) w.2 (Nat.le_of_ble_eq_true rfl) dX0_items_27 dX0_items_30 dX0_items_31 dX0_items_34 (by omega) (by omega) qT.mk
  · refine j_callVN (w := w) C (kX1_many_2 G w hG hE (x + 2 + j) b x (x + 2 + j) m f hsh hb (by omega)) pI.ret (ci := 1) (T := TX1) hsh rfl 0 (C.nw hG q490 rfl) q492 qs6 q67 q493 (by decide +kernel) rfl (by decide) (by decide) (Nat.le_of_ble_eq_true rfl) rfl dX0_items_6 (by omega) (by omega) (qI.k ?_)
    refine j_istore (lv' := [(4, .int (nI m)), (0, .ref x), (1, .int (nI j)), (2, .int i), (3, .int (nI n))]) C dX0_items_9 (by decide) rfl ?_
    refine j_iload_n C dX0_items_11 rfl 3 rfl ?_
    refine j_if_lt C 27 dX0_items_12 (by decide) (fun c12 => ?_) (fun c12 => ?_)
    · exact j_throw0 C hE hx (by intro x h; simp at h) w.2 (Nat.le_of_ble_eq_true rfl) dX0_items_27 dX0_items_30 dX0_items_31 dX0_items_34 (by omega) (by omega) qT.mk
    · obtain ⟨a, ha, rfl⟩ := nI_of c12
      refine j_iload_n C dX0_items_15 rfl 3 rfl ?_
      refine j_i2l C dX0_items_16 ?_
      refine j_iload_n C dX0_items_17 rfl 4 rfl ?_
      refine j_i2l C dX0_items_18 ?_
      refine j_ladd C dX0_items_19 ?_
      refine j_iload C dX0_items_20 0 rfl ?_
      refine j_i2l C dX0_items_22 ?_
      refine j_lcmp C dX0_items_23 ?_
      refine j_if_le C 35 dX0_items_24 (by decide) (fun c24 => ?_) (fun c24 => ?_)
      · rw [partB_t (by omega) ((lc_le (by omega) (by omega) (by omega)).mp c24)] at hp
        cases hp
      · exact j_throw0 C hE hx (by intro x h; simp at h) w.2 (Nat.le_of_ble_eq_true rfl) dX0_items_27 dX0_items_30 dX0_items_31 dX0_items_34 (by omega) (by omega) qT.mk
set_option maxHeartbeats 400000 in
theorem kX0_items (G : gl_T) (hG : GH G) (w0 w : wd_T) (x : Nat) (O : Nat → Prop) (V : fv_T) (Z : fz_T) (hF : FX G w0 w x O V Z) (hE : GE G) (j n l m a : Nat) (f : Nat → Int32) (hj8 : j < 8) (hn : n ≤ 8) (hr : V.2.2.2.2.1 j = some (l, m, f)) (han : a + n ≤ m) : Mt G yX0_items cX0_items 7 (some (.array .int)) 2 [.ref x, .int (nI j), .int (nI a), .int (nI n)] w (qA (.ref w.2) (mu w.1 w.2 w.2 (ai (gl_A G 0) n (itF f a n)), w.2 + 1)) 1 8 := by
  refine Mt.start (by decide) (Nat.le_of_ble_eq_true rfl) (fun k C => ?_)
  have C : Cx G k cX0_items "MoodFare" "items" 7 (some (.array .int)) 2 1 8 _ := C
  obtain ⟨W, hA, hv⟩ := id hF
  have hw := hA.wf
  have hx27 : x + 27 < w.2 := hw _ _ _ hA.c27
  rcases RW.full hA hv (k := j) hj8 with ⟨hr2, hsh⟩ | ⟨l2, m2, f2, b, hr2, hsh, hb, hl, hm40, hA40⟩
  · rw [hr] at hr2; cases hr2
  rw [hr] at hr2
  cases hr2
  have hbw := hw _ _ _ hb
  refine j_aload_n C dX0_items_0 rfl 0 rfl ?_
  refine j_get (w := w) C in_X0 (ci := 0) (T := TX0) rfl (hA.d0 hv) 0 (by decide) q245 (fun _ z => z) (v := .ref (x + 1)) rfl dX0_items_1 ?_
  refine j_iload_n C dX0_items_4 rfl 1 rfl ?_
  refine j_aald (w := w) C 6 hA.c1 rfl (j) rfl (by omega) (by decide) dX0_items_5 ?_
  refine j_asv (y := .ref (x + 2 + j)) rfl ?_
  rcases (show l = 0 ∨ l = 1 ∨ l = 2 by omega) with rfl | rfl | rfl
  · refine j_callVN (w := w) C (kX1_many_0 G w hG hE (x + 2 + j) b x (x + 2 + j) m f hsh hb (by omega)) pI.ret (ci := 1) (T := TX1) hsh rfl 0 (C.nw hG q490 rfl) q492 qs6 q67 q493 (by decide +kernel) rfl (by decide) (by decide) (Nat.le_of_ble_eq_true rfl) rfl dX0_items_6 (by omega) (by omega) (qI.k ?_)
    refine j_istore (lv' := [(4, .int (nI m)), (0, .ref x), (1, .int (nI j)), (2, .int (nI a)), (3, .int (nI n))]) C dX0_items_9 (by decide) rfl ?_
    refine j_iload_n C dX0_items_11 rfl 3 rfl ?_
    refine j_if_ltN C dX0_items_12 27 (by decide) (by omega) ?_
    refine j_iload_n C dX0_items_15 rfl 3 rfl ?_
    refine j_i2l C dX0_items_16 ?_
    refine j_iload_n C dX0_items_17 rfl 4 rfl ?_
    refine j_i2l C dX0_items_18 ?_
    refine j_ladd C dX0_items_19 ?_
    refine j_iload C dX0_items_20 0 rfl ?_
    refine j_i2l C dX0_items_22 ?_
    refine j_lcmp C dX0_items_23 ?_
    refine j_if_le C 35 dX0_items_24 (by decide) (fun c24 => ?_) (fun c24 => ?_)
    · refine j_iload_n C dX0_items_35 rfl 4 rfl ?_
      refine j_newi (w := w) C w.2 (n) q228 rfl (by omega) (by omega) (by omega) dX0_items_36 ?_
      refine j_astore (lv' := [(5, .ref w.2), (4, .int (nI m)), (0, .ref x), (1, .int (nI j)), (2, .int (nI a)), (3, .int (nI n))]) C dX0_items_38 (by decide) rfl ?_
      refine j_iconst (v := nI 0) C dX0_items_40 rfl ?_
      refine j_istore (lv' := [(6, .int (nI 0)), (5, .ref w.2), (4, .int (nI m)), (0, .ref x), (1, .int (nI j)), (2, .int (nI a)), (3, .int (nI n))]) C dX0_items_41 (by decide) rfl ?_
      refine j_wide (ce' := 1) (sl' := n) (by omega) (by omega) ?_
      have lp : ∀ (n_lp i : Nat), 0 ≤ i → i ≤ n → n < i + n_lp → J G k ((mu w.1 w.2 w.2 (ai (gl_A G 0) n (itF f a i))), w.2 + 1) [(6, .int (nI i)), (5, .ref w.2), (4, .int (nI m)), (0, .ref x), (1, .int (nI j)), (2, .int (nI a)), (3, .int (nI n))] 43 [] 1 n := by
        intro n_lp
        induction n_lp with
        | zero => intro i h0_lp h1_lp h2_lp; omega
        | succ n_lp ih_lp =>
          intro i h0_lp h1_lp h2_lp
          refine j_iload C dX0_items_43 0 rfl ?_
          refine j_iload_n C dX0_items_45 rfl 6 rfl ?_
          refine j_icmp_geN C 73 dX0_items_46 (by decide) (by omega) (by omega) (fun c46 => ?_) (fun c46 => ?_)
          · obtain rfl : n = i := by omega
            refine j_aload C dX0_items_73 1 rfl ?_
            exact j_aret C (by first | exact Or.inl ⟨_, rfl⟩ | exact Or.inr ⟨_, rfl⟩) (by first | exact Or.inl rfl | exact Or.inr ⟨_, rfl⟩) (by omega) (by omega) (pA.mk ⟨rfl, rfl⟩) dX0_items_75
          · refine j_aload C dX0_items_49 1 rfl ?_
            refine j_iload C dX0_items_51 0 rfl ?_
            refine j_aload_n C dX0_items_53 rfl 3 rfl ?_
            refine j_get (w := ((mu w.1 w.2 w.2 (ai (gl_A G 0) n (itF f a i))), w.2 + 1)) C in_X0 (ci := 0) (T := TX0) rfl ((mu_n (by omega)).trans (hA.d0 hv)) 0 (by decide) q245 (fun _ z => z) (v := .ref (x + 1)) rfl dX0_items_54 ?_
            refine j_iload_n C dX0_items_57 rfl 4 rfl ?_
            refine j_aald (w := ((mu w.1 w.2 w.2 (ai (gl_A G 0) n (itF f a i))), w.2 + 1)) C 6 ((mu_n (by omega)).trans hA.c1) rfl (j) rfl (by omega) (by decide) dX0_items_58 ?_
            refine j_asv (y := .ref (x + 2 + j)) rfl ?_
            refine j_iload_n C dX0_items_59 rfl 5 rfl ?_
            refine j_iload C dX0_items_60 0 rfl ?_
            refine j_iaddN C dX0_items_62 ?_
            refine j_callVN (w := ((mu w.1 w.2 w.2 (ai (gl_A G 0) n (itF f a i))), w.2 + 1)) C (kX1_at_0 G ((mu w.1 w.2 w.2 (ai (gl_A G 0) n (itF f a i))), w.2 + 1) hG hE (x + 2 + j) b x (x + 2 + j) m f ((mu_n (by omega)).trans hsh) ((mu_n (by omega)).trans hb) (by omega) (a + i) (by omega)) pI.ret (ci := 1) (T := TX1) ((mu_n (by omega)).trans hsh) rfl 1 (C.nw hG q1178 rfl) q462 qs5 q67 q463 (by decide +kernel) rfl (by decide) (by decide) (Nat.le_of_ble_eq_true rfl) rfl dX0_items_63 (by omega) (by omega) (qI.k ?_)
            refine j_iastN (w := ((mu w.1 w.2 w.2 (ai (gl_A G 0) n (itF f a i))), w.2 + 1)) C mu_s (i) rfl (by omega) (by omega) dX0_items_66 ?_
            refine J.eq (w' := ((mu w.1 w.2 w.2 (ai (gl_A G 0) n (upd (itF f a i) i (f (a + i))))), w.2 + 1)) ?_ (congrArg (fun z => (z, w.2 + 1)) mu_mu) rfl rfl
            refine j_iincN (lv' := [(6, .int (nI (i + 1))), (5, .ref w.2), (4, .int (nI m)), (0, .ref x), (1, .int (nI j)), (2, .int (nI a)), (3, .int (nI n))]) C dX0_items_67 0 rfl (by decide) rfl ?_
            refine j_goto C 43 dX0_items_70 (by decide) ?_
            refine j_lv [0, 1, 2, 3, 4, 5, 6] (lv' := [(6, .int (nI (i + 1))), (5, .ref w.2), (4, .int (nI m)), (0, .ref x), (1, .int (nI j)), (2, .int (nI a)), (3, .int (nI n))]) rfl ?_
            refine J.eq (w' := ((mu w.1 w.2 w.2 (ai (gl_A G 0) n (itF f a (i + 1)))), w.2 + 1)) ?_ (by rw [itF_s]) rfl rfl
            exact ih_lp (i + 1) (by omega) (by omega) (by omega)
      refine j_lv [0, 1, 2, 3, 4, 5, 6] (lv' := [(6, .int (nI 0)), (5, .ref w.2), (4, .int (nI m)), (0, .ref x), (1, .int (nI j)), (2, .int (nI a)), (3, .int (nI n))]) rfl ?_
      refine J.eq (w' := ((mu w.1 w.2 w.2 (ai (gl_A G 0) n (itF f a 0))), w.2 + 1)) ?_ (by rw [itF_0]) rfl rfl
      exact lp (n + 1 - 0) (0) (by omega) (by omega) (by omega)
    · exact absurd ((lc_le (by omega) (by omega) (by omega)).mpr han) c24
  · refine j_callVN (w := w) C (kX1_many_1 G w hG hE (x + 2 + j) b x (x + 2 + j) m f hsh hb (by omega)) pI.ret (ci := 1) (T := TX1) hsh rfl 0 (C.nw hG q490 rfl) q492 qs6 q67 q493 (by decide +kernel) rfl (by decide) (by decide) (Nat.le_of_ble_eq_true rfl) rfl dX0_items_6 (by omega) (by omega) (qI.k ?_)
    refine j_istore (lv' := [(4, .int (nI m)), (0, .ref x), (1, .int (nI j)), (2, .int (nI a)), (3, .int (nI n))]) C dX0_items_9 (by decide) rfl ?_
    refine j_iload_n C dX0_items_11 rfl 3 rfl ?_
    refine j_if_ltN C dX0_items_12 27 (by decide) (by omega) ?_
    refine j_iload_n C dX0_items_15 rfl 3 rfl ?_
    refine j_i2l C dX0_items_16 ?_
    refine j_iload_n C dX0_items_17 rfl 4 rfl ?_
    refine j_i2l C dX0_items_18 ?_
    refine j_ladd C dX0_items_19 ?_
    refine j_iload C dX0_items_20 0 rfl ?_
    refine j_i2l C dX0_items_22 ?_
    refine j_lcmp C dX0_items_23 ?_
    refine j_if_le C 35 dX0_items_24 (by decide) (fun c24 => ?_) (fun c24 => ?_)
    · refine j_iload_n C dX0_items_35 rfl 4 rfl ?_
      refine j_newi (w := w) C w.2 (n) q228 rfl (by omega) (by omega) (by omega) dX0_items_36 ?_
      refine j_astore (lv' := [(5, .ref w.2), (4, .int (nI m)), (0, .ref x), (1, .int (nI j)), (2, .int (nI a)), (3, .int (nI n))]) C dX0_items_38 (by decide) rfl ?_
      refine j_iconst (v := nI 0) C dX0_items_40 rfl ?_
      refine j_istore (lv' := [(6, .int (nI 0)), (5, .ref w.2), (4, .int (nI m)), (0, .ref x), (1, .int (nI j)), (2, .int (nI a)), (3, .int (nI n))]) C dX0_items_41 (by decide) rfl ?_
      refine j_wide (ce' := 1) (sl' := n) (by omega) (by omega) ?_
      have lp : ∀ (n_lp i : Nat), 0 ≤ i → i ≤ n → n < i + n_lp → J G k ((mu w.1 w.2 w.2 (ai (gl_A G 0) n (itF f a i))), w.2 + 1) [(6, .int (nI i)), (5, .ref w.2), (4, .int (nI m)), (0, .ref x), (1, .int (nI j)), (2, .int (nI a)), (3, .int (nI n))] 43 [] 1 n := by
        intro n_lp
        induction n_lp with
        | zero => intro i h0_lp h1_lp h2_lp; omega
        | succ n_lp ih_lp =>
          intro i h0_lp h1_lp h2_lp
          refine j_iload C dX0_items_43 0 rfl ?_
          refine j_iload_n C dX0_items_45 rfl 6 rfl ?_
          refine j_icmp_geN C 73 dX0_items_46 (by decide) (by omega) (by omega) (fun c46 => ?_) (fun c46 => ?_)
          · obtain rfl : n = i := by omega
            refine j_aload C dX0_items_73 1 rfl ?_
            exact j_aret C (by first | exact Or.inl ⟨_, rfl⟩ | exact Or.inr ⟨_, rfl⟩) (by first | exact Or.inl rfl | exact Or.inr ⟨_, rfl⟩) (by omega) (by omega) (pA.mk ⟨rfl, rfl⟩) dX0_items_75
          · refine j_aload C dX0_items_49 1 rfl ?_
            refine j_iload C dX0_items_51 0 rfl ?_
            refine j_aload_n C dX0_items_53 rfl 3 rfl ?_
            refine j_get (w := ((mu w.1 w.2 w.2 (ai (gl_A G 0) n (itF f a i))), w.2 + 1)) C in_X0 (ci := 0) (T := TX0) rfl ((mu_n (by omega)).trans (hA.d0 hv)) 0 (by decide) q245 (fun _ z => z) (v := .ref (x + 1)) rfl dX0_items_54 ?_
            refine j_iload_n C dX0_items_57 rfl 4 rfl ?_
            refine j_aald (w := ((mu w.1 w.2 w.2 (ai (gl_A G 0) n (itF f a i))), w.2 + 1)) C 6 ((mu_n (by omega)).trans hA.c1) rfl (j) rfl (by omega) (by decide) dX0_items_58 ?_
            refine j_asv (y := .ref (x + 2 + j)) rfl ?_
            refine j_iload_n C dX0_items_59 rfl 5 rfl ?_
            refine j_iload C dX0_items_60 0 rfl ?_
            refine j_iaddN C dX0_items_62 ?_
            refine j_callVN (w := ((mu w.1 w.2 w.2 (ai (gl_A G 0) n (itF f a i))), w.2 + 1)) C (kX1_at_1 G ((mu w.1 w.2 w.2 (ai (gl_A G 0) n (itF f a i))), w.2 + 1) hG hE (x + 2 + j) b x (x + 2 + j) m f ((mu_n (by omega)).trans hsh) ((mu_n (by omega)).trans hb) (by omega) (a + i) (by omega)) pI.ret (ci := 1) (T := TX1) ((mu_n (by omega)).trans hsh) rfl 1 (C.nw hG q1178 rfl) q462 qs5 q67 q463 (by decide +kernel) rfl (by decide) (by decide) (Nat.le_of_ble_eq_true rfl) rfl dX0_items_63 (by omega) (by omega) (qI.k ?_)
            refine j_iastN (w := ((mu w.1 w.2 w.2 (ai (gl_A G 0) n (itF f a i))), w.2 + 1)) C mu_s (i) rfl (by omega) (by omega) dX0_items_66 ?_
            refine J.eq (w' := ((mu w.1 w.2 w.2 (ai (gl_A G 0) n (upd (itF f a i) i (f (a + i))))), w.2 + 1)) ?_ (congrArg (fun z => (z, w.2 + 1)) mu_mu) rfl rfl
            refine j_iincN (lv' := [(6, .int (nI (i + 1))), (5, .ref w.2), (4, .int (nI m)), (0, .ref x), (1, .int (nI j)), (2, .int (nI a)), (3, .int (nI n))]) C dX0_items_67 0 rfl (by decide) rfl ?_
            refine j_goto C 43 dX0_items_70 (by decide) ?_
            refine j_lv [0, 1, 2, 3, 4, 5, 6] (lv' := [(6, .int (nI (i + 1))), (5, .ref w.2), (4, .int (nI m)), (0, .ref x), (1, .int (nI j)), (2, .int (nI a)), (3, .int (nI n))]) rfl ?_
            refine J.eq (w' := ((mu w.1 w.2 w.2 (ai (gl_A G 0) n (itF f a (i + 1)))), w.2 + 1)) ?_ (by rw [itF_s]) rfl rfl
            exact ih_lp (i + 1) (by omega) (by omega) (by omega)
      refine j_lv [0, 1, 2, 3, 4, 5, 6] (lv' := [(6, .int (nI 0)), (5, .ref w.2), (4, .int (nI m)), (0, .ref x), (1, .int (nI j)), (2, .int (nI a)), (3, .int (nI n))]) rfl ?_
      refine J.eq (w' := ((mu w.1 w.2 w.2 (ai (gl_A G 0) n (itF f a 0))), w.2 + 1)) ?_ (by rw [itF_0]) rfl rfl
      exact lp (n + 1 - 0) (0) (by omega) (by omega) (by omega)
    · exact absurd ((lc_le (by omega) (by omega) (by omega)).mpr han) c24
  · refine j_callVN (w := w) C (kX1_many_2 G w hG hE (x + 2 + j) b x (x + 2 + j) m f hsh hb (by omega)) pI.ret (ci := 1) (T := TX1) hsh rfl 0 (C.nw hG q490 rfl) q492 qs6 q67 q493 (by decide +kernel) rfl (by decide) (by decide) (Nat.le_of_ble_eq_true rfl) rfl dX0_items_6 (by omega) (by omega) (qI.k ?_)
    refine j_istore (lv' := [(4, .int (nI m)), (0, .ref x), (1, .int (nI j)), (2, .int (nI a)), (3, .int (nI n))]) C dX0_items_9 (by decide) rfl ?_
    refine j_iload_n C dX0_items_11 rfl 3 rfl ?_
    refine j_if_ltN C dX0_items_12 27 (by decide) (by omega) ?_
    refine j_iload_n C dX0_items_15 rfl 3 rfl ?_
    refine j_i2l C dX0_items_16 ?_
    refine j_iload_n C dX0_items_17 rfl 4 rfl ?_
    refine j_i2l C dX0_items_18 ?_
    refine j_ladd C dX0_items_19 ?_
    refine j_iload C dX0_items_20 0 rfl ?_
    refine j_i2l C dX0_items_22 ?_
    refine j_lcmp C dX0_items_23 ?_
    refine j_if_le C 35 dX0_items_24 (by decide) (fun c24 => ?_) (fun c24 => ?_)
    · refine j_iload_n C dX0_items_35 rfl 4 rfl ?_
      refine j_newi (w := w) C w.2 (n) q228 rfl (by omega) (by omega) (by omega) dX0_items_36 ?_
      refine j_astore (lv' := [(5, .ref w.2), (4, .int (nI m)), (0, .ref x), (1, .int (nI j)), (2, .int (nI a)), (3, .int (nI n))]) C dX0_items_38 (by decide) rfl ?_
      refine j_iconst (v := nI 0) C dX0_items_40 rfl ?_
      refine j_istore (lv' := [(6, .int (nI 0)), (5, .ref w.2), (4, .int (nI m)), (0, .ref x), (1, .int (nI j)), (2, .int (nI a)), (3, .int (nI n))]) C dX0_items_41 (by decide) rfl ?_
      refine j_wide (ce' := 1) (sl' := n) (by omega) (by omega) ?_
      have lp : ∀ (n_lp i : Nat), 0 ≤ i → i ≤ n → n < i + n_lp → J G k ((mu w.1 w.2 w.2 (ai (gl_A G 0) n (itF f a i))), w.2 + 1) [(6, .int (nI i)), (5, .ref w.2), (4, .int (nI m)), (0, .ref x), (1, .int (nI j)), (2, .int (nI a)), (3, .int (nI n))] 43 [] 1 n := by
        intro n_lp
        induction n_lp with
        | zero => intro i h0_lp h1_lp h2_lp; omega
        | succ n_lp ih_lp =>
          intro i h0_lp h1_lp h2_lp
          refine j_iload C dX0_items_43 0 rfl ?_
          refine j_iload_n C dX0_items_45 rfl 6 rfl ?_
          refine j_icmp_geN C 73 dX0_items_46 (by decide) (by omega) (by omega) (fun c46 => ?_) (fun c46 => ?_)
          · obtain rfl : n = i := by omega
            refine j_aload C dX0_items_73 1 rfl ?_
            exact j_aret C (by first | exact Or.inl ⟨_, rfl⟩ | exact Or.inr ⟨_, rfl⟩) (by first | exact Or.inl rfl | exact Or.inr ⟨_, rfl⟩) (by omega) (by omega) (pA.mk ⟨rfl, rfl⟩) dX0_items_75
          · refine j_aload C dX0_items_49 1 rfl ?_
            refine j_iload C dX0_items_51 0 rfl ?_
            refine j_aload_n C dX0_items_53 rfl 3 rfl ?_
            refine j_get (w := ((mu w.1 w.2 w.2 (ai (gl_A G 0) n (itF f a i))), w.2 + 1)) C in_X0 (ci := 0) (T := TX0) rfl ((mu_n (by omega)).trans (hA.d0 hv)) 0 (by decide) q245 (fun _ z => z) (v := .ref (x + 1)) rfl dX0_items_54 ?_
            refine j_iload_n C dX0_items_57 rfl 4 rfl ?_
            refine j_aald (w := ((mu w.1 w.2 w.2 (ai (gl_A G 0) n (itF f a i))), w.2 + 1)) C 6 ((mu_n (by omega)).trans hA.c1) rfl (j) rfl (by omega) (by decide) dX0_items_58 ?_
            refine j_asv (y := .ref (x + 2 + j)) rfl ?_
            refine j_iload_n C dX0_items_59 rfl 5 rfl ?_
            refine j_iload C dX0_items_60 0 rfl ?_
            refine j_iaddN C dX0_items_62 ?_
            refine j_callVN (w := ((mu w.1 w.2 w.2 (ai (gl_A G 0) n (itF f a i))), w.2 + 1)) C (kX1_at_2 G ((mu w.1 w.2 w.2 (ai (gl_A G 0) n (itF f a i))), w.2 + 1) hG hE (x + 2 + j) b x (x + 2 + j) m f ((mu_n (by omega)).trans hsh) ((mu_n (by omega)).trans hb) (by omega) (a + i) (by omega)) pI.ret (ci := 1) (T := TX1) ((mu_n (by omega)).trans hsh) rfl 1 (C.nw hG q1178 rfl) q462 qs5 q67 q463 (by decide +kernel) rfl (by decide) (by decide) (Nat.le_of_ble_eq_true rfl) rfl dX0_items_63 (by omega) (by omega) (qI.k ?_)
            refine j_iastN (w := ((mu w.1 w.2 w.2 (ai (gl_A G 0) n (itF f a i))), w.2 + 1)) C mu_s (i) rfl (by omega) (by omega) dX0_items_66 ?_
            refine J.eq (w' := ((mu w.1 w.2 w.2 (ai (gl_A G 0) n (upd (itF f a i) i (f (a + i))))), w.2 + 1)) ?_ (congrArg (fun z => (z, w.2 + 1)) mu_mu) rfl rfl
            refine j_iincN (lv' := [(6, .int (nI (i + 1))), (5, .ref w.2), (4, .int (nI m)), (0, .ref x), (1, .int (nI j)), (2, .int (nI a)), (3, .int (nI n))]) C dX0_items_67 0 rfl (by decide) rfl ?_
            refine j_goto C 43 dX0_items_70 (by decide) ?_
            refine j_lv [0, 1, 2, 3, 4, 5, 6] (lv' := [(6, .int (nI (i + 1))), (5, .ref w.2), (4, .int (nI m)), (0, .ref x), (1, .int (nI j)), (2, .int (nI a)), (3, .int (nI n))]) rfl ?_
            refine J.eq (w' := ((mu w.1 w.2 w.2 (ai (gl_A G 0) n (itF f a (i + 1)))), w.2 + 1)) ?_ (by rw [itF_s]) rfl rfl
            exact ih_lp (i + 1) (by omega) (by omega) (by omega)
      refine j_lv [0, 1, 2, 3, 4, 5, 6] (lv' := [(6, .int (nI 0)), (5, .ref w.2), (4, .int (nI m)), (0, .ref x), (1, .int (nI j)), (2, .int (nI a)), (3, .int (nI n))]) rfl ?_
      refine J.eq (w' := ((mu w.1 w.2 w.2 (ai (gl_A G 0) n (itF f a 0))), w.2 + 1)) ?_ (by rw [itF_0]) rfl rfl
      exact lp (n + 1 - 0) (0) (by omega) (by omega) (by omega)
    · exact absurd ((lc_le (by omega) (by omega) (by omega)).mpr han) c24
