/-! ===== the class: what two rows give ===== -/
set_option maxRecDepth 100000
theorem itF_v {R : Nat → Option (Nat × Nat × (Nat → Int32))} {r l m a n : Nat} {f : Nat → Int32} (hr : R r = some (l, m, f)) (h : a + n ≤ 40) : ∀ i, i < n → itF f a n i = itV R (40 * r + a + i) := by
  intro i hi
  rw [show 40 * r + a + i = 40 * r + (a + i) by omega, itV_r hr (by omega)]
  exact if_pos hi
set_option maxHeartbeats 400000 in
theorem kX0_told_F0 (G : gl_T) (hG : GH G) (w0 w : wd_T) (x : Nat) (O : Nat → Prop) (V : fv_T) (Z : fz_T) (hF : FX G w0 w x O V Z) (hE : GE G) (r o n : Nat) (i j0 : Int32) (hr8 : r < 8) (ho8 : o < 8) (hn : n ≤ 8) (tb : Nat)  (hOt : O tb) (ht0 : w0.1 tb = some (tb, .inr (16, [.int (nI 0), .ref x]))) (ht : smT V.2.1) (h3 : V.2.1 3 ≤ 1000) (hwf : ∀ y, y < V.2.1 25 → V.2.1 (26 + 2 * y + 1) < V.2.1 6) (P : Int32 → fv_T → Prop) (g1 : V.2.2.2.2.1 r = none → P ((-1000010) - nI 1) (vN V 3 1)) (g2 : ∀ l m f, V.2.2.2.2.1 r = some (l, m, f) → partB m i (nI n) = false → P ((-1000010) - nI 2) (vN V 3 2)) (g3 : ∀ l m f, V.2.2.2.2.1 r = some (l, m, f) → partB m i (nI n) = true → V.2.2.2.2.1 o = none → P ((-1000010) - nI 1) (vN V 3 1)) (g4 : ∀ l m f l2 m2 f2, V.2.2.2.2.1 r = some (l, m, f) → partB m i (nI n) = true → V.2.2.2.2.1 o = some (l2, m2, f2) → partB m2 j0 (nI n) = false → P ((-1000010) - nI 2) (vN V 3 2)) (g5 : ∀ l m f l2 m2 f2 a b, V.2.2.2.2.1 r = some (l, m, f) → a + n ≤ m → i = nI a → V.2.2.2.2.1 o = some (l2, m2, f2) → b + n ≤ m2 → j0 = nI b → P (nI (alF (itV V.2.2.2.2.1) V.2.1 1 0 (40 * r + a) (40 * o + b) n 10)) (vN V 3 0)) : Mb G yX0_told cX0_told 8 (some .int) [(0, 32, 33, 116), (0, 32, 41, 118)] 9 [.ref x, .int (nI r), .int i, .int (nI o), .int j0, .int (nI n), .ref tb] w (fC G w0 x O P) 12 116 := by
  refine ⟨Nat.le_of_ble_eq_true rfl, fun k C hx => ?_⟩
  have C : Cx G k cX0_told "MoodFare" "told" 8 (some .int) 9 12 116 _ := C
  obtain ⟨W, hA, hv⟩ := id hF
  refine j_aload_n C dX0_told_0 rfl 0 rfl ?_
  refine j_iload_n C dX0_told_1 rfl 1 rfl ?_
  refine j_iload_n C dX0_told_2 rfl 2 rfl ?_
  refine j_iload C dX0_told_3 5 rfl ?_
  rcases RW.full hA hv (k := r) hr8 with ⟨hr, hsh⟩ | ⟨l, m, f, b1_, hr, hsh, hb, hl, hm, hA40⟩
  · refine j_in (w := w) C (iv_V C (ci := 0) (Tt := TX0) (hA.d0 hv) rfl (Or.inr ⟨rfl, q1170⟩) 3 q1167 q1169 qs28 (by decide +kernel) rfl rfl dX0_told_5) (kX0_items_N G hG w0 w x O V Z ⟨W, hA, hv⟩ hE r n i hr8 hn hr) (Or.inr ⟨rfl, q1170⟩) (by decide +kernel) (by decide) (by decide) (Nat.le_of_ble_eq_true rfl) (by omega) (by omega) (fun v w1 h1 => h1.no) ?_
    rintro a1 w1 ⟨h1, rfl⟩
    cases h1
    refine jt_catch C hx (ci := 21) mu_s rfl 33 (Or.inr (Or.inl ⟨by decide, rfl, Or.inr ⟨by decide, _, q409, CA.of (C.nw hG q431 rfl)⟩⟩)) ?_
    refine j_abs (P := fun w' => FX G w0 w' x O V Z) (FX.newc ⟨W, hA, hv⟩ 0 (w.2) (.inr (21, []))) (fun w2 h2 => ?_)
    obtain ⟨W2, hA2, hv2⟩ := h2
    refine j_astore (lv' := [(7, .ref w.2), (0, .ref x), (1, .int (nI r)), (2, .int i), (3, .int (nI o)), (4, .int j0), (5, .int (nI n)), (6, .ref tb)]) C dX0_told_33 (by decide) rfl ?_
    refine j_aload_n C dX0_told_35 rfl 1 rfl ?_
    refine j_iconst (v := nI 1) C dX0_told_36 rfl ?_
    refine j_callV (w := w2) C (kX0_found G hG w0 w2 x O V Z ⟨W2, hA2, hv2⟩ 1) pI.ret (ci := 0) (T := TX0) (hA2.d0 hv2) rfl 1 q399 q401 qs3 q66 q402 (by decide +kernel) rfl (by decide) (by decide) (Nat.le_of_ble_eq_true rfl) rfl dX0_told_37 (by omega) (by omega) (pI.k (fun r3 w3 h3 => ?_))
    obtain ⟨hr3, h3⟩ := h3
    subst hr3
    obtain ⟨W3, hA3, hv3⟩ := h3
    exact j_iret C (by omega) (by omega) (fC.mk ⟨W3, hA3, hv3⟩ (by first | exact g1 hr | exact g3 l m f hr (partB_t (by omega) han) hr2)) dX0_told_40
  · cases hp : partB m i (nI n)
    · refine j_in (w := w) C (iv_V C (ci := 0) (Tt := TX0) (hA.d0 hv) rfl (Or.inr ⟨rfl, q1170⟩) 3 q1167 q1169 qs28 (by decide +kernel) rfl rfl dX0_told_5) (kX0_items_X G hG w0 w x O V Z ⟨W, hA, hv⟩ hE r n l m f i hr8 hn hr hp) (Or.inr ⟨rfl, q1170⟩) (by decide +kernel) (by decide) (by decide) (Nat.le_of_ble_eq_true rfl) (by omega) (by omega) (fun v w1 h1 => h1.no) ?_
      rintro a1 w1 ⟨h1, rfl⟩
      cases h1
      refine jt_catch C hx (ci := 22) mu_s rfl 41 (Or.inr (Or.inr ⟨by decide, by decide, ⟨_, q409, (C.xe hE).nc 0 rfl⟩, (Or.inr (Or.inl ⟨by decide, rfl, Or.inr ⟨by decide, _, q434, CA.of (C.nw hG q449 rfl)⟩⟩))⟩)) ?_
      refine j_abs (P := fun w' => FX G w0 w' x O V Z) (FX.newc ⟨W, hA, hv⟩ 0 (w.2) (.inr (22, []))) (fun w5 h5 => ?_)
      obtain ⟨W5, hA5, hv5⟩ := h5
      refine j_astore (lv' := [(7, .ref w.2), (0, .ref x), (1, .int (nI r)), (2, .int i), (3, .int (nI o)), (4, .int j0), (5, .int (nI n)), (6, .ref tb)]) C dX0_told_41 (by decide) rfl ?_
      refine j_aload_n C dX0_told_43 rfl 1 rfl ?_
      refine j_iconst (v := nI 2) C dX0_told_44 rfl ?_
      refine j_callV (w := w5) C (kX0_found G hG w0 w5 x O V Z ⟨W5, hA5, hv5⟩ 2) pI.ret (ci := 0) (T := TX0) (hA5.d0 hv5) rfl 1 q399 q401 qs3 q66 q402 (by decide +kernel) rfl (by decide) (by decide) (Nat.le_of_ble_eq_true rfl) rfl dX0_told_45 (by omega) (by omega) (pI.k (fun r6 w6 h6 => ?_))
      obtain ⟨hr6, h6⟩ := h6
      subst hr6
      obtain ⟨W6, hA6, hv6⟩ := h6
      exact j_iret C (by omega) (by omega) (fC.mk ⟨W6, hA6, hv6⟩ (by first | exact g2 l m f hr hp | exact g4 l m f l2 m2 f2 hr (partB_t (by omega) han) hr2 hp2)) dX0_told_48
    · obtain ⟨a, rfl, han⟩ := partB_m (by omega) (by omega) hp
      refine j_callV (w := w) C (kX0_items G hG w0 w x O V Z ⟨W, hA, hv⟩ hE r n l m a f hr8 hn hr han) pA.ret (ci := 0) (T := TX0) (hA.d0 hv) rfl 3 q1167 q1169 qs28 q66 q1170 (by decide +kernel) rfl (by decide) (by decide) (Nat.le_of_ble_eq_true rfl) rfl dX0_told_5 (by omega) (by omega) (qA.k ?_)
      refine j_abs (P := fun w' => FA G w0 w' x O W ∧ w'.1 w.2 = some (w.2, ai (gl_A G 0) n (itF f a n)) ∧ w'.2 = w.2 + 1) ⟨hA.ext (fun b σ e hb => (mu_n (by have := hA.wf b σ e hb; omega)).trans hb) (by show w.2 ≤ w.2 + 1; omega) hA.wf.new, mu_s, rfl⟩ (fun w1 hw1 => ?_)
      obtain ⟨hA1, hca, hw1⟩ := hw1
      refine j_astore (lv' := [(7, .ref w.2), (0, .ref x), (1, .int (nI r)), (2, .int (nI a)), (3, .int (nI o)), (4, .int j0), (5, .int (nI n)), (6, .ref tb)]) C dX0_told_8 (by decide) rfl ?_
      refine j_aload_n C dX0_told_10 rfl 1 rfl ?_
      refine j_aload C dX0_told_11 7 rfl ?_
      refine j_aload C dX0_told_13 0 rfl ?_
      refine j_aload_n C dX0_told_15 rfl 1 rfl ?_
      refine j_iload_n C dX0_told_16 rfl 4 rfl ?_
      refine j_iload C dX0_told_17 5 rfl ?_
      refine j_iload C dX0_told_19 6 rfl ?_
      rcases RW.full hA1 hv (k := o) ho8 with ⟨hr2, hsh2⟩ | ⟨l2, m2, f2, b2_, hr2, hsh2, hb2, hl2, hm2, hA402⟩
      · refine j_in (w := w1) C (iv_V C (ci := 0) (Tt := TX0) (hA1.d0 hv) rfl (Or.inr ⟨rfl, q1170⟩) 3 q1167 q1169 qs28 (by decide +kernel) rfl rfl dX0_told_21) (kX0_items_N G hG w0 w1 x O V Z ⟨W, hA1, hv⟩ hE o n j0 ho8 hn hr2) (Or.inr ⟨rfl, q1170⟩) (by decide +kernel) (by decide) (by decide) (Nat.le_of_ble_eq_true rfl) (by omega) (by omega) (fun v w1 h1 => h1.no) ?_
        rintro a1 w1 ⟨h1, rfl⟩
        cases h1
        refine jt_catch C hx (ci := 21) mu_s rfl 33 (Or.inr (Or.inl ⟨by decide, rfl, Or.inr ⟨by decide, _, q409, CA.of (C.nw hG q431 rfl)⟩⟩)) ?_
        refine j_abs (P := fun w' => FX G w0 w' x O V Z) (FX.newc ⟨W, hA1, hv⟩ 0 (w1.2) (.inr (21, []))) (fun w8 h8 => ?_)
        obtain ⟨W8, hA8, hv8⟩ := h8
        refine j_astore (lv' := [(7, .ref w1.2), (0, .ref x), (1, .int (nI r)), (2, .int (nI a)), (3, .int (nI o)), (4, .int j0), (5, .int (nI n)), (6, .ref tb)]) C dX0_told_33 (by decide) rfl ?_
        refine j_aload_n C dX0_told_35 rfl 1 rfl ?_
        refine j_iconst (v := nI 1) C dX0_told_36 rfl ?_
        refine j_callV (w := w8) C (kX0_found G hG w0 w8 x O V Z ⟨W8, hA8, hv8⟩ 1) pI.ret (ci := 0) (T := TX0) (hA8.d0 hv8) rfl 1 q399 q401 qs3 q66 q402 (by decide +kernel) rfl (by decide) (by decide) (Nat.le_of_ble_eq_true rfl) rfl dX0_told_37 (by omega) (by omega) (pI.k (fun r9 w9 h9 => ?_))
        obtain ⟨hr9, h9⟩ := h9
        subst hr9
        obtain ⟨W9, hA9, hv9⟩ := h9
        exact j_iret C (by omega) (by omega) (fC.mk ⟨W9, hA9, hv9⟩ (by first | exact g1 hr | exact g3 l m f hr (partB_t (by omega) han) hr2)) dX0_told_40
      · cases hp2 : partB m2 j0 (nI n)
        · refine j_in (w := w1) C (iv_V C (ci := 0) (Tt := TX0) (hA1.d0 hv) rfl (Or.inr ⟨rfl, q1170⟩) 3 q1167 q1169 qs28 (by decide +kernel) rfl rfl dX0_told_21) (kX0_items_X G hG w0 w1 x O V Z ⟨W, hA1, hv⟩ hE o n l2 m2 f2 j0 ho8 hn hr2 hp2) (Or.inr ⟨rfl, q1170⟩) (by decide +kernel) (by decide) (by decide) (Nat.le_of_ble_eq_true rfl) (by omega) (by omega) (fun v w1 h1 => h1.no) ?_
          rintro a1 w1 ⟨h1, rfl⟩
          cases h1
          refine jt_catch C hx (ci := 22) mu_s rfl 41 (Or.inr (Or.inr ⟨by decide, by decide, ⟨_, q409, (C.xe hE).nc 0 rfl⟩, (Or.inr (Or.inl ⟨by decide, rfl, Or.inr ⟨by decide, _, q434, CA.of (C.nw hG q449 rfl)⟩⟩))⟩)) ?_
          refine j_abs (P := fun w' => FX G w0 w' x O V Z) (FX.newc ⟨W, hA1, hv⟩ 0 (w1.2) (.inr (22, []))) (fun w11 h11 => ?_)
          obtain ⟨W11, hA11, hv11⟩ := h11
          refine j_astore (lv' := [(7, .ref w1.2), (0, .ref x), (1, .int (nI r)), (2, .int (nI a)), (3, .int (nI o)), (4, .int j0), (5, .int (nI n)), (6, .ref tb)]) C dX0_told_41 (by decide) rfl ?_
          refine j_aload_n C dX0_told_43 rfl 1 rfl ?_
          refine j_iconst (v := nI 2) C dX0_told_44 rfl ?_
          refine j_callV (w := w11) C (kX0_found G hG w0 w11 x O V Z ⟨W11, hA11, hv11⟩ 2) pI.ret (ci := 0) (T := TX0) (hA11.d0 hv11) rfl 1 q399 q401 qs3 q66 q402 (by decide +kernel) rfl (by decide) (by decide) (Nat.le_of_ble_eq_true rfl) rfl dX0_told_45 (by omega) (by omega) (pI.k (fun r12 w12 h12 => ?_))
          obtain ⟨hr12, h12⟩ := h12
          subst hr12
          obtain ⟨W12, hA12, hv12⟩ := h12
          exact j_iret C (by omega) (by omega) (fC.mk ⟨W12, hA12, hv12⟩ (by first | exact g2 l m f hr hp | exact g4 l m f l2 m2 f2 hr (partB_t (by omega) han) hr2 hp2)) dX0_told_48
        · obtain ⟨b, rfl, han2⟩ := partB_m (by omega) (by omega) hp2
          refine j_callV (w := w1) C (kX0_items G hG w0 w1 x O V Z ⟨W, hA1, hv⟩ hE o n l2 m2 b f2 ho8 hn hr2 han2) pA.ret (ci := 0) (T := TX0) (hA1.d0 hv) rfl 3 q1167 q1169 qs28 q66 q1170 (by decide +kernel) rfl (by decide) (by decide) (Nat.le_of_ble_eq_true rfl) rfl dX0_told_21 (by omega) (by omega) (qA.k ?_)
          refine j_abs (P := fun w' => FA G w0 w' x O W ∧ w'.1 w1.2 = some (w1.2, ai (gl_A G 0) n (itF f2 b n)) ∧ w'.2 = w1.2 + 1 ∧ w'.1 w.2 = some (w.2, ai (gl_A G 0) n (itF f a n))) ⟨hA1.ext (fun b σ e hb => (mu_n (by have := hA1.wf b σ e hb; omega)).trans hb) (by show w1.2 ≤ w1.2 + 1; omega) hA1.wf.new, mu_s, rfl, (mu_n (by omega)).trans hca⟩ (fun w2 hw2 => ?_)
          obtain ⟨hA2, hsa, hw2, hca2⟩ := hw2
          have hB := FA.rebase (O' := fun σ => O σ ∨ σ = w.2 ∨ σ = w1.2) hA2 (fun σ h => by rcases h with h | h | h; exact Or.inl h; exact Or.inr ⟨by omega, by have := hA.fresh (σ := σ) (by omega); exact this⟩; exact Or.inr ⟨by omega, by have := hA.fresh (σ := σ) (by omega); exact this⟩)
          refine j_callF (w := w2) C (kX17_by_0 G hG w2 w2 x (fun σ => O σ ∨ σ = w.2 ∨ σ = w1.2) V Z ⟨W, hB, hv⟩ w.2 w1.2 n (itF f a n) (itF f2 b n) (itV V.2.2.2.2.1) (40 * r + a) (40 * o + b) (Or.inr (Or.inl rfl)) hca2 (Or.inr (Or.inr rfl)) hsa hn (itF_v hr (by omega)) (itF_v hr2 (by omega)) tb (Or.inl hOt) (hA2.fr0 tb tb _ hOt ht0) ht h3 hwf) pI.ret (ci := 16) (T := TX17) (hA2.fr0 tb tb _ hOt ht0) rfl 2 (C.fw hG ⟨q1182, q1181, q1187, q1185, q1183, by decide⟩) q1180 q1184 q1186 q104 q1188 (by decide +kernel) rfl (by decide) (by decide) (Nat.le_of_ble_eq_true rfl) rfl dX0_told_24 (by omega) (by omega) (pI.k (fun r5 w5 h5 => ?_))
          obtain ⟨hr5, Z5, W5, hA5, hv5⟩ := h5
          subst hr5
          have hA5u := hA2.unbase hA5 (fun σ h => Or.inl h)
          refine j_callV (w := w5) C (kX0_well G hG w0 w5 x O V Z5 ⟨W5, hA5u, hv5⟩ (nI (alF (itV V.2.2.2.2.1) V.2.1 1 0 (40 * r + a) (40 * o + b) n 10))) pI.ret (ci := 0) (T := TX0) (hA5u.d0 hv5) rfl 1 q395 q397 qs2 q66 q398 (by decide +kernel) rfl (by decide) (by decide) (Nat.le_of_ble_eq_true rfl) rfl dX0_told_29 (by omega) (by omega) (pI.k (fun r13 w13 h13 => ?_))
          obtain ⟨hr13, h13⟩ := h13
          subst hr13
          obtain ⟨W13, hA13, hv13⟩ := h13
          exact j_iret C (by omega) (by omega) (fC.mk ⟨W13, hA13, hv13⟩ (g5 l m f l2 m2 f2 a b hr (by omega) rfl hr2 (by omega) rfl)) dX0_told_32
set_option maxHeartbeats 400000 in
theorem kX0_told_F1 (G : gl_T) (hG : GH G) (w0 w : wd_T) (x : Nat) (O : Nat → Prop) (V : fv_T) (Z : fz_T) (hF : FX G w0 w x O V Z) (hE : GE G) (r o n : Nat) (i j0 : Int32) (hr8 : r < 8) (ho8 : o < 8) (hn : n ≤ 8) (tb : Nat)  (hOt : O tb) (ht0 : w0.1 tb = some (tb, .inr (16, [.int (nI 1), .ref x]))) (ht : smT V.2.1) (h3 : V.2.1 3 ≤ 1000) (hwf : ∀ y, y < V.2.1 25 → V.2.1 (26 + 2 * y + 1) < V.2.1 6) (P : Int32 → fv_T → Prop) (g1 : V.2.2.2.2.1 r = none → P ((-1000010) - nI 1) (vN V 3 1)) (g2 : ∀ l m f, V.2.2.2.2.1 r = some (l, m, f) → partB m i (nI n) = false → P ((-1000010) - nI 2) (vN V 3 2)) (g3 : ∀ l m f, V.2.2.2.2.1 r = some (l, m, f) → partB m i (nI n) = true → V.2.2.2.2.1 o = none → P ((-1000010) - nI 1) (vN V 3 1)) (g4 : ∀ l m f l2 m2 f2, V.2.2.2.2.1 r = some (l, m, f) → partB m i (nI n) = true → V.2.2.2.2.1 o = some (l2, m2, f2) → partB m2 j0 (nI n) = false → P ((-1000010) - nI 2) (vN V 3 2)) (g5 : ∀ l m f l2 m2 f2 a b, V.2.2.2.2.1 r = some (l, m, f) → a + n ≤ m → i = nI a → V.2.2.2.2.1 o = some (l2, m2, f2) → b + n ≤ m2 → j0 = nI b → P (nI (alF (itV V.2.2.2.2.1) V.2.1 0 1 (40 * r + a) (40 * o + b) n 9)) (vN V 3 0)) : Mb G yX0_told cX0_told 8 (some .int) [(0, 32, 33, 116), (0, 32, 41, 118)] 9 [.ref x, .int (nI r), .int i, .int (nI o), .int j0, .int (nI n), .ref tb] w (fC G w0 x O P) 12 116 := by
  refine ⟨Nat.le_of_ble_eq_true rfl, fun k C hx => ?_⟩
  have C : Cx G k cX0_told "MoodFare" "told" 8 (some .int) 9 12 116 _ := C
  obtain ⟨W, hA, hv⟩ := id hF
  refine j_aload_n C dX0_told_0 rfl 0 rfl ?_
  refine j_iload_n C dX0_told_1 rfl 1 rfl ?_
  refine j_iload_n C dX0_told_2 rfl 2 rfl ?_
  refine j_iload C dX0_told_3 5 rfl ?_
  rcases RW.full hA hv (k := r) hr8 with ⟨hr, hsh⟩ | ⟨l, m, f, b1_, hr, hsh, hb, hl, hm, hA40⟩
  · refine j_in (w := w) C (iv_V C (ci := 0) (Tt := TX0) (hA.d0 hv) rfl (Or.inr ⟨rfl, q1170⟩) 3 q1167 q1169 qs28 (by decide +kernel) rfl rfl dX0_told_5) (kX0_items_N G hG w0 w x O V Z ⟨W, hA, hv⟩ hE r n i hr8 hn hr) (Or.inr ⟨rfl, q1170⟩) (by decide +kernel) (by decide) (by decide) (Nat.le_of_ble_eq_true rfl) (by omega) (by omega) (fun v w1 h1 => h1.no) ?_
    rintro a1 w1 ⟨h1, rfl⟩
    cases h1
    refine jt_catch C hx (ci := 21) mu_s rfl 33 (Or.inr (Or.inl ⟨by decide, rfl, Or.inr ⟨by decide, _, q409, CA.of (C.nw hG q431 rfl)⟩⟩)) ?_
    refine j_abs (P := fun w' => FX G w0 w' x O V Z) (FX.newc ⟨W, hA, hv⟩ 0 (w.2) (.inr (21, []))) (fun w2 h2 => ?_)
    obtain ⟨W2, hA2, hv2⟩ := h2
    refine j_astore (lv' := [(7, .ref w.2), (0, .ref x), (1, .int (nI r)), (2, .int i), (3, .int (nI o)), (4, .int j0), (5, .int (nI n)), (6, .ref tb)]) C dX0_told_33 (by decide) rfl ?_
    refine j_aload_n C dX0_told_35 rfl 1 rfl ?_
    refine j_iconst (v := nI 1) C dX0_told_36 rfl ?_
    refine j_callV (w := w2) C (kX0_found G hG w0 w2 x O V Z ⟨W2, hA2, hv2⟩ 1) pI.ret (ci := 0) (T := TX0) (hA2.d0 hv2) rfl 1 q399 q401 qs3 q66 q402 (by decide +kernel) rfl (by decide) (by decide) (Nat.le_of_ble_eq_true rfl) rfl dX0_told_37 (by omega) (by omega) (pI.k (fun r3 w3 h3 => ?_))
    obtain ⟨hr3, h3⟩ := h3
    subst hr3
    obtain ⟨W3, hA3, hv3⟩ := h3
    exact j_iret C (by omega) (by omega) (fC.mk ⟨W3, hA3, hv3⟩ (by first | exact g1 hr | exact g3 l m f hr (partB_t (by omega) han) hr2)) dX0_told_40
  · cases hp : partB m i (nI n)
    · refine j_in (w := w) C (iv_V C (ci := 0) (Tt := TX0) (hA.d0 hv) rfl (Or.inr ⟨rfl, q1170⟩) 3 q1167 q1169 qs28 (by decide +kernel) rfl rfl dX0_told_5) (kX0_items_X G hG w0 w x O V Z ⟨W, hA, hv⟩ hE r n l m f i hr8 hn hr hp) (Or.inr ⟨rfl, q1170⟩) (by decide +kernel) (by decide) (by decide) (Nat.le_of_ble_eq_true rfl) (by omega) (by omega) (fun v w1 h1 => h1.no) ?_
      rintro a1 w1 ⟨h1, rfl⟩
      cases h1
      refine jt_catch C hx (ci := 22) mu_s rfl 41 (Or.inr (Or.inr ⟨by decide, by decide, ⟨_, q409, (C.xe hE).nc 0 rfl⟩, (Or.inr (Or.inl ⟨by decide, rfl, Or.inr ⟨by decide, _, q434, CA.of (C.nw hG q449 rfl)⟩⟩))⟩)) ?_
      refine j_abs (P := fun w' => FX G w0 w' x O V Z) (FX.newc ⟨W, hA, hv⟩ 0 (w.2) (.inr (22, []))) (fun w5 h5 => ?_)
      obtain ⟨W5, hA5, hv5⟩ := h5
      refine j_astore (lv' := [(7, .ref w.2), (0, .ref x), (1, .int (nI r)), (2, .int i), (3, .int (nI o)), (4, .int j0), (5, .int (nI n)), (6, .ref tb)]) C dX0_told_41 (by decide) rfl ?_
      refine j_aload_n C dX0_told_43 rfl 1 rfl ?_
      refine j_iconst (v := nI 2) C dX0_told_44 rfl ?_
      refine j_callV (w := w5) C (kX0_found G hG w0 w5 x O V Z ⟨W5, hA5, hv5⟩ 2) pI.ret (ci := 0) (T := TX0) (hA5.d0 hv5) rfl 1 q399 q401 qs3 q66 q402 (by decide +kernel) rfl (by decide) (by decide) (Nat.le_of_ble_eq_true rfl) rfl dX0_told_45 (by omega) (by omega) (pI.k (fun r6 w6 h6 => ?_))
      obtain ⟨hr6, h6⟩ := h6
      subst hr6
      obtain ⟨W6, hA6, hv6⟩ := h6
      exact j_iret C (by omega) (by omega) (fC.mk ⟨W6, hA6, hv6⟩ (by first | exact g2 l m f hr hp | exact g4 l m f l2 m2 f2 hr (partB_t (by omega) han) hr2 hp2)) dX0_told_48
    · obtain ⟨a, rfl, han⟩ := partB_m (by omega) (by omega) hp
      refine j_callV (w := w) C (kX0_items G hG w0 w x O V Z ⟨W, hA, hv⟩ hE r n l m a f hr8 hn hr han) pA.ret (ci := 0) (T := TX0) (hA.d0 hv) rfl 3 q1167 q1169 qs28 q66 q1170 (by decide +kernel) rfl (by decide) (by decide) (Nat.le_of_ble_eq_true rfl) rfl dX0_told_5 (by omega) (by omega) (qA.k ?_)
      refine j_abs (P := fun w' => FA G w0 w' x O W ∧ w'.1 w.2 = some (w.2, ai (gl_A G 0) n (itF f a n)) ∧ w'.2 = w.2 + 1) ⟨hA.ext (fun b σ e hb => (mu_n (by have := hA.wf b σ e hb; omega)).trans hb) (by show w.2 ≤ w.2 + 1; omega) hA.wf.new, mu_s, rfl⟩ (fun w1 hw1 => ?_)
      obtain ⟨hA1, hca, hw1⟩ := hw1
      refine j_astore (lv' := [(7, .ref w.2), (0, .ref x), (1, .int (nI r)), (2, .int (nI a)), (3, .int (nI o)), (4, .int j0), (5, .int (nI n)), (6, .ref tb)]) C dX0_told_8 (by decide) rfl ?_
      refine j_aload_n C dX0_told_10 rfl 1 rfl ?_
      refine j_aload C dX0_told_11 7 rfl ?_
      refine j_aload C dX0_told_13 0 rfl ?_
      refine j_aload_n C dX0_told_15 rfl 1 rfl ?_
      refine j_iload_n C dX0_told_16 rfl 4 rfl ?_
      refine j_iload C dX0_told_17 5 rfl ?_
      refine j_iload C dX0_told_19 6 rfl ?_
      rcases RW.full hA1 hv (k := o) ho8 with ⟨hr2, hsh2⟩ | ⟨l2, m2, f2, b2_, hr2, hsh2, hb2, hl2, hm2, hA402⟩
      · refine j_in (w := w1) C (iv_V C (ci := 0) (Tt := TX0) (hA1.d0 hv) rfl (Or.inr ⟨rfl, q1170⟩) 3 q1167 q1169 qs28 (by decide +kernel) rfl rfl dX0_told_21) (kX0_items_N G hG w0 w1 x O V Z ⟨W, hA1, hv⟩ hE o n j0 ho8 hn hr2) (Or.inr ⟨rfl, q1170⟩) (by decide +kernel) (by decide) (by decide) (Nat.le_of_ble_eq_true rfl) (by omega) (by omega) (fun v w1 h1 => h1.no) ?_
        rintro a1 w1 ⟨h1, rfl⟩
        cases h1
        refine jt_catch C hx (ci := 21) mu_s rfl 33 (Or.inr (Or.inl ⟨by decide, rfl, Or.inr ⟨by decide, _, q409, CA.of (C.nw hG q431 rfl)⟩⟩)) ?_
        refine j_abs (P := fun w' => FX G w0 w' x O V Z) (FX.newc ⟨W, hA1, hv⟩ 0 (w1.2) (.inr (21, []))) (fun w8 h8 => ?_)
        obtain ⟨W8, hA8, hv8⟩ := h8
        refine j_astore (lv' := [(7, .ref w1.2), (0, .ref x), (1, .int (nI r)), (2, .int (nI a)), (3, .int (nI o)), (4, .int j0), (5, .int (nI n)), (6, .ref tb)]) C dX0_told_33 (by decide) rfl ?_
        refine j_aload_n C dX0_told_35 rfl 1 rfl ?_
        refine j_iconst (v := nI 1) C dX0_told_36 rfl ?_
        refine j_callV (w := w8) C (kX0_found G hG w0 w8 x O V Z ⟨W8, hA8, hv8⟩ 1) pI.ret (ci := 0) (T := TX0) (hA8.d0 hv8) rfl 1 q399 q401 qs3 q66 q402 (by decide +kernel) rfl (by decide) (by decide) (Nat.le_of_ble_eq_true rfl) rfl dX0_told_37 (by omega) (by omega) (pI.k (fun r9 w9 h9 => ?_))
        obtain ⟨hr9, h9⟩ := h9
        subst hr9
        obtain ⟨W9, hA9, hv9⟩ := h9
        exact j_iret C (by omega) (by omega) (fC.mk ⟨W9, hA9, hv9⟩ (by first | exact g1 hr | exact g3 l m f hr (partB_t (by omega) han) hr2)) dX0_told_40
      · cases hp2 : partB m2 j0 (nI n)
        · refine j_in (w := w1) C (iv_V C (ci := 0) (Tt := TX0) (hA1.d0 hv) rfl (Or.inr ⟨rfl, q1170⟩) 3 q1167 q1169 qs28 (by decide +kernel) rfl rfl dX0_told_21) (kX0_items_X G hG w0 w1 x O V Z ⟨W, hA1, hv⟩ hE o n l2 m2 f2 j0 ho8 hn hr2 hp2) (Or.inr ⟨rfl, q1170⟩) (by decide +kernel) (by decide) (by decide) (Nat.le_of_ble_eq_true rfl) (by omega) (by omega) (fun v w1 h1 => h1.no) ?_
          rintro a1 w1 ⟨h1, rfl⟩
          cases h1
          refine jt_catch C hx (ci := 22) mu_s rfl 41 (Or.inr (Or.inr ⟨by decide, by decide, ⟨_, q409, (C.xe hE).nc 0 rfl⟩, (Or.inr (Or.inl ⟨by decide, rfl, Or.inr ⟨by decide, _, q434, CA.of (C.nw hG q449 rfl)⟩⟩))⟩)) ?_
          refine j_abs (P := fun w' => FX G w0 w' x O V Z) (FX.newc ⟨W, hA1, hv⟩ 0 (w1.2) (.inr (22, []))) (fun w11 h11 => ?_)
          obtain ⟨W11, hA11, hv11⟩ := h11
          refine j_astore (lv' := [(7, .ref w1.2), (0, .ref x), (1, .int (nI r)), (2, .int (nI a)), (3, .int (nI o)), (4, .int j0), (5, .int (nI n)), (6, .ref tb)]) C dX0_told_41 (by decide) rfl ?_
          refine j_aload_n C dX0_told_43 rfl 1 rfl ?_
          refine j_iconst (v := nI 2) C dX0_told_44 rfl ?_
          refine j_callV (w := w11) C (kX0_found G hG w0 w11 x O V Z ⟨W11, hA11, hv11⟩ 2) pI.ret (ci := 0) (T := TX0) (hA11.d0 hv11) rfl 1 q399 q401 qs3 q66 q402 (by decide +kernel) rfl (by decide) (by decide) (Nat.le_of_ble_eq_true rfl) rfl dX0_told_45 (by omega) (by omega) (pI.k (fun r12 w12 h12 => ?_))
          obtain ⟨hr12, h12⟩ := h12
          subst hr12
          obtain ⟨W12, hA12, hv12⟩ := h12
          exact j_iret C (by omega) (by omega) (fC.mk ⟨W12, hA12, hv12⟩ (by first | exact g2 l m f hr hp | exact g4 l m f l2 m2 f2 hr (partB_t (by omega) han) hr2 hp2)) dX0_told_48
        · obtain ⟨b, rfl, han2⟩ := partB_m (by omega) (by omega) hp2
          refine j_callV (w := w1) C (kX0_items G hG w0 w1 x O V Z ⟨W, hA1, hv⟩ hE o n l2 m2 b f2 ho8 hn hr2 han2) pA.ret (ci := 0) (T := TX0) (hA1.d0 hv) rfl 3 q1167 q1169 qs28 q66 q1170 (by decide +kernel) rfl (by decide) (by decide) (Nat.le_of_ble_eq_true rfl) rfl dX0_told_21 (by omega) (by omega) (qA.k ?_)
          refine j_abs (P := fun w' => FA G w0 w' x O W ∧ w'.1 w1.2 = some (w1.2, ai (gl_A G 0) n (itF f2 b n)) ∧ w'.2 = w1.2 + 1 ∧ w'.1 w.2 = some (w.2, ai (gl_A G 0) n (itF f a n))) ⟨hA1.ext (fun b σ e hb => (mu_n (by have := hA1.wf b σ e hb; omega)).trans hb) (by show w1.2 ≤ w1.2 + 1; omega) hA1.wf.new, mu_s, rfl, (mu_n (by omega)).trans hca⟩ (fun w2 hw2 => ?_)
          obtain ⟨hA2, hsa, hw2, hca2⟩ := hw2
          have hB := FA.rebase (O' := fun σ => O σ ∨ σ = w.2 ∨ σ = w1.2) hA2 (fun σ h => by rcases h with h | h | h; exact Or.inl h; exact Or.inr ⟨by omega, by have := hA.fresh (σ := σ) (by omega); exact this⟩; exact Or.inr ⟨by omega, by have := hA.fresh (σ := σ) (by omega); exact this⟩)
          refine j_callF (w := w2) C (kX17_by_1 G hG w2 w2 x (fun σ => O σ ∨ σ = w.2 ∨ σ = w1.2) V Z ⟨W, hB, hv⟩ w.2 w1.2 n (itF f a n) (itF f2 b n) (itV V.2.2.2.2.1) (40 * r + a) (40 * o + b) (Or.inr (Or.inl rfl)) hca2 (Or.inr (Or.inr rfl)) hsa hn (itF_v hr (by omega)) (itF_v hr2 (by omega)) tb (Or.inl hOt) (hA2.fr0 tb tb _ hOt ht0) ht h3 hwf) pI.ret (ci := 16) (T := TX17) (hA2.fr0 tb tb _ hOt ht0) rfl 2 (C.fw hG ⟨q1182, q1181, q1187, q1185, q1183, by decide⟩) q1180 q1184 q1186 q104 q1188 (by decide +kernel) rfl (by decide) (by decide) (Nat.le_of_ble_eq_true rfl) rfl dX0_told_24 (by omega) (by omega) (pI.k (fun r5 w5 h5 => ?_))
          obtain ⟨hr5, Z5, W5, hA5, hv5⟩ := h5
          subst hr5
          have hA5u := hA2.unbase hA5 (fun σ h => Or.inl h)
          refine j_callV (w := w5) C (kX0_well G hG w0 w5 x O V Z5 ⟨W5, hA5u, hv5⟩ (nI (alF (itV V.2.2.2.2.1) V.2.1 0 1 (40 * r + a) (40 * o + b) n 9))) pI.ret (ci := 0) (T := TX0) (hA5u.d0 hv5) rfl 1 q395 q397 qs2 q66 q398 (by decide +kernel) rfl (by decide) (by decide) (Nat.le_of_ble_eq_true rfl) rfl dX0_told_29 (by omega) (by omega) (pI.k (fun r13 w13 h13 => ?_))
          obtain ⟨hr13, h13⟩ := h13
          subst hr13
          obtain ⟨W13, hA13, hv13⟩ := h13
          exact j_iret C (by omega) (by omega) (fC.mk ⟨W13, hA13, hv13⟩ (g5 l m f l2 m2 f2 a b hr (by omega) rfl hr2 (by omega) rfl)) dX0_told_32
set_option maxHeartbeats 400000 in
theorem kX0_told_O0 (G : gl_T) (hG : GH G) (w0 w : wd_T) (x : Nat) (O : Nat → Prop) (V : fv_T) (Z : fz_T) (hF : FX G w0 w x O V Z) (hE : GE G) (r o n : Nat) (i j0 : Int32) (hr8 : r < 8) (ho8 : o < 8) (hn : n ≤ 8) (tb : Nat) (c : Nat) (hc6 : c < V.2.1 6) (hOt : O tb) (ht0 : w0.1 tb = some (tb, .inr (17, [.int (nI c), .int (nI 0), .ref x]))) (ht : smT V.2.1) (h3 : V.2.1 3 ≤ 1000) (hwf : ∀ y, y < V.2.1 25 → V.2.1 (26 + 2 * y + 1) < V.2.1 6) (P : Int32 → fv_T → Prop) (g1 : V.2.2.2.2.1 r = none → P ((-1000010) - nI 1) (vN V 3 1)) (g2 : ∀ l m f, V.2.2.2.2.1 r = some (l, m, f) → partB m i (nI n) = false → P ((-1000010) - nI 2) (vN V 3 2)) (g3 : ∀ l m f, V.2.2.2.2.1 r = some (l, m, f) → partB m i (nI n) = true → V.2.2.2.2.1 o = none → P ((-1000010) - nI 1) (vN V 3 1)) (g4 : ∀ l m f l2 m2 f2, V.2.2.2.2.1 r = some (l, m, f) → partB m i (nI n) = true → V.2.2.2.2.1 o = some (l2, m2, f2) → partB m2 j0 (nI n) = false → P ((-1000010) - nI 2) (vN V 3 2)) (g5 : ∀ l m f l2 m2 f2 a b, V.2.2.2.2.1 r = some (l, m, f) → a + n ≤ m → i = nI a → V.2.2.2.2.1 o = some (l2, m2, f2) → b + n ≤ m2 → j0 = nI b → P (nI (alF (itV V.2.2.2.2.1) V.2.1 (7 + 3 * c) 1 (40 * r + a) (40 * o + b) n 5)) (vN V 3 0)) : Mb G yX0_told cX0_told 8 (some .int) [(0, 32, 33, 116), (0, 32, 41, 118)] 9 [.ref x, .int (nI r), .int i, .int (nI o), .int j0, .int (nI n), .ref tb] w (fC G w0 x O P) 12 116 := by
  refine ⟨Nat.le_of_ble_eq_true rfl, fun k C hx => ?_⟩
  have C : Cx G k cX0_told "MoodFare" "told" 8 (some .int) 9 12 116 _ := C
  obtain ⟨W, hA, hv⟩ := id hF
  refine j_aload_n C dX0_told_0 rfl 0 rfl ?_
  refine j_iload_n C dX0_told_1 rfl 1 rfl ?_
  refine j_iload_n C dX0_told_2 rfl 2 rfl ?_
  refine j_iload C dX0_told_3 5 rfl ?_
  rcases RW.full hA hv (k := r) hr8 with ⟨hr, hsh⟩ | ⟨l, m, f, b1_, hr, hsh, hb, hl, hm, hA40⟩
  · refine j_in (w := w) C (iv_V C (ci := 0) (Tt := TX0) (hA.d0 hv) rfl (Or.inr ⟨rfl, q1170⟩) 3 q1167 q1169 qs28 (by decide +kernel) rfl rfl dX0_told_5) (kX0_items_N G hG w0 w x O V Z ⟨W, hA, hv⟩ hE r n i hr8 hn hr) (Or.inr ⟨rfl, q1170⟩) (by decide +kernel) (by decide) (by decide) (Nat.le_of_ble_eq_true rfl) (by omega) (by omega) (fun v w1 h1 => h1.no) ?_
    rintro a1 w1 ⟨h1, rfl⟩
    cases h1
    refine jt_catch C hx (ci := 21) mu_s rfl 33 (Or.inr (Or.inl ⟨by decide, rfl, Or.inr ⟨by decide, _, q409, CA.of (C.nw hG q431 rfl)⟩⟩)) ?_
    refine j_abs (P := fun w' => FX G w0 w' x O V Z) (FX.newc ⟨W, hA, hv⟩ 0 (w.2) (.inr (21, []))) (fun w2 h2 => ?_)
    obtain ⟨W2, hA2, hv2⟩ := h2
    refine j_astore (lv' := [(7, .ref w.2), (0, .ref x), (1, .int (nI r)), (2, .int i), (3, .int (nI o)), (4, .int j0), (5, .int (nI n)), (6, .ref tb)]) C dX0_told_33 (by decide) rfl ?_
    refine j_aload_n C dX0_told_35 rfl 1 rfl ?_
    refine j_iconst (v := nI 1) C dX0_told_36 rfl ?_
    refine j_callV (w := w2) C (kX0_found G hG w0 w2 x O V Z ⟨W2, hA2, hv2⟩ 1) pI.ret (ci := 0) (T := TX0) (hA2.d0 hv2) rfl 1 q399 q401 qs3 q66 q402 (by decide +kernel) rfl (by decide) (by decide) (Nat.le_of_ble_eq_true rfl) rfl dX0_told_37 (by omega) (by omega) (pI.k (fun r3 w3 h3 => ?_))
    obtain ⟨hr3, h3⟩ := h3
    subst hr3
    obtain ⟨W3, hA3, hv3⟩ := h3
    exact j_iret C (by omega) (by omega) (fC.mk ⟨W3, hA3, hv3⟩ (by first | exact g1 hr | exact g3 l m f hr (partB_t (by omega) han) hr2)) dX0_told_40
  · cases hp : partB m i (nI n)
    · refine j_in (w := w) C (iv_V C (ci := 0) (Tt := TX0) (hA.d0 hv) rfl (Or.inr ⟨rfl, q1170⟩) 3 q1167 q1169 qs28 (by decide +kernel) rfl rfl dX0_told_5) (kX0_items_X G hG w0 w x O V Z ⟨W, hA, hv⟩ hE r n l m f i hr8 hn hr hp) (Or.inr ⟨rfl, q1170⟩) (by decide +kernel) (by decide) (by decide) (Nat.le_of_ble_eq_true rfl) (by omega) (by omega) (fun v w1 h1 => h1.no) ?_
      rintro a1 w1 ⟨h1, rfl⟩
      cases h1
      refine jt_catch C hx (ci := 22) mu_s rfl 41 (Or.inr (Or.inr ⟨by decide, by decide, ⟨_, q409, (C.xe hE).nc 0 rfl⟩, (Or.inr (Or.inl ⟨by decide, rfl, Or.inr ⟨by decide, _, q434, CA.of (C.nw hG q449 rfl)⟩⟩))⟩)) ?_
      refine j_abs (P := fun w' => FX G w0 w' x O V Z) (FX.newc ⟨W, hA, hv⟩ 0 (w.2) (.inr (22, []))) (fun w5 h5 => ?_)
      obtain ⟨W5, hA5, hv5⟩ := h5
      refine j_astore (lv' := [(7, .ref w.2), (0, .ref x), (1, .int (nI r)), (2, .int i), (3, .int (nI o)), (4, .int j0), (5, .int (nI n)), (6, .ref tb)]) C dX0_told_41 (by decide) rfl ?_
      refine j_aload_n C dX0_told_43 rfl 1 rfl ?_
      refine j_iconst (v := nI 2) C dX0_told_44 rfl ?_
      refine j_callV (w := w5) C (kX0_found G hG w0 w5 x O V Z ⟨W5, hA5, hv5⟩ 2) pI.ret (ci := 0) (T := TX0) (hA5.d0 hv5) rfl 1 q399 q401 qs3 q66 q402 (by decide +kernel) rfl (by decide) (by decide) (Nat.le_of_ble_eq_true rfl) rfl dX0_told_45 (by omega) (by omega) (pI.k (fun r6 w6 h6 => ?_))
      obtain ⟨hr6, h6⟩ := h6
      subst hr6
      obtain ⟨W6, hA6, hv6⟩ := h6
      exact j_iret C (by omega) (by omega) (fC.mk ⟨W6, hA6, hv6⟩ (by first | exact g2 l m f hr hp | exact g4 l m f l2 m2 f2 hr (partB_t (by omega) han) hr2 hp2)) dX0_told_48
    · obtain ⟨a, rfl, han⟩ := partB_m (by omega) (by omega) hp
      refine j_callV (w := w) C (kX0_items G hG w0 w x O V Z ⟨W, hA, hv⟩ hE r n l m a f hr8 hn hr han) pA.ret (ci := 0) (T := TX0) (hA.d0 hv) rfl 3 q1167 q1169 qs28 q66 q1170 (by decide +kernel) rfl (by decide) (by decide) (Nat.le_of_ble_eq_true rfl) rfl dX0_told_5 (by omega) (by omega) (qA.k ?_)
      refine j_abs (P := fun w' => FA G w0 w' x O W ∧ w'.1 w.2 = some (w.2, ai (gl_A G 0) n (itF f a n)) ∧ w'.2 = w.2 + 1) ⟨hA.ext (fun b σ e hb => (mu_n (by have := hA.wf b σ e hb; omega)).trans hb) (by show w.2 ≤ w.2 + 1; omega) hA.wf.new, mu_s, rfl⟩ (fun w1 hw1 => ?_)
      obtain ⟨hA1, hca, hw1⟩ := hw1
      refine j_astore (lv' := [(7, .ref w.2), (0, .ref x), (1, .int (nI r)), (2, .int (nI a)), (3, .int (nI o)), (4, .int j0), (5, .int (nI n)), (6, .ref tb)]) C dX0_told_8 (by decide) rfl ?_
      refine j_aload_n C dX0_told_10 rfl 1 rfl ?_
      refine j_aload C dX0_told_11 7 rfl ?_
      refine j_aload C dX0_told_13 0 rfl ?_
      refine j_aload_n C dX0_told_15 rfl 1 rfl ?_
      refine j_iload_n C dX0_told_16 rfl 4 rfl ?_
      refine j_iload C dX0_told_17 5 rfl ?_
      refine j_iload C dX0_told_19 6 rfl ?_
      rcases RW.full hA1 hv (k := o) ho8 with ⟨hr2, hsh2⟩ | ⟨l2, m2, f2, b2_, hr2, hsh2, hb2, hl2, hm2, hA402⟩
      · refine j_in (w := w1) C (iv_V C (ci := 0) (Tt := TX0) (hA1.d0 hv) rfl (Or.inr ⟨rfl, q1170⟩) 3 q1167 q1169 qs28 (by decide +kernel) rfl rfl dX0_told_21) (kX0_items_N G hG w0 w1 x O V Z ⟨W, hA1, hv⟩ hE o n j0 ho8 hn hr2) (Or.inr ⟨rfl, q1170⟩) (by decide +kernel) (by decide) (by decide) (Nat.le_of_ble_eq_true rfl) (by omega) (by omega) (fun v w1 h1 => h1.no) ?_
        rintro a1 w1 ⟨h1, rfl⟩
        cases h1
        refine jt_catch C hx (ci := 21) mu_s rfl 33 (Or.inr (Or.inl ⟨by decide, rfl, Or.inr ⟨by decide, _, q409, CA.of (C.nw hG q431 rfl)⟩⟩)) ?_
        refine j_abs (P := fun w' => FX G w0 w' x O V Z) (FX.newc ⟨W, hA1, hv⟩ 0 (w1.2) (.inr (21, []))) (fun w8 h8 => ?_)
        obtain ⟨W8, hA8, hv8⟩ := h8
        refine j_astore (lv' := [(7, .ref w1.2), (0, .ref x), (1, .int (nI r)), (2, .int (nI a)), (3, .int (nI o)), (4, .int j0), (5, .int (nI n)), (6, .ref tb)]) C dX0_told_33 (by decide) rfl ?_
        refine j_aload_n C dX0_told_35 rfl 1 rfl ?_
        refine j_iconst (v := nI 1) C dX0_told_36 rfl ?_
        refine j_callV (w := w8) C (kX0_found G hG w0 w8 x O V Z ⟨W8, hA8, hv8⟩ 1) pI.ret (ci := 0) (T := TX0) (hA8.d0 hv8) rfl 1 q399 q401 qs3 q66 q402 (by decide +kernel) rfl (by decide) (by decide) (Nat.le_of_ble_eq_true rfl) rfl dX0_told_37 (by omega) (by omega) (pI.k (fun r9 w9 h9 => ?_))
        obtain ⟨hr9, h9⟩ := h9
        subst hr9
        obtain ⟨W9, hA9, hv9⟩ := h9
        exact j_iret C (by omega) (by omega) (fC.mk ⟨W9, hA9, hv9⟩ (by first | exact g1 hr | exact g3 l m f hr (partB_t (by omega) han) hr2)) dX0_told_40
      · cases hp2 : partB m2 j0 (nI n)
        · refine j_in (w := w1) C (iv_V C (ci := 0) (Tt := TX0) (hA1.d0 hv) rfl (Or.inr ⟨rfl, q1170⟩) 3 q1167 q1169 qs28 (by decide +kernel) rfl rfl dX0_told_21) (kX0_items_X G hG w0 w1 x O V Z ⟨W, hA1, hv⟩ hE o n l2 m2 f2 j0 ho8 hn hr2 hp2) (Or.inr ⟨rfl, q1170⟩) (by decide +kernel) (by decide) (by decide) (Nat.le_of_ble_eq_true rfl) (by omega) (by omega) (fun v w1 h1 => h1.no) ?_
          rintro a1 w1 ⟨h1, rfl⟩
          cases h1
          refine jt_catch C hx (ci := 22) mu_s rfl 41 (Or.inr (Or.inr ⟨by decide, by decide, ⟨_, q409, (C.xe hE).nc 0 rfl⟩, (Or.inr (Or.inl ⟨by decide, rfl, Or.inr ⟨by decide, _, q434, CA.of (C.nw hG q449 rfl)⟩⟩))⟩)) ?_
          refine j_abs (P := fun w' => FX G w0 w' x O V Z) (FX.newc ⟨W, hA1, hv⟩ 0 (w1.2) (.inr (22, []))) (fun w11 h11 => ?_)
          obtain ⟨W11, hA11, hv11⟩ := h11
          refine j_astore (lv' := [(7, .ref w1.2), (0, .ref x), (1, .int (nI r)), (2, .int (nI a)), (3, .int (nI o)), (4, .int j0), (5, .int (nI n)), (6, .ref tb)]) C dX0_told_41 (by decide) rfl ?_
          refine j_aload_n C dX0_told_43 rfl 1 rfl ?_
          refine j_iconst (v := nI 2) C dX0_told_44 rfl ?_
          refine j_callV (w := w11) C (kX0_found G hG w0 w11 x O V Z ⟨W11, hA11, hv11⟩ 2) pI.ret (ci := 0) (T := TX0) (hA11.d0 hv11) rfl 1 q399 q401 qs3 q66 q402 (by decide +kernel) rfl (by decide) (by decide) (Nat.le_of_ble_eq_true rfl) rfl dX0_told_45 (by omega) (by omega) (pI.k (fun r12 w12 h12 => ?_))
          obtain ⟨hr12, h12⟩ := h12
          subst hr12
          obtain ⟨W12, hA12, hv12⟩ := h12
          exact j_iret C (by omega) (by omega) (fC.mk ⟨W12, hA12, hv12⟩ (by first | exact g2 l m f hr hp | exact g4 l m f l2 m2 f2 hr (partB_t (by omega) han) hr2 hp2)) dX0_told_48
        · obtain ⟨b, rfl, han2⟩ := partB_m (by omega) (by omega) hp2
          refine j_callV (w := w1) C (kX0_items G hG w0 w1 x O V Z ⟨W, hA1, hv⟩ hE o n l2 m2 b f2 ho8 hn hr2 han2) pA.ret (ci := 0) (T := TX0) (hA1.d0 hv) rfl 3 q1167 q1169 qs28 q66 q1170 (by decide +kernel) rfl (by decide) (by decide) (Nat.le_of_ble_eq_true rfl) rfl dX0_told_21 (by omega) (by omega) (qA.k ?_)
          refine j_abs (P := fun w' => FA G w0 w' x O W ∧ w'.1 w1.2 = some (w1.2, ai (gl_A G 0) n (itF f2 b n)) ∧ w'.2 = w1.2 + 1 ∧ w'.1 w.2 = some (w.2, ai (gl_A G 0) n (itF f a n))) ⟨hA1.ext (fun b σ e hb => (mu_n (by have := hA1.wf b σ e hb; omega)).trans hb) (by show w1.2 ≤ w1.2 + 1; omega) hA1.wf.new, mu_s, rfl, (mu_n (by omega)).trans hca⟩ (fun w2 hw2 => ?_)
          obtain ⟨hA2, hsa, hw2, hca2⟩ := hw2
          have hB := FA.rebase (O' := fun σ => O σ ∨ σ = w.2 ∨ σ = w1.2) hA2 (fun σ h => by rcases h with h | h | h; exact Or.inl h; exact Or.inr ⟨by omega, by have := hA.fresh (σ := σ) (by omega); exact this⟩; exact Or.inr ⟨by omega, by have := hA.fresh (σ := σ) (by omega); exact this⟩)
          refine j_callF (w := w2) C (kX18_by_0 G hG w2 w2 x (fun σ => O σ ∨ σ = w.2 ∨ σ = w1.2) V Z ⟨W, hB, hv⟩ w.2 w1.2 n (itF f a n) (itF f2 b n) (itV V.2.2.2.2.1) (40 * r + a) (40 * o + b) (Or.inr (Or.inl rfl)) hca2 (Or.inr (Or.inr rfl)) hsa hn (itF_v hr (by omega)) (itF_v hr2 (by omega)) tb c hc6 (Or.inl hOt) (hA2.fr0 tb tb _ hOt ht0) ht h3 hwf) pI.ret (ci := 17) (T := TX18) (hA2.fr0 tb tb _ hOt ht0) rfl 2 (C.fw hG ⟨q1182, q1181, q1198, q1196, q1194, by decide⟩) q1180 q1195 q1197 q105 q1199 (by decide +kernel) rfl (by decide) (by decide) (Nat.le_of_ble_eq_true rfl) rfl dX0_told_24 (by omega) (by omega) (pI.k (fun r5 w5 h5 => ?_))
          obtain ⟨hr5, Z5, W5, hA5, hv5⟩ := h5
          subst hr5
          have hA5u := hA2.unbase hA5 (fun σ h => Or.inl h)
          refine j_callV (w := w5) C (kX0_well G hG w0 w5 x O V Z5 ⟨W5, hA5u, hv5⟩ (nI (alF (itV V.2.2.2.2.1) V.2.1 (7 + 3 * c) 1 (40 * r + a) (40 * o + b) n 5))) pI.ret (ci := 0) (T := TX0) (hA5u.d0 hv5) rfl 1 q395 q397 qs2 q66 q398 (by decide +kernel) rfl (by decide) (by decide) (Nat.le_of_ble_eq_true rfl) rfl dX0_told_29 (by omega) (by omega) (pI.k (fun r13 w13 h13 => ?_))
          obtain ⟨hr13, h13⟩ := h13
          subst hr13
          obtain ⟨W13, hA13, hv13⟩ := h13
          exact j_iret C (by omega) (by omega) (fC.mk ⟨W13, hA13, hv13⟩ (g5 l m f l2 m2 f2 a b hr (by omega) rfl hr2 (by omega) rfl)) dX0_told_32
set_option maxHeartbeats 400000 in
theorem kX0_told_O1 (G : gl_T) (hG : GH G) (w0 w : wd_T) (x : Nat) (O : Nat → Prop) (V : fv_T) (Z : fz_T) (hF : FX G w0 w x O V Z) (hE : GE G) (r o n : Nat) (i j0 : Int32) (hr8 : r < 8) (ho8 : o < 8) (hn : n ≤ 8) (tb : Nat) (c : Nat) (hc6 : c < V.2.1 6) (hOt : O tb) (ht0 : w0.1 tb = some (tb, .inr (17, [.int (nI c), .int (nI 1), .ref x]))) (ht : smT V.2.1) (h3 : V.2.1 3 ≤ 1000) (hwf : ∀ y, y < V.2.1 25 → V.2.1 (26 + 2 * y + 1) < V.2.1 6) (P : Int32 → fv_T → Prop) (g1 : V.2.2.2.2.1 r = none → P ((-1000010) - nI 1) (vN V 3 1)) (g2 : ∀ l m f, V.2.2.2.2.1 r = some (l, m, f) → partB m i (nI n) = false → P ((-1000010) - nI 2) (vN V 3 2)) (g3 : ∀ l m f, V.2.2.2.2.1 r = some (l, m, f) → partB m i (nI n) = true → V.2.2.2.2.1 o = none → P ((-1000010) - nI 1) (vN V 3 1)) (g4 : ∀ l m f l2 m2 f2, V.2.2.2.2.1 r = some (l, m, f) → partB m i (nI n) = true → V.2.2.2.2.1 o = some (l2, m2, f2) → partB m2 j0 (nI n) = false → P ((-1000010) - nI 2) (vN V 3 2)) (g5 : ∀ l m f l2 m2 f2 a b, V.2.2.2.2.1 r = some (l, m, f) → a + n ≤ m → i = nI a → V.2.2.2.2.1 o = some (l2, m2, f2) → b + n ≤ m2 → j0 = nI b → P (nI (alF (itV V.2.2.2.2.1) V.2.1 (7 + 3 * c + 1) 0 (40 * r + a) (40 * o + b) n 10)) (vN V 3 0)) : Mb G yX0_told cX0_told 8 (some .int) [(0, 32, 33, 116), (0, 32, 41, 118)] 9 [.ref x, .int (nI r), .int i, .int (nI o), .int j0, .int (nI n), .ref tb] w (fC G w0 x O P) 12 116 := by
  refine ⟨Nat.le_of_ble_eq_true rfl, fun k C hx => ?_⟩
  have C : Cx G k cX0_told "MoodFare" "told" 8 (some .int) 9 12 116 _ := C
  obtain ⟨W, hA, hv⟩ := id hF
  refine j_aload_n C dX0_told_0 rfl 0 rfl ?_
  refine j_iload_n C dX0_told_1 rfl 1 rfl ?_
  refine j_iload_n C dX0_told_2 rfl 2 rfl ?_
  refine j_iload C dX0_told_3 5 rfl ?_
  rcases RW.full hA hv (k := r) hr8 with ⟨hr, hsh⟩ | ⟨l, m, f, b1_, hr, hsh, hb, hl, hm, hA40⟩
  · refine j_in (w := w) C (iv_V C (ci := 0) (Tt := TX0) (hA.d0 hv) rfl (Or.inr ⟨rfl, q1170⟩) 3 q1167 q1169 qs28 (by decide +kernel) rfl rfl dX0_told_5) (kX0_items_N G hG w0 w x O V Z ⟨W, hA, hv⟩ hE r n i hr8 hn hr) (Or.inr ⟨rfl, q1170⟩) (by decide +kernel) (by decide) (by decide) (Nat.le_of_ble_eq_true rfl) (by omega) (by omega) (fun v w1 h1 => h1.no) ?_
    rintro a1 w1 ⟨h1, rfl⟩
    cases h1
    refine jt_catch C hx (ci := 21) mu_s rfl 33 (Or.inr (Or.inl ⟨by decide, rfl, Or.inr ⟨by decide, _, q409, CA.of (C.nw hG q431 rfl)⟩⟩)) ?_
    refine j_abs (P := fun w' => FX G w0 w' x O V Z) (FX.newc ⟨W, hA, hv⟩ 0 (w.2) (.inr (21, []))) (fun w2 h2 => ?_)
    obtain ⟨W2, hA2, hv2⟩ := h2
    refine j_astore (lv' := [(7, .ref w.2), (0, .ref x), (1, .int (nI r)), (2, .int i), (3, .int (nI o)), (4, .int j0), (5, .int (nI n)), (6, .ref tb)]) C dX0_told_33 (by decide) rfl ?_
    refine j_aload_n C dX0_told_35 rfl 1 rfl ?_
    refine j_iconst (v := nI 1) C dX0_told_36 rfl ?_
    refine j_callV (w := w2) C (kX0_found G hG w0 w2 x O V Z ⟨W2, hA2, hv2⟩ 1) pI.ret (ci := 0) (T := TX0) (hA2.d0 hv2) rfl 1 q399 q401 qs3 q66 q402 (by decide +kernel) rfl (by decide) (by decide) (Nat.le_of_ble_eq_true rfl) rfl dX0_told_37 (by omega) (by omega) (pI.k (fun r3 w3 h3 => ?_))
    obtain ⟨hr3, h3⟩ := h3
    subst hr3
    obtain ⟨W3, hA3, hv3⟩ := h3
    exact j_iret C (by omega) (by omega) (fC.mk ⟨W3, hA3, hv3⟩ (by first | exact g1 hr | exact g3 l m f hr (partB_t (by omega) han) hr2)) dX0_told_40
  · cases hp : partB m i (nI n)
    · refine j_in (w := w) C (iv_V C (ci := 0) (Tt := TX0) (hA.d0 hv) rfl (Or.inr ⟨rfl, q1170⟩) 3 q1167 q1169 qs28 (by decide +kernel) rfl rfl dX0_told_5) (kX0_items_X G hG w0 w x O V Z ⟨W, hA, hv⟩ hE r n l m f i hr8 hn hr hp) (Or.inr ⟨rfl, q1170⟩) (by decide +kernel) (by decide) (by decide) (Nat.le_of_ble_eq_true rfl) (by omega) (by omega) (fun v w1 h1 => h1.no) ?_
      rintro a1 w1 ⟨h1, rfl⟩
      cases h1
      refine jt_catch C hx (ci := 22) mu_s rfl 41 (Or.inr (Or.inr ⟨by decide, by decide, ⟨_, q409, (C.xe hE).nc 0 rfl⟩, (Or.inr (Or.inl ⟨by decide, rfl, Or.inr ⟨by decide, _, q434, CA.of (C.nw hG q449 rfl)⟩⟩))⟩)) ?_
      refine j_abs (P := fun w' => FX G w0 w' x O V Z) (FX.newc ⟨W, hA, hv⟩ 0 (w.2) (.inr (22, []))) (fun w5 h5 => ?_)
      obtain ⟨W5, hA5, hv5⟩ := h5
      refine j_astore (lv' := [(7, .ref w.2), (0, .ref x), (1, .int (nI r)), (2, .int i), (3, .int (nI o)), (4, .int j0), (5, .int (nI n)), (6, .ref tb)]) C dX0_told_41 (by decide) rfl ?_
      refine j_aload_n C dX0_told_43 rfl 1 rfl ?_
      refine j_iconst (v := nI 2) C dX0_told_44 rfl ?_
      refine j_callV (w := w5) C (kX0_found G hG w0 w5 x O V Z ⟨W5, hA5, hv5⟩ 2) pI.ret (ci := 0) (T := TX0) (hA5.d0 hv5) rfl 1 q399 q401 qs3 q66 q402 (by decide +kernel) rfl (by decide) (by decide) (Nat.le_of_ble_eq_true rfl) rfl dX0_told_45 (by omega) (by omega) (pI.k (fun r6 w6 h6 => ?_))
      obtain ⟨hr6, h6⟩ := h6
      subst hr6
      obtain ⟨W6, hA6, hv6⟩ := h6
      exact j_iret C (by omega) (by omega) (fC.mk ⟨W6, hA6, hv6⟩ (by first | exact g2 l m f hr hp | exact g4 l m f l2 m2 f2 hr (partB_t (by omega) han) hr2 hp2)) dX0_told_48
    · obtain ⟨a, rfl, han⟩ := partB_m (by omega) (by omega) hp
      refine j_callV (w := w) C (kX0_items G hG w0 w x O V Z ⟨W, hA, hv⟩ hE r n l m a f hr8 hn hr han) pA.ret (ci := 0) (T := TX0) (hA.d0 hv) rfl 3 q1167 q1169 qs28 q66 q1170 (by decide +kernel) rfl (by decide) (by decide) (Nat.le_of_ble_eq_true rfl) rfl dX0_told_5 (by omega) (by omega) (qA.k ?_)
      refine j_abs (P := fun w' => FA G w0 w' x O W ∧ w'.1 w.2 = some (w.2, ai (gl_A G 0) n (itF f a n)) ∧ w'.2 = w.2 + 1) ⟨hA.ext (fun b σ e hb => (mu_n (by have := hA.wf b σ e hb; omega)).trans hb) (by show w.2 ≤ w.2 + 1; omega) hA.wf.new, mu_s, rfl⟩ (fun w1 hw1 => ?_)
      obtain ⟨hA1, hca, hw1⟩ := hw1
      refine j_astore (lv' := [(7, .ref w.2), (0, .ref x), (1, .int (nI r)), (2, .int (nI a)), (3, .int (nI o)), (4, .int j0), (5, .int (nI n)), (6, .ref tb)]) C dX0_told_8 (by decide) rfl ?_
      refine j_aload_n C dX0_told_10 rfl 1 rfl ?_
      refine j_aload C dX0_told_11 7 rfl ?_
      refine j_aload C dX0_told_13 0 rfl ?_
      refine j_aload_n C dX0_told_15 rfl 1 rfl ?_
      refine j_iload_n C dX0_told_16 rfl 4 rfl ?_
      refine j_iload C dX0_told_17 5 rfl ?_
      refine j_iload C dX0_told_19 6 rfl ?_
      rcases RW.full hA1 hv (k := o) ho8 with ⟨hr2, hsh2⟩ | ⟨l2, m2, f2, b2_, hr2, hsh2, hb2, hl2, hm2, hA402⟩
      · refine j_in (w := w1) C (iv_V C (ci := 0) (Tt := TX0) (hA1.d0 hv) rfl (Or.inr ⟨rfl, q1170⟩) 3 q1167 q1169 qs28 (by decide +kernel) rfl rfl dX0_told_21) (kX0_items_N G hG w0 w1 x O V Z ⟨W, hA1, hv⟩ hE o n j0 ho8 hn hr2) (Or.inr ⟨rfl, q1170⟩) (by decide +kernel) (by decide) (by decide) (Nat.le_of_ble_eq_true rfl) (by omega) (by omega) (fun v w1 h1 => h1.no) ?_
        rintro a1 w1 ⟨h1, rfl⟩
        cases h1
        refine jt_catch C hx (ci := 21) mu_s rfl 33 (Or.inr (Or.inl ⟨by decide, rfl, Or.inr ⟨by decide, _, q409, CA.of (C.nw hG q431 rfl)⟩⟩)) ?_
        refine j_abs (P := fun w' => FX G w0 w' x O V Z) (FX.newc ⟨W, hA1, hv⟩ 0 (w1.2) (.inr (21, []))) (fun w8 h8 => ?_)
        obtain ⟨W8, hA8, hv8⟩ := h8
        refine j_astore (lv' := [(7, .ref w1.2), (0, .ref x), (1, .int (nI r)), (2, .int (nI a)), (3, .int (nI o)), (4, .int j0), (5, .int (nI n)), (6, .ref tb)]) C dX0_told_33 (by decide) rfl ?_
        refine j_aload_n C dX0_told_35 rfl 1 rfl ?_
        refine j_iconst (v := nI 1) C dX0_told_36 rfl ?_
        refine j_callV (w := w8) C (kX0_found G hG w0 w8 x O V Z ⟨W8, hA8, hv8⟩ 1) pI.ret (ci := 0) (T := TX0) (hA8.d0 hv8) rfl 1 q399 q401 qs3 q66 q402 (by decide +kernel) rfl (by decide) (by decide) (Nat.le_of_ble_eq_true rfl) rfl dX0_told_37 (by omega) (by omega) (pI.k (fun r9 w9 h9 => ?_))
        obtain ⟨hr9, h9⟩ := h9
        subst hr9
        obtain ⟨W9, hA9, hv9⟩ := h9
        exact j_iret C (by omega) (by omega) (fC.mk ⟨W9, hA9, hv9⟩ (by first | exact g1 hr | exact g3 l m f hr (partB_t (by omega) han) hr2)) dX0_told_40
      · cases hp2 : partB m2 j0 (nI n)
        · refine j_in (w := w1) C (iv_V C (ci := 0) (Tt := TX0) (hA1.d0 hv) rfl (Or.inr ⟨rfl, q1170⟩) 3 q1167 q1169 qs28 (by decide +kernel) rfl rfl dX0_told_21) (kX0_items_X G hG w0 w1 x O V Z ⟨W, hA1, hv⟩ hE o n l2 m2 f2 j0 ho8 hn hr2 hp2) (Or.inr ⟨rfl, q1170⟩) (by decide +kernel) (by decide) (by decide) (Nat.le_of_ble_eq_true rfl) (by omega) (by omega) (fun v w1 h1 => h1.no) ?_
          rintro a1 w1 ⟨h1, rfl⟩
          cases h1
          refine jt_catch C hx (ci := 22) mu_s rfl 41 (Or.inr (Or.inr ⟨by decide, by decide, ⟨_, q409, (C.xe hE).nc 0 rfl⟩, (Or.inr (Or.inl ⟨by decide, rfl, Or.inr ⟨by decide, _, q434, CA.of (C.nw hG q449 rfl)⟩⟩))⟩)) ?_
          refine j_abs (P := fun w' => FX G w0 w' x O V Z) (FX.newc ⟨W, hA1, hv⟩ 0 (w1.2) (.inr (22, []))) (fun w11 h11 => ?_)
          obtain ⟨W11, hA11, hv11⟩ := h11
          refine j_astore (lv' := [(7, .ref w1.2), (0, .ref x), (1, .int (nI r)), (2, .int (nI a)), (3, .int (nI o)), (4, .int j0), (5, .int (nI n)), (6, .ref tb)]) C dX0_told_41 (by decide) rfl ?_
          refine j_aload_n C dX0_told_43 rfl 1 rfl ?_
          refine j_iconst (v := nI 2) C dX0_told_44 rfl ?_
          refine j_callV (w := w11) C (kX0_found G hG w0 w11 x O V Z ⟨W11, hA11, hv11⟩ 2) pI.ret (ci := 0) (T := TX0) (hA11.d0 hv11) rfl 1 q399 q401 qs3 q66 q402 (by decide +kernel) rfl (by decide) (by decide) (Nat.le_of_ble_eq_true rfl) rfl dX0_told_45 (by omega) (by omega) (pI.k (fun r12 w12 h12 => ?_))
          obtain ⟨hr12, h12⟩ := h12
          subst hr12
          obtain ⟨W12, hA12, hv12⟩ := h12
          exact j_iret C (by omega) (by omega) (fC.mk ⟨W12, hA12, hv12⟩ (by first | exact g2 l m f hr hp | exact g4 l m f l2 m2 f2 hr (partB_t (by omega) han) hr2 hp2)) dX0_told_48
        · obtain ⟨b, rfl, han2⟩ := partB_m (by omega) (by omega) hp2
          refine j_callV (w := w1) C (kX0_items G hG w0 w1 x O V Z ⟨W, hA1, hv⟩ hE o n l2 m2 b f2 ho8 hn hr2 han2) pA.ret (ci := 0) (T := TX0) (hA1.d0 hv) rfl 3 q1167 q1169 qs28 q66 q1170 (by decide +kernel) rfl (by decide) (by decide) (Nat.le_of_ble_eq_true rfl) rfl dX0_told_21 (by omega) (by omega) (qA.k ?_)
          refine j_abs (P := fun w' => FA G w0 w' x O W ∧ w'.1 w1.2 = some (w1.2, ai (gl_A G 0) n (itF f2 b n)) ∧ w'.2 = w1.2 + 1 ∧ w'.1 w.2 = some (w.2, ai (gl_A G 0) n (itF f a n))) ⟨hA1.ext (fun b σ e hb => (mu_n (by have := hA1.wf b σ e hb; omega)).trans hb) (by show w1.2 ≤ w1.2 + 1; omega) hA1.wf.new, mu_s, rfl, (mu_n (by omega)).trans hca⟩ (fun w2 hw2 => ?_)
          obtain ⟨hA2, hsa, hw2, hca2⟩ := hw2
          have hB := FA.rebase (O' := fun σ => O σ ∨ σ = w.2 ∨ σ = w1.2) hA2 (fun σ h => by rcases h with h | h | h; exact Or.inl h; exact Or.inr ⟨by omega, by have := hA.fresh (σ := σ) (by omega); exact this⟩; exact Or.inr ⟨by omega, by have := hA.fresh (σ := σ) (by omega); exact this⟩)
          refine j_callF (w := w2) C (kX18_by_1 G hG w2 w2 x (fun σ => O σ ∨ σ = w.2 ∨ σ = w1.2) V Z ⟨W, hB, hv⟩ w.2 w1.2 n (itF f a n) (itF f2 b n) (itV V.2.2.2.2.1) (40 * r + a) (40 * o + b) (Or.inr (Or.inl rfl)) hca2 (Or.inr (Or.inr rfl)) hsa hn (itF_v hr (by omega)) (itF_v hr2 (by omega)) tb c hc6 (Or.inl hOt) (hA2.fr0 tb tb _ hOt ht0) ht h3 hwf) pI.ret (ci := 17) (T := TX18) (hA2.fr0 tb tb _ hOt ht0) rfl 2 (C.fw hG ⟨q1182, q1181, q1198, q1196, q1194, by decide⟩) q1180 q1195 q1197 q105 q1199 (by decide +kernel) rfl (by decide) (by decide) (Nat.le_of_ble_eq_true rfl) rfl dX0_told_24 (by omega) (by omega) (pI.k (fun r5 w5 h5 => ?_))
          obtain ⟨hr5, Z5, W5, hA5, hv5⟩ := h5
          subst hr5
          have hA5u := hA2.unbase hA5 (fun σ h => Or.inl h)
          refine j_callV (w := w5) C (kX0_well G hG w0 w5 x O V Z5 ⟨W5, hA5u, hv5⟩ (nI (alF (itV V.2.2.2.2.1) V.2.1 (7 + 3 * c + 1) 0 (40 * r + a) (40 * o + b) n 10))) pI.ret (ci := 0) (T := TX0) (hA5u.d0 hv5) rfl 1 q395 q397 qs2 q66 q398 (by decide +kernel) rfl (by decide) (by decide) (Nat.le_of_ble_eq_true rfl) rfl dX0_told_29 (by omega) (by omega) (pI.k (fun r13 w13 h13 => ?_))
          obtain ⟨hr13, h13⟩ := h13
          subst hr13
          obtain ⟨W13, hA13, hv13⟩ := h13
          exact j_iret C (by omega) (by omega) (fC.mk ⟨W13, hA13, hv13⟩ (g5 l m f l2 m2 f2 a b hr (by omega) rfl hr2 (by omega) rfl)) dX0_told_32
set_option maxHeartbeats 400000 in
theorem kX0_told_S (G : gl_T) (hG : GH G) (w0 w : wd_T) (x : Nat) (O : Nat → Prop) (V : fv_T) (Z : fz_T) (hF : FX G w0 w x O V Z) (hE : GE G) (r o n : Nat) (i j0 : Int32) (hr8 : r < 8) (ho8 : o < 8) (hn : n ≤ 8) (tb : Nat) (c : Nat) (hc8 : c ≤ 8) (hOt : O tb) (ht0 : w0.1 tb = some (tb, .inr (18, [.int (nI c), .ref x]))) (ht : smT V.2.1) (h3 : V.2.1 3 ≤ 1000) (hwf : ∀ y, y < V.2.1 25 → V.2.1 (26 + 2 * y + 1) < V.2.1 6) (P : Int32 → fv_T → Prop) (g1 : V.2.2.2.2.1 r = none → P ((-1000010) - nI 1) (vN V 3 1)) (g2 : ∀ l m f, V.2.2.2.2.1 r = some (l, m, f) → partB m i (nI n) = false → P ((-1000010) - nI 2) (vN V 3 2)) (g3 : ∀ l m f, V.2.2.2.2.1 r = some (l, m, f) → partB m i (nI n) = true → V.2.2.2.2.1 o = none → P ((-1000010) - nI 1) (vN V 3 1)) (g4 : ∀ l m f l2 m2 f2, V.2.2.2.2.1 r = some (l, m, f) → partB m i (nI n) = true → V.2.2.2.2.1 o = some (l2, m2, f2) → partB m2 j0 (nI n) = false → P ((-1000010) - nI 2) (vN V 3 2)) (g5 : ∀ l m f l2 m2 f2 a b, V.2.2.2.2.1 r = some (l, m, f) → a + n ≤ m → i = nI a → V.2.2.2.2.1 o = some (l2, m2, f2) → b + n ≤ m2 → j0 = nI b → P ((if shB (itV V.2.2.2.2.1) V.2.1 (40 * o + b) n then nI (shA (itV V.2.2.2.2.1) V.2.1 (40 * o + b) c n) else kNONE)) (vN V 3 0)) : Mb G yX0_told cX0_told 8 (some .int) [(0, 32, 33, 116), (0, 32, 41, 118)] 9 [.ref x, .int (nI r), .int i, .int (nI o), .int j0, .int (nI n), .ref tb] w (fC G w0 x O P) 12 116 := by
  refine ⟨Nat.le_of_ble_eq_true rfl, fun k C hx => ?_⟩
  have C : Cx G k cX0_told "MoodFare" "told" 8 (some .int) 9 12 116 _ := C
  obtain ⟨W, hA, hv⟩ := id hF
  refine j_aload_n C dX0_told_0 rfl 0 rfl ?_
  refine j_iload_n C dX0_told_1 rfl 1 rfl ?_
  refine j_iload_n C dX0_told_2 rfl 2 rfl ?_
  refine j_iload C dX0_told_3 5 rfl ?_
  rcases RW.full hA hv (k := r) hr8 with ⟨hr, hsh⟩ | ⟨l, m, f, b1_, hr, hsh, hb, hl, hm, hA40⟩
  · refine j_in (w := w) C (iv_V C (ci := 0) (Tt := TX0) (hA.d0 hv) rfl (Or.inr ⟨rfl, q1170⟩) 3 q1167 q1169 qs28 (by decide +kernel) rfl rfl dX0_told_5) (kX0_items_N G hG w0 w x O V Z ⟨W, hA, hv⟩ hE r n i hr8 hn hr) (Or.inr ⟨rfl, q1170⟩) (by decide +kernel) (by decide) (by decide) (Nat.le_of_ble_eq_true rfl) (by omega) (by omega) (fun v w1 h1 => h1.no) ?_
    rintro a1 w1 ⟨h1, rfl⟩
    cases h1
    refine jt_catch C hx (ci := 21) mu_s rfl 33 (Or.inr (Or.inl ⟨by decide, rfl, Or.inr ⟨by decide, _, q409, CA.of (C.nw hG q431 rfl)⟩⟩)) ?_
    refine j_abs (P := fun w' => FX G w0 w' x O V Z) (FX.newc ⟨W, hA, hv⟩ 0 (w.2) (.inr (21, []))) (fun w2 h2 => ?_)
    obtain ⟨W2, hA2, hv2⟩ := h2
    refine j_astore (lv' := [(7, .ref w.2), (0, .ref x), (1, .int (nI r)), (2, .int i), (3, .int (nI o)), (4, .int j0), (5, .int (nI n)), (6, .ref tb)]) C dX0_told_33 (by decide) rfl ?_
    refine j_aload_n C dX0_told_35 rfl 1 rfl ?_
    refine j_iconst (v := nI 1) C dX0_told_36 rfl ?_
    refine j_callV (w := w2) C (kX0_found G hG w0 w2 x O V Z ⟨W2, hA2, hv2⟩ 1) pI.ret (ci := 0) (T := TX0) (hA2.d0 hv2) rfl 1 q399 q401 qs3 q66 q402 (by decide +kernel) rfl (by decide) (by decide) (Nat.le_of_ble_eq_true rfl) rfl dX0_told_37 (by omega) (by omega) (pI.k (fun r3 w3 h3 => ?_))
    obtain ⟨hr3, h3⟩ := h3
    subst hr3
    obtain ⟨W3, hA3, hv3⟩ := h3
    exact j_iret C (by omega) (by omega) (fC.mk ⟨W3, hA3, hv3⟩ (by first | exact g1 hr | exact g3 l m f hr (partB_t (by omega) han) hr2)) dX0_told_40
  · cases hp : partB m i (nI n)
    · refine j_in (w := w) C (iv_V C (ci := 0) (Tt := TX0) (hA.d0 hv) rfl (Or.inr ⟨rfl, q1170⟩) 3 q1167 q1169 qs28 (by decide +kernel) rfl rfl dX0_told_5) (kX0_items_X G hG w0 w x O V Z ⟨W, hA, hv⟩ hE r n l m f i hr8 hn hr hp) (Or.inr ⟨rfl, q1170⟩) (by decide +kernel) (by decide) (by decide) (Nat.le_of_ble_eq_true rfl) (by omega) (by omega) (fun v w1 h1 => h1.no) ?_
      rintro a1 w1 ⟨h1, rfl⟩
      cases h1
      refine jt_catch C hx (ci := 22) mu_s rfl 41 (Or.inr (Or.inr ⟨by decide, by decide, ⟨_, q409, (C.xe hE).nc 0 rfl⟩, (Or.inr (Or.inl ⟨by decide, rfl, Or.inr ⟨by decide, _, q434, CA.of (C.nw hG q449 rfl)⟩⟩))⟩)) ?_
      refine j_abs (P := fun w' => FX G w0 w' x O V Z) (FX.newc ⟨W, hA, hv⟩ 0 (w.2) (.inr (22, []))) (fun w5 h5 => ?_)
      obtain ⟨W5, hA5, hv5⟩ := h5
      refine j_astore (lv' := [(7, .ref w.2), (0, .ref x), (1, .int (nI r)), (2, .int i), (3, .int (nI o)), (4, .int j0), (5, .int (nI n)), (6, .ref tb)]) C dX0_told_41 (by decide) rfl ?_
      refine j_aload_n C dX0_told_43 rfl 1 rfl ?_
      refine j_iconst (v := nI 2) C dX0_told_44 rfl ?_
      refine j_callV (w := w5) C (kX0_found G hG w0 w5 x O V Z ⟨W5, hA5, hv5⟩ 2) pI.ret (ci := 0) (T := TX0) (hA5.d0 hv5) rfl 1 q399 q401 qs3 q66 q402 (by decide +kernel) rfl (by decide) (by decide) (Nat.le_of_ble_eq_true rfl) rfl dX0_told_45 (by omega) (by omega) (pI.k (fun r6 w6 h6 => ?_))
      obtain ⟨hr6, h6⟩ := h6
      subst hr6
      obtain ⟨W6, hA6, hv6⟩ := h6
      exact j_iret C (by omega) (by omega) (fC.mk ⟨W6, hA6, hv6⟩ (by first | exact g2 l m f hr hp | exact g4 l m f l2 m2 f2 hr (partB_t (by omega) han) hr2 hp2)) dX0_told_48
    · obtain ⟨a, rfl, han⟩ := partB_m (by omega) (by omega) hp
      refine j_callV (w := w) C (kX0_items G hG w0 w x O V Z ⟨W, hA, hv⟩ hE r n l m a f hr8 hn hr han) pA.ret (ci := 0) (T := TX0) (hA.d0 hv) rfl 3 q1167 q1169 qs28 q66 q1170 (by decide +kernel) rfl (by decide) (by decide) (Nat.le_of_ble_eq_true rfl) rfl dX0_told_5 (by omega) (by omega) (qA.k ?_)
      refine j_abs (P := fun w' => FA G w0 w' x O W ∧ w'.1 w.2 = some (w.2, ai (gl_A G 0) n (itF f a n)) ∧ w'.2 = w.2 + 1) ⟨hA.ext (fun b σ e hb => (mu_n (by have := hA.wf b σ e hb; omega)).trans hb) (by show w.2 ≤ w.2 + 1; omega) hA.wf.new, mu_s, rfl⟩ (fun w1 hw1 => ?_)
      obtain ⟨hA1, hca, hw1⟩ := hw1
      refine j_astore (lv' := [(7, .ref w.2), (0, .ref x), (1, .int (nI r)), (2, .int (nI a)), (3, .int (nI o)), (4, .int j0), (5, .int (nI n)), (6, .ref tb)]) C dX0_told_8 (by decide) rfl ?_
      refine j_aload_n C dX0_told_10 rfl 1 rfl ?_
      refine j_aload C dX0_told_11 7 rfl ?_
      refine j_aload C dX0_told_13 0 rfl ?_
      refine j_aload_n C dX0_told_15 rfl 1 rfl ?_
      refine j_iload_n C dX0_told_16 rfl 4 rfl ?_
      refine j_iload C dX0_told_17 5 rfl ?_
      refine j_iload C dX0_told_19 6 rfl ?_
      rcases RW.full hA1 hv (k := o) ho8 with ⟨hr2, hsh2⟩ | ⟨l2, m2, f2, b2_, hr2, hsh2, hb2, hl2, hm2, hA402⟩
      · refine j_in (w := w1) C (iv_V C (ci := 0) (Tt := TX0) (hA1.d0 hv) rfl (Or.inr ⟨rfl, q1170⟩) 3 q1167 q1169 qs28 (by decide +kernel) rfl rfl dX0_told_21) (kX0_items_N G hG w0 w1 x O V Z ⟨W, hA1, hv⟩ hE o n j0 ho8 hn hr2) (Or.inr ⟨rfl, q1170⟩) (by decide +kernel) (by decide) (by decide) (Nat.le_of_ble_eq_true rfl) (by omega) (by omega) (fun v w1 h1 => h1.no) ?_
        rintro a1 w1 ⟨h1, rfl⟩
        cases h1
        refine jt_catch C hx (ci := 21) mu_s rfl 33 (Or.inr (Or.inl ⟨by decide, rfl, Or.inr ⟨by decide, _, q409, CA.of (C.nw hG q431 rfl)⟩⟩)) ?_
        refine j_abs (P := fun w' => FX G w0 w' x O V Z) (FX.newc ⟨W, hA1, hv⟩ 0 (w1.2) (.inr (21, []))) (fun w8 h8 => ?_)
        obtain ⟨W8, hA8, hv8⟩ := h8
        refine j_astore (lv' := [(7, .ref w1.2), (0, .ref x), (1, .int (nI r)), (2, .int (nI a)), (3, .int (nI o)), (4, .int j0), (5, .int (nI n)), (6, .ref tb)]) C dX0_told_33 (by decide) rfl ?_
        refine j_aload_n C dX0_told_35 rfl 1 rfl ?_
        refine j_iconst (v := nI 1) C dX0_told_36 rfl ?_
        refine j_callV (w := w8) C (kX0_found G hG w0 w8 x O V Z ⟨W8, hA8, hv8⟩ 1) pI.ret (ci := 0) (T := TX0) (hA8.d0 hv8) rfl 1 q399 q401 qs3 q66 q402 (by decide +kernel) rfl (by decide) (by decide) (Nat.le_of_ble_eq_true rfl) rfl dX0_told_37 (by omega) (by omega) (pI.k (fun r9 w9 h9 => ?_))
        obtain ⟨hr9, h9⟩ := h9
        subst hr9
        obtain ⟨W9, hA9, hv9⟩ := h9
        exact j_iret C (by omega) (by omega) (fC.mk ⟨W9, hA9, hv9⟩ (by first | exact g1 hr | exact g3 l m f hr (partB_t (by omega) han) hr2)) dX0_told_40
      · cases hp2 : partB m2 j0 (nI n)
        · refine j_in (w := w1) C (iv_V C (ci := 0) (Tt := TX0) (hA1.d0 hv) rfl (Or.inr ⟨rfl, q1170⟩) 3 q1167 q1169 qs28 (by decide +kernel) rfl rfl dX0_told_21) (kX0_items_X G hG w0 w1 x O V Z ⟨W, hA1, hv⟩ hE o n l2 m2 f2 j0 ho8 hn hr2 hp2) (Or.inr ⟨rfl, q1170⟩) (by decide +kernel) (by decide) (by decide) (Nat.le_of_ble_eq_true rfl) (by omega) (by omega) (fun v w1 h1 => h1.no) ?_
          rintro a1 w1 ⟨h1, rfl⟩
          cases h1
          refine jt_catch C hx (ci := 22) mu_s rfl 41 (Or.inr (Or.inr ⟨by decide, by decide, ⟨_, q409, (C.xe hE).nc 0 rfl⟩, (Or.inr (Or.inl ⟨by decide, rfl, Or.inr ⟨by decide, _, q434, CA.of (C.nw hG q449 rfl)⟩⟩))⟩)) ?_
          refine j_abs (P := fun w' => FX G w0 w' x O V Z) (FX.newc ⟨W, hA1, hv⟩ 0 (w1.2) (.inr (22, []))) (fun w11 h11 => ?_)
          obtain ⟨W11, hA11, hv11⟩ := h11
          refine j_astore (lv' := [(7, .ref w1.2), (0, .ref x), (1, .int (nI r)), (2, .int (nI a)), (3, .int (nI o)), (4, .int j0), (5, .int (nI n)), (6, .ref tb)]) C dX0_told_41 (by decide) rfl ?_
          refine j_aload_n C dX0_told_43 rfl 1 rfl ?_
          refine j_iconst (v := nI 2) C dX0_told_44 rfl ?_
          refine j_callV (w := w11) C (kX0_found G hG w0 w11 x O V Z ⟨W11, hA11, hv11⟩ 2) pI.ret (ci := 0) (T := TX0) (hA11.d0 hv11) rfl 1 q399 q401 qs3 q66 q402 (by decide +kernel) rfl (by decide) (by decide) (Nat.le_of_ble_eq_true rfl) rfl dX0_told_45 (by omega) (by omega) (pI.k (fun r12 w12 h12 => ?_))
          obtain ⟨hr12, h12⟩ := h12
          subst hr12
          obtain ⟨W12, hA12, hv12⟩ := h12
          exact j_iret C (by omega) (by omega) (fC.mk ⟨W12, hA12, hv12⟩ (by first | exact g2 l m f hr hp | exact g4 l m f l2 m2 f2 hr (partB_t (by omega) han) hr2 hp2)) dX0_told_48
        · obtain ⟨b, rfl, han2⟩ := partB_m (by omega) (by omega) hp2
          refine j_callV (w := w1) C (kX0_items G hG w0 w1 x O V Z ⟨W, hA1, hv⟩ hE o n l2 m2 b f2 ho8 hn hr2 han2) pA.ret (ci := 0) (T := TX0) (hA1.d0 hv) rfl 3 q1167 q1169 qs28 q66 q1170 (by decide +kernel) rfl (by decide) (by decide) (Nat.le_of_ble_eq_true rfl) rfl dX0_told_21 (by omega) (by omega) (qA.k ?_)
          refine j_abs (P := fun w' => FA G w0 w' x O W ∧ w'.1 w1.2 = some (w1.2, ai (gl_A G 0) n (itF f2 b n)) ∧ w'.2 = w1.2 + 1 ∧ w'.1 w.2 = some (w.2, ai (gl_A G 0) n (itF f a n))) ⟨hA1.ext (fun b σ e hb => (mu_n (by have := hA1.wf b σ e hb; omega)).trans hb) (by show w1.2 ≤ w1.2 + 1; omega) hA1.wf.new, mu_s, rfl, (mu_n (by omega)).trans hca⟩ (fun w2 hw2 => ?_)
          obtain ⟨hA2, hsa, hw2, hca2⟩ := hw2
          have hB := FA.rebase (O' := fun σ => O σ ∨ σ = w.2 ∨ σ = w1.2) hA2 (fun σ h => by rcases h with h | h | h; exact Or.inl h; exact Or.inr ⟨by omega, by have := hA.fresh (σ := σ) (by omega); exact this⟩; exact Or.inr ⟨by omega, by have := hA.fresh (σ := σ) (by omega); exact this⟩)
          refine j_callF (w := w2) C (kX19_by G hG w2 w2 x (fun σ => O σ ∨ σ = w.2 ∨ σ = w1.2) V Z ⟨W, hB, hv⟩ w.2 w1.2 n (itF f a n) (itF f2 b n) (itV V.2.2.2.2.1) (40 * r + a) (40 * o + b) (Or.inr (Or.inl rfl)) hca2 (Or.inr (Or.inr rfl)) hsa hn (itF_v hr (by omega)) (itF_v hr2 (by omega)) tb c hc8 (Or.inl hOt) (hA2.fr0 tb tb _ hOt ht0) ht h3 hwf) pI.ret (ci := 18) (T := TX19) (hA2.fr0 tb tb _ hOt ht0) rfl 2 (C.fw hG ⟨q1182, q1181, q1220, q1218, q1216, by decide⟩) q1180 q1217 q1219 q106 q1221 (by decide +kernel) rfl (by decide) (by decide) (Nat.le_of_ble_eq_true rfl) rfl dX0_told_24 (by omega) (by omega) (pI.k (fun r5 w5 h5 => ?_))
          obtain ⟨hr5, Z5, W5, hA5, hv5⟩ := h5
          subst hr5
          have hA5u := hA2.unbase hA5 (fun σ h => Or.inl h)
          refine j_callV (w := w5) C (kX0_well G hG w0 w5 x O V Z5 ⟨W5, hA5u, hv5⟩ ((if shB (itV V.2.2.2.2.1) V.2.1 (40 * o + b) n then nI (shA (itV V.2.2.2.2.1) V.2.1 (40 * o + b) c n) else kNONE))) pI.ret (ci := 0) (T := TX0) (hA5u.d0 hv5) rfl 1 q395 q397 qs2 q66 q398 (by decide +kernel) rfl (by decide) (by decide) (Nat.le_of_ble_eq_true rfl) rfl dX0_told_29 (by omega) (by omega) (pI.k (fun r13 w13 h13 => ?_))
          obtain ⟨hr13, h13⟩ := h13
          subst hr13
          obtain ⟨W13, hA13, hv13⟩ := h13
          exact j_iret C (by omega) (by omega) (fC.mk ⟨W13, hA13, hv13⟩ (g5 l m f l2 m2 f2 a b hr (by omega) rfl hr2 (by omega) rfl)) dX0_told_32
