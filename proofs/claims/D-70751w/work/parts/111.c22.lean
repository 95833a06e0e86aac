/-! ===== the class: rows, plain words ===== -/
set_option maxRecDepth 100000
/-- a place of n, or none -/
theorem idx_cases (i : Int32) {n : Nat} (hn : n < 2 ^ 31) : (∃ a : Nat, i = nI a ∧ a < n) ∨ ((i < 0 ∨ n ≤ i.toNatClampNeg) ∧ inB i (nI 0) (nI n - nI 1) = false) := by
  cases h : inB i (nI 0) (nI n - nI 1) with
  | true =>
    obtain ⟨j, h1, h2⟩ := inB_p hn h
    exact Or.inl ⟨j, h1, h2⟩
  | false =>
    refine Or.inr ⟨?_, rfl⟩
    by_cases z : i < 0
    · exact Or.inl z
    · obtain ⟨a, ha, rfl⟩ := nI_of z
      refine Or.inr ?_
      rw [nI_clamp (by omega)]
      by_cases z2 : n ≤ a
      · exact z2
      · rw [inB_pt hn (by omega)] at h
        cases h
theorem oa_ne {f : Nat → Option (Nat × va_E)} {a b τ σ : Nat} {o : Nat × List Value} {y : ClassId × vp_A} (h1 : f a = some (τ, .inr o)) (h2 : f b = some (σ, .inl y)) : a ≠ b := fun z => by
  rw [z, h2] at h1
  have := congrArg (fun p => Option.map (fun q : Nat × va_E => match q.2 with | .inl _ => 0 | .inr _ => 1) p) h1
  simp at this
/-! ===== the class: rows ===== -/
set_option maxRecDepth 100000
set_option maxHeartbeats 400000 in
theorem kX0_row (G : gl_T) (hG : GH G) (w0 w : wd_T) (x : Nat) (O : Nat → Prop) (V : fv_T) (Z : fz_T) (hF : FX G w0 w x O V Z) (hE : GE G) (r l n : Int32) (P : Int32 → fv_T → Prop) (h1 : inB r (nI 0) (nI 7) = false ∨ inB l (nI 0) (nI 2) = false ∨ nI 40 < n → P kBAD V) (h2 : ∀ j lz, r = nI j → j < 8 → l = nI lz → lz ≤ 2 → n < 0 → P ((-1000010) - nI 4) (vN V 3 4)) (h3 : ∀ j lz m, r = nI j → j < 8 → l = nI lz → lz ≤ 2 → n = nI m → m ≤ 40 → P n (vN (vR V j (some (lz, m, fun _ => 0))) 3 0)) : Mb G yX0_row cX0_row 5 (some .int) [(28, 47, 48, 107)] 2 [.ref x, .int r, .int l, .int n] w (fC G w0 x O P) 3 60 := by
  refine ⟨Nat.le_of_ble_eq_true rfl, fun k C hx => ?_⟩
  have C : Cx G k cX0_row "MoodFare" "row" 5 (some .int) 2 3 60 _ := C
  obtain ⟨W, hA, hv⟩ := id hF
  refine j_iload_n C dX0_row_0 rfl 1 rfl ?_
  refine j_callS (w := w) C (kX0_isRow G w r) pI.ret 1 q383 q384 q66 q385 (by decide +kernel) rfl (by decide) (by decide) (Nat.le_of_ble_eq_true rfl) rfl dX0_row_1 (by omega) (by omega) (qI.k ?_)
  refine j_if_eqB C 25 dX0_row_4 (by decide) (fun c4 => ?_) (fun c4 => ?_)
  · refine j_ldc C q391 dX0_row_25 ?_
    exact j_iret C (by omega) (by omega) (fC.mk ⟨W, hA, hv⟩ (h1 (Or.inl c4))) dX0_row_27
  · obtain ⟨j, rfl, hjl, hj⟩ := inB_n (by decide) c4 (by decide)
    refine j_iload_n C dX0_row_7 rfl 2 rfl ?_
    refine j_i2l C dX0_row_8 ?_
    refine j_lconst (v := (nI 0).toInt64) C dX0_row_9 (by decide +kernel) ?_
    refine j_ldc2 C q390 dX0_row_10 ?_
    refine j_asl (y := (nI 2).toInt64) (by decide +kernel) ?_
    refine j_callS (w := w) C (kX0_isIn G w l ((nI 0)) ((nI 2))) pI.ret 3 q387 q388 q66 q389 (by decide +kernel) rfl (by decide) (by decide) (Nat.le_of_ble_eq_true rfl) rfl dX0_row_13 (by omega) (by omega) (qI.k ?_)
    refine j_if_eqB C 25 dX0_row_16 (by decide) (fun c16 => ?_) (fun c16 => ?_)
    · refine j_ldc C q391 dX0_row_25 ?_
      exact j_iret C (by omega) (by omega) (fC.mk ⟨W, hA, hv⟩ (h1 (Or.inr (Or.inl c16)))) dX0_row_27
    · obtain ⟨lz, rfl, hlzl, hlz⟩ := inB_n (by decide) c16 (by decide)
      refine j_iload_n C dX0_row_19 rfl 3 rfl ?_
      refine j_bipush (v := nI 40) C dX0_row_20 rfl ?_
      refine j_icmp_le C 28 dX0_row_22 (by decide) (fun c22 => ?_) (fun c22 => ?_)
      · refine j_aload_n C dX0_row_28 rfl 0 rfl ?_
        refine j_get (w := w) C in_X0 (ci := 0) (T := TX0) rfl (hA.d0 hv) 0 (by decide) q245 (fun _ z => z) (v := .ref (x + 1)) rfl dX0_row_29 ?_
        refine j_iload_n C dX0_row_32 rfl 1 rfl ?_
        refine j_aald (w := w) C 6 hA.c1 rfl (j) rfl (by omega) (by decide) dX0_row_33 ?_
        refine j_asv (y := .ref (x + 2 + j)) rfl ?_
        refine j_iload_n C dX0_row_34 rfl 2 rfl ?_
        refine j_iload_n C dX0_row_35 rfl 3 rfl ?_
        rcases (show lz = 0 ∨ lz = 1 ∨ lz = 2 by omega) with rfl | rfl | rfl
        · by_cases hneg : n < 0
          · refine j_in (w := w) C (iv_S C (Or.inr ⟨rfl, q394⟩) 2 q392 q393 q66 (by decide +kernel) rfl rfl dX0_row_36) (kX0_newLane_0X G w hG hE n hneg) (Or.inr ⟨rfl, q394⟩) (by decide +kernel) (by decide) (by decide) (Nat.le_of_ble_eq_true rfl) (by omega) (by omega) (fun v w1 h1 => h1.no) ?_
            rintro a1 w1 ⟨h1, rfl⟩
            cases h1
            refine jt_catch C hx (ci := 23) mu_s rfl 48 (Or.inr (Or.inl ⟨by decide, rfl, Or.inr ⟨by decide, _, q297, CA.of (C.nw hG q361 rfl)⟩⟩)) ?_
            refine j_abs (P := fun w' => FX G w0 w' x O V Z) (FX.newc ⟨W, hA, hv⟩ 2 (w.2 + 2) (.inr (23, []))) (fun w2 h2 => ?_)
            obtain ⟨W2, hA2, hv2⟩ := h2
            refine j_astore (lv' := [(4, .ref (w.2 + 2)), (0, .ref x), (1, .int (nI j)), (2, .int (nI 0)), (3, .int n)]) C dX0_row_48 (by decide) rfl ?_
            refine j_aload_n C dX0_row_50 rfl 1 rfl ?_
            refine j_iconst (v := nI 4) C dX0_row_51 rfl ?_
            refine j_callV (w := w2) C (kX0_found G hG w0 w2 x O V Z ⟨W2, hA2, hv2⟩ 4) pI.ret (ci := 0) (T := TX0) (hA2.d0 hv2) rfl 1 q399 q401 qs3 q66 q402 (by decide +kernel) rfl (by decide) (by decide) (Nat.le_of_ble_eq_true rfl) rfl dX0_row_52 (by omega) (by omega) (pI.k (fun r3 w3 h3 => ?_))
            obtain ⟨hr3, h3⟩ := h3
            subst hr3
            obtain ⟨W3, hA3, hv3⟩ := h3
            exact j_iret C (by omega) (by omega) (fC.mk ⟨W3, hA3, hv3⟩ (h2 j _ rfl (by omega) rfl (by omega) hneg)) dX0_row_55
          · obtain ⟨m, hm, rfl⟩ := nI_of hneg
            have hm40 : m ≤ 40 := (nI_leI (by omega) (by decide)).mp c22
            refine j_callS (w := w) C (kX0_newLane_0 G w hG m (x + 2 + j) hm40) pA.ret 2 q392 q393 q66 q394 (by decide +kernel) rfl (by decide) (by decide) (Nat.le_of_ble_eq_true rfl) rfl dX0_row_36 (by omega) (by omega) (qA.k ?_)
            have hnb : (mu w.1 w.2 (x + 2 + j) (ai (gl_A G 1) m (fun _ => 0)), w.2 + 1).1 w.2 = some (x + 2 + j, ai (gl_A G 1) m (fun _ => 0)) := mu_s
            refine j_abs (P := fun w' => FX G w0 w' x O V Z ∧ w'.1 w.2 = some (x + 2 + j, ai (gl_A G 1) m (fun _ => 0))) ⟨FX.newc ⟨W, hA, hv⟩ 0 (x + 2 + j) _, hnb⟩ (fun w4 h4 => ?_)
            obtain ⟨h4, hnew⟩ := h4
            obtain ⟨W4, hA4, hv4⟩ := h4
            have hshc := hA4.sh j (by omega)
            refine j_putN (w := w4) C (ty0 := tyX1) in_X1 tyX1_ok nmX1 (ci := 1) (T := TX1) rfl hshc 0 (by decide) (C.nw hG q128 rfl) (fun _ z => z) rfl rfl rfl (fs' := [.ref w.2]) (Nat.le_of_ble_eq_true rfl) rfl dX0_row_39 ?_
            refine j_abs (P := fun w' => FX G w0 w' x O (vR V j (some (0, m, fun _ => 0))) Z) (FX.rowS hA4 hv4 (l := 0) (by omega) (by omega) (by omega) hnew) (fun w5 h5 => ?_)
            obtain ⟨W5, hA5, hv5⟩ := h5
            refine j_aload_n C dX0_row_42 rfl 0 rfl ?_
            refine j_iload_n C dX0_row_43 rfl 3 rfl ?_
            refine j_callV (w := w5) C (kX0_well G hG w0 w5 x O (vR V j (some (0, m, fun _ => 0))) Z ⟨W5, hA5, hv5⟩ (nI m)) pI.ret (ci := 0) (T := TX0) (hA5.d0 hv5) rfl 1 q395 q397 qs2 q66 q398 (by decide +kernel) rfl (by decide) (by decide) (Nat.le_of_ble_eq_true rfl) rfl dX0_row_44 (by omega) (by omega) (pI.k (fun r6 w6 h6 => ?_))
            obtain ⟨hr6, h6⟩ := h6
            subst hr6
            obtain ⟨W6, hA6, hv6⟩ := h6
            exact j_iret C (by omega) (by omega) (fC.mk ⟨W6, hA6, hv6⟩ (h3 j _ m rfl (by omega) rfl (by omega) rfl hm40)) dX0_row_47
        · by_cases hneg : n < 0
          · refine j_in (w := w) C (iv_S C (Or.inr ⟨rfl, q394⟩) 2 q392 q393 q66 (by decide +kernel) rfl rfl dX0_row_36) (kX0_newLane_1X G w hG hE n hneg) (Or.inr ⟨rfl, q394⟩) (by decide +kernel) (by decide) (by decide) (Nat.le_of_ble_eq_true rfl) (by omega) (by omega) (fun v w1 h1 => h1.no) ?_
            rintro a1 w1 ⟨h1, rfl⟩
            cases h1
            refine jt_catch C hx (ci := 23) mu_s rfl 48 (Or.inr (Or.inl ⟨by decide, rfl, Or.inr ⟨by decide, _, q297, CA.of (C.nw hG q361 rfl)⟩⟩)) ?_
            refine j_abs (P := fun w' => FX G w0 w' x O V Z) (FX.newc ⟨W, hA, hv⟩ 2 (w.2 + 2) (.inr (23, []))) (fun w8 h8 => ?_)
            obtain ⟨W8, hA8, hv8⟩ := h8
            refine j_astore (lv' := [(4, .ref (w.2 + 2)), (0, .ref x), (1, .int (nI j)), (2, .int (nI 1)), (3, .int n)]) C dX0_row_48 (by decide) rfl ?_
            refine j_aload_n C dX0_row_50 rfl 1 rfl ?_
            refine j_iconst (v := nI 4) C dX0_row_51 rfl ?_
            refine j_callV (w := w8) C (kX0_found G hG w0 w8 x O V Z ⟨W8, hA8, hv8⟩ 4) pI.ret (ci := 0) (T := TX0) (hA8.d0 hv8) rfl 1 q399 q401 qs3 q66 q402 (by decide +kernel) rfl (by decide) (by decide) (Nat.le_of_ble_eq_true rfl) rfl dX0_row_52 (by omega) (by omega) (pI.k (fun r9 w9 h9 => ?_))
            obtain ⟨hr9, h9⟩ := h9
            subst hr9
            obtain ⟨W9, hA9, hv9⟩ := h9
            exact j_iret C (by omega) (by omega) (fC.mk ⟨W9, hA9, hv9⟩ (h2 j _ rfl (by omega) rfl (by omega) hneg)) dX0_row_55
          · obtain ⟨m, hm, rfl⟩ := nI_of hneg
            have hm40 : m ≤ 40 := (nI_leI (by omega) (by decide)).mp c22
            refine j_callS (w := w) C (kX0_newLane_1 G w hG m (x + 2 + j) hm40) pA.ret 2 q392 q393 q66 q394 (by decide +kernel) rfl (by decide) (by decide) (Nat.le_of_ble_eq_true rfl) rfl dX0_row_36 (by omega) (by omega) (qA.k ?_)
            have hnb : (mu w.1 w.2 (x + 2 + j) (ai (gl_A G 2) m (fun _ => 0)), w.2 + 1).1 w.2 = some (x + 2 + j, ai (gl_A G 2) m (fun _ => 0)) := mu_s
            refine j_abs (P := fun w' => FX G w0 w' x O V Z ∧ w'.1 w.2 = some (x + 2 + j, ai (gl_A G 2) m (fun _ => 0))) ⟨FX.newc ⟨W, hA, hv⟩ 0 (x + 2 + j) _, hnb⟩ (fun w10 h10 => ?_)
            obtain ⟨h10, hnew⟩ := h10
            obtain ⟨W10, hA10, hv10⟩ := h10
            have hshc := hA10.sh j (by omega)
            refine j_putN (w := w10) C (ty0 := tyX1) in_X1 tyX1_ok nmX1 (ci := 1) (T := TX1) rfl hshc 0 (by decide) (C.nw hG q128 rfl) (fun _ z => z) rfl rfl rfl (fs' := [.ref w.2]) (Nat.le_of_ble_eq_true rfl) rfl dX0_row_39 ?_
            refine j_abs (P := fun w' => FX G w0 w' x O (vR V j (some (1, m, fun _ => 0))) Z) (FX.rowS hA10 hv10 (l := 1) (by omega) (by omega) (by omega) hnew) (fun w11 h11 => ?_)
            obtain ⟨W11, hA11, hv11⟩ := h11
            refine j_aload_n C dX0_row_42 rfl 0 rfl ?_
            refine j_iload_n C dX0_row_43 rfl 3 rfl ?_
            refine j_callV (w := w11) C (kX0_well G hG w0 w11 x O (vR V j (some (1, m, fun _ => 0))) Z ⟨W11, hA11, hv11⟩ (nI m)) pI.ret (ci := 0) (T := TX0) (hA11.d0 hv11) rfl 1 q395 q397 qs2 q66 q398 (by decide +kernel) rfl (by decide) (by decide) (Nat.le_of_ble_eq_true rfl) rfl dX0_row_44 (by omega) (by omega) (pI.k (fun r12 w12 h12 => ?_))
            obtain ⟨hr12, h12⟩ := h12
            subst hr12
            obtain ⟨W12, hA12, hv12⟩ := h12
            exact j_iret C (by omega) (by omega) (fC.mk ⟨W12, hA12, hv12⟩ (h3 j _ m rfl (by omega) rfl (by omega) rfl hm40)) dX0_row_47
        · by_cases hneg : n < 0
          · refine j_in (w := w) C (iv_S C (Or.inr ⟨rfl, q394⟩) 2 q392 q393 q66 (by decide +kernel) rfl rfl dX0_row_36) (kX0_newLane_2X G w hG hE n hneg) (Or.inr ⟨rfl, q394⟩) (by decide +kernel) (by decide) (by decide) (Nat.le_of_ble_eq_true rfl) (by omega) (by omega) (fun v w1 h1 => h1.no) ?_
            rintro a1 w1 ⟨h1, rfl⟩
            cases h1
            refine jt_catch C hx (ci := 23) mu_s rfl 48 (Or.inr (Or.inl ⟨by decide, rfl, Or.inr ⟨by decide, _, q297, CA.of (C.nw hG q361 rfl)⟩⟩)) ?_
            refine j_abs (P := fun w' => FX G w0 w' x O V Z) (FX.newc ⟨W, hA, hv⟩ 2 (w.2 + 2) (.inr (23, []))) (fun w14 h14 => ?_)
            obtain ⟨W14, hA14, hv14⟩ := h14
            refine j_astore (lv' := [(4, .ref (w.2 + 2)), (0, .ref x), (1, .int (nI j)), (2, .int (nI 2)), (3, .int n)]) C dX0_row_48 (by decide) rfl ?_
            refine j_aload_n C dX0_row_50 rfl 1 rfl ?_
            refine j_iconst (v := nI 4) C dX0_row_51 rfl ?_
            refine j_callV (w := w14) C (kX0_found G hG w0 w14 x O V Z ⟨W14, hA14, hv14⟩ 4) pI.ret (ci := 0) (T := TX0) (hA14.d0 hv14) rfl 1 q399 q401 qs3 q66 q402 (by decide +kernel) rfl (by decide) (by decide) (Nat.le_of_ble_eq_true rfl) rfl dX0_row_52 (by omega) (by omega) (pI.k (fun r15 w15 h15 => ?_))
            obtain ⟨hr15, h15⟩ := h15
            subst hr15
            obtain ⟨W15, hA15, hv15⟩ := h15
            exact j_iret C (by omega) (by omega) (fC.mk ⟨W15, hA15, hv15⟩ (h2 j _ rfl (by omega) rfl (by omega) hneg)) dX0_row_55
          · obtain ⟨m, hm, rfl⟩ := nI_of hneg
            have hm40 : m ≤ 40 := (nI_leI (by omega) (by decide)).mp c22
            refine j_callS (w := w) C (kX0_newLane_2 G w hG m (x + 2 + j) hm40) pA.ret 2 q392 q393 q66 q394 (by decide +kernel) rfl (by decide) (by decide) (Nat.le_of_ble_eq_true rfl) rfl dX0_row_36 (by omega) (by omega) (qA.k ?_)
            have hnb : (mu w.1 w.2 (x + 2 + j) (ai (gl_A G 0) m (fun _ => 0)), w.2 + 1).1 w.2 = some (x + 2 + j, ai (gl_A G 0) m (fun _ => 0)) := mu_s
            refine j_abs (P := fun w' => FX G w0 w' x O V Z ∧ w'.1 w.2 = some (x + 2 + j, ai (gl_A G 0) m (fun _ => 0))) ⟨FX.newc ⟨W, hA, hv⟩ 0 (x + 2 + j) _, hnb⟩ (fun w16 h16 => ?_)
            obtain ⟨h16, hnew⟩ := h16
            obtain ⟨W16, hA16, hv16⟩ := h16
            have hshc := hA16.sh j (by omega)
            refine j_putN (w := w16) C (ty0 := tyX1) in_X1 tyX1_ok nmX1 (ci := 1) (T := TX1) rfl hshc 0 (by decide) (C.nw hG q128 rfl) (fun _ z => z) rfl rfl rfl (fs' := [.ref w.2]) (Nat.le_of_ble_eq_true rfl) rfl dX0_row_39 ?_
            refine j_abs (P := fun w' => FX G w0 w' x O (vR V j (some (2, m, fun _ => 0))) Z) (FX.rowS hA16 hv16 (l := 2) (by omega) (by omega) (by omega) hnew) (fun w17 h17 => ?_)
            obtain ⟨W17, hA17, hv17⟩ := h17
            refine j_aload_n C dX0_row_42 rfl 0 rfl ?_
            refine j_iload_n C dX0_row_43 rfl 3 rfl ?_
            refine j_callV (w := w17) C (kX0_well G hG w0 w17 x O (vR V j (some (2, m, fun _ => 0))) Z ⟨W17, hA17, hv17⟩ (nI m)) pI.ret (ci := 0) (T := TX0) (hA17.d0 hv17) rfl 1 q395 q397 qs2 q66 q398 (by decide +kernel) rfl (by decide) (by decide) (Nat.le_of_ble_eq_true rfl) rfl dX0_row_44 (by omega) (by omega) (pI.k (fun r18 w18 h18 => ?_))
            obtain ⟨hr18, h18⟩ := h18
            subst hr18
            obtain ⟨W18, hA18, hv18⟩ := h18
            exact j_iret C (by omega) (by omega) (fC.mk ⟨W18, hA18, hv18⟩ (h3 j _ m rfl (by omega) rfl (by omega) rfl hm40)) dX0_row_47
      · refine j_ldc C q391 dX0_row_25 ?_
        exact j_iret C (by omega) (by omega) (fC.mk ⟨W, hA, hv⟩ (h1 (Or.inr (Or.inr (Int32.not_le.mp c22))))) dX0_row_27
set_option maxHeartbeats 400000 in
theorem kX0_set (G : gl_T) (hG : GH G) (w0 w : wd_T) (x : Nat) (O : Nat → Prop) (V : fv_T) (Z : fz_T) (hF : FX G w0 w x O V Z) (hE : GE G) (r i v : Int32) (P : Int32 → fv_T → Prop) (h1 : inB r (nI 0) (nI 7) = false → P kBAD V) (h2 : ∀ j, r = nI j → j < 8 → V.2.2.2.2.1 j = none → P ((-1000010) - nI 1) (vN V 3 1)) (h3 : ∀ j l n f, r = nI j → j < 8 → V.2.2.2.2.1 j = some (l, n, f) → inB i (nI 0) (nI n - nI 1) = false → P ((-1000010) - nI 2) (vN V 3 2)) (h4 : ∀ j l n f a, r = nI j → j < 8 → V.2.2.2.2.1 j = some (l, n, f) → l ≤ 2 → i = nI a → a < n → P (cutZ (nI l) v) (vN (vR V j (some (l, n, upd f a (cutZ (nI l) v)))) 3 0)) : Mb G yX0_set cX0_set 5 (some .int) [(10, 25, 26, 116), (10, 25, 34, 118)] 2 [.ref x, .int r, .int i, .int v] w (fC G w0 x O P) 3 222 := by
  refine ⟨Nat.le_of_ble_eq_true rfl, fun k C hx => ?_⟩
  have C : Cx G k cX0_set "MoodFare" "set" 5 (some .int) 2 3 222 _ := C
  obtain ⟨W, hA, hv⟩ := id hF
  refine j_iload_n C dX0_set_0 rfl 1 rfl ?_
  refine j_callS (w := w) C (kX0_isRow G w r) pI.ret 1 q383 q384 q66 q385 (by decide +kernel) rfl (by decide) (by decide) (Nat.le_of_ble_eq_true rfl) rfl dX0_set_1 (by omega) (by omega) (qI.k ?_)
  refine j_if_neB C 10 dX0_set_4 (by decide) (fun c4 => ?_) (fun c4 => ?_)
  · obtain ⟨j, rfl, hjl, hj⟩ := inB_n (by decide) c4 (by decide)
    refine j_aload_n C dX0_set_10 rfl 0 rfl ?_
    refine j_aload_n C dX0_set_11 rfl 0 rfl ?_
    refine j_get (w := w) C in_X0 (ci := 0) (T := TX0) rfl (hA.d0 hv) 0 (by decide) q245 (fun _ z => z) (v := .ref (x + 1)) rfl dX0_set_12 ?_
    refine j_iload_n C dX0_set_15 rfl 1 rfl ?_
    refine j_aald (w := w) C 6 hA.c1 rfl (j) rfl (by omega) (by decide) dX0_set_16 ?_
    refine j_asv (y := .ref (x + 2 + j)) rfl ?_
    refine j_iload_n C dX0_set_17 rfl 2 rfl ?_
    refine j_iload_n C dX0_set_18 rfl 3 rfl ?_
    rcases RW.full hA hv (k := j) (by omega) with ⟨hr, hsh⟩ | ⟨l, n, f, b, hr, hsh, hb, hl, hn, hA40⟩
    · refine j_in (w := w) C (iv_VN C (ci := 1) (Tt := TX1) hsh rfl (Or.inr ⟨rfl, q456⟩) 2 (C.nw hG q453 rfl) q455 qs4 (by decide +kernel) rfl rfl dX0_set_19) (kX1_put_N G w hG hE (x + 2 + j) x hsh i v) (Or.inr ⟨rfl, q456⟩) (by decide +kernel) (by decide) (by decide) (Nat.le_of_ble_eq_true rfl) (by omega) (by omega) (fun v w1 h1 => h1.no) ?_
      rintro a1 w1 ⟨h1, rfl⟩
      cases h1
      refine jt_catch C hx (ci := 21) mu_s rfl 26 (Or.inr (Or.inl ⟨by decide, rfl, Or.inr ⟨by decide, _, q409, CA.of (C.nw hG q431 rfl)⟩⟩)) ?_
      refine j_abs (P := fun w' => FX G w0 w' x O V Z) (FX.newc ⟨W, hA, hv⟩ 0 (w.2) (.inr (21, []))) (fun w2 h2 => ?_)
      obtain ⟨W2, hA2, hv2⟩ := h2
      refine j_astore (lv' := [(4, .ref w.2), (0, .ref x), (1, .int (nI j)), (2, .int i), (3, .int v)]) C dX0_set_26 (by decide) rfl ?_
      refine j_aload_n C dX0_set_28 rfl 1 rfl ?_
      refine j_iconst (v := nI 1) C dX0_set_29 rfl ?_
      refine j_callV (w := w2) C (kX0_found G hG w0 w2 x O V Z ⟨W2, hA2, hv2⟩ 1) pI.ret (ci := 0) (T := TX0) (hA2.d0 hv2) rfl 1 q399 q401 qs3 q66 q402 (by decide +kernel) rfl (by decide) (by decide) (Nat.le_of_ble_eq_true rfl) rfl dX0_set_30 (by omega) (by omega) (pI.k (fun r3 w3 h3 => ?_))
      obtain ⟨hr3, h3⟩ := h3
      subst hr3
      obtain ⟨W3, hA3, hv3⟩ := h3
      exact j_iret C (by omega) (by omega) (fC.mk ⟨W3, hA3, hv3⟩ (h2 j rfl (by omega) hr)) dX0_set_33
    · rcases (show l = 0 ∨ l = 1 ∨ l = 2 by omega) with rfl | rfl | rfl
      · rcases idx_cases i (n := n) (by omega) with ⟨a, rfl, ha⟩ | ⟨ho, hob⟩
        · refine j_callVN (w := w) C (kX1_put_0 G w hG hE (x + 2 + j) b x (x + 2 + j) n f hsh hb (by omega) a ha v (oa_ne hsh hb)) pI.ret (ci := 1) (T := TX1) hsh rfl 2 (C.nw hG q453 rfl) q455 qs4 q67 q456 (by decide +kernel) rfl (by decide) (by decide) (Nat.le_of_ble_eq_true rfl) rfl dX0_set_19 (by omega) (by omega) (qI.k ?_)
          refine j_abs (P := fun w' => FX G w0 w' x O (vR V j (some (0, n, upd f a (cutZ (nI 0) v)))) Z) (FX.rowA hA hv (l := 0) (by omega) hr hA40 hb) (fun w4 h4 => ?_)
          obtain ⟨W4, hA4, hv4⟩ := h4
          refine j_callV (w := w4) C (kX0_well G hG w0 w4 x O (vR V j (some (0, n, upd f a (cutZ (nI 0) v)))) Z ⟨W4, hA4, hv4⟩ (cutZ (nI 0) v)) pI.ret (ci := 0) (T := TX0) (hA4.d0 hv4) rfl 1 q395 q397 qs2 q66 q398 (by decide +kernel) rfl (by decide) (by decide) (Nat.le_of_ble_eq_true rfl) rfl dX0_set_22 (by omega) (by omega) (pI.k (fun r5 w5 h5 => ?_))
          obtain ⟨hr5, h5⟩ := h5
          subst hr5
          obtain ⟨W5, hA5, hv5⟩ := h5
          exact j_iret C (by omega) (by omega) (fC.mk ⟨W5, hA5, hv5⟩ (h4 j _ n f a rfl (by omega) hr (by omega) rfl ha)) dX0_set_25
        · refine j_in (w := w) C (iv_VN C (ci := 1) (Tt := TX1) hsh rfl (Or.inr ⟨rfl, q456⟩) 2 (C.nw hG q453 rfl) q455 qs4 (by decide +kernel) rfl rfl dX0_set_19) (kX1_put_0X G w hG hE (x + 2 + j) b x (x + 2 + j) n f hsh hb (by omega) i v ho) (Or.inr ⟨rfl, q456⟩) (by decide +kernel) (by decide) (by decide) (Nat.le_of_ble_eq_true rfl) (by omega) (by omega) (fun v w1 h1 => h1.no) ?_
          rintro a1 w1 ⟨h1, rfl⟩
          cases h1
          refine jt_catch C hx (ci := 22) mu_s rfl 34 (Or.inr (Or.inr ⟨by decide, by decide, ⟨_, q409, (C.xe hE).nc 0 rfl⟩, (Or.inr (Or.inl ⟨by decide, rfl, Or.inr ⟨by decide, _, q434, CA.of (C.nw hG q449 rfl)⟩⟩))⟩)) ?_
          refine j_abs (P := fun w' => FX G w0 w' x O V Z) (FX.newc ⟨W, hA, hv⟩ 2 (w.2 + 2) (.inr (22, []))) (fun w7 h7 => ?_)
          obtain ⟨W7, hA7, hv7⟩ := h7
          refine j_astore (lv' := [(4, .ref (w.2 + 2)), (0, .ref x), (1, .int (nI j)), (2, .int i), (3, .int v)]) C dX0_set_34 (by decide) rfl ?_
          refine j_aload_n C dX0_set_36 rfl 1 rfl ?_
          refine j_iconst (v := nI 2) C dX0_set_37 rfl ?_
          refine j_callV (w := w7) C (kX0_found G hG w0 w7 x O V Z ⟨W7, hA7, hv7⟩ 2) pI.ret (ci := 0) (T := TX0) (hA7.d0 hv7) rfl 1 q399 q401 qs3 q66 q402 (by decide +kernel) rfl (by decide) (by decide) (Nat.le_of_ble_eq_true rfl) rfl dX0_set_38 (by omega) (by omega) (pI.k (fun r8 w8 h8 => ?_))
          obtain ⟨hr8, h8⟩ := h8
          subst hr8
          obtain ⟨W8, hA8, hv8⟩ := h8
          exact j_iret C (by omega) (by omega) (fC.mk ⟨W8, hA8, hv8⟩ (h3 j _ n f rfl (by omega) hr hob)) dX0_set_41
      · rcases idx_cases i (n := n) (by omega) with ⟨a, rfl, ha⟩ | ⟨ho, hob⟩
        · refine j_callVN (w := w) C (kX1_put_1 G w hG hE (x + 2 + j) b x (x + 2 + j) n f hsh hb (by omega) a ha v (oa_ne hsh hb)) pI.ret (ci := 1) (T := TX1) hsh rfl 2 (C.nw hG q453 rfl) q455 qs4 q67 q456 (by decide +kernel) rfl (by decide) (by decide) (Nat.le_of_ble_eq_true rfl) rfl dX0_set_19 (by omega) (by omega) (qI.k ?_)
          refine j_abs (P := fun w' => FX G w0 w' x O (vR V j (some (1, n, upd f a (cutZ (nI 1) v)))) Z) (FX.rowA hA hv (l := 1) (by omega) hr hA40 hb) (fun w9 h9 => ?_)
          obtain ⟨W9, hA9, hv9⟩ := h9
          refine j_callV (w := w9) C (kX0_well G hG w0 w9 x O (vR V j (some (1, n, upd f a (cutZ (nI 1) v)))) Z ⟨W9, hA9, hv9⟩ (cutZ (nI 1) v)) pI.ret (ci := 0) (T := TX0) (hA9.d0 hv9) rfl 1 q395 q397 qs2 q66 q398 (by decide +kernel) rfl (by decide) (by decide) (Nat.le_of_ble_eq_true rfl) rfl dX0_set_22 (by omega) (by omega) (pI.k (fun r10 w10 h10 => ?_))
          obtain ⟨hr10, h10⟩ := h10
          subst hr10
          obtain ⟨W10, hA10, hv10⟩ := h10
          exact j_iret C (by omega) (by omega) (fC.mk ⟨W10, hA10, hv10⟩ (h4 j _ n f a rfl (by omega) hr (by omega) rfl ha)) dX0_set_25
        · refine j_in (w := w) C (iv_VN C (ci := 1) (Tt := TX1) hsh rfl (Or.inr ⟨rfl, q456⟩) 2 (C.nw hG q453 rfl) q455 qs4 (by decide +kernel) rfl rfl dX0_set_19) (kX1_put_1X G w hG hE (x + 2 + j) b x (x + 2 + j) n f hsh hb (by omega) i v ho) (Or.inr ⟨rfl, q456⟩) (by decide +kernel) (by decide) (by decide) (Nat.le_of_ble_eq_true rfl) (by omega) (by omega) (fun v w1 h1 => h1.no) ?_
          rintro a1 w1 ⟨h1, rfl⟩
          cases h1
          refine jt_catch C hx (ci := 22) mu_s rfl 34 (Or.inr (Or.inr ⟨by decide, by decide, ⟨_, q409, (C.xe hE).nc 0 rfl⟩, (Or.inr (Or.inl ⟨by decide, rfl, Or.inr ⟨by decide, _, q434, CA.of (C.nw hG q449 rfl)⟩⟩))⟩)) ?_
          refine j_abs (P := fun w' => FX G w0 w' x O V Z) (FX.newc ⟨W, hA, hv⟩ 2 (w.2 + 2) (.inr (22, []))) (fun w12 h12 => ?_)
          obtain ⟨W12, hA12, hv12⟩ := h12
          refine j_astore (lv' := [(4, .ref (w.2 + 2)), (0, .ref x), (1, .int (nI j)), (2, .int i), (3, .int v)]) C dX0_set_34 (by decide) rfl ?_
          refine j_aload_n C dX0_set_36 rfl 1 rfl ?_
          refine j_iconst (v := nI 2) C dX0_set_37 rfl ?_
          refine j_callV (w := w12) C (kX0_found G hG w0 w12 x O V Z ⟨W12, hA12, hv12⟩ 2) pI.ret (ci := 0) (T := TX0) (hA12.d0 hv12) rfl 1 q399 q401 qs3 q66 q402 (by decide +kernel) rfl (by decide) (by decide) (Nat.le_of_ble_eq_true rfl) rfl dX0_set_38 (by omega) (by omega) (pI.k (fun r13 w13 h13 => ?_))
          obtain ⟨hr13, h13⟩ := h13
          subst hr13
          obtain ⟨W13, hA13, hv13⟩ := h13
          exact j_iret C (by omega) (by omega) (fC.mk ⟨W13, hA13, hv13⟩ (h3 j _ n f rfl (by omega) hr hob)) dX0_set_41
      · rcases idx_cases i (n := n) (by omega) with ⟨a, rfl, ha⟩ | ⟨ho, hob⟩
        · refine j_callVN (w := w) C (kX1_put_2 G w hG hE (x + 2 + j) b x (x + 2 + j) n f hsh hb (by omega) a ha v (oa_ne hsh hb)) pI.ret (ci := 1) (T := TX1) hsh rfl 2 (C.nw hG q453 rfl) q455 qs4 q67 q456 (by decide +kernel) rfl (by decide) (by decide) (Nat.le_of_ble_eq_true rfl) rfl dX0_set_19 (by omega) (by omega) (qI.k ?_)
          refine j_abs (P := fun w' => FX G w0 w' x O (vR V j (some (2, n, upd f a (cutZ (nI 2) v)))) Z) (FX.rowA hA hv (l := 2) (by omega) hr hA40 hb) (fun w14 h14 => ?_)
          obtain ⟨W14, hA14, hv14⟩ := h14
          refine j_callV (w := w14) C (kX0_well G hG w0 w14 x O (vR V j (some (2, n, upd f a (cutZ (nI 2) v)))) Z ⟨W14, hA14, hv14⟩ (cutZ (nI 2) v)) pI.ret (ci := 0) (T := TX0) (hA14.d0 hv14) rfl 1 q395 q397 qs2 q66 q398 (by decide +kernel) rfl (by decide) (by decide) (Nat.le_of_ble_eq_true rfl) rfl dX0_set_22 (by omega) (by omega) (pI.k (fun r15 w15 h15 => ?_))
          obtain ⟨hr15, h15⟩ := h15
          subst hr15
          obtain ⟨W15, hA15, hv15⟩ := h15
          exact j_iret C (by omega) (by omega) (fC.mk ⟨W15, hA15, hv15⟩ (h4 j _ n f a rfl (by omega) hr (by omega) rfl ha)) dX0_set_25
        · refine j_in (w := w) C (iv_VN C (ci := 1) (Tt := TX1) hsh rfl (Or.inr ⟨rfl, q456⟩) 2 (C.nw hG q453 rfl) q455 qs4 (by decide +kernel) rfl rfl dX0_set_19) (kX1_put_2X G w hG hE (x + 2 + j) b x (x + 2 + j) n f hsh hb (by omega) i v ho) (Or.inr ⟨rfl, q456⟩) (by decide +kernel) (by decide) (by decide) (Nat.le_of_ble_eq_true rfl) (by omega) (by omega) (fun v w1 h1 => h1.no) ?_
          rintro a1 w1 ⟨h1, rfl⟩
          cases h1
          refine jt_catch C hx (ci := 22) mu_s rfl 34 (Or.inr (Or.inr ⟨by decide, by decide, ⟨_, q409, (C.xe hE).nc 0 rfl⟩, (Or.inr (Or.inl ⟨by decide, rfl, Or.inr ⟨by decide, _, q434, CA.of (C.nw hG q449 rfl)⟩⟩))⟩)) ?_
          refine j_abs (P := fun w' => FX G w0 w' x O V Z) (FX.newc ⟨W, hA, hv⟩ 2 (w.2 + 2) (.inr (22, []))) (fun w17 h17 => ?_)
          obtain ⟨W17, hA17, hv17⟩ := h17
          refine j_astore (lv' := [(4, .ref (w.2 + 2)), (0, .ref x), (1, .int (nI j)), (2, .int i), (3, .int v)]) C dX0_set_34 (by decide) rfl ?_
          refine j_aload_n C dX0_set_36 rfl 1 rfl ?_
          refine j_iconst (v := nI 2) C dX0_set_37 rfl ?_
          refine j_callV (w := w17) C (kX0_found G hG w0 w17 x O V Z ⟨W17, hA17, hv17⟩ 2) pI.ret (ci := 0) (T := TX0) (hA17.d0 hv17) rfl 1 q399 q401 qs3 q66 q402 (by decide +kernel) rfl (by decide) (by decide) (Nat.le_of_ble_eq_true rfl) rfl dX0_set_38 (by omega) (by omega) (pI.k (fun r18 w18 h18 => ?_))
          obtain ⟨hr18, h18⟩ := h18
          subst hr18
          obtain ⟨W18, hA18, hv18⟩ := h18
          exact j_iret C (by omega) (by omega) (fC.mk ⟨W18, hA18, hv18⟩ (h3 j _ n f rfl (by omega) hr hob)) dX0_set_41
  · refine j_ldc C q391 dX0_set_7 ?_
    exact j_iret C (by omega) (by omega) (fC.mk ⟨W, hA, hv⟩ (h1 c4)) dX0_set_9
set_option maxHeartbeats 400000 in
theorem kX0_drop (G : gl_T) (hG : GH G) (w0 w : wd_T) (x : Nat) (O : Nat → Prop) (V : fv_T) (Z : fz_T) (hF : FX G w0 w x O V Z) (hE : GE G) (r : Int32) (P : Int32 → fv_T → Prop) (h1 : inB r (nI 0) (nI 7) = false → P kBAD V) (h2 : ∀ j, r = nI j → j < 8 → V.2.2.2.2.1 j = none → P ((-1000010) - nI 1) (vR (vN V 3 1) j none)) (h3 : ∀ j l n f, r = nI j → j < 8 → V.2.2.2.2.1 j = some (l, n, f) → P (nI n) (vR (vN V 3 0) j none)) : Mb G yX0_drop cX0_drop 5 (some .int) [(10, 24, 36, 116), (10, 24, 55, 0), (36, 43, 55, 0), (55, 57, 55, 0)] 2 [.ref x, .int r] w (fC G w0 x O P) 1 8 := by
  refine ⟨Nat.le_of_ble_eq_true rfl, fun k C hx => ?_⟩
  have C : Cx G k cX0_drop "MoodFare" "drop" 5 (some .int) 2 1 8 _ := C
  obtain ⟨W, hA, hv⟩ := id hF
  refine j_iload_n C dX0_drop_0 rfl 1 rfl ?_
  refine j_callS (w := w) C (kX0_isRow G w r) pI.ret 1 q383 q384 q66 q385 (by decide +kernel) rfl (by decide) (by decide) (Nat.le_of_ble_eq_true rfl) rfl dX0_drop_1 (by omega) (by omega) (qI.k ?_)
  refine j_if_neB C 10 dX0_drop_4 (by decide) (fun c4 => ?_) (fun c4 => ?_)
  · obtain ⟨j, rfl, hjl, hj⟩ := inB_n (by decide) c4 (by decide)
    refine j_aload_n C dX0_drop_10 rfl 0 rfl ?_
    refine j_aload_n C dX0_drop_11 rfl 0 rfl ?_
    refine j_get (w := w) C in_X0 (ci := 0) (T := TX0) rfl (hA.d0 hv) 0 (by decide) q245 (fun _ z => z) (v := .ref (x + 1)) rfl dX0_drop_12 ?_
    refine j_iload_n C dX0_drop_15 rfl 1 rfl ?_
    refine j_aald (w := w) C 6 hA.c1 rfl (j) rfl (by omega) (by decide) dX0_drop_16 ?_
    refine j_asv (y := .ref (x + 2 + j)) rfl ?_
    rcases RW.full hA hv (k := j) (by omega) with ⟨hr, hsh⟩ | ⟨l, n, f, b, hr, hsh, hb, hl, hn, hA40⟩
    · refine j_in (w := w) C (iv_VN C (ci := 1) (Tt := TX1) hsh rfl (Or.inr ⟨rfl, q493⟩) 0 (C.nw hG q490 rfl) q492 qs6 (by decide +kernel) rfl rfl dX0_drop_17) (kX1_many_N G w hG hE (x + 2 + j) x hsh) (Or.inr ⟨rfl, q493⟩) (by decide +kernel) (by decide) (by decide) (Nat.le_of_ble_eq_true rfl) (by omega) (by omega) (fun v w1 h1 => h1.no) ?_
      rintro a1 w1 ⟨h1, rfl⟩
      cases h1
      refine jt_catch C hx (ci := 21) mu_s rfl 36 (Or.inr (Or.inl ⟨by decide, rfl, Or.inr ⟨by decide, _, q409, CA.of (C.nw hG q431 rfl)⟩⟩)) ?_
      refine j_abs (P := fun w' => FX G w0 w' x O V Z) (FX.newc ⟨W, hA, hv⟩ 0 (w.2) (.inr (21, []))) (fun w2 h2 => ?_)
      obtain ⟨W2, hA2, hv2⟩ := h2
      refine j_astore_n (lv' := [(2, .ref w.2), (0, .ref x), (1, .int (nI j))]) C dX0_drop_36 rfl (by decide) rfl ?_
      refine j_aload_n C dX0_drop_37 rfl 1 rfl ?_
      refine j_iconst (v := nI 1) C dX0_drop_38 rfl ?_
      refine j_callV (w := w2) C (kX0_found G hG w0 w2 x O V Z ⟨W2, hA2, hv2⟩ 1) pI.ret (ci := 0) (T := TX0) (hA2.d0 hv2) rfl 1 q399 q401 qs3 q66 q402 (by decide +kernel) rfl (by decide) (by decide) (Nat.le_of_ble_eq_true rfl) rfl dX0_drop_39 (by omega) (by omega) (pI.k (fun r3 w3 h3 => ?_))
      obtain ⟨hr3, h3⟩ := h3
      subst hr3
      obtain ⟨W3, hA3, hv3⟩ := h3
      refine j_istore_n (lv' := [(3, .int (((-1000010) - nI 1))), (2, .ref w.2), (0, .ref x), (1, .int (nI j))]) C dX0_drop_42 rfl (by decide) rfl ?_
      refine j_aload_n C dX0_drop_43 rfl 2 rfl ?_
      refine j_get (w := w3) C in_X0 (ci := 0) (T := TX0) rfl (hA3.d0 hv3) 0 (by decide) q245 (fun _ z => z) (v := .ref (x + 1)) rfl dX0_drop_44 ?_
      refine j_iload_n C dX0_drop_47 rfl 3 rfl ?_
      refine j_aald (w := w3) C 6 hA3.c1 rfl (j) rfl (by omega) (by decide) dX0_drop_48 ?_
      refine j_asv (y := .ref (x + 2 + j)) rfl ?_
      refine j_null C dX0_drop_49 ?_
      have hshc := hA3.sh j (by omega)
      refine j_putN (w := w3) C (ty0 := tyX1) in_X1 tyX1_ok nmX1 (ci := 1) (T := TX1) rfl hshc 0 (by decide) (C.nw hG q128 rfl) (fun _ z => z) rfl rfl rfl (fs' := [.null]) (Nat.le_of_ble_eq_true rfl) rfl dX0_drop_50 ?_
      refine j_abs (P := fun w' => FX G w0 w' x O (vR (vN V 3 1) j none) Z) (FX.rowN hA3 hv3 (by omega)) (fun w4 h4 => ?_)
      obtain ⟨W4, hA4, hv4⟩ := h4
      refine j_iload_n C dX0_drop_53 rfl 0 rfl ?_
      exact j_iret C (by omega) (by omega) (fC.mk ⟨W4, hA4, hv4⟩ (h2 j rfl (by omega) hr)) dX0_drop_54
    · rcases (show l = 0 ∨ l = 1 ∨ l = 2 by omega) with rfl | rfl | rfl
      · refine j_callVN (w := w) C (kX1_many_0 G w hG hE (x + 2 + j) b x (x + 2 + j) n f hsh hb (by omega)) pI.ret (ci := 1) (T := TX1) hsh rfl 0 (C.nw hG q490 rfl) q492 qs6 q67 q493 (by decide +kernel) rfl (by decide) (by decide) (Nat.le_of_ble_eq_true rfl) rfl dX0_drop_17 (by omega) (by omega) (qI.k ?_)
        refine j_callV (w := w) C (kX0_well G hG w0 w x O V Z ⟨W, hA, hv⟩ (nI n)) pI.ret (ci := 0) (T := TX0) (hA.d0 hv) rfl 1 q395 q397 qs2 q66 q398 (by decide +kernel) rfl (by decide) (by decide) (Nat.le_of_ble_eq_true rfl) rfl dX0_drop_20 (by omega) (by omega) (pI.k (fun r5 w5 h5 => ?_))
        obtain ⟨hr5, h5⟩ := h5
        subst hr5
        obtain ⟨W5, hA5, hv5⟩ := h5
        refine j_istore_n (lv' := [(2, .int (nI n)), (0, .ref x), (1, .int (nI j))]) C dX0_drop_23 rfl (by decide) rfl ?_
        refine j_aload_n C dX0_drop_24 rfl 1 rfl ?_
        refine j_get (w := w5) C in_X0 (ci := 0) (T := TX0) rfl (hA5.d0 hv5) 0 (by decide) q245 (fun _ z => z) (v := .ref (x + 1)) rfl dX0_drop_25 ?_
        refine j_iload_n C dX0_drop_28 rfl 2 rfl ?_
        refine j_aald (w := w5) C 6 hA5.c1 rfl (j) rfl (by omega) (by decide) dX0_drop_29 ?_
        refine j_asv (y := .ref (x + 2 + j)) rfl ?_
        refine j_null C dX0_drop_30 ?_
        have hshc := hA5.sh j (by omega)
        refine j_putN (w := w5) C (ty0 := tyX1) in_X1 tyX1_ok nmX1 (ci := 1) (T := TX1) rfl hshc 0 (by decide) (C.nw hG q128 rfl) (fun _ z => z) rfl rfl rfl (fs' := [.null]) (Nat.le_of_ble_eq_true rfl) rfl dX0_drop_31 ?_
        refine j_abs (P := fun w' => FX G w0 w' x O (vR (vN V 3 0) j none) Z) (FX.rowN hA5 hv5 (by omega)) (fun w6 h6 => ?_)
        obtain ⟨W6, hA6, hv6⟩ := h6
        refine j_iload_n C dX0_drop_34 rfl 0 rfl ?_
        exact j_iret C (by omega) (by omega) (fC.mk ⟨W6, hA6, hv6⟩ (h3 j _ n f rfl (by omega) hr)) dX0_drop_35
      · refine j_callVN (w := w) C (kX1_many_1 G w hG hE (x + 2 + j) b x (x + 2 + j) n f hsh hb (by omega)) pI.ret (ci := 1) (T := TX1) hsh rfl 0 (C.nw hG q490 rfl) q492 qs6 q67 q493 (by decide +kernel) rfl (by decide) (by decide) (Nat.le_of_ble_eq_true rfl) rfl dX0_drop_17 (by omega) (by omega) (qI.k ?_)
        refine j_callV (w := w) C (kX0_well G hG w0 w x O V Z ⟨W, hA, hv⟩ (nI n)) pI.ret (ci := 0) (T := TX0) (hA.d0 hv) rfl 1 q395 q397 qs2 q66 q398 (by decide +kernel) rfl (by decide) (by decide) (Nat.le_of_ble_eq_true rfl) rfl dX0_drop_20 (by omega) (by omega) (pI.k (fun r7 w7 h7 => ?_))
        obtain ⟨hr7, h7⟩ := h7
        subst hr7
        obtain ⟨W7, hA7, hv7⟩ := h7
        refine j_istore_n (lv' := [(2, .int (nI n)), (0, .ref x), (1, .int (nI j))]) C dX0_drop_23 rfl (by decide) rfl ?_
        refine j_aload_n C dX0_drop_24 rfl 1 rfl ?_
        refine j_get (w := w7) C in_X0 (ci := 0) (T := TX0) rfl (hA7.d0 hv7) 0 (by decide) q245 (fun _ z => z) (v := .ref (x + 1)) rfl dX0_drop_25 ?_
        refine j_iload_n C dX0_drop_28 rfl 2 rfl ?_
        refine j_aald (w := w7) C 6 hA7.c1 rfl (j) rfl (by omega) (by decide) dX0_drop_29 ?_
        refine j_asv (y := .ref (x + 2 + j)) rfl ?_
        refine j_null C dX0_drop_30 ?_
        have hshc := hA7.sh j (by omega)
        refine j_putN (w := w7) C (ty0 := tyX1) in_X1 tyX1_ok nmX1 (ci := 1) (T := TX1) rfl hshc 0 (by decide) (C.nw hG q128 rfl) (fun _ z => z) rfl rfl rfl (fs' := [.null]) (Nat.le_of_ble_eq_true rfl) rfl dX0_drop_31 ?_
        refine j_abs (P := fun w' => FX G w0 w' x O (vR (vN V 3 0) j none) Z) (FX.rowN hA7 hv7 (by omega)) (fun w8 h8 => ?_)
        obtain ⟨W8, hA8, hv8⟩ := h8
        refine j_iload_n C dX0_drop_34 rfl 0 rfl ?_
        exact j_iret C (by omega) (by omega) (fC.mk ⟨W8, hA8, hv8⟩ (h3 j _ n f rfl (by omega) hr)) dX0_drop_35
      · refine j_callVN (w := w) C (kX1_many_2 G w hG hE (x + 2 + j) b x (x + 2 + j) n f hsh hb (by omega)) pI.ret (ci := 1) (T := TX1) hsh rfl 0 (C.nw hG q490 rfl) q492 qs6 q67 q493 (by decide +kernel) rfl (by decide) (by decide) (Nat.le_of_ble_eq_true rfl) rfl dX0_drop_17 (by omega) (by omega) (qI.k ?_)
        refine j_callV (w := w) C (kX0_well G hG w0 w x O V Z ⟨W, hA, hv⟩ (nI n)) pI.ret (ci := 0) (T := TX0) (hA.d0 hv) rfl 1 q395 q397 qs2 q66 q398 (by decide +kernel) rfl (by decide) (by decide) (Nat.le_of_ble_eq_true rfl) rfl dX0_drop_20 (by omega) (by omega) (pI.k (fun r9 w9 h9 => ?_))
        obtain ⟨hr9, h9⟩ := h9
        subst hr9
        obtain ⟨W9, hA9, hv9⟩ := h9
        refine j_istore_n (lv' := [(2, .int (nI n)), (0, .ref x), (1, .int (nI j))]) C dX0_drop_23 rfl (by decide) rfl ?_
        refine j_aload_n C dX0_drop_24 rfl 1 rfl ?_
        refine j_get (w := w9) C in_X0 (ci := 0) (T := TX0) rfl (hA9.d0 hv9) 0 (by decide) q245 (fun _ z => z) (v := .ref (x + 1)) rfl dX0_drop_25 ?_
        refine j_iload_n C dX0_drop_28 rfl 2 rfl ?_
        refine j_aald (w := w9) C 6 hA9.c1 rfl (j) rfl (by omega) (by decide) dX0_drop_29 ?_
        refine j_asv (y := .ref (x + 2 + j)) rfl ?_
        refine j_null C dX0_drop_30 ?_
        have hshc := hA9.sh j (by omega)
        refine j_putN (w := w9) C (ty0 := tyX1) in_X1 tyX1_ok nmX1 (ci := 1) (T := TX1) rfl hshc 0 (by decide) (C.nw hG q128 rfl) (fun _ z => z) rfl rfl rfl (fs' := [.null]) (Nat.le_of_ble_eq_true rfl) rfl dX0_drop_31 ?_
        refine j_abs (P := fun w' => FX G w0 w' x O (vR (vN V 3 0) j none) Z) (FX.rowN hA9 hv9 (by omega)) (fun w10 h10 => ?_)
        obtain ⟨W10, hA10, hv10⟩ := h10
        refine j_iload_n C dX0_drop_34 rfl 0 rfl ?_
        exact j_iret C (by omega) (by omega) (fC.mk ⟨W10, hA10, hv10⟩ (h3 j _ n f rfl (by omega) hr)) dX0_drop_35
  · refine j_ldc C q391 dX0_drop_7 ?_
    exact j_iret C (by omega) (by omega) (fC.mk ⟨W, hA, hv⟩ (h1 c4)) dX0_drop_9
