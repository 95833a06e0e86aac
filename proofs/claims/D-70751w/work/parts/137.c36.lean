/-! ===== the class: copy ===== -/
set_option maxRecDepth 100000
set_option maxHeartbeats 2000000 in
theorem kX0_copy (G : gl_T) (hG : GH G) (w0 w : wd_T) (x : Nat) (O : Nat → Prop) (V : fv_T) (Z : fz_T) (hF : FX G w0 w x O V Z) (hE : GE G) (r i q j0 n : Int32) (hct : ∀ j l n f, j < 8 → V.2.2.2.2.1 j = some (l, n, f) → ∀ c, c < n → cutZ (nI l) (f c) = f c) (P : Int32 → fv_T → Prop) (h1 : inB r (nI 0) (nI 7) = false ∨ inB q (nI 0) (nI 7) = false → P kBAD V) (h2 : ∀ ja jb, r = nI ja → ja < 8 → q = nI jb → jb < 8 → V.2.2.2.2.1 ja = none ∨ V.2.2.2.2.1 jb = none → P ((-1000010) - nI 1) (vN V 3 1)) (h3 : ∀ ja jb la na fa lb nb fb, r = nI ja → ja < 8 → q = nI jb → jb < 8 → V.2.2.2.2.1 ja = some (la, na, fa) → V.2.2.2.2.1 jb = some (lb, nb, fb) → ¬ la = lb → P ((-1000010) - nI 5) (vN V 3 5)) (h4 : ∀ ja jb l na fa nb fb, r = nI ja → ja < 8 → q = nI jb → jb < 8 → V.2.2.2.2.1 ja = some (l, na, fa) → V.2.2.2.2.1 jb = some (l, nb, fb) → partB na i n = false ∨ partB nb j0 n = false → P ((-1000010) - nI 2) (vN V 3 2)) (h5 : ∀ ja jb l na fa nb fb a b m, r = nI ja → ja < 8 → q = nI jb → jb < 8 → V.2.2.2.2.1 ja = some (l, na, fa) → V.2.2.2.2.1 jb = some (l, nb, fb) → i = nI a → j0 = nI b → n = nI m → a + m ≤ na → b + m ≤ nb → P n (vN (vR V jb (some (l, nb, va_cpy fa fb a b m))) 3 0)) : Mb G yX0_copy cX0_copy 7 (some .int) [(17, 49, 50, 116), (17, 49, 58, 126), (17, 49, 66, 128)] 2 [.ref x, .int r, .int i, .int q, .int j0, .int n] w (fC G w0 x O P) 3 810 := by
  refine ⟨Nat.le_of_ble_eq_true rfl, fun k C hx => ?_⟩
  have C : Cx G k cX0_copy "MoodFare" "copy" 7 (some .int) 2 3 810 _ := C
  obtain ⟨W, hA, hv⟩ := id hF
  refine j_iload_n C dX0_copy_0 rfl 1 rfl ?_
  refine j_callS (w := w) C (kX0_isRow G w r) pI.ret 1 q383 q384 q66 q385 (by decide +kernel) rfl (by decide) (by decide) (Nat.le_of_ble_eq_true rfl) rfl dX0_copy_1 (by omega) (by omega) (qI.k ?_)
  refine j_if_eqB C 14 dX0_copy_4 (by decide) (fun c4 => ?_) (fun c4 => ?_)
  · refine j_ldc C q391 dX0_copy_14 ?_
    exact j_iret C (by omega) (by omega) (fC.mk ⟨W, hA, hv⟩ (h1 (Or.inl c4))) dX0_copy_16
  · obtain ⟨ja, rfl, hjal, hja⟩ := inB_n (by decide) c4 (by decide)
    refine j_iload_n C dX0_copy_7 rfl 3 rfl ?_
    refine j_callS (w := w) C (kX0_isRow G w q) pI.ret 1 q383 q384 q66 q385 (by decide +kernel) rfl (by decide) (by decide) (Nat.le_of_ble_eq_true rfl) rfl dX0_copy_8 (by omega) (by omega) (qI.k ?_)
    refine j_if_neB C 17 dX0_copy_11 (by decide) (fun c11 => ?_) (fun c11 => ?_)
    · obtain ⟨jb, rfl, hjbl, hjb⟩ := inB_n (by decide) c11 (by decide)
      refine j_aload_n C dX0_copy_17 rfl 0 rfl ?_
      refine j_get (w := w) C in_X0 (ci := 0) (T := TX0) rfl (hA.d0 hv) 0 (by decide) q245 (fun _ z => z) (v := .ref (x + 1)) rfl dX0_copy_18 ?_
      refine j_iload_n C dX0_copy_21 rfl 1 rfl ?_
      refine j_aald (w := w) C 6 hA.c1 rfl (ja) rfl (by omega) (by decide) dX0_copy_22 ?_
      refine j_asv (y := .ref (x + 2 + ja)) rfl ?_
      rcases RW.full hA hv (k := ja) (by omega) with ⟨hra, hsha⟩ | ⟨la, na, fa, ba, hra, hsha, hba, hla, hna, hAa⟩
      · refine j_getN (w := w) C in_X1 (ci := 1) (T := TX1) rfl hsha 0 (by decide) (C.nw hG q128 rfl) (fun _ z => z) (v := .null) rfl dX0_copy_23 ?_
        refine j_iload_n C dX0_copy_26 rfl 2 rfl ?_
        refine j_aload_n C dX0_copy_27 rfl 0 rfl ?_
        refine j_get (w := w) C in_X0 (ci := 0) (T := TX0) rfl (hA.d0 hv) 0 (by decide) q245 (fun _ z => z) (v := .ref (x + 1)) rfl dX0_copy_28 ?_
        refine j_iload_n C dX0_copy_31 rfl 3 rfl ?_
        refine j_aald (w := w) C 6 hA.c1 rfl (jb) rfl (by omega) (by decide) dX0_copy_32 ?_
        refine j_asv (y := .ref (x + 2 + jb)) rfl ?_
        rcases RW.full hA hv (k := jb) (by omega) with ⟨hrb, hshb⟩ | ⟨lb, nb, fb, bb, hrb, hshb, hbb, hlb, hnb, hAb⟩
        · refine j_getN (w := w) C in_X1 (ci := 1) (T := TX1) rfl hshb 0 (by decide) (C.nw hG q128 rfl) (fun _ z => z) (v := .null) rfl dX0_copy_33 ?_
          refine j_iload C dX0_copy_36 4 rfl ?_
          refine j_iload C dX0_copy_38 5 rfl ?_
          refine j_copyN (w := w) C hE w.2 q483 q485 q484 q83 (Nat.le_of_ble_eq_true rfl) dX0_copy_40 (Or.inl ⟨rfl, Or.inl rfl⟩) (by omega) (by omega) ?_
          refine jt_catch C hx (ci := 21) mu_s rfl 50 (Or.inr (Or.inl ⟨by decide, rfl, Or.inr ⟨by decide, _, q409, CA.of (C.nw hG q431 rfl)⟩⟩)) ?_
          refine j_abs (P := fun w' => FX G w0 w' x O V Z) (FX.newc ⟨W, hA, hv⟩ 0 (w.2) (.inr (21, []))) (fun w1 h1 => ?_)
          obtain ⟨W1, hA1, hv1⟩ := h1
          refine j_astore (lv' := [(6, .ref w.2), (0, .ref x), (1, .int (nI ja)), (2, .int i), (3, .int (nI jb)), (4, .int j0), (5, .int n)]) C dX0_copy_50 (by decide) rfl ?_
          refine j_aload_n C dX0_copy_52 rfl 1 rfl ?_
          refine j_iconst (v := nI 1) C dX0_copy_53 rfl ?_
          refine j_callV (w := w1) C (kX0_found G hG w0 w1 x O V Z ⟨W1, hA1, hv1⟩ 1) pI.ret (ci := 0) (T := TX0) (hA1.d0 hv1) rfl 1 q399 q401 qs3 q66 q402 (by decide +kernel) rfl (by decide) (by decide) (Nat.le_of_ble_eq_true rfl) rfl dX0_copy_54 (by omega) (by omega) (pI.k (fun r2 w2 h2 => ?_))
          obtain ⟨hr2, h2⟩ := h2
          subst hr2
          obtain ⟨W2, hA2, hv2⟩ := h2
          exact j_iret C (by omega) (by omega) (fC.mk ⟨W2, hA2, hv2⟩ (h2 ja jb rfl (by omega) rfl (by omega) (by first | exact Or.inl hra | exact Or.inr hrb))) dX0_copy_57
        · refine j_getN (w := w) C in_X1 (ci := 1) (T := TX1) rfl hshb 0 (by decide) (C.nw hG q128 rfl) (fun _ z => z) (v := .ref bb) rfl dX0_copy_33 ?_
          refine j_iload C dX0_copy_36 4 rfl ?_
          refine j_iload C dX0_copy_38 5 rfl ?_
          refine j_copyN (w := w) C hE w.2 q483 q485 q484 q83 (Nat.le_of_ble_eq_true rfl) dX0_copy_40 (Or.inl ⟨rfl, Or.inr ⟨_, rfl⟩⟩) (by omega) (by omega) ?_
          refine jt_catch C hx (ci := 21) mu_s rfl 50 (Or.inr (Or.inl ⟨by decide, rfl, Or.inr ⟨by decide, _, q409, CA.of (C.nw hG q431 rfl)⟩⟩)) ?_
          refine j_abs (P := fun w' => FX G w0 w' x O V Z) (FX.newc ⟨W, hA, hv⟩ 0 (w.2) (.inr (21, []))) (fun w3 h3 => ?_)
          obtain ⟨W3, hA3, hv3⟩ := h3
          refine j_astore (lv' := [(6, .ref w.2), (0, .ref x), (1, .int (nI ja)), (2, .int i), (3, .int (nI jb)), (4, .int j0), (5, .int n)]) C dX0_copy_50 (by decide) rfl ?_
          refine j_aload_n C dX0_copy_52 rfl 1 rfl ?_
          refine j_iconst (v := nI 1) C dX0_copy_53 rfl ?_
          refine j_callV (w := w3) C (kX0_found G hG w0 w3 x O V Z ⟨W3, hA3, hv3⟩ 1) pI.ret (ci := 0) (T := TX0) (hA3.d0 hv3) rfl 1 q399 q401 qs3 q66 q402 (by decide +kernel) rfl (by decide) (by decide) (Nat.le_of_ble_eq_true rfl) rfl dX0_copy_54 (by omega) (by omega) (pI.k (fun r4 w4 h4 => ?_))
          obtain ⟨hr4, h4⟩ := h4
          subst hr4
          obtain ⟨W4, hA4, hv4⟩ := h4
          exact j_iret C (by omega) (by omega) (fC.mk ⟨W4, hA4, hv4⟩ (h2 ja jb rfl (by omega) rfl (by omega) (by first | exact Or.inl hra | exact Or.inr hrb))) dX0_copy_57
      · refine j_getN (w := w) C in_X1 (ci := 1) (T := TX1) rfl hsha 0 (by decide) (C.nw hG q128 rfl) (fun _ z => z) (v := .ref ba) rfl dX0_copy_23 ?_
        refine j_iload_n C dX0_copy_26 rfl 2 rfl ?_
        refine j_aload_n C dX0_copy_27 rfl 0 rfl ?_
        refine j_get (w := w) C in_X0 (ci := 0) (T := TX0) rfl (hA.d0 hv) 0 (by decide) q245 (fun _ z => z) (v := .ref (x + 1)) rfl dX0_copy_28 ?_
        refine j_iload_n C dX0_copy_31 rfl 3 rfl ?_
        refine j_aald (w := w) C 6 hA.c1 rfl (jb) rfl (by omega) (by decide) dX0_copy_32 ?_
        refine j_asv (y := .ref (x + 2 + jb)) rfl ?_
        rcases RW.full hA hv (k := jb) (by omega) with ⟨hrb, hshb⟩ | ⟨lb, nb, fb, bb, hrb, hshb, hbb, hlb, hnb, hAb⟩
        · refine j_getN (w := w) C in_X1 (ci := 1) (T := TX1) rfl hshb 0 (by decide) (C.nw hG q128 rfl) (fun _ z => z) (v := .null) rfl dX0_copy_33 ?_
          refine j_iload C dX0_copy_36 4 rfl ?_
          refine j_iload C dX0_copy_38 5 rfl ?_
          refine j_copyN (w := w) C hE w.2 q483 q485 q484 q83 (Nat.le_of_ble_eq_true rfl) dX0_copy_40 (Or.inr ⟨⟨_, rfl⟩, rfl⟩) (by omega) (by omega) ?_
          refine jt_catch C hx (ci := 21) mu_s rfl 50 (Or.inr (Or.inl ⟨by decide, rfl, Or.inr ⟨by decide, _, q409, CA.of (C.nw hG q431 rfl)⟩⟩)) ?_
          refine j_abs (P := fun w' => FX G w0 w' x O V Z) (FX.newc ⟨W, hA, hv⟩ 0 (w.2) (.inr (21, []))) (fun w5 h5 => ?_)
          obtain ⟨W5, hA5, hv5⟩ := h5
          refine j_astore (lv' := [(6, .ref w.2), (0, .ref x), (1, .int (nI ja)), (2, .int i), (3, .int (nI jb)), (4, .int j0), (5, .int n)]) C dX0_copy_50 (by decide) rfl ?_
          refine j_aload_n C dX0_copy_52 rfl 1 rfl ?_
          refine j_iconst (v := nI 1) C dX0_copy_53 rfl ?_
          refine j_callV (w := w5) C (kX0_found G hG w0 w5 x O V Z ⟨W5, hA5, hv5⟩ 1) pI.ret (ci := 0) (T := TX0) (hA5.d0 hv5) rfl 1 q399 q401 qs3 q66 q402 (by decide +kernel) rfl (by decide) (by decide) (Nat.le_of_ble_eq_true rfl) rfl dX0_copy_54 (by omega) (by omega) (pI.k (fun r6 w6 h6 => ?_))
          obtain ⟨hr6, h6⟩ := h6
          subst hr6
          obtain ⟨W6, hA6, hv6⟩ := h6
          exact j_iret C (by omega) (by omega) (fC.mk ⟨W6, hA6, hv6⟩ (h2 ja jb rfl (by omega) rfl (by omega) (by first | exact Or.inl hra | exact Or.inr hrb))) dX0_copy_57
        · refine j_getN (w := w) C in_X1 (ci := 1) (T := TX1) rfl hshb 0 (by decide) (C.nw hG q128 rfl) (fun _ z => z) (v := .ref bb) rfl dX0_copy_33 ?_
          refine j_iload C dX0_copy_36 4 rfl ?_
          refine j_iload C dX0_copy_38 5 rfl ?_
          rcases (show la = 0 ∨ la = 1 ∨ la = 2 by omega) with rfl | rfl | rfl
          · rcases (show lb = 0 ∨ lb = 1 ∨ lb = 2 by omega) with rfl | rfl | rfl
            · by_cases hpa : partB na i n = true ∧ partB nb j0 n = true
              · obtain ⟨hpa, hpb⟩ := hpa
                obtain ⟨a, m, rfl, rfl, ha⟩ := partB_n (by omega) hpa
                obtain ⟨b, m2, rfl, hm2, hb⟩ := partB_n (by omega) hpb
                obtain rfl : m = m2 := (nI_eq (by omega) (by omega)).mp hm2
                refine j_copyi (w := w) C 1 hba hbb rfl rfl q483 q485 q484 q83 a b m rfl rfl rfl ha hb (by omega) (by omega) (fun i hi => fit_0 (hct ja _ na fa (by omega) hra _ (by omega))) (Nat.le_of_ble_eq_true rfl) dX0_copy_40 ?_
                refine j_abs (P := fun w' => FX G w0 w' x O (vR V jb (some (0, nb, va_cpy fa fb a b m))) Z) (FX.rowA hA hv (l := 0) (by omega) hrb hAb hbb) (fun w7 h7 => ?_)
                obtain ⟨W7, hA7, hv7⟩ := h7
                refine j_aload_n C dX0_copy_43 rfl 0 rfl ?_
                refine j_iload C dX0_copy_44 5 rfl ?_
                refine j_callV (w := w7) C (kX0_well G hG w0 w7 x O (vR V jb (some (0, nb, va_cpy fa fb a b m))) Z ⟨W7, hA7, hv7⟩ (nI m)) pI.ret (ci := 0) (T := TX0) (hA7.d0 hv7) rfl 1 q395 q397 qs2 q66 q398 (by decide +kernel) rfl (by decide) (by decide) (Nat.le_of_ble_eq_true rfl) rfl dX0_copy_46 (by omega) (by omega) (pI.k (fun r8 w8 h8 => ?_))
                obtain ⟨hr8, h8⟩ := h8
                subst hr8
                obtain ⟨W8, hA8, hv8⟩ := h8
                exact j_iret C (by omega) (by omega) (fC.mk ⟨W8, hA8, hv8⟩ (h5 ja jb _ na fa nb fb a b m rfl (by omega) rfl (by omega) hra hrb rfl rfl rfl ha hb)) dX0_copy_49
              · have hpo : partB na i n = false ∨ partB nb j0 n = false := by
                  cases e1 : partB na i n <;> cases e2 : partB nb j0 n <;> simp_all
                refine j_copyO (w := w) C hE (w.2 + 2) (t0 := 1) hba hbb rfl (by decide) hna hnb hpo q483 q485 q484 q83 (Nat.le_of_ble_eq_true rfl) dX0_copy_40 (by omega) (by omega) ?_
                refine jt_catch C hx (ci := 22) mu_s rfl 66 (Or.inr (Or.inr ⟨by decide, by decide, ⟨_, q409, (C.xe hE).nc 0 rfl⟩, (Or.inr (Or.inr ⟨by decide, by decide, ⟨_, q468, (C.xe hE).nc 2 rfl⟩, (Or.inr (Or.inl ⟨by decide, rfl, Or.inr ⟨by decide, _, q482, CA.of (C.nw hG q1889 rfl)⟩⟩))⟩))⟩)) ?_
                refine j_abs (P := fun w' => FX G w0 w' x O V Z) (FX.newc ⟨W, hA, hv⟩ 2 (w.2 + 2) (.inr (22, []))) (fun w9 h9 => ?_)
                obtain ⟨W9, hA9, hv9⟩ := h9
                refine j_astore (lv' := [(6, .ref (w.2 + 2)), (0, .ref x), (1, .int (nI ja)), (2, .int i), (3, .int (nI jb)), (4, .int j0), (5, .int n)]) C dX0_copy_66 (by decide) rfl ?_
                refine j_aload_n C dX0_copy_68 rfl 1 rfl ?_
                refine j_iconst (v := nI 2) C dX0_copy_69 rfl ?_
                refine j_callV (w := w9) C (kX0_found G hG w0 w9 x O V Z ⟨W9, hA9, hv9⟩ 2) pI.ret (ci := 0) (T := TX0) (hA9.d0 hv9) rfl 1 q399 q401 qs3 q66 q402 (by decide +kernel) rfl (by decide) (by decide) (Nat.le_of_ble_eq_true rfl) rfl dX0_copy_70 (by omega) (by omega) (pI.k (fun r10 w10 h10 => ?_))
                obtain ⟨hr10, h10⟩ := h10
                subst hr10
                obtain ⟨W10, hA10, hv10⟩ := h10
                exact j_iret C (by omega) (by omega) (fC.mk ⟨W10, hA10, hv10⟩ (h4 ja jb _ na fa nb fb rfl (by omega) rfl (by omega) hra hrb hpo)) dX0_copy_73
            · refine j_copyK (w := w) C hE (w.2 + 2) (t0 := 1) (t1 := 2) hba hbb rfl rfl (by decide) q483 q485 q484 q83 (Nat.le_of_ble_eq_true rfl) dX0_copy_40 (by omega) (by omega) ?_
              have hne : ¬ 0 = 1 := by decide
              refine jt_catch C hx (ci := 24) mu_s rfl 58 (Or.inr (Or.inr ⟨by decide, by decide, ⟨_, q409, (C.xe hE).nc 1 rfl⟩, (Or.inr (Or.inl ⟨by decide, rfl, Or.inr ⟨by decide, _, q468, CA.of (C.nw hG q480 rfl)⟩⟩))⟩)) ?_
              refine j_abs (P := fun w' => FX G w0 w' x O V Z) (FX.newc ⟨W, hA, hv⟩ 2 (w.2 + 2) (.inr (24, []))) (fun w11 h11 => ?_)
              obtain ⟨W11, hA11, hv11⟩ := h11
              refine j_astore (lv' := [(6, .ref (w.2 + 2)), (0, .ref x), (1, .int (nI ja)), (2, .int i), (3, .int (nI jb)), (4, .int j0), (5, .int n)]) C dX0_copy_58 (by decide) rfl ?_
              refine j_aload_n C dX0_copy_60 rfl 1 rfl ?_
              refine j_iconst (v := nI 5) C dX0_copy_61 rfl ?_
              refine j_callV (w := w11) C (kX0_found G hG w0 w11 x O V Z ⟨W11, hA11, hv11⟩ 5) pI.ret (ci := 0) (T := TX0) (hA11.d0 hv11) rfl 1 q399 q401 qs3 q66 q402 (by decide +kernel) rfl (by decide) (by decide) (Nat.le_of_ble_eq_true rfl) rfl dX0_copy_62 (by omega) (by omega) (pI.k (fun r12 w12 h12 => ?_))
              obtain ⟨hr12, h12⟩ := h12
              subst hr12
              obtain ⟨W12, hA12, hv12⟩ := h12
              exact j_iret C (by omega) (by omega) (fC.mk ⟨W12, hA12, hv12⟩ (h3 ja jb _ na fa _ nb fb rfl (by omega) rfl (by omega) hra hrb hne)) dX0_copy_65
            · refine j_copyK (w := w) C hE (w.2 + 2) (t0 := 1) (t1 := 0) hba hbb rfl rfl (by decide) q483 q485 q484 q83 (Nat.le_of_ble_eq_true rfl) dX0_copy_40 (by omega) (by omega) ?_
              have hne : ¬ 0 = 2 := by decide
              refine jt_catch C hx (ci := 24) mu_s rfl 58 (Or.inr (Or.inr ⟨by decide, by decide, ⟨_, q409, (C.xe hE).nc 1 rfl⟩, (Or.inr (Or.inl ⟨by decide, rfl, Or.inr ⟨by decide, _, q468, CA.of (C.nw hG q480 rfl)⟩⟩))⟩)) ?_
              refine j_abs (P := fun w' => FX G w0 w' x O V Z) (FX.newc ⟨W, hA, hv⟩ 2 (w.2 + 2) (.inr (24, []))) (fun w13 h13 => ?_)
              obtain ⟨W13, hA13, hv13⟩ := h13
              refine j_astore (lv' := [(6, .ref (w.2 + 2)), (0, .ref x), (1, .int (nI ja)), (2, .int i), (3, .int (nI jb)), (4, .int j0), (5, .int n)]) C dX0_copy_58 (by decide) rfl ?_
              refine j_aload_n C dX0_copy_60 rfl 1 rfl ?_
              refine j_iconst (v := nI 5) C dX0_copy_61 rfl ?_
              refine j_callV (w := w13) C (kX0_found G hG w0 w13 x O V Z ⟨W13, hA13, hv13⟩ 5) pI.ret (ci := 0) (T := TX0) (hA13.d0 hv13) rfl 1 q399 q401 qs3 q66 q402 (by decide +kernel) rfl (by decide) (by decide) (Nat.le_of_ble_eq_true rfl) rfl dX0_copy_62 (by omega) (by omega) (pI.k (fun r14 w14 h14 => ?_))
              obtain ⟨hr14, h14⟩ := h14
              subst hr14
              obtain ⟨W14, hA14, hv14⟩ := h14
              exact j_iret C (by omega) (by omega) (fC.mk ⟨W14, hA14, hv14⟩ (h3 ja jb _ na fa _ nb fb rfl (by omega) rfl (by omega) hra hrb hne)) dX0_copy_65
          · rcases (show lb = 0 ∨ lb = 1 ∨ lb = 2 by omega) with rfl | rfl | rfl
            · refine j_copyK (w := w) C hE (w.2 + 2) (t0 := 2) (t1 := 1) hba hbb rfl rfl (by decide) q483 q485 q484 q83 (Nat.le_of_ble_eq_true rfl) dX0_copy_40 (by omega) (by omega) ?_
              have hne : ¬ 1 = 0 := by decide
              refine jt_catch C hx (ci := 24) mu_s rfl 58 (Or.inr (Or.inr ⟨by decide, by decide, ⟨_, q409, (C.xe hE).nc 1 rfl⟩, (Or.inr (Or.inl ⟨by decide, rfl, Or.inr ⟨by decide, _, q468, CA.of (C.nw hG q480 rfl)⟩⟩))⟩)) ?_
              refine j_abs (P := fun w' => FX G w0 w' x O V Z) (FX.newc ⟨W, hA, hv⟩ 2 (w.2 + 2) (.inr (24, []))) (fun w15 h15 => ?_)
              obtain ⟨W15, hA15, hv15⟩ := h15
              refine j_astore (lv' := [(6, .ref (w.2 + 2)), (0, .ref x), (1, .int (nI ja)), (2, .int i), (3, .int (nI jb)), (4, .int j0), (5, .int n)]) C dX0_copy_58 (by decide) rfl ?_
              refine j_aload_n C dX0_copy_60 rfl 1 rfl ?_
              refine j_iconst (v := nI 5) C dX0_copy_61 rfl ?_
              refine j_callV (w := w15) C (kX0_found G hG w0 w15 x O V Z ⟨W15, hA15, hv15⟩ 5) pI.ret (ci := 0) (T := TX0) (hA15.d0 hv15) rfl 1 q399 q401 qs3 q66 q402 (by decide +kernel) rfl (by decide) (by decide) (Nat.le_of_ble_eq_true rfl) rfl dX0_copy_62 (by omega) (by omega) (pI.k (fun r16 w16 h16 => ?_))
              obtain ⟨hr16, h16⟩ := h16
              subst hr16
              obtain ⟨W16, hA16, hv16⟩ := h16
              exact j_iret C (by omega) (by omega) (fC.mk ⟨W16, hA16, hv16⟩ (h3 ja jb _ na fa _ nb fb rfl (by omega) rfl (by omega) hra hrb hne)) dX0_copy_65
            · by_cases hpa : partB na i n = true ∧ partB nb j0 n = true
              · obtain ⟨hpa, hpb⟩ := hpa
                obtain ⟨a, m, rfl, rfl, ha⟩ := partB_n (by omega) hpa
                obtain ⟨b, m2, rfl, hm2, hb⟩ := partB_n (by omega) hpb
                obtain rfl : m = m2 := (nI_eq (by omega) (by omega)).mp hm2
                refine j_copyi (w := w) C 2 hba hbb rfl rfl q483 q485 q484 q83 a b m rfl rfl rfl ha hb (by omega) (by omega) (fun i hi => fit_1 (hct ja _ na fa (by omega) hra _ (by omega))) (Nat.le_of_ble_eq_true rfl) dX0_copy_40 ?_
                refine j_abs (P := fun w' => FX G w0 w' x O (vR V jb (some (1, nb, va_cpy fa fb a b m))) Z) (FX.rowA hA hv (l := 1) (by omega) hrb hAb hbb) (fun w17 h17 => ?_)
                obtain ⟨W17, hA17, hv17⟩ := h17
                refine j_aload_n C dX0_copy_43 rfl 0 rfl ?_
                refine j_iload C dX0_copy_44 5 rfl ?_
                refine j_callV (w := w17) C (kX0_well G hG w0 w17 x O (vR V jb (some (1, nb, va_cpy fa fb a b m))) Z ⟨W17, hA17, hv17⟩ (nI m)) pI.ret (ci := 0) (T := TX0) (hA17.d0 hv17) rfl 1 q395 q397 qs2 q66 q398 (by decide +kernel) rfl (by decide) (by decide) (Nat.le_of_ble_eq_true rfl) rfl dX0_copy_46 (by omega) (by omega) (pI.k (fun r18 w18 h18 => ?_))
                obtain ⟨hr18, h18⟩ := h18
                subst hr18
                obtain ⟨W18, hA18, hv18⟩ := h18
                exact j_iret C (by omega) (by omega) (fC.mk ⟨W18, hA18, hv18⟩ (h5 ja jb _ na fa nb fb a b m rfl (by omega) rfl (by omega) hra hrb rfl rfl rfl ha hb)) dX0_copy_49
              · have hpo : partB na i n = false ∨ partB nb j0 n = false := by
                  cases e1 : partB na i n <;> cases e2 : partB nb j0 n <;> simp_all
                refine j_copyO (w := w) C hE (w.2 + 2) (t0 := 2) hba hbb rfl (by decide) hna hnb hpo q483 q485 q484 q83 (Nat.le_of_ble_eq_true rfl) dX0_copy_40 (by omega) (by omega) ?_
                refine jt_catch C hx (ci := 22) mu_s rfl 66 (Or.inr (Or.inr ⟨by decide, by decide, ⟨_, q409, (C.xe hE).nc 0 rfl⟩, (Or.inr (Or.inr ⟨by decide, by decide, ⟨_, q468, (C.xe hE).nc 2 rfl⟩, (Or.inr (Or.inl ⟨by decide, rfl, Or.inr ⟨by decide, _, q482, CA.of (C.nw hG q1889 rfl)⟩⟩))⟩))⟩)) ?_
                refine j_abs (P := fun w' => FX G w0 w' x O V Z) (FX.newc ⟨W, hA, hv⟩ 2 (w.2 + 2) (.inr (22, []))) (fun w19 h19 => ?_)
                obtain ⟨W19, hA19, hv19⟩ := h19
                refine j_astore (lv' := [(6, .ref (w.2 + 2)), (0, .ref x), (1, .int (nI ja)), (2, .int i), (3, .int (nI jb)), (4, .int j0), (5, .int n)]) C dX0_copy_66 (by decide) rfl ?_
                refine j_aload_n C dX0_copy_68 rfl 1 rfl ?_
                refine j_iconst (v := nI 2) C dX0_copy_69 rfl ?_
                refine j_callV (w := w19) C (kX0_found G hG w0 w19 x O V Z ⟨W19, hA19, hv19⟩ 2) pI.ret (ci := 0) (T := TX0) (hA19.d0 hv19) rfl 1 q399 q401 qs3 q66 q402 (by decide +kernel) rfl (by decide) (by decide) (Nat.le_of_ble_eq_true rfl) rfl dX0_copy_70 (by omega) (by omega) (pI.k (fun r20 w20 h20 => ?_))
                obtain ⟨hr20, h20⟩ := h20
                subst hr20
                obtain ⟨W20, hA20, hv20⟩ := h20
                exact j_iret C (by omega) (by omega) (fC.mk ⟨W20, hA20, hv20⟩ (h4 ja jb _ na fa nb fb rfl (by omega) rfl (by omega) hra hrb hpo)) dX0_copy_73
            · refine j_copyK (w := w) C hE (w.2 + 2) (t0 := 2) (t1 := 0) hba hbb rfl rfl (by decide) q483 q485 q484 q83 (Nat.le_of_ble_eq_true rfl) dX0_copy_40 (by omega) (by omega) ?_
              have hne : ¬ 1 = 2 := by decide
              refine jt_catch C hx (ci := 24) mu_s rfl 58 (Or.inr (Or.inr ⟨by decide, by decide, ⟨_, q409, (C.xe hE).nc 1 rfl⟩, (Or.inr (Or.inl ⟨by decide, rfl, Or.inr ⟨by decide, _, q468, CA.of (C.nw hG q480 rfl)⟩⟩))⟩)) ?_
              refine j_abs (P := fun w' => FX G w0 w' x O V Z) (FX.newc ⟨W, hA, hv⟩ 2 (w.2 + 2) (.inr (24, []))) (fun w21 h21 => ?_)
              obtain ⟨W21, hA21, hv21⟩ := h21
              refine j_astore (lv' := [(6, .ref (w.2 + 2)), (0, .ref x), (1, .int (nI ja)), (2, .int i), (3, .int (nI jb)), (4, .int j0), (5, .int n)]) C dX0_copy_58 (by decide) rfl ?_
              refine j_aload_n C dX0_copy_60 rfl 1 rfl ?_
              refine j_iconst (v := nI 5) C dX0_copy_61 rfl ?_
              refine j_callV (w := w21) C (kX0_found G hG w0 w21 x O V Z ⟨W21, hA21, hv21⟩ 5) pI.ret (ci := 0) (T := TX0) (hA21.d0 hv21) rfl 1 q399 q401 qs3 q66 q402 (by decide +kernel) rfl (by decide) (by decide) (Nat.le_of_ble_eq_true rfl) rfl dX0_copy_62 (by omega) (by omega) (pI.k (fun r22 w22 h22 => ?_))
              obtain ⟨hr22, h22⟩ := h22
              subst hr22
              obtain ⟨W22, hA22, hv22⟩ := h22
              exact j_iret C (by omega) (by omega) (fC.mk ⟨W22, hA22, hv22⟩ (h3 ja jb _ na fa _ nb fb rfl (by omega) rfl (by omega) hra hrb hne)) dX0_copy_65
          · rcases (show lb = 0 ∨ lb = 1 ∨ lb = 2 by omega) with rfl | rfl | rfl
            · refine j_copyK (w := w) C hE (w.2 + 2) (t0 := 0) (t1 := 1) hba hbb rfl rfl (by decide) q483 q485 q484 q83 (Nat.le_of_ble_eq_true rfl) dX0_copy_40 (by omega) (by omega) ?_
              have hne : ¬ 2 = 0 := by decide
              refine jt_catch C hx (ci := 24) mu_s rfl 58 (Or.inr (Or.inr ⟨by decide, by decide, ⟨_, q409, (C.xe hE).nc 1 rfl⟩, (Or.inr (Or.inl ⟨by decide, rfl, Or.inr ⟨by decide, _, q468, CA.of (C.nw hG q480 rfl)⟩⟩))⟩)) ?_
              refine j_abs (P := fun w' => FX G w0 w' x O V Z) (FX.newc ⟨W, hA, hv⟩ 2 (w.2 + 2) (.inr (24, []))) (fun w23 h23 => ?_)
              obtain ⟨W23, hA23, hv23⟩ := h23
              refine j_astore (lv' := [(6, .ref (w.2 + 2)), (0, .ref x), (1, .int (nI ja)), (2, .int i), (3, .int (nI jb)), (4, .int j0), (5, .int n)]) C dX0_copy_58 (by decide) rfl ?_
              refine j_aload_n C dX0_copy_60 rfl 1 rfl ?_
              refine j_iconst (v := nI 5) C dX0_copy_61 rfl ?_
              refine j_callV (w := w23) C (kX0_found G hG w0 w23 x O V Z ⟨W23, hA23, hv23⟩ 5) pI.ret (ci := 0) (T := TX0) (hA23.d0 hv23) rfl 1 q399 q401 qs3 q66 q402 (by decide +kernel) rfl (by decide) (by decide) (Nat.le_of_ble_eq_true rfl) rfl dX0_copy_62 (by omega) (by omega) (pI.k (fun r24 w24 h24 => ?_))
              obtain ⟨hr24, h24⟩ := h24
              subst hr24
              obtain ⟨W24, hA24, hv24⟩ := h24
              exact j_iret C (by omega) (by omega) (fC.mk ⟨W24, hA24, hv24⟩ (h3 ja jb _ na fa _ nb fb rfl (by omega) rfl (by omega) hra hrb hne)) dX0_copy_65
            · refine j_copyK (w := w) C hE (w.2 + 2) (t0 := 0) (t1 := 2) hba hbb rfl rfl (by decide) q483 q485 q484 q83 (Nat.le_of_ble_eq_true rfl) dX0_copy_40 (by omega) (by omega) ?_
              have hne : ¬ 2 = 1 := by decide
              refine jt_catch C hx (ci := 24) mu_s rfl 58 (Or.inr (Or.inr ⟨by decide, by decide, ⟨_, q409, (C.xe hE).nc 1 rfl⟩, (Or.inr (Or.inl ⟨by decide, rfl, Or.inr ⟨by decide, _, q468, CA.of (C.nw hG q480 rfl)⟩⟩))⟩)) ?_
              refine j_abs (P := fun w' => FX G w0 w' x O V Z) (FX.newc ⟨W, hA, hv⟩ 2 (w.2 + 2) (.inr (24, []))) (fun w25 h25 => ?_)
              obtain ⟨W25, hA25, hv25⟩ := h25
              refine j_astore (lv' := [(6, .ref (w.2 + 2)), (0, .ref x), (1, .int (nI ja)), (2, .int i), (3, .int (nI jb)), (4, .int j0), (5, .int n)]) C dX0_copy_58 (by decide) rfl ?_
              refine j_aload_n C dX0_copy_60 rfl 1 rfl ?_
              refine j_iconst (v := nI 5) C dX0_copy_61 rfl ?_
              refine j_callV (w := w25) C (kX0_found G hG w0 w25 x O V Z ⟨W25, hA25, hv25⟩ 5) pI.ret (ci := 0) (T := TX0) (hA25.d0 hv25) rfl 1 q399 q401 qs3 q66 q402 (by decide +kernel) rfl (by decide) (by decide) (Nat.le_of_ble_eq_true rfl) rfl dX0_copy_62 (by omega) (by omega) (pI.k (fun r26 w26 h26 => ?_))
              obtain ⟨hr26, h26⟩ := h26
              subst hr26
              obtain ⟨W26, hA26, hv26⟩ := h26
              exact j_iret C (by omega) (by omega) (fC.mk ⟨W26, hA26, hv26⟩ (h3 ja jb _ na fa _ nb fb rfl (by omega) rfl (by omega) hra hrb hne)) dX0_copy_65
            · by_cases hpa : partB na i n = true ∧ partB nb j0 n = true
              · obtain ⟨hpa, hpb⟩ := hpa
                obtain ⟨a, m, rfl, rfl, ha⟩ := partB_n (by omega) hpa
                obtain ⟨b, m2, rfl, hm2, hb⟩ := partB_n (by omega) hpb
                obtain rfl : m = m2 := (nI_eq (by omega) (by omega)).mp hm2
                refine j_copyi (w := w) C 0 hba hbb rfl rfl q483 q485 q484 q83 a b m rfl rfl rfl ha hb (by omega) (by omega) (fun _ _ => rfl) (Nat.le_of_ble_eq_true rfl) dX0_copy_40 ?_
                refine j_abs (P := fun w' => FX G w0 w' x O (vR V jb (some (2, nb, va_cpy fa fb a b m))) Z) (FX.rowA hA hv (l := 2) (by omega) hrb hAb hbb) (fun w27 h27 => ?_)
                obtain ⟨W27, hA27, hv27⟩ := h27
                refine j_aload_n C dX0_copy_43 rfl 0 rfl ?_
                refine j_iload C dX0_copy_44 5 rfl ?_
                refine j_callV (w := w27) C (kX0_well G hG w0 w27 x O (vR V jb (some (2, nb, va_cpy fa fb a b m))) Z ⟨W27, hA27, hv27⟩ (nI m)) pI.ret (ci := 0) (T := TX0) (hA27.d0 hv27) rfl 1 q395 q397 qs2 q66 q398 (by decide +kernel) rfl (by decide) (by decide) (Nat.le_of_ble_eq_true rfl) rfl dX0_copy_46 (by omega) (by omega) (pI.k (fun r28 w28 h28 => ?_))
                obtain ⟨hr28, h28⟩ := h28
                subst hr28
                obtain ⟨W28, hA28, hv28⟩ := h28
                exact j_iret C (by omega) (by omega) (fC.mk ⟨W28, hA28, hv28⟩ (h5 ja jb _ na fa nb fb a b m rfl (by omega) rfl (by omega) hra hrb rfl rfl rfl ha hb)) dX0_copy_49
              · have hpo : partB na i n = false ∨ partB nb j0 n = false := by
                  cases e1 : partB na i n <;> cases e2 : partB nb j0 n <;> simp_all
                refine j_copyO (w := w) C hE (w.2 + 2) (t0 := 0) hba hbb rfl (by decide) hna hnb hpo q483 q485 q484 q83 (Nat.le_of_ble_eq_true rfl) dX0_copy_40 (by omega) (by omega) ?_
                refine jt_catch C hx (ci := 22) mu_s rfl 66 (Or.inr (Or.inr ⟨by decide, by decide, ⟨_, q409, (C.xe hE).nc 0 rfl⟩, (Or.inr (Or.inr ⟨by decide, by decide, ⟨_, q468, (C.xe hE).nc 2 rfl⟩, (Or.inr (Or.inl ⟨by decide, rfl, Or.inr ⟨by decide, _, q482, CA.of (C.nw hG q1889 rfl)⟩⟩))⟩))⟩)) ?_
                refine j_abs (P := fun w' => FX G w0 w' x O V Z) (FX.newc ⟨W, hA, hv⟩ 2 (w.2 + 2) (.inr (22, []))) (fun w29 h29 => ?_)
                obtain ⟨W29, hA29, hv29⟩ := h29
                refine j_astore (lv' := [(6, .ref (w.2 + 2)), (0, .ref x), (1, .int (nI ja)), (2, .int i), (3, .int (nI jb)), (4, .int j0), (5, .int n)]) C dX0_copy_66 (by decide) rfl ?_
                refine j_aload_n C dX0_copy_68 rfl 1 rfl ?_
                refine j_iconst (v := nI 2) C dX0_copy_69 rfl ?_
                refine j_callV (w := w29) C (kX0_found G hG w0 w29 x O V Z ⟨W29, hA29, hv29⟩ 2) pI.ret (ci := 0) (T := TX0) (hA29.d0 hv29) rfl 1 q399 q401 qs3 q66 q402 (by decide +kernel) rfl (by decide) (by decide) (Nat.le_of_ble_eq_true rfl) rfl dX0_copy_70 (by omega) (by omega) (pI.k (fun r30 w30 h30 => ?_))
                obtain ⟨hr30, h30⟩ := h30
                subst hr30
                obtain ⟨W30, hA30, hv30⟩ := h30
                exact j_iret C (by omega) (by omega) (fC.mk ⟨W30, hA30, hv30⟩ (h4 ja jb _ na fa nb fb rfl (by omega) rfl (by omega) hra hrb hpo)) dX0_copy_73
    · refine j_ldc C q391 dX0_copy_14 ?_
      exact j_iret C (by omega) (by omega) (fC.mk ⟨W, hA, hv⟩ (h1 (Or.inr c11))) dX0_copy_16
