/-! ===== the class: acts, images, counts ===== -/
set_option maxRecDepth 100000
set_option maxHeartbeats 400000 in
theorem kX0_ride (G : gl_T) (hG : GH G) (w0 w : wd_T) (x : Nat) (O : Nat → Prop) (V : fv_T) (Z : fz_T) (hF : FX G w0 w x O V Z) (y : Int32) (ht : smT V.2.1) (hwf : ∀ x, x < V.2.1 25 → V.2.1 (26 + 2 * x + 1) < V.2.1 6) (P : Int32 → fv_T → Prop) (h1 : inB y (nI 0) (nI (V.2.1 25) - nI 1) = false → P kBAD V) (h2 : ∀ j, y = nI j → j < V.2.1 25 → goN V.2.1 j (V.2.1 4) = false → P kSTATE V) (h3 : ∀ j, y = nI j → j < V.2.1 25 → goN V.2.1 j (V.2.1 4) = true → V.2.1 3 = 999 → P kFULL V) (h4 : ∀ j, y = nI j → j < V.2.1 25 → goN V.2.1 j (V.2.1 4) = true → V.2.1 3 ≠ 999 → P (nI (rdT V.2.1 j 1)) (vT (kpV V) (rdT V.2.1 j))) : Mt G yX0_ride cX0_ride 2 (some .int) 7 [.ref x, .int y] w (fC G w0 x O P) 6 46 := by
  refine Mt.start (by decide) (Nat.le_of_ble_eq_true rfl) (fun k C => ?_)
  have C : Cx G k cX0_ride "MoodFare" "ride" 2 (some .int) 7 6 46 _ := C
  obtain ⟨W, hA, hv⟩ := id hF
  obtain ⟨r0, r1, r2, r3, r4, r5, r6, r7, r25, r26⟩ := id ht
  refine j_aload_n C dX0_ride_0 rfl 0 rfl ?_
  refine j_iload_n C dX0_ride_1 rfl 1 rfl ?_
  refine j_callV (w := w) C (kX0_isStreet G hG w0 w x O V Z ⟨W, hA, hv⟩ y) pI.ret (ci := 0) (T := TX0) (hA.d0 hv) rfl 1 q887 q889 qs18 q66 q890 (by decide +kernel) rfl (by decide) (by decide) (Nat.le_of_ble_eq_true rfl) rfl dX0_ride_2 (by omega) (by omega) (qI.k ?_)
  refine j_if_neB C 11 dX0_ride_5 (by decide) (fun c5 => ?_) (fun c5 => ?_)
  · obtain ⟨j, rfl, hj⟩ := inB_p (by omega) c5
    refine j_aload_n C dX0_ride_11 rfl 0 rfl ?_
    refine j_get (w := w) C in_X0 (ci := 0) (T := TX0) rfl (hA.d0 hv) 4 (by decide) q251 (fun _ z => z) (v := .ref (x + 11)) rfl dX0_ride_12 ?_
    refine j_iload_n C dX0_ride_15 rfl 1 rfl ?_
    refine j_callV (w := w) C (kX2_isWay G w hG (x + 11) V.2.1 (hA.s0 (V := V) hv) ht (nI j)) pI.ret (ci := 2) (T := TX2) (hA.s0 (V := V) hv).1 rfl 1 q891 q892 q893 q68 q894 (by decide +kernel) rfl (by decide) (by decide) (Nat.le_of_ble_eq_true rfl) rfl dX0_ride_16 (by omega) (by omega) (qI.k ?_)
    refine j_if_neB C 25 dX0_ride_19 (by decide) (fun c19 => ?_) (fun c19 => ?_)
    · have hto := hwf j (by omega)
      refine j_aload_n C dX0_ride_25 rfl 0 rfl ?_
      refine j_get (w := w) C in_X0 (ci := 0) (T := TX0) rfl (hA.d0 hv) 4 (by decide) q251 (fun _ z => z) (v := .ref (x + 11)) rfl dX0_ride_26 ?_
      refine j_get (w := w) C in_X2 (ci := 2) (T := TX2) rfl (hA.s0 (V := V) hv).1 4 (by decide) q183 (fun _ z => z) (v := .int (nI (V.2.1 3))) rfl dX0_ride_29 ?_
      refine j_sipush (v := nI 999) C dX0_ride_32 rfl ?_
      refine j_icmp_neN C 41 dX0_ride_35 (by decide) (by omega) (by omega) (fun c35 => ?_) (fun c35 => ?_)
      · refine j_aload_n C dX0_ride_41 rfl 0 rfl ?_
        refine j_callV (w := w) C (kX0_keep G hG w0 w x O V Z ⟨W, hA, hv⟩) pV.ret (ci := 0) (T := TX0) (hA.d0 hv) rfl 0 q900 q902 qs19 q66 q903 (by decide +kernel) rfl (by decide) (by decide) (Nat.le_of_ble_eq_true rfl) rfl dX0_ride_42 (by omega) (by omega) (pV.k (fun w1 h1 => ?_))
        obtain ⟨W1, hA1, hv1⟩ := h1
        refine j_aload_n C dX0_ride_45 rfl 0 rfl ?_
        refine j_get (w := w1) C in_X0 (ci := 0) (T := TX0) rfl (hA1.d0 hv1) 4 (by decide) q251 (fun _ z => z) (v := .ref (x + 11)) rfl dX0_ride_46 ?_
        refine j_iload_n C dX0_ride_49 rfl 1 rfl ?_
        refine j_callV (w := w1) C (kX2_ride G w1 hG (x + 11) V.2.1 ((hA1.s0 (V := kpV V) hv1).eq kpV_t) ht j (by omega) (by omega)) pI.ret (ci := 2) (T := TX2) ((hA1.s0 (V := kpV V) hv1).eq kpV_t).1 rfl 1 q904 q905 q906 q68 q907 (by decide +kernel) rfl (by decide) (by decide) (Nat.le_of_ble_eq_true rfl) rfl dX0_ride_50 (by omega) (by omega) (qI.k ?_)
        refine j_abs (P := fun w' => FX G w0 w' x O (vT (kpV V) (rdT V.2.1 j)) Z) (FX.t0 hA1 hv1 (RD_sc ((hA1.s0 (V := kpV V) hv1).eq kpV_t)) (FR.upd ((hA1.s0 (V := kpV V) hv1).eq kpV_t).1 isC_TE) (hA1.wf.upd ((hA1.s0 (V := kpV V) hv1).eq kpV_t).1)) (fun w2 h2 => ?_)
        obtain ⟨W2, hA2, hv2⟩ := h2
        refine j_pop C dX0_ride_53 rfl ?_
        refine j_aload_n C dX0_ride_54 rfl 0 rfl ?_
        refine j_get (w := w2) C in_X0 (ci := 0) (T := TX0) rfl (hA2.d0 hv2) 4 (by decide) q251 (fun _ z => z) (v := .ref (x + 11)) rfl dX0_ride_55 ?_
        refine j_get (w := w2) C in_X2 (ci := 2) (T := TX2) rfl (hA2.s0 (V := vT (kpV V) (rdT V.2.1 j)) hv2).1 1 (by decide) q174 (fun _ z => z) (v := .int (nI ((rdT V.2.1 j) 1))) rfl dX0_ride_58 ?_
        exact j_iret C (by omega) (by omega) (fC.mk ⟨W2, hA2, hv2⟩ (h4 j rfl hj (by rw [← goB_i (by omega) (by omega)]; exact c19) (by omega))) dX0_ride_61
      · refine j_ldc C q499 dX0_ride_38 ?_
        exact j_iret C (by omega) (by omega) (fC.mk ⟨W, hA, hv⟩ (h3 j rfl hj (by rw [← goB_i (by omega) (by omega)]; exact c19) (by omega))) dX0_ride_40
    · refine j_ldc C q899 dX0_ride_22 ?_
      exact j_iret C (by omega) (by omega) (fC.mk ⟨W, hA, hv⟩ (h2 j rfl hj (by rw [← goB_i (by omega) (by omega)]; exact c19))) dX0_ride_24
  · refine j_ldc C q391 dX0_ride_8 ?_
    exact j_iret C (by omega) (by omega) (fC.mk ⟨W, hA, hv⟩ (h1 c5)) dX0_ride_10
set_option maxHeartbeats 400000 in
theorem kX0_lesson (G : gl_T) (hG : GH G) (w0 w : wd_T) (x : Nat) (O : Nat → Prop) (V : fv_T) (Z : fz_T) (hF : FX G w0 w x O V Z) (y z : Int32) (ht : smT V.2.1) (P : Int32 → fv_T → Prop) (h1 : inB y (nI 0) (nI (V.2.1 6) - nI 1) = false ∨ inB z (nI 0) (nI 9) = false → P kBAD V) (h2 : ∀ j u, y = nI j → j < V.2.1 6 → z = nI u → u ≤ 9 → P (nI (V.2.1 (7 + 3 * j + 1))) (vT (kpV V) (uN V.2.1 (7 + 3 * j + 1) u))) : Mt G yX0_lesson cX0_lesson 4 (some .int) 7 [.ref x, .int y, .int z] w (fC G w0 x O P) 6 46 := by
  refine Mt.start (by decide) (Nat.le_of_ble_eq_true rfl) (fun k C => ?_)
  have C : Cx G k cX0_lesson "MoodFare" "lesson" 4 (some .int) 7 6 46 _ := C
  obtain ⟨W, hA, hv⟩ := id hF
  obtain ⟨r0, r1, r2, r3, r4, r5, r6, r7, r25, r26⟩ := id ht
  refine j_aload_n C dX0_lesson_0 rfl 0 rfl ?_
  refine j_iload_n C dX0_lesson_1 rfl 1 rfl ?_
  refine j_callV (w := w) C (kX0_isCorner G hG w0 w x O V Z ⟨W, hA, hv⟩ y) pI.ret (ci := 0) (T := TX0) (hA.d0 hv) rfl 1 q956 q958 qs20 q66 q959 (by decide +kernel) rfl (by decide) (by decide) (Nat.le_of_ble_eq_true rfl) rfl dX0_lesson_2 (by omega) (by omega) (qI.k ?_)
  refine j_if_eqB C 20 dX0_lesson_5 (by decide) (fun c5 => ?_) (fun c5 => ?_)
  · refine j_ldc C q391 dX0_lesson_20 ?_
    exact j_iret C (by omega) (by omega) (fC.mk ⟨W, hA, hv⟩ (h1 (Or.inl c5))) dX0_lesson_22
  · obtain ⟨j, rfl, hj⟩ := inB_p (by omega) c5
    refine j_iload_n C dX0_lesson_8 rfl 2 rfl ?_
    refine j_i2l C dX0_lesson_9 ?_
    refine j_lconst (v := (nI 0).toInt64) C dX0_lesson_10 (by decide +kernel) ?_
    refine j_ldc2 C q961 dX0_lesson_11 ?_
    refine j_asl (y := (nI 9).toInt64) (by decide +kernel) ?_
    refine j_callS (w := w) C (kX0_isIn G w z ((nI 0)) ((nI 9))) pI.ret 3 q387 q388 q66 q389 (by decide +kernel) rfl (by decide) (by decide) (Nat.le_of_ble_eq_true rfl) rfl dX0_lesson_14 (by omega) (by omega) (qI.k ?_)
    refine j_if_neB C 23 dX0_lesson_17 (by decide) (fun c17 => ?_) (fun c17 => ?_)
    · obtain ⟨u, rfl, hul, hu⟩ := inB_n (by decide) c17 (by decide)
      refine j_aload_n C dX0_lesson_23 rfl 0 rfl ?_
      refine j_callV (w := w) C (kX0_keep G hG w0 w x O V Z ⟨W, hA, hv⟩) pV.ret (ci := 0) (T := TX0) (hA.d0 hv) rfl 0 q900 q902 qs19 q66 q903 (by decide +kernel) rfl (by decide) (by decide) (Nat.le_of_ble_eq_true rfl) rfl dX0_lesson_24 (by omega) (by omega) (pV.k (fun w1 h1 => ?_))
      obtain ⟨W1, hA1, hv1⟩ := h1
      refine j_aload_n C dX0_lesson_27 rfl 0 rfl ?_
      refine j_get (w := w1) C in_X0 (ci := 0) (T := TX0) rfl (hA1.d0 hv1) 4 (by decide) q251 (fun _ z => z) (v := .ref (x + 11)) rfl dX0_lesson_28 ?_
      refine j_get (w := w1) C in_X2 (ci := 2) (T := TX2) rfl ((hA1.s0 (V := kpV V) hv1).eq kpV_t).1 6 (by decide) q192 (fun _ z => z) (v := .ref (x + 11 + 2)) rfl dX0_lesson_31 ?_
      refine j_iload_n C dX0_lesson_34 rfl 1 rfl ?_
      obtain ⟨o0_1h0, ⟨o0_1e, o0_1md, o0_1h1, o0_1h2⟩, ⟨o0_1fm, o0_1hm, o0_1vm⟩, ⟨o0_1ff, o0_1hf, o0_1vf⟩, ⟨o0_1ft, o0_1ho, o0_1vo⟩, o0_1h6, o0_1hk⟩ := id ((hA1.s0 (V := kpV V) hv1).eq kpV_t)
      refine j_ialdN (w := w1) C o0_1hm (j) rfl (by omega) (by decide) dX0_lesson_35 ?_
      refine j_as (y := nI (V.2.1 (7 + 3 * j + 1))) (o0_1vm j (by omega)) ?_
      refine j_istore_n (lv' := [(3, .int (nI (V.2.1 (7 + 3 * j + 1)))), (0, .ref x), (1, .int (nI j)), (2, .int (nI u))]) C dX0_lesson_36 rfl (by decide) rfl ?_
      refine j_aload_n C dX0_lesson_37 rfl 1 rfl ?_
      refine j_get (w := w1) C in_X0 (ci := 0) (T := TX0) rfl (hA1.d0 hv1) 4 (by decide) q251 (fun _ z => z) (v := .ref (x + 11)) rfl dX0_lesson_38 ?_
      refine j_get (w := w1) C in_X2 (ci := 2) (T := TX2) rfl ((hA1.s0 (V := kpV V) hv1).eq kpV_t).1 6 (by decide) q192 (fun _ z => z) (v := .ref (x + 11 + 2)) rfl dX0_lesson_41 ?_
      refine j_iload_n C dX0_lesson_44 rfl 2 rfl ?_
      refine j_iload_n C dX0_lesson_45 rfl 3 rfl ?_
      refine j_iastN (w := w1) C o0_1hm (j) rfl (by omega) (by decide) dX0_lesson_46 ?_
      refine j_abs (P := fun w' => FX G w0 w' x O (vT (kpV V) (uN V.2.1 (7 + 3 * j + 1) u)) Z) (FX.t0 hA1 hv1 (TN.much ((hA1.s0 (V := kpV V) hv1).eq kpV_t) o0_1hm o0_1vm (by omega)) (FR.upd o0_1hm (fun z => z)) (hA1.wf.upd o0_1hm)) (fun w3 h3 => ?_)
      obtain ⟨W3, hA3, hv3⟩ := h3
      refine j_iload_n C dX0_lesson_47 rfl 0 rfl ?_
      exact j_iret C (by omega) (by omega) (fC.mk ⟨W3, hA3, hv3⟩ (h2 j u rfl hj rfl hu)) dX0_lesson_48
    · refine j_ldc C q391 dX0_lesson_20 ?_
      exact j_iret C (by omega) (by omega) (fC.mk ⟨W, hA, hv⟩ (h1 (Or.inr c17))) dX0_lesson_22
set_option maxHeartbeats 400000 in
theorem kX0_reset (G : gl_T) (hG : GH G) (w0 w : wd_T) (x : Nat) (O : Nat → Prop) (V : fv_T) (Z : fz_T) (hF : FX G w0 w x O V Z) (ht : smT V.2.1) (P : Int32 → fv_T → Prop) (h1 : V.2.1 0 = 0 → P kSTATE V) (h2 : 0 < V.2.1 0 → P (nI (V.2.1 2)) (vT (kpV V) (uN V.2.1 2 0))) : Mt G yX0_reset cX0_reset 2 (some .int) 7 [.ref x] w (fC G w0 x O P) 6 46 := by
  refine Mt.start (by decide) (Nat.le_of_ble_eq_true rfl) (fun k C => ?_)
  have C : Cx G k cX0_reset "MoodFare" "reset" 2 (some .int) 7 6 46 _ := C
  obtain ⟨W, hA, hv⟩ := id hF
  obtain ⟨r0, r1, r2, r3, r4, r5, r6, r7, r25, r26⟩ := id ht
  refine j_aload_n C dX0_reset_0 rfl 0 rfl ?_
  refine j_callV (w := w) C (kX0_isThere G hG w0 w x O V Z ⟨W, hA, hv⟩ ht) pI.ret (ci := 0) (T := TX0) (hA.d0 hv) rfl 0 q966 q968 qs21 q66 q969 (by decide +kernel) rfl (by decide) (by decide) (Nat.le_of_ble_eq_true rfl) rfl dX0_reset_1 (by omega) (by omega) (qI.k ?_)
  refine j_if_neB C 10 dX0_reset_4 (by decide) (fun c4 => ?_) (fun c4 => ?_)
  · refine j_aload_n C dX0_reset_10 rfl 0 rfl ?_
    refine j_callV (w := w) C (kX0_keep G hG w0 w x O V Z ⟨W, hA, hv⟩) pV.ret (ci := 0) (T := TX0) (hA.d0 hv) rfl 0 q900 q902 qs19 q66 q903 (by decide +kernel) rfl (by decide) (by decide) (Nat.le_of_ble_eq_true rfl) rfl dX0_reset_11 (by omega) (by omega) (pV.k (fun w1 h1 => ?_))
    obtain ⟨W1, hA1, hv1⟩ := h1
    refine j_aload_n C dX0_reset_14 rfl 0 rfl ?_
    refine j_get (w := w1) C in_X0 (ci := 0) (T := TX0) rfl (hA1.d0 hv1) 4 (by decide) q251 (fun _ z => z) (v := .ref (x + 11)) rfl dX0_reset_15 ?_
    refine j_get (w := w1) C in_X2 (ci := 2) (T := TX2) rfl ((hA1.s0 (V := kpV V) hv1).eq kpV_t).1 3 (by decide) q181 (fun _ z => z) (v := .int (nI (V.2.1 2))) rfl dX0_reset_18 ?_
    refine j_istore_n (lv' := [(1, .int (nI (V.2.1 2))), (0, .ref x)]) C dX0_reset_21 rfl (by decide) rfl ?_
    refine j_aload_n C dX0_reset_22 rfl 1 rfl ?_
    refine j_get (w := w1) C in_X0 (ci := 0) (T := TX0) rfl (hA1.d0 hv1) 4 (by decide) q251 (fun _ z => z) (v := .ref (x + 11)) rfl dX0_reset_23 ?_
    refine j_iconst (v := nI 0) C dX0_reset_26 rfl ?_
    refine j_put (w := w1) C (ty0 := tyX2) in_X2 tyX2_ok nmX2 (ci := 2) (T := TX2) rfl ((hA1.s0 (V := kpV V) hv1).eq kpV_t).1 3 (by decide) q181 (fun _ z => z) rfl rfl rfl (fs' := [.int (nI (V.2.1 0)), .int (nI (V.2.1 1)), .int (nI (V.2.1 4)), .int (nI 0), .int (nI (V.2.1 3)), .ref (x + 11 + 1), .ref (x + 11 + 2), .int (nI (V.2.1 25)), .ref (x + 11 + 3), .ref (x + 11 + 4), .int (nI (V.2.1 5))]) (Nat.le_of_ble_eq_true rfl) rfl dX0_reset_27 ?_
    refine j_abs (P := fun w' => FX G w0 w' x O (vT (kpV V) (uN V.2.1 2 0)) Z) (FX.t0 hA1 hv1 (TN.sc (u := uN V.2.1 2 0) ((hA1.s0 (V := kpV V) hv1).eq kpV_t) rfl (fun i h1 h2 => uN_n (by omega))) (FR.upd ((hA1.s0 (V := kpV V) hv1).eq kpV_t).1 isC_TE) (hA1.wf.upd ((hA1.s0 (V := kpV V) hv1).eq kpV_t).1)) (fun w2 h2 => ?_)
    obtain ⟨W2, hA2, hv2⟩ := h2
    refine j_iload_n C dX0_reset_30 rfl 0 rfl ?_
    exact j_iret C (by omega) (by omega) (fC.mk ⟨W2, hA2, hv2⟩ (h2 (of_decide_eq_true c4))) dX0_reset_31
  · refine j_ldc C q899 dX0_reset_7 ?_
    exact j_iret C (by omega) (by omega) (fC.mk ⟨W, hA, hv⟩ (h1 (by have := of_decide_eq_false c4; omega))) dX0_reset_9
theorem has_bit {n j v : Nat} (hv : v ≤ 1) (c : bZ (hasN n j) = nI v) : n / 2 ^ j % 2 = v := by
  unfold hasN bZ at c
  by_cases h : n / 2 ^ j % 2 = 1
  · rw [if_pos (decide_eq_true h)] at c
    have := (nI_eq (by decide) (by omega)).mp c
    omega
  · rw [if_neg (fun z => h (of_decide_eq_true z))] at c
    have := (nI_eq (by decide) (by omega)).mp c
    omega
theorem bit_has {n j v : Nat} (hv : v ≤ 1) (c : n / 2 ^ j % 2 = v) : bZ (hasN n j) = nI v := by
  unfold hasN bZ
  by_cases h : n / 2 ^ j % 2 = 1
  · rw [if_pos (decide_eq_true h), show v = 1 by omega]
  · rw [if_neg (fun z => h (of_decide_eq_true z)), show v = 0 by omega]
set_option maxHeartbeats 400000 in
theorem kX0_street (G : gl_T) (hG : GH G) (w0 w : wd_T) (x : Nat) (O : Nat → Prop) (V : fv_T) (Z : fz_T) (hF : FX G w0 w x O V Z) (y z : Int32) (ht : smT V.2.1) (P : Int32 → fv_T → Prop) (h1 : inB y (nI 0) (nI (V.2.1 25) - nI 1) = false ∨ inB z (nI 0) (nI 1) = false → P kBAD V) (h2 : ∀ j u, y = nI j → j < V.2.1 25 → z = nI u → u ≤ 1 → V.2.1 5 / 2 ^ j % 2 = u → P kSTATE V) (h3 : ∀ j u, y = nI j → j < V.2.1 25 → z = nI u → u ≤ 1 → ¬ V.2.1 5 / 2 ^ j % 2 = u → P (nI (V.2.1 5 ^^^ 2 ^ j)) (vT (kpV V) (uN V.2.1 5 (V.2.1 5 ^^^ 2 ^ j)))) : Mt G yX0_street cX0_street 3 (some .int) 7 [.ref x, .int y, .int z] w (fC G w0 x O P) 6 46 := by
  refine Mt.start (by decide) (Nat.le_of_ble_eq_true rfl) (fun k C => ?_)
  have C : Cx G k cX0_street "MoodFare" "street" 3 (some .int) 7 6 46 _ := C
  obtain ⟨W, hA, hv⟩ := id hF
  obtain ⟨r0, r1, r2, r3, r4, r5, r6, r7, r25, r26⟩ := id ht
  refine j_aload_n C dX0_street_0 rfl 0 rfl ?_
  refine j_iload_n C dX0_street_1 rfl 1 rfl ?_
  refine j_callV (w := w) C (kX0_isStreet G hG w0 w x O V Z ⟨W, hA, hv⟩ y) pI.ret (ci := 0) (T := TX0) (hA.d0 hv) rfl 1 q887 q889 qs18 q66 q890 (by decide +kernel) rfl (by decide) (by decide) (Nat.le_of_ble_eq_true rfl) rfl dX0_street_2 (by omega) (by omega) (qI.k ?_)
  refine j_if_eqB C 15 dX0_street_5 (by decide) (fun c5 => ?_) (fun c5 => ?_)
  · refine j_ldc C q391 dX0_street_15 ?_
    exact j_iret C (by omega) (by omega) (fC.mk ⟨W, hA, hv⟩ (h1 (Or.inl c5))) dX0_street_17
  · obtain ⟨j, rfl, hj⟩ := inB_p (by omega) c5
    refine j_iload_n C dX0_street_8 rfl 2 rfl ?_
    refine j_callS (w := w) C (kX0_isHalf G w z) pI.ret 1 q974 q975 q66 q976 (by decide +kernel) rfl (by decide) (by decide) (Nat.le_of_ble_eq_true rfl) rfl dX0_street_9 (by omega) (by omega) (qI.k ?_)
    refine j_if_neB C 18 dX0_street_12 (by decide) (fun c12 => ?_) (fun c12 => ?_)
    · obtain ⟨u, rfl, hul, hu⟩ := inB_n (by decide) c12 (by decide)
      refine j_aload_n C dX0_street_18 rfl 0 rfl ?_
      refine j_get (w := w) C in_X0 (ci := 0) (T := TX0) rfl (hA.d0 hv) 4 (by decide) q251 (fun _ z => z) (v := .ref (x + 11)) rfl dX0_street_19 ?_
      refine j_get (w := w) C in_X2 (ci := 2) (T := TX2) rfl (hA.s0 (V := V) hv).1 10 (by decide) q204 (fun _ z => z) (v := .int (nI (V.2.1 5))) rfl dX0_street_22 ?_
      refine j_iload_n C dX0_street_25 rfl 1 rfl ?_
      refine j_callS (w := w) C (kX0_has G w (V.2.1 5) j (by omega) (by omega)) pI.ret 2 q977 q897 q66 q898 (by decide +kernel) rfl (by decide) (by decide) (Nat.le_of_ble_eq_true rfl) rfl dX0_street_26 (by omega) (by omega) (qI.k ?_)
      refine j_iload_n C dX0_street_29 rfl 2 rfl ?_
      refine j_iconst (v := nI 1) C dX0_street_30 rfl ?_
      refine j_icmp_neN C 38 dX0_street_31 (by decide) (by omega) (by omega) (fun c31 => ?_) (fun c31 => ?_)
      · refine j_iconst (v := nI 0) C dX0_street_38 rfl ?_
        refine j_icmp_ne C 45 dX0_street_39 (by decide) (fun c39 => ?_) (fun c39 => ?_)
        · refine j_aload_n C dX0_street_45 rfl 0 rfl ?_
          refine j_callV (w := w) C (kX0_keep G hG w0 w x O V Z ⟨W, hA, hv⟩) pV.ret (ci := 0) (T := TX0) (hA.d0 hv) rfl 0 q900 q902 qs19 q66 q903 (by decide +kernel) rfl (by decide) (by decide) (Nat.le_of_ble_eq_true rfl) rfl dX0_street_46 (by omega) (by omega) (pV.k (fun w1 h1 => ?_))
          obtain ⟨W1, hA1, hv1⟩ := h1
          refine j_aload_n C dX0_street_49 rfl 0 rfl ?_
          refine j_get (w := w1) C in_X0 (ci := 0) (T := TX0) rfl (hA1.d0 hv1) 4 (by decide) q251 (fun _ z => z) (v := .ref (x + 11)) rfl dX0_street_50 ?_
          refine j_dup C dX0_street_53 rfl ?_
          refine j_get (w := w1) C in_X2 (ci := 2) (T := TX2) rfl ((hA1.s0 (V := kpV V) hv1).eq kpV_t).1 10 (by decide) q204 (fun _ z => z) (v := .int (nI (V.2.1 5))) rfl dX0_street_54 ?_
          refine j_iconst (v := nI 1) C dX0_street_57 rfl ?_
          refine j_iload_n C dX0_street_58 rfl 1 rfl ?_
          refine j_shl1 C dX0_street_59 (by omega) ?_
          refine j_ixorN C dX0_street_60 ?_
          refine j_put (w := w1) C (ty0 := tyX2) in_X2 tyX2_ok nmX2 (ci := 2) (T := TX2) rfl ((hA1.s0 (V := kpV V) hv1).eq kpV_t).1 10 (by decide) q204 (fun _ z => z) rfl rfl rfl (fs' := [.int (nI (V.2.1 0)), .int (nI (V.2.1 1)), .int (nI (V.2.1 4)), .int (nI (V.2.1 2)), .int (nI (V.2.1 3)), .ref (x + 11 + 1), .ref (x + 11 + 2), .int (nI (V.2.1 25)), .ref (x + 11 + 3), .ref (x + 11 + 4), .int (nI ((V.2.1 5) ^^^ (2 ^ j)))]) (Nat.le_of_ble_eq_true rfl) rfl dX0_street_61 ?_
          refine j_abs (P := fun w' => FX G w0 w' x O (vT (kpV V) (uN V.2.1 5 ((V.2.1 5) ^^^ (2 ^ j)))) Z) (FX.t0 hA1 hv1 (TN.sc (u := uN V.2.1 5 ((V.2.1 5) ^^^ (2 ^ j))) ((hA1.s0 (V := kpV V) hv1).eq kpV_t) rfl (fun i h1 h2 => uN_n (by omega))) (FR.upd ((hA1.s0 (V := kpV V) hv1).eq kpV_t).1 isC_TE) (hA1.wf.upd ((hA1.s0 (V := kpV V) hv1).eq kpV_t).1)) (fun w2 h2 => ?_)
          obtain ⟨W2, hA2, hv2⟩ := h2
          refine j_aload_n C dX0_street_64 rfl 0 rfl ?_
          refine j_get (w := w2) C in_X0 (ci := 0) (T := TX0) rfl (hA2.d0 hv2) 4 (by decide) q251 (fun _ z => z) (v := .ref (x + 11)) rfl dX0_street_65 ?_
          refine j_get (w := w2) C in_X2 (ci := 2) (T := TX2) rfl (hA2.s0 (V := vT (kpV V) (uN V.2.1 5 ((V.2.1 5) ^^^ (2 ^ j)))) hv2).1 10 (by decide) q204 (fun _ z => z) (v := .int (nI ((uN V.2.1 5 ((V.2.1 5) ^^^ (2 ^ j))) 5))) rfl dX0_street_68 ?_
          exact j_iret C (by omega) (by omega) (fC.mk ⟨W2, hA2, hv2⟩ (h3 j u rfl hj rfl hu (fun z => c39 (bit_has (by decide) (by omega))))) dX0_street_71
        · refine j_ldc C q899 dX0_street_42 ?_
          exact j_iret C (by omega) (by omega) (fC.mk ⟨W, hA, hv⟩ (h2 j u rfl hj rfl hu (by have e := has_bit (by decide) c39; omega))) dX0_street_44
      · refine j_iconst (v := nI 1) C dX0_street_34 rfl ?_
        refine j_goto C 39 dX0_street_35 (by decide) ?_
        refine j_icmp_ne C 45 dX0_street_39 (by decide) (fun c39 => ?_) (fun c39 => ?_)
        · refine j_aload_n C dX0_street_45 rfl 0 rfl ?_
          refine j_callV (w := w) C (kX0_keep G hG w0 w x O V Z ⟨W, hA, hv⟩) pV.ret (ci := 0) (T := TX0) (hA.d0 hv) rfl 0 q900 q902 qs19 q66 q903 (by decide +kernel) rfl (by decide) (by decide) (Nat.le_of_ble_eq_true rfl) rfl dX0_street_46 (by omega) (by omega) (pV.k (fun w3 h3 => ?_))
          obtain ⟨W3, hA3, hv3⟩ := h3
          refine j_aload_n C dX0_street_49 rfl 0 rfl ?_
          refine j_get (w := w3) C in_X0 (ci := 0) (T := TX0) rfl (hA3.d0 hv3) 4 (by decide) q251 (fun _ z => z) (v := .ref (x + 11)) rfl dX0_street_50 ?_
          refine j_dup C dX0_street_53 rfl ?_
          refine j_get (w := w3) C in_X2 (ci := 2) (T := TX2) rfl ((hA3.s0 (V := kpV V) hv3).eq kpV_t).1 10 (by decide) q204 (fun _ z => z) (v := .int (nI (V.2.1 5))) rfl dX0_street_54 ?_
          refine j_iconst (v := nI 1) C dX0_street_57 rfl ?_
          refine j_iload_n C dX0_street_58 rfl 1 rfl ?_
          refine j_shl1 C dX0_street_59 (by omega) ?_
          refine j_ixorN C dX0_street_60 ?_
          refine j_put (w := w3) C (ty0 := tyX2) in_X2 tyX2_ok nmX2 (ci := 2) (T := TX2) rfl ((hA3.s0 (V := kpV V) hv3).eq kpV_t).1 10 (by decide) q204 (fun _ z => z) rfl rfl rfl (fs' := [.int (nI (V.2.1 0)), .int (nI (V.2.1 1)), .int (nI (V.2.1 4)), .int (nI (V.2.1 2)), .int (nI (V.2.1 3)), .ref (x + 11 + 1), .ref (x + 11 + 2), .int (nI (V.2.1 25)), .ref (x + 11 + 3), .ref (x + 11 + 4), .int (nI ((V.2.1 5) ^^^ (2 ^ j)))]) (Nat.le_of_ble_eq_true rfl) rfl dX0_street_61 ?_
          refine j_abs (P := fun w' => FX G w0 w' x O (vT (kpV V) (uN V.2.1 5 ((V.2.1 5) ^^^ (2 ^ j)))) Z) (FX.t0 hA3 hv3 (TN.sc (u := uN V.2.1 5 ((V.2.1 5) ^^^ (2 ^ j))) ((hA3.s0 (V := kpV V) hv3).eq kpV_t) rfl (fun i h1 h2 => uN_n (by omega))) (FR.upd ((hA3.s0 (V := kpV V) hv3).eq kpV_t).1 isC_TE) (hA3.wf.upd ((hA3.s0 (V := kpV V) hv3).eq kpV_t).1)) (fun w4 h4 => ?_)
          obtain ⟨W4, hA4, hv4⟩ := h4
          refine j_aload_n C dX0_street_64 rfl 0 rfl ?_
          refine j_get (w := w4) C in_X0 (ci := 0) (T := TX0) rfl (hA4.d0 hv4) 4 (by decide) q251 (fun _ z => z) (v := .ref (x + 11)) rfl dX0_street_65 ?_
          refine j_get (w := w4) C in_X2 (ci := 2) (T := TX2) rfl (hA4.s0 (V := vT (kpV V) (uN V.2.1 5 ((V.2.1 5) ^^^ (2 ^ j)))) hv4).1 10 (by decide) q204 (fun _ z => z) (v := .int (nI ((uN V.2.1 5 ((V.2.1 5) ^^^ (2 ^ j))) 5))) rfl dX0_street_68 ?_
          exact j_iret C (by omega) (by omega) (fC.mk ⟨W4, hA4, hv4⟩ (h3 j u rfl hj rfl hu (fun z => c39 (bit_has (by decide) (by omega))))) dX0_street_71
        · refine j_ldc C q899 dX0_street_42 ?_
          exact j_iret C (by omega) (by omega) (fC.mk ⟨W, hA, hv⟩ (h2 j u rfl hj rfl hu (by have e := has_bit (by decide) c39; omega))) dX0_street_44
    · refine j_ldc C q391 dX0_street_15 ?_
      exact j_iret C (by omega) (by omega) (fC.mk ⟨W, hA, hv⟩ (h1 (Or.inr c12))) dX0_street_17
set_option maxHeartbeats 400000 in
theorem kX0_asNow (G : gl_T) (hG : GH G) (w0 w : wd_T) (x : Nat) (O : Nat → Prop) (V : fv_T) (Z : fz_T) (hF : FX G w0 w x O V Z)  : Mt G yX0_asNow cX0_asNow 1 (some (.object "MoodFare$Town")) 6 [.ref x] w (pA (fun r w' => r = .ref (x + 16) ∧ FX G w0 w' x O V (zT Z V.2.1) ∧ FR (x + 16) w w')) 1 10 := by
  refine Mt.start (by decide) (Nat.le_of_ble_eq_true rfl) (fun k C => ?_)
  have C : Cx G k cX0_asNow "MoodFare" "asNow" 1 (some (.object "MoodFare$Town")) 6 1 10 _ := C
  obtain ⟨W, hA, hv⟩ := id hF
  refine j_aload_n C dX0_asNow_0 rfl 0 rfl ?_
  refine j_get (w := w) C in_X0 (ci := 0) (T := TX0) rfl (hA.d0 hv) 5 (by decide) q255 (fun _ z => z) (v := .ref (x + 16)) rfl dX0_asNow_1 ?_
  refine j_aload_n C dX0_asNow_4 rfl 0 rfl ?_
  refine j_get (w := w) C in_X0 (ci := 0) (T := TX0) rfl (hA.d0 hv) 4 (by decide) q251 (fun _ z => z) (v := .ref (x + 11)) rfl dX0_asNow_5 ?_
  refine j_callV (w := w) C (kX2_become G w hG (x + 16) (x + 11) _ _ (hA.s1 (Z := Z) hv) (hA.s0 (V := V) hv) (by omega) hA.wf) pV.ret (ci := 2) (T := TX2) (hA.s1 (Z := Z) hv).1 rfl 1 q839 q840 q841 q68 q842 (by decide +kernel) rfl (by decide) (by decide) (Nat.le_of_ble_eq_true rfl) rfl dX0_asNow_8 (by omega) (by omega) (pV.k (fun w1 hp1 => ?_))
  have h1 : FX G w0 w1 x O V (zT Z V.2.1) := FX.t1 hA hv hp1.1 hp1.2.1 hp1.2.2
  obtain ⟨W1, hA1, hv1⟩ := h1
  refine j_aload_n C dX0_asNow_11 rfl 0 rfl ?_
  refine j_get (w := w1) C in_X0 (ci := 0) (T := TX0) rfl (hA1.d0 hv1) 5 (by decide) q255 (fun _ z => z) (v := .ref (x + 16)) rfl dX0_asNow_12 ?_
  exact j_aret C (by first | exact Or.inl ⟨_, rfl⟩ | exact Or.inr ⟨_, rfl⟩) (by first | exact Or.inl rfl | exact Or.inr ⟨_, rfl⟩) (by omega) (by omega) (pA.mk ⟨rfl, ⟨W1, hA1, hv1⟩, hp1.2.1⟩) dX0_asNow_15
set_option maxHeartbeats 400000 in
theorem kX0_undo (G : gl_T) (hG : GH G) (w0 w : wd_T) (x : Nat) (O : Nat → Prop) (V : fv_T) (Z : fz_T) (hF : FX G w0 w x O V Z) (P : Int32 → fv_T → Prop) (h1 : V.1 2 = 0 → P kSTATE V) (h2 : 0 < V.1 2 → P (nI (V.1 2 - 1)) (vT (vN V 2 (V.1 2 - 1)) (V.2.2.1 (V.1 2 - 1)))) : Mt G yX0_undo cX0_undo 1 (some .int) 6 [.ref x] w (fC G w0 x O P) 1 10 := by
  refine Mt.start (by decide) (Nat.le_of_ble_eq_true rfl) (fun k C => ?_)
  have C : Cx G k cX0_undo "MoodFare" "undo" 1 (some .int) 6 1 10 _ := C
  obtain ⟨W, hA, hv⟩ := id hF
  have hac := hA.past.2
  rw [hv.n 2 (by omega)] at hac
  refine j_aload_n C dX0_undo_0 rfl 0 rfl ?_
  refine j_get (w := w) C in_X0 (ci := 0) (T := TX0) rfl (hA.d0 hv) 7 (by decide) q257 (fun _ z => z) (v := .int (nI (V.1 2))) rfl dX0_undo_1 ?_
  refine j_if_neN C 10 dX0_undo_4 (by decide) (by omega) (fun c4 => ?_) (fun c4 => ?_)
  · refine j_aload_n C dX0_undo_10 rfl 0 rfl ?_
    refine j_dup C dX0_undo_11 rfl ?_
    refine j_get (w := w) C in_X0 (ci := 0) (T := TX0) rfl (hA.d0 hv) 7 (by decide) q257 (fun _ z => z) (v := .int (nI (V.1 2))) rfl dX0_undo_12 ?_
    refine j_iconst (v := nI 1) C dX0_undo_15 rfl ?_
    refine j_isubN C dX0_undo_16 (by omega) ?_
    refine j_put (w := w) C (ty0 := tyX0) in_X0 tyX0_ok nmX0 (ci := 0) (T := TX0) rfl (hA.d0 hv) 7 (by decide) q257 (fun _ z => z) rfl rfl rfl (fs' := [.ref (x + 1), .ref (x + 10), .int (nI (V.1 0)), .int (nI (V.1 1)), .ref (x + 11), .ref (x + 16), .ref (x + 21), .int (nI ((V.1 2) - 1)), .ref (x + 22), .ref (W.1 5), .int (nI (V.1 3)), .ref (x + 25), .ref (x + 26), .ref (x + 27)]) (Nat.le_of_ble_eq_true rfl) rfl dX0_undo_17 ?_
    obtain ⟨b, hb⟩ := hA.past.1 (V.1 2 - 1) (by rw [hv.n 2 (by omega)]; omega)
    have hrow := hv.p (V.1 2 - 1) (by omega)
    refine j_abs (P := fun w' => FX G w0 w' x O (vN V 2 (V.1 2 - 1)) Z ∧ ∃ W', FA G w0 w' x O W' ∧ VW W' (vN V 2 (V.1 2 - 1)) Z ∧ W'.2.2.1 (2 + (V.1 2 - 1)) = some b ∧ W'.2.1 (2 + (V.1 2 - 1)) = V.2.2.1 (V.1 2 - 1)) (by have q := FX.act' hA hv (V.1 2 - 1) (by omega); exact ⟨⟨_, q.1, q.2⟩, _, q.1, q.2, hb, hrow⟩) (fun w1 h1 => ?_)
    obtain ⟨-, W1, hA1, hv1, hb1, hr1⟩ := h1
    refine j_aload_n C dX0_undo_20 rfl 0 rfl ?_
    refine j_get (w := w1) C in_X0 (ci := 0) (T := TX0) rfl (hA1.d0 hv1) 4 (by decide) q251 (fun _ z => z) (v := .ref (x + 11)) rfl dX0_undo_21 ?_
    refine j_aload_n C dX0_undo_24 rfl 0 rfl ?_
    refine j_get (w := w1) C in_X0 (ci := 0) (T := TX0) rfl (hA1.d0 hv1) 6 (by decide) q256 (fun _ z => z) (v := .ref (x + 21)) rfl dX0_undo_25 ?_
    refine j_aload_n C dX0_undo_28 rfl 0 rfl ?_
    refine j_get (w := w1) C in_X0 (ci := 0) (T := TX0) rfl (hA1.d0 hv1) 7 (by decide) q257 (fun _ z => z) (v := .int (nI (V.1 2 - 1))) rfl dX0_undo_29 ?_
    refine j_aald (w := w1) C 5 hA1.c21 rfl (V.1 2 - 1) rfl (by omega) (by decide) dX0_undo_32 ?_
    refine j_asv (y := .ref b) (by unfold adP; rw [if_pos (by omega), hb1]; rfl) ?_
    refine j_callV (w := w1) C (kX2_become G w1 hG (x + 11) b _ _ (hA1.s0 (V := vN V 2 (V.1 2 - 1)) hv1) (hA1.tn (by omega) hb1) (fun z => by have := hA1.inj (i := 0) (j := 2 + (V.1 2 - 1)) (by omega) (by omega) hA1.a0 (by rw [← z]; exact hb1); omega) hA1.wf) pV.ret (ci := 2) (T := TX2) (hA1.s0 (V := vN V 2 (V.1 2 - 1)) hv1).1 rfl 1 q839 q840 q841 q68 q842 (by decide +kernel) rfl (by decide) (by decide) (Nat.le_of_ble_eq_true rfl) rfl dX0_undo_33 (by omega) (by omega) (pV.k (fun w2 hp2 => ?_))
    have h2 : FX G w0 w2 x O (vT (vN V 2 (V.1 2 - 1)) (V.2.2.1 (V.1 2 - 1))) Z := FX.t0 hA1 hv1 (hp2.1.eq hr1) hp2.2.1 hp2.2.2
    obtain ⟨W2, hA2, hv2⟩ := h2
    refine j_aload_n C dX0_undo_36 rfl 0 rfl ?_
    refine j_get (w := w2) C in_X0 (ci := 0) (T := TX0) rfl (hA2.d0 hv2) 7 (by decide) q257 (fun _ z => z) (v := .int (nI (V.1 2 - 1))) rfl dX0_undo_37 ?_
    exact j_iret C (by omega) (by omega) (fC.mk ⟨W2, hA2, hv2⟩ (h2 (by omega))) dX0_undo_40
  · refine j_ldc C q899 dX0_undo_7 ?_
    exact j_iret C (by omega) (by omega) (fC.mk ⟨W, hA, hv⟩ (h1 (by omega))) dX0_undo_9
