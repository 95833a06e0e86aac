/-! ===== the reference: acts and questions ===== -/
set_option maxRecDepth 100000
set_option maxHeartbeats 1000000 in
theorem mX4_notes (G : gl_T) (M : Nat → Option (Nat × va_E)) (sz o : Nat) (S : ms_T) (ha : S.2.1 17 ≤ 24) : Mt G yX4_notes cX4_notes 2 none 1 [.ref o] (mset G M o S, sz) (qV (mset G M o (noS S), sz)) 0 0 := by
  refine Mt.start (by decide) (Nat.le_of_ble_eq_true rfl) (fun k C => ?_)
  have C : Cx G k cX4_notes "MoodFareModel" "notes" 2 none 1 0 0 _ := C
  refine j_aload_n C dX4_notes_0 rfl 0 rfl ?_
  refine mg17 C q1491 dX4_notes_1 (v := S.2.1 17) rfl ?_
  refine j_bipush (v := nI 24) C dX4_notes_4 rfl ?_
  refine j_icmp_neN C 49 dX4_notes_6 (by decide) (by omega) (by omega) (fun c6 => ?_) (fun c6 => ?_)
  · refine j_aload_n C dX4_notes_49 rfl 0 rfl ?_
    refine mg13 C q1487 dX4_notes_50 ?_
    refine j_iconst (v := nI 0) C dX4_notes_53 rfl ?_
    refine j_aload_n C dX4_notes_54 rfl 0 rfl ?_
    refine mg16 C q1490 dX4_notes_55 ?_
    refine j_bipush (v := nI 42) C dX4_notes_58 rfl ?_
    refine j_aload_n C dX4_notes_60 rfl 0 rfl ?_
    refine mg17 C q1491 dX4_notes_61 (v := S.2.1 17) rfl ?_
    refine j_imulN C dX4_notes_64 ?_
    refine j_callS C (mX4_copies G (mset G M o S, sz) (o + 6) o (o + 9) o 42 1008 0 (42 * (S.2.1 17)) (S.2.2.2 6) (S.2.2.2 9) (mset_a 6 (by decide) (by decide)) (mset_a 9 (by decide) (by decide)) (by omega) (by omega) (by omega) (by decide) (by decide)) pV.ret 4 q1668 q1669 q73 q1670 (by decide +kernel) rfl (by decide) (by decide) (Nat.le_of_ble_eq_true rfl) rfl dX4_notes_65 (by omega) (by omega) (qV.k ?_)
    refine J.eq (w' := (mset G M o (sB S 9 (va_cpy (S.2.2.2 6) (S.2.2.2 9) 0 (42 * (S.2.1 17)) 42)), sz)) ?_ (congrArg (fun z => (z, sz)) (mset_ua 9 (by decide) (by decide) (mfs_B _ _ _ _) rfl (mcon_B _ _ _))) rfl rfl
    refine j_aload_n C dX4_notes_68 rfl 0 rfl ?_
    refine j_dup C dX4_notes_69 rfl ?_
    refine mg17 C q1491 dX4_notes_70 (v := S.2.1 17) rfl ?_
    refine j_iconst (v := nI 1) C dX4_notes_73 rfl ?_
    refine j_iaddN C dX4_notes_74 ?_
    refine mp17 C q1491 dX4_notes_75 ?_
    exact j_vret C (by omega) (by omega) (pV.mk (congrArg (fun z => (mset G M o z, sz)) (by unfold noS noP noA; rw [if_neg c6, if_neg c6]))) dX4_notes_78
  · refine j_iconst (v := nI 0) C dX4_notes_9 rfl ?_
    refine j_istore_n (lv' := [(1, .int (nI 0)), (0, .ref o)]) C dX4_notes_10 rfl (by decide) rfl ?_
    have lp : ∀ (n_lp e : Nat), 0 ≤ e → e ≤ 966 → 966 < e + n_lp → J G k (mset G M o (sB S 9 (va_cpy (S.2.2.2 9) (S.2.2.2 9) 42 0 e)), sz) [(1, .int (nI e)), (0, .ref o)] 11 [] 0 0 := by
      intro n_lp
      induction n_lp with
      | zero => intro e h0_lp h1_lp h2_lp; omega
      | succ n_lp ih_lp =>
        intro e h0_lp h1_lp h2_lp
        refine j_iload_n C dX4_notes_11 rfl 0 rfl ?_
        refine j_sipush (v := nI 966) C dX4_notes_12 rfl ?_
        refine j_icmp_geN C 39 dX4_notes_15 (by decide) (by omega) (by omega) (fun c15 => ?_) (fun c15 => ?_)
        · obtain rfl : 966 = e := by omega
          refine j_aload_n C dX4_notes_39 rfl 1 rfl ?_
          refine j_dup C dX4_notes_40 rfl ?_
          refine mg17 C q1491 dX4_notes_41 (v := S.2.1 17) rfl ?_
          refine j_iconst (v := nI 1) C dX4_notes_44 rfl ?_
          refine j_isubN C dX4_notes_45 (by omega) ?_
          refine mp17 C q1491 dX4_notes_46 ?_
          refine j_aload_n C dX4_notes_49 rfl 1 rfl ?_
          refine mg13 C q1487 dX4_notes_50 ?_
          refine j_iconst (v := nI 0) C dX4_notes_53 rfl ?_
          refine j_aload_n C dX4_notes_54 rfl 1 rfl ?_
          refine mg16 C q1490 dX4_notes_55 ?_
          refine j_bipush (v := nI 42) C dX4_notes_58 rfl ?_
          refine j_aload_n C dX4_notes_60 rfl 1 rfl ?_
          refine mg17 C q1491 dX4_notes_61 (v := (S.2.1 17) - 1) rfl ?_
          refine j_imulN C dX4_notes_64 ?_
          refine j_callS C (mX4_copies G (mset G M o (sN (sB S 9 (va_cpy (S.2.2.2 9) (S.2.2.2 9) 42 0 966)) 17 ((S.2.1 17) - 1)), sz) (o + 6) o (o + 9) o 42 1008 0 (42 * ((S.2.1 17) - 1)) (S.2.2.2 6) (va_cpy (S.2.2.2 9) (S.2.2.2 9) 42 0 966) (mset_a 6 (by decide) (by decide)) (mset_a 9 (by decide) (by decide)) (by omega) (by omega) (by omega) (by decide) (by decide)) pV.ret 4 q1668 q1669 q73 q1670 (by decide +kernel) rfl (by decide) (by decide) (Nat.le_of_ble_eq_true rfl) rfl dX4_notes_65 (by omega) (by omega) (qV.k ?_)
          refine J.eq (w' := (mset G M o (sB (sN (sB S 9 (va_cpy (S.2.2.2 9) (S.2.2.2 9) 42 0 966)) 17 ((S.2.1 17) - 1)) 9 (va_cpy (S.2.2.2 6) (va_cpy (S.2.2.2 9) (S.2.2.2 9) 42 0 966) 0 (42 * ((S.2.1 17) - 1)) 42)), sz)) ?_ (congrArg (fun z => (z, sz)) (mset_ua 9 (by decide) (by decide) (mfs_B _ _ _ _) rfl (mcon_B _ _ _))) rfl rfl
          refine j_aload_n C dX4_notes_68 rfl 1 rfl ?_
          refine j_dup C dX4_notes_69 rfl ?_
          refine mg17 C q1491 dX4_notes_70 (v := (S.2.1 17) - 1) rfl ?_
          refine j_iconst (v := nI 1) C dX4_notes_73 rfl ?_
          refine j_iaddN C dX4_notes_74 ?_
          refine mp17 C q1491 dX4_notes_75 ?_
          exact j_vret C (by omega) (by omega) (pV.mk (congrArg (fun z => (mset G M o z, sz)) (by rw [sB_sNB]; unfold noS noP noA; rw [if_pos c6, if_pos c6]))) dX4_notes_78
        · refine j_aload_n C dX4_notes_18 rfl 1 rfl ?_
          refine mg16 C q1490 dX4_notes_19 ?_
          refine j_iload_n C dX4_notes_22 rfl 0 rfl ?_
          refine j_aload_n C dX4_notes_23 rfl 1 rfl ?_
          refine mg16 C q1490 dX4_notes_24 ?_
          refine j_iload_n C dX4_notes_27 rfl 0 rfl ?_
          refine j_bipush (v := nI 42) C dX4_notes_28 rfl ?_
          refine j_iaddN C dX4_notes_30 ?_
          refine ml9 C (e + 42) rfl (by omega) dX4_notes_31 (v := (va_cpy (S.2.2.2 9) (S.2.2.2 9) 42 0 e) (e + 42)) rfl ?_
          refine j_as (y := nI (S.2.2.2 9 (e + 42))) (congrArg nI (pk_cpy_out (by omega))) ?_
          refine mt9 C (e) rfl (by omega) dX4_notes_32 ?_
          refine j_iincN (lv' := [(1, .int (nI (e + 1))), (0, .ref o)]) C dX4_notes_33 0 rfl (by decide) rfl ?_
          refine j_goto C 11 dX4_notes_36 (by decide) ?_
          refine j_lv [0, 1] (lv' := [(1, .int (nI (e + 1))), (0, .ref o)]) rfl ?_
          refine J.eq (w' := (mset G M o (sB S 9 (va_cpy (S.2.2.2 9) (S.2.2.2 9) 42 0 (e + 1))), sz)) ?_ (by rw [show S.2.2.2 9 (e + 42) = S.2.2.2 9 (42 + e) by rw [Nat.add_comm]]; have q := cpyN_s (S.2.2.2 9) (S.2.2.2 9) 42 0 e; rw [Nat.zero_add] at q; rw [← q]; rfl) rfl rfl
          exact ih_lp (e + 1) (by omega) (by omega) (by omega)
    refine j_lv [0, 1] (lv' := [(1, .int (nI 0)), (0, .ref o)]) rfl ?_
    refine J.eq (w' := (mset G M o (sB S 9 (va_cpy (S.2.2.2 9) (S.2.2.2 9) 42 0 0)), sz)) ?_ (by rw [cpy_0]; rfl) rfl rfl
    exact lp (966 + 1 - 0) (0) (by omega) (by omega) (by omega)
set_option maxHeartbeats 1000000 in
theorem mX4_ride (G : gl_T) (M : Nat → Option (Nat × va_E)) (sz o : Nat) (S : ms_T) (x : Int32) (ht : smT (S.2.2.2 6)) (ha : S.2.1 17 ≤ 24) (P : Int32 → ms_T → Prop) (h1 : inB x (nI 0) (nI (S.2.2.2 6 25) - nI 1) = false → P kBAD S) (h2 : ∀ j, x = nI j → j < S.2.2.2 6 25 → goN (S.2.2.2 6) j (S.2.2.2 6 4) = false → P kSTATE S) (h3 : ∀ j, x = nI j → j < S.2.2.2 6 25 → goN (S.2.2.2 6) j (S.2.2.2 6 4) = true → 999 ≤ S.2.2.2 6 3 → P kFULL S) (h4 : ∀ j, x = nI j → j < S.2.2.2 6 25 → goN (S.2.2.2 6) j (S.2.2.2 6 4) = true → S.2.2.2 6 3 < 999 → P (nI (rdT (S.2.2.2 6) j 1)) (sB (noS S) 6 (rdT (S.2.2.2 6) j))) : Mt G yX4_ride cX4_ride 2 (some .int) 3 [.ref o, .int x] (mset G M o S, sz) (pM G M o sz P) 0 0 := by
  refine Mt.start (by decide) (Nat.le_of_ble_eq_true rfl) (fun k C => ?_)
  have C : Cx G k cX4_ride "MoodFareModel" "ride" 2 (some .int) 3 0 0 _ := C
  have ht0 := ht
  obtain ⟨r0, r1, r2, r3, r4, r5, r6, r7, r25, r26⟩ := ht
  refine j_aload_n C dX4_ride_0 rfl 0 rfl ?_
  refine j_iload_n C dX4_ride_1 rfl 1 rfl ?_
  refine j_callV C (mX4_isStreet G M sz o S x) pI.ret mset_o rfl 1 q1679 q1681 qs44 q73 q1682 (by decide +kernel) rfl (by decide) (by decide) (Nat.le_of_ble_eq_true rfl) rfl dX4_ride_2 (by omega) (by omega) (qI.k ?_)
  refine j_if_neB C 11 dX4_ride_5 (by decide) (fun c5 => ?_) (fun c5 => ?_)
  · obtain ⟨j, rfl, hj⟩ := inB_p (by first | omega | assumption | (intro x hx; have := r26 x hx; omega)) c5
    refine j_aload_n C dX4_ride_11 rfl 0 rfl ?_
    refine mg13 C q1487 dX4_ride_12 ?_
    refine j_iload_n C dX4_ride_15 rfl 1 rfl ?_
    refine j_aload_n C dX4_ride_16 rfl 0 rfl ?_
    refine mg13 C q1487 dX4_ride_17 ?_
    refine j_iconst (v := nI 4) C dX4_ride_20 rfl ?_
    refine ml6 C (4) rfl (by first | omega | assumption | (intro x hx; have := r26 x hx; omega)) dX4_ride_21 (v := S.2.2.2 6 4) rfl ?_
    refine j_callS C (mX4_goes G (mset G M o S, sz) (o + 6) o (S.2.2.2 6) (nI j) (S.2.2.2 6 4) (mset_a 6 (by decide) (by decide)) (by first | omega | assumption | (intro x hx; have := r26 x hx; omega)) (by first | omega | assumption | (intro x hx; have := r26 x hx; omega)) (by first | omega | assumption | (intro x hx; have := r26 x hx; omega)) (by first | omega | assumption | (intro x hx; have := r26 x hx; omega))) pI.ret 3 q1683 q1684 q73 q1685 (by decide +kernel) rfl (by decide) (by decide) (Nat.le_of_ble_eq_true rfl) rfl dX4_ride_22 (by omega) (by omega) (qI.k ?_)
    refine j_if_neB C 31 dX4_ride_25 (by decide) (fun c25 => ?_) (fun c25 => ?_)
    · refine j_aload_n C dX4_ride_31 rfl 0 rfl ?_
      refine mg13 C q1487 dX4_ride_32 ?_
      refine j_iconst (v := nI 3) C dX4_ride_35 rfl ?_
      refine ml6 C (3) rfl (by first | omega | assumption | (intro x hx; have := r26 x hx; omega)) dX4_ride_36 (v := S.2.2.2 6 3) rfl ?_
      refine j_sipush (v := nI 999) C dX4_ride_37 rfl ?_
      refine j_icmp_ltN C 46 dX4_ride_40 (by decide) (by first | omega | assumption | (intro x hx; have := r26 x hx; omega)) (by first | omega | assumption | (intro x hx; have := r26 x hx; omega)) (fun c40 => ?_) (fun c40 => ?_)
      · refine j_aload_n C dX4_ride_46 rfl 0 rfl ?_
        refine j_callV C (mX4_notes G M sz o S (by omega)) pV.ret mset_o rfl 0 q1690 q1692 qs45 q73 q1693 (by decide +kernel) rfl (by decide) (by decide) (Nat.le_of_ble_eq_true rfl) rfl dX4_ride_47 (by omega) (by omega) (qV.k ?_)
        refine j_aload_n C dX4_ride_50 rfl 0 rfl ?_
        refine mg13 C q1487 dX4_ride_51 ?_
        refine j_iload_n C dX4_ride_54 rfl 1 rfl ?_
        refine j_callS C (mX4_rides G (mset G M o (noS S), sz) (o + 6) o (S.2.2.2 6) j (mset_a 6 (by decide) (by decide)) ht0 (by first | omega | assumption | (intro x hx; have := r26 x hx; omega))) pV.ret 2 q1694 q1695 q73 q1696 (by decide +kernel) rfl (by decide) (by decide) (Nat.le_of_ble_eq_true rfl) rfl dX4_ride_55 (by omega) (by omega) (qV.k ?_)
        refine J.eq (w' := (mset G M o (sB (noS S) 6 (rdT (S.2.2.2 6) j)), sz)) ?_ (congrArg (fun z => (z, sz)) (mset_ua 6 (by decide) (by decide) (mfs_B _ _ _ _) rfl (mcon_B _ _ _))) rfl rfl
        refine j_aload_n C dX4_ride_58 rfl 0 rfl ?_
        refine mg13 C q1487 dX4_ride_59 ?_
        refine j_iconst (v := nI 1) C dX4_ride_62 rfl ?_
        refine ml6 C (1) rfl (by first | omega | assumption | (intro x hx; have := r26 x hx; omega)) dX4_ride_63 (v := (rdT (S.2.2.2 6) j) 1) rfl ?_
        exact j_iret C (by omega) (by omega) (pM.mk (h4 j rfl hj (by rw [← goB_i (by omega) (by omega)]; exact c25) (by omega))) dX4_ride_64
      · refine j_ldc C q1619 dX4_ride_43 ?_
        exact j_iret C (by omega) (by omega) (pM.mk (h3 j rfl hj (by rw [← goB_i (by omega) (by omega)]; exact c25) (by omega))) dX4_ride_45
    · refine j_ldc C q1689 dX4_ride_28 ?_
      exact j_iret C (by omega) (by omega) (pM.mk (h2 j rfl hj (by rw [← goB_i (by omega) (by omega)]; exact c25))) dX4_ride_30
  · refine j_ldc C q1582 dX4_ride_8 ?_
    exact j_iret C (by omega) (by omega) (pM.mk (h1 c5)) dX4_ride_10
set_option maxHeartbeats 1000000 in
theorem mX4_lesson (G : gl_T) (M : Nat → Option (Nat × va_E)) (sz o : Nat) (S : ms_T) (x v : Int32) (ht : smT (S.2.2.2 6)) (ha : S.2.1 17 ≤ 24) (P : Int32 → ms_T → Prop) (h1 : inB x (nI 0) (nI (S.2.2.2 6 6) - nI 1) = false ∨ inB v (nI 0) (nI 9) = false → P kBAD S) (h2 : ∀ j u, x = nI j → j < S.2.2.2 6 6 → v = nI u → u ≤ 9 → P (nI (S.2.2.2 6 (7 + 3 * j + 1))) (sB (noS S) 6 (uN (S.2.2.2 6) (7 + 3 * j + 1) u))) : Mt G yX4_lesson cX4_lesson 4 (some .int) 2 [.ref o, .int x, .int v] (mset G M o S, sz) (pM G M o sz P) 0 0 := by
  refine Mt.start (by decide) (Nat.le_of_ble_eq_true rfl) (fun k C => ?_)
  have C : Cx G k cX4_lesson "MoodFareModel" "lesson" 4 (some .int) 2 0 0 _ := C
  have ht0 := ht
  obtain ⟨r0, r1, r2, r3, r4, r5, r6, r7, r25, r26⟩ := ht
  refine j_aload_n C dX4_lesson_0 rfl 0 rfl ?_
  refine j_iload_n C dX4_lesson_1 rfl 1 rfl ?_
  refine j_callV C (mX4_isCorner G M sz o S x) pI.ret mset_o rfl 1 q1707 q1709 qs46 q73 q1710 (by decide +kernel) rfl (by decide) (by decide) (Nat.le_of_ble_eq_true rfl) rfl dX4_lesson_2 (by omega) (by omega) (qI.k ?_)
  refine j_if_eqB C 18 dX4_lesson_5 (by decide) (fun c5 => ?_) (fun c5 => ?_)
  · refine j_ldc C q1582 dX4_lesson_18 ?_
    exact j_iret C (by omega) (by omega) (pM.mk (h1 (Or.inl c5))) dX4_lesson_20
  · obtain ⟨j, rfl, hj⟩ := inB_p (by first | omega | assumption | (intro x hx; have := r26 x hx; omega)) c5
    refine j_iload_n C dX4_lesson_8 rfl 2 rfl ?_
    refine j_iconst (v := nI 0) C dX4_lesson_9 rfl ?_
    refine j_bipush (v := nI 9) C dX4_lesson_10 rfl ?_
    refine j_callS C (mX4_in G (mset G M o S, sz) v (nI 0) (nI 9)) pI.ret 3 q1579 q1580 q73 q1581 (by decide +kernel) rfl (by decide) (by decide) (Nat.le_of_ble_eq_true rfl) rfl dX4_lesson_12 (by omega) (by omega) (qI.k ?_)
    refine j_if_neB C 21 dX4_lesson_15 (by decide) (fun c15 => ?_) (fun c15 => ?_)
    · obtain ⟨u, rfl, -, hu⟩ := inB_n (by decide) c15 (by decide)
      refine j_aload_n C dX4_lesson_21 rfl 0 rfl ?_
      refine j_callV C (mX4_notes G M sz o S (by omega)) pV.ret mset_o rfl 0 q1690 q1692 qs45 q73 q1693 (by decide +kernel) rfl (by decide) (by decide) (Nat.le_of_ble_eq_true rfl) rfl dX4_lesson_22 (by omega) (by omega) (qV.k ?_)
      refine j_aload_n C dX4_lesson_25 rfl 0 rfl ?_
      refine mg13 C q1487 dX4_lesson_26 ?_
      refine j_bipush (v := nI 7) C dX4_lesson_29 rfl ?_
      refine j_iconst (v := nI 3) C dX4_lesson_31 rfl ?_
      refine j_iload_n C dX4_lesson_32 rfl 1 rfl ?_
      refine j_imulN C dX4_lesson_33 ?_
      refine j_iaddN C dX4_lesson_34 ?_
      refine j_iconst (v := nI 1) C dX4_lesson_35 rfl ?_
      refine j_iaddN C dX4_lesson_36 ?_
      refine ml6 C ((7 + (3 * j)) + 1) rfl (by first | omega | assumption | (intro x hx; have := r26 x hx; omega)) dX4_lesson_37 (v := S.2.2.2 6 ((7 + (3 * j)) + 1)) rfl ?_
      refine j_istore_n (lv' := [(3, .int (nI (S.2.2.2 6 ((7 + (3 * j)) + 1)))), (0, .ref o), (1, .int (nI j)), (2, .int (nI u))]) C dX4_lesson_38 rfl (by decide) rfl ?_
      refine j_aload_n C dX4_lesson_39 rfl 1 rfl ?_
      refine mg13 C q1487 dX4_lesson_40 ?_
      refine j_bipush (v := nI 7) C dX4_lesson_43 rfl ?_
      refine j_iconst (v := nI 3) C dX4_lesson_45 rfl ?_
      refine j_iload_n C dX4_lesson_46 rfl 2 rfl ?_
      refine j_imulN C dX4_lesson_47 ?_
      refine j_iaddN C dX4_lesson_48 ?_
      refine j_iconst (v := nI 1) C dX4_lesson_49 rfl ?_
      refine j_iaddN C dX4_lesson_50 ?_
      refine j_iload_n C dX4_lesson_51 rfl 3 rfl ?_
      refine mt6 C ((7 + (3 * j)) + 1) rfl (by first | omega | assumption | (intro x hx; have := r26 x hx; omega)) dX4_lesson_52 ?_
      refine j_iload_n C dX4_lesson_53 rfl 0 rfl ?_
      exact j_iret C (by omega) (by omega) (pM.mk (h2 j u rfl hj rfl hu)) dX4_lesson_54
    · refine j_ldc C q1582 dX4_lesson_18 ?_
      exact j_iret C (by omega) (by omega) (pM.mk (h1 (Or.inr c15))) dX4_lesson_20
set_option maxHeartbeats 1000000 in
theorem mX4_reset (G : gl_T) (M : Nat → Option (Nat × va_E)) (sz o : Nat) (S : ms_T) (ht : smT (S.2.2.2 6)) (ha : S.2.1 17 ≤ 24) (P : Int32 → ms_T → Prop) (h1 : S.2.2.2 6 0 = 0 → P kSTATE S) (h2 : 0 < S.2.2.2 6 0 → P (nI (S.2.2.2 6 2)) (sB (noS S) 6 (uN (S.2.2.2 6) 2 0))) : Mt G yX4_reset cX4_reset 2 (some .int) 2 [.ref o] (mset G M o S, sz) (pM G M o sz P) 0 0 := by
  refine Mt.start (by decide) (Nat.le_of_ble_eq_true rfl) (fun k C => ?_)
  have C : Cx G k cX4_reset "MoodFareModel" "reset" 2 (some .int) 2 0 0 _ := C
  have ht0 := ht
  obtain ⟨r0, r1, r2, r3, r4, r5, r6, r7, r25, r26⟩ := ht
  refine j_aload_n C dX4_reset_0 rfl 0 rfl ?_
  refine j_callV C (mX4_isTown G M sz o S (by first | omega | assumption | (intro x hx; have := r26 x hx; omega))) pI.ret mset_o rfl 0 q1715 q1717 qs47 q73 q1718 (by decide +kernel) rfl (by decide) (by decide) (Nat.le_of_ble_eq_true rfl) rfl dX4_reset_1 (by omega) (by omega) (qI.k ?_)
  refine j_if_neB C 10 dX4_reset_4 (by decide) (fun c4 => ?_) (fun c4 => ?_)
  · refine j_aload_n C dX4_reset_10 rfl 0 rfl ?_
    refine j_callV C (mX4_notes G M sz o S (by omega)) pV.ret mset_o rfl 0 q1690 q1692 qs45 q73 q1693 (by decide +kernel) rfl (by decide) (by decide) (Nat.le_of_ble_eq_true rfl) rfl dX4_reset_11 (by omega) (by omega) (qV.k ?_)
    refine j_aload_n C dX4_reset_14 rfl 0 rfl ?_
    refine mg13 C q1487 dX4_reset_15 ?_
    refine j_iconst (v := nI 2) C dX4_reset_18 rfl ?_
    refine ml6 C (2) rfl (by first | omega | assumption | (intro x hx; have := r26 x hx; omega)) dX4_reset_19 (v := S.2.2.2 6 2) rfl ?_
    refine j_istore_n (lv' := [(1, .int (nI (S.2.2.2 6 2))), (0, .ref o)]) C dX4_reset_20 rfl (by decide) rfl ?_
    refine j_aload_n C dX4_reset_21 rfl 1 rfl ?_
    refine mg13 C q1487 dX4_reset_22 ?_
    refine j_iconst (v := nI 2) C dX4_reset_25 rfl ?_
    refine j_iconst (v := nI 0) C dX4_reset_26 rfl ?_
    refine mt6 C (2) rfl (by first | omega | assumption | (intro x hx; have := r26 x hx; omega)) dX4_reset_27 ?_
    refine j_iload_n C dX4_reset_28 rfl 0 rfl ?_
    exact j_iret C (by omega) (by omega) (pM.mk (h2 (of_decide_eq_true c4))) dX4_reset_29
  · refine j_ldc C q1689 dX4_reset_7 ?_
    exact j_iret C (by omega) (by omega) (pM.mk (h1 (by have := of_decide_eq_false c4; omega))) dX4_reset_9
set_option maxHeartbeats 1000000 in
theorem mX4_street (G : gl_T) (M : Nat → Option (Nat × va_E)) (sz o : Nat) (S : ms_T) (x y : Int32) (ht : smT (S.2.2.2 6)) (ha : S.2.1 17 ≤ 24) (P : Int32 → ms_T → Prop) (h1 : inB x (nI 0) (nI (S.2.2.2 6 25) - nI 1) = false ∨ inB y (nI 0) (nI 1) = false → P kBAD S) (h2 : ∀ j u, x = nI j → j < S.2.2.2 6 25 → y = nI u → u ≤ 1 → S.2.2.2 6 5 / 2 ^ j % 2 = u → P kSTATE S) (h3 : ∀ j u, x = nI j → j < S.2.2.2 6 25 → y = nI u → u ≤ 1 → ¬ S.2.2.2 6 5 / 2 ^ j % 2 = u → P (nI (S.2.2.2 6 5 ^^^ 2 ^ j)) (sB (noS S) 6 (uN (S.2.2.2 6) 5 (S.2.2.2 6 5 ^^^ 2 ^ j)))) : Mt G yX4_street cX4_street 3 (some .int) 2 [.ref o, .int x, .int y] (mset G M o S, sz) (pM G M o sz P) 0 0 := by
  refine Mt.start (by decide) (Nat.le_of_ble_eq_true rfl) (fun k C => ?_)
  have C : Cx G k cX4_street "MoodFareModel" "street" 3 (some .int) 2 0 0 _ := C
  have ht0 := ht
  obtain ⟨r0, r1, r2, r3, r4, r5, r6, r7, r25, r26⟩ := ht
  refine j_aload_n C dX4_street_0 rfl 0 rfl ?_
  refine j_iload_n C dX4_street_1 rfl 1 rfl ?_
  refine j_callV C (mX4_isStreet G M sz o S x) pI.ret mset_o rfl 1 q1679 q1681 qs44 q73 q1682 (by decide +kernel) rfl (by decide) (by decide) (Nat.le_of_ble_eq_true rfl) rfl dX4_street_2 (by omega) (by omega) (qI.k ?_)
  refine j_if_eqB C 17 dX4_street_5 (by decide) (fun c5 => ?_) (fun c5 => ?_)
  · refine j_ldc C q1582 dX4_street_17 ?_
    exact j_iret C (by omega) (by omega) (pM.mk (h1 (Or.inl c5))) dX4_street_19
  · obtain ⟨j, rfl, hj⟩ := inB_p (by first | omega | assumption | (intro x hx; have := r26 x hx; omega) | exact and1_lt _) c5
    refine j_iload_n C dX4_street_8 rfl 2 rfl ?_
    refine j_iconst (v := nI 0) C dX4_street_9 rfl ?_
    refine j_iconst (v := nI 1) C dX4_street_10 rfl ?_
    refine j_callS C (mX4_in G (mset G M o S, sz) y (nI 0) (nI 1)) pI.ret 3 q1579 q1580 q73 q1581 (by decide +kernel) rfl (by decide) (by decide) (Nat.le_of_ble_eq_true rfl) rfl dX4_street_11 (by omega) (by omega) (qI.k ?_)
    refine j_if_neB C 20 dX4_street_14 (by decide) (fun c14 => ?_) (fun c14 => ?_)
    · obtain ⟨u, rfl, -, hu⟩ := inB_n (by decide) c14 (by decide)
      refine j_aload_n C dX4_street_20 rfl 0 rfl ?_
      refine mg13 C q1487 dX4_street_21 ?_
      refine j_iconst (v := nI 5) C dX4_street_24 rfl ?_
      refine ml6 C (5) rfl (by first | omega | assumption | (intro x hx; have := r26 x hx; omega) | exact and1_lt _) dX4_street_25 (v := S.2.2.2 6 5) rfl ?_
      refine j_iload_n C dX4_street_26 rfl 1 rfl ?_
      refine j_ishrN C dX4_street_27 (by first | omega | assumption | (intro x hx; have := r26 x hx; omega) | exact and1_lt _) (by first | omega | assumption | (intro x hx; have := r26 x hx; omega) | exact and1_lt _) ?_
      refine j_iconst (v := nI 1) C dX4_street_28 rfl ?_
      refine j_iandN C dX4_street_29 ?_
      refine j_iload_n C dX4_street_30 rfl 2 rfl ?_
      refine j_icmp_neN C 37 dX4_street_31 (by decide) (by first | omega | assumption | (intro x hx; have := r26 x hx; omega) | exact and1_lt _) (by first | omega | assumption | (intro x hx; have := r26 x hx; omega) | exact and1_lt _) (fun c31 => ?_) (fun c31 => ?_)
      · refine j_aload_n C dX4_street_37 rfl 0 rfl ?_
        refine j_callV C (mX4_notes G M sz o S (by omega)) pV.ret mset_o rfl 0 q1690 q1692 qs45 q73 q1693 (by decide +kernel) rfl (by decide) (by decide) (Nat.le_of_ble_eq_true rfl) rfl dX4_street_38 (by omega) (by omega) (qV.k ?_)
        refine j_aload_n C dX4_street_41 rfl 0 rfl ?_
        refine mg13 C q1487 dX4_street_42 ?_
        refine j_iconst (v := nI 5) C dX4_street_45 rfl ?_
        refine j_dup2 C dX4_street_46 rfl rfl ?_
        refine ml6 C (5) rfl (by first | omega | assumption | (intro x hx; have := r26 x hx; omega) | exact and1_lt _) dX4_street_47 (v := S.2.2.2 6 5) rfl ?_
        refine j_iconst (v := nI 1) C dX4_street_48 rfl ?_
        refine j_iload_n C dX4_street_49 rfl 1 rfl ?_
        refine j_shl1 C dX4_street_50 (by first | omega | assumption | (intro x hx; have := r26 x hx; omega) | exact and1_lt _) ?_
        refine j_ixorN C dX4_street_51 ?_
        refine mt6 C (5) rfl (by first | omega | assumption | (intro x hx; have := r26 x hx; omega) | exact and1_lt _) dX4_street_52 ?_
        refine j_aload_n C dX4_street_53 rfl 0 rfl ?_
        refine mg13 C q1487 dX4_street_54 ?_
        refine j_iconst (v := nI 5) C dX4_street_57 rfl ?_
        refine ml6 C (5) rfl (by first | omega | assumption | (intro x hx; have := r26 x hx; omega) | exact and1_lt _) dX4_street_58 (v := (uN (S.2.2.2 6) 5 ((S.2.2.2 6 5) ^^^ (2 ^ j))) 5) rfl ?_
        refine j_as (y := nI (S.2.2.2 6 5 ^^^ 2 ^ j)) (congrArg nI uN_s) ?_
        exact j_iret C (by omega) (by omega) (pM.mk (h3 j u rfl hj rfl hu (by rw [← Nat.and_one_is_mod]; exact c31))) dX4_street_59
      · refine j_ldc C q1689 dX4_street_34 ?_
        exact j_iret C (by omega) (by omega) (pM.mk (h2 j u rfl hj rfl hu (by rw [← Nat.and_one_is_mod]; exact c31))) dX4_street_36
    · refine j_ldc C q1582 dX4_street_17 ?_
      exact j_iret C (by omega) (by omega) (pM.mk (h1 (Or.inr c14))) dX4_street_19
set_option maxHeartbeats 1000000 in
theorem mX4_undo (G : gl_T) (M : Nat → Option (Nat × va_E)) (sz o : Nat) (S : ms_T) (ha : S.2.1 17 ≤ 24) (P : Int32 → ms_T → Prop) (h1 : S.2.1 17 = 0 → P kSTATE S) (h2 : 0 < S.2.1 17 → P (nI (S.2.1 17 - 1)) (sB (sN S 17 (S.2.1 17 - 1)) 6 (fun i => S.2.2.2 9 (42 * (S.2.1 17 - 1) + i)))) : Mt G yX4_undo cX4_undo 1 (some .int) 1 [.ref o] (mset G M o S, sz) (pM G M o sz P) 0 0 := by
  refine Mt.start (by decide) (Nat.le_of_ble_eq_true rfl) (fun k C => ?_)
  have C : Cx G k cX4_undo "MoodFareModel" "undo" 1 (some .int) 1 0 0 _ := C
  refine j_aload_n C dX4_undo_0 rfl 0 rfl ?_
  refine mg17 C q1491 dX4_undo_1 (v := S.2.1 17) rfl ?_
  refine j_if_neN C 10 dX4_undo_4 (by decide) (by omega) (fun c4 => ?_) (fun c4 => ?_)
  · refine j_aload_n C dX4_undo_10 rfl 0 rfl ?_
    refine j_dup C dX4_undo_11 rfl ?_
    refine mg17 C q1491 dX4_undo_12 (v := S.2.1 17) rfl ?_
    refine j_iconst (v := nI 1) C dX4_undo_15 rfl ?_
    refine j_isubN C dX4_undo_16 (by omega) ?_
    refine mp17 C q1491 dX4_undo_17 ?_
    refine j_aload_n C dX4_undo_20 rfl 0 rfl ?_
    refine mg16 C q1490 dX4_undo_21 ?_
    refine j_bipush (v := nI 42) C dX4_undo_24 rfl ?_
    refine j_aload_n C dX4_undo_26 rfl 0 rfl ?_
    refine mg17 C q1491 dX4_undo_27 (v := (S.2.1 17) - 1) rfl ?_
    refine j_imulN C dX4_undo_30 ?_
    refine j_aload_n C dX4_undo_31 rfl 0 rfl ?_
    refine mg13 C q1487 dX4_undo_32 ?_
    refine j_iconst (v := nI 0) C dX4_undo_35 rfl ?_
    refine j_callS C (mX4_copies G (mset G M o (sN S 17 ((S.2.1 17) - 1)), sz) (o + 9) o (o + 6) o 1008 42 (42 * ((S.2.1 17) - 1)) 0 (S.2.2.2 9) (S.2.2.2 6) (mset_a 9 (by decide) (by decide)) (mset_a 6 (by decide) (by decide)) (by omega) (by omega) (by omega) (by decide) (by decide)) pV.ret 4 q1668 q1669 q73 q1670 (by decide +kernel) rfl (by decide) (by decide) (Nat.le_of_ble_eq_true rfl) rfl dX4_undo_36 (by omega) (by omega) (qV.k ?_)
    refine J.eq (w' := (mset G M o (sB (sN S 17 ((S.2.1 17) - 1)) 6 (va_cpy (S.2.2.2 9) (S.2.2.2 6) (42 * ((S.2.1 17) - 1)) 0 42)), sz)) ?_ (congrArg (fun z => (z, sz)) (mset_ua 6 (by decide) (by decide) (mfs_B _ _ _ _) rfl (mcon_B _ _ _))) rfl rfl
    refine j_cgB 6 (g' := fun i => S.2.2.2 9 (42 * ((S.2.1 17) - 1) + i)) (by decide) (by decide) (fun i hi => by rw [pk_cpy_in (by omega) (by exact hi)]; simp) ?_
    refine j_aload_n C dX4_undo_39 rfl 0 rfl ?_
    refine mg17 C q1491 dX4_undo_40 (v := (S.2.1 17) - 1) rfl ?_
    exact j_iret C (by omega) (by omega) (pM.mk (h2 (by omega))) dX4_undo_43
  · refine j_ldc C q1689 dX4_undo_7 ?_
    exact j_iret C (by omega) (by omega) (pM.mk (h1 c4)) dX4_undo_9
set_option maxHeartbeats 1000000 in
theorem mX4_ends (G : gl_T) (M : Nat → Option (Nat × va_E)) (sz o : Nat) (S : ms_T) (c e : Nat) (hc : c < 2 ^ 31) (he : e ≤ 1) (ht : smT (S.2.2.2 6)) : Mt G yX4_ends cX4_ends 5 (some .int) 0 [.ref o, .int (nI c), .int (nI e)] (mset G M o S, sz) (qI (nI (endsN (S.2.2.2 6) c e (S.2.2.2 6 25))) (mset G M o S, sz)) 0 0 := by
  refine Mt.start (by decide) (Nat.le_of_ble_eq_true rfl) (fun k C => ?_)
  have C : Cx G k cX4_ends "MoodFareModel" "ends" 5 (some .int) 0 0 0 _ := C
  obtain ⟨r0, r1, r2, r3, r4, r5, r6, r7, r25, r26⟩ := ht
  refine j_iconst (v := nI 0) C dX4_ends_0 rfl ?_
  refine j_istore_n (lv' := [(3, .int (nI 0)), (0, .ref o), (1, .int (nI c)), (2, .int (nI e))]) C dX4_ends_1 rfl (by decide) rfl ?_
  refine j_iconst (v := nI 0) C dX4_ends_2 rfl ?_
  refine j_istore (lv' := [(4, .int (nI 0)), (3, .int (nI 0)), (0, .ref o), (1, .int (nI c)), (2, .int (nI e))]) C dX4_ends_3 (by decide) rfl ?_
  have lp : ∀ (n_lp i : Nat), 0 ≤ i → i ≤ S.2.2.2 6 25 → S.2.2.2 6 25 < i + n_lp → J G k (mset G M o S, sz) [(4, .int (nI i)), (3, .int (nI (endsN (S.2.2.2 6) c e i))), (0, .ref o), (1, .int (nI c)), (2, .int (nI e))] 5 [] 0 0 := by
    intro n_lp
    induction n_lp with
    | zero => intro i h0_lp h1_lp h2_lp; omega
    | succ n_lp ih_lp =>
      intro i h0_lp h1_lp h2_lp
      refine j_iload C dX4_ends_5 0 rfl ?_
      refine j_aload_n C dX4_ends_7 rfl 2 rfl ?_
      refine mg13 C q1487 dX4_ends_8 ?_
      refine j_bipush (v := nI 25) C dX4_ends_11 rfl ?_
      refine ml6 C (25) rfl (by first | omega | (have := r26 i (by omega); rcases (show e = 0 ∨ e = 1 by omega) with rfl | rfl <;> (try simp only [Nat.add_zero]) <;> omega)) dX4_ends_13 (v := S.2.2.2 6 25) rfl ?_
      refine j_icmp_geN C 52 dX4_ends_14 (by decide) (by first | omega | (have := r26 i (by omega); rcases (show e = 0 ∨ e = 1 by omega) with rfl | rfl <;> (try simp only [Nat.add_zero]) <;> omega)) (by first | omega | (have := r26 i (by omega); rcases (show e = 0 ∨ e = 1 by omega) with rfl | rfl <;> (try simp only [Nat.add_zero]) <;> omega)) (fun c14 => ?_) (fun c14 => ?_)
      · obtain rfl : S.2.2.2 6 25 = i := by omega
        refine j_iload_n C dX4_ends_52 rfl 1 rfl ?_
        exact j_iret C (by omega) (by omega) (pI.mk ⟨rfl, rfl⟩) dX4_ends_53
      · refine j_iload_n C dX4_ends_17 rfl 1 rfl ?_
        refine j_aload_n C dX4_ends_18 rfl 2 rfl ?_
        refine mg13 C q1487 dX4_ends_19 ?_
        refine j_bipush (v := nI 26) C dX4_ends_22 rfl ?_
        refine j_iconst (v := nI 2) C dX4_ends_24 rfl ?_
        refine j_iload C dX4_ends_25 0 rfl ?_
        refine j_imulN C dX4_ends_27 ?_
        refine j_iaddN C dX4_ends_28 ?_
        refine j_iload_n C dX4_ends_29 rfl 4 rfl ?_
        refine j_iaddN C dX4_ends_30 ?_
        refine ml6 C ((26 + (2 * i)) + e) rfl (by first | omega | (have := r26 i (by omega); rcases (show e = 0 ∨ e = 1 by omega) with rfl | rfl <;> (try simp only [Nat.add_zero]) <;> omega)) dX4_ends_31 (v := S.2.2.2 6 ((26 + (2 * i)) + e)) rfl ?_
        refine j_iload_n C dX4_ends_32 rfl 3 rfl ?_
        refine j_icmp_neN C 43 dX4_ends_33 (by decide) (by first | omega | (have := r26 i (by omega); rcases (show e = 0 ∨ e = 1 by omega) with rfl | rfl <;> (try simp only [Nat.add_zero]) <;> omega)) (by first | omega | (have := r26 i (by omega); rcases (show e = 0 ∨ e = 1 by omega) with rfl | rfl <;> (try simp only [Nat.add_zero]) <;> omega)) (fun c33 => ?_) (fun c33 => ?_)
        · refine j_iconst (v := nI 0) C dX4_ends_43 rfl ?_
          refine j_iorN C dX4_ends_44 ?_
          refine j_istore_n (lv' := [(3, .int (nI ((endsN (S.2.2.2 6) c e i) ||| 0))), (4, .int (nI i)), (0, .ref o), (1, .int (nI c)), (2, .int (nI e))]) C dX4_ends_45 rfl (by decide) rfl ?_
          refine j_iincN (lv' := [(4, .int (nI (i + 1))), (3, .int (nI ((endsN (S.2.2.2 6) c e i) ||| 0))), (0, .ref o), (1, .int (nI c)), (2, .int (nI e))]) C dX4_ends_46 1 rfl (by decide) rfl ?_
          refine j_goto C 5 dX4_ends_49 (by decide) ?_
          refine j_lv [0, 1, 2, 3, 4] (lv' := [(4, .int (nI (i + 1))), (3, .int (nI ((endsN (S.2.2.2 6) c e i) ||| 0))), (0, .ref o), (1, .int (nI c)), (2, .int (nI e))]) rfl ?_
          refine j_lvN (lv' := [(4, .int (nI (i + 1))), (3, .int (nI (endsN (S.2.2.2 6) c e (i + 1)))), (0, .ref o), (1, .int (nI c)), (2, .int (nI e))]) 1 rfl (by simp [endsN, c33]) rfl ?_
          exact ih_lp (i + 1) (by omega) (by omega) (by omega)
        · refine j_iconst (v := nI 1) C dX4_ends_36 rfl ?_
          refine j_iload C dX4_ends_37 0 rfl ?_
          refine j_shl1 C dX4_ends_39 (by first | omega | (have := r26 i (by omega); rcases (show e = 0 ∨ e = 1 by omega) with rfl | rfl <;> (try simp only [Nat.add_zero]) <;> omega)) ?_
          refine j_goto C 44 dX4_ends_40 (by decide) ?_
          refine j_iorN C dX4_ends_44 ?_
          refine j_istore_n (lv' := [(3, .int (nI ((endsN (S.2.2.2 6) c e i) ||| (2 ^ i)))), (4, .int (nI i)), (0, .ref o), (1, .int (nI c)), (2, .int (nI e))]) C dX4_ends_45 rfl (by decide) rfl ?_
          refine j_iincN (lv' := [(4, .int (nI (i + 1))), (3, .int (nI ((endsN (S.2.2.2 6) c e i) ||| (2 ^ i)))), (0, .ref o), (1, .int (nI c)), (2, .int (nI e))]) C dX4_ends_46 1 rfl (by decide) rfl ?_
          refine j_goto C 5 dX4_ends_49 (by decide) ?_
          refine j_lv [0, 1, 2, 3, 4] (lv' := [(4, .int (nI (i + 1))), (3, .int (nI ((endsN (S.2.2.2 6) c e i) ||| (2 ^ i)))), (0, .ref o), (1, .int (nI c)), (2, .int (nI e))]) rfl ?_
          refine j_lvN (lv' := [(4, .int (nI (i + 1))), (3, .int (nI (endsN (S.2.2.2 6) c e (i + 1)))), (0, .ref o), (1, .int (nI c)), (2, .int (nI e))]) 1 rfl (by simp [endsN, c33]) rfl ?_
          exact ih_lp (i + 1) (by omega) (by omega) (by omega)
  refine j_lv [0, 1, 2, 3, 4] (lv' := [(4, .int (nI 0)), (3, .int (nI 0)), (0, .ref o), (1, .int (nI c)), (2, .int (nI e))]) rfl ?_
  refine j_lvN (lv' := [(4, .int (nI 0)), (3, .int (nI (endsN (S.2.2.2 6) c e 0))), (0, .ref o), (1, .int (nI c)), (2, .int (nI e))]) 1 rfl rfl rfl ?_
  exact lp (S.2.2.2 6 25 + 1 - 0) (0) (by omega) (by omega) (by omega)
set_option maxHeartbeats 1000000 in
theorem mX4_corner (G : gl_T) (M : Nat → Option (Nat × va_E)) (sz o : Nat) (S : ms_T) (x y : Int32) (ht : smT (S.2.2.2 6)) (P : Int32 → ms_T → Prop) (h1 : inB x (nI 0) (nI (S.2.2.2 6 6) - nI 1) = false ∨ inB y (nI 0) (nI 4) = false → P kBAD S) (g0 : ∀ j, x = nI j → j < S.2.2.2 6 6 → y = nI 0 → P (nI (S.2.2.2 6 (7 + 3 * j + 1))) S) (g1 : ∀ j, x = nI j → j < S.2.2.2 6 6 → y = nI 1 → P (nI (S.2.2.2 6 (7 + 3 * j + 2))) S) (g2 : ∀ j, x = nI j → j < S.2.2.2 6 6 → y = nI 2 → P (nI (endsN (S.2.2.2 6) j 0 (S.2.2.2 6 25))) S) (g3 : ∀ j, x = nI j → j < S.2.2.2 6 6 → y = nI 3 → P (nI (endsN (S.2.2.2 6) j 1 (S.2.2.2 6 25))) S) (g4 : ∀ j, x = nI j → j < S.2.2.2 6 6 → y = nI 4 → P (nI (psd (S.2.2.2 6) j (S.2.2.2 6 1) (S.2.2.2 6 3))) S) : Mt G yX4_corner cX4_corner 3 (some .int) 2 [.ref o, .int x, .int y] (mset G M o S, sz) (pM G M o sz P) 0 0 := by
  refine Mt.start (by decide) (Nat.le_of_ble_eq_true rfl) (fun k C => ?_)
  have C : Cx G k cX4_corner "MoodFareModel" "corner" 3 (some .int) 2 0 0 _ := C
  have ht0 := ht
  obtain ⟨r0, r1, r2, r3, r4, r5, r6, r7, r25, r26⟩ := ht
  refine j_aload_n C dX4_corner_0 rfl 0 rfl ?_
  refine j_iload_n C dX4_corner_1 rfl 1 rfl ?_
  refine j_callV C (mX4_isCorner G M sz o S x) pI.ret mset_o rfl 1 q1707 q1709 qs46 q73 q1710 (by decide +kernel) rfl (by decide) (by decide) (Nat.le_of_ble_eq_true rfl) rfl dX4_corner_2 (by omega) (by omega) (qI.k ?_)
  refine j_if_neB C 11 dX4_corner_5 (by decide) (fun c5 => ?_) (fun c5 => ?_)
  · obtain ⟨j, rfl, hj⟩ := inB_p (by first | omega | assumption | (intro x hx; have := r26 x hx; omega)) c5
    have rj := r7 j (by omega)
    refine j_iload_n C dX4_corner_11 rfl 2 rfl ?_
    cases c12 : inB y (nI 0) (nI 4)
    case' true =>
      obtain ⟨y1, hy1e, y1l, y1h⟩ := inB_n (by decide) c12 (by decide)
      rcases (show y1 = 0 ∨ y1 = 1 ∨ y1 = 2 ∨ y1 = 3 ∨ y1 = 4 by omega) with rfl | rfl | rfl | rfl | rfl
      · refine j_as (y := nI 0) hy1e ?_
        refine j_tableIn (off := 36) C 48 dX4_corner_12 (by decide +kernel) (by decide +kernel) (by decide +kernel) (by decide) ?_
        refine j_aload_n C dX4_corner_48 rfl 0 rfl ?_
        refine mg13 C q1487 dX4_corner_49 ?_
        refine j_bipush (v := nI 7) C dX4_corner_52 rfl ?_
        refine j_iconst (v := nI 3) C dX4_corner_54 rfl ?_
        refine j_iload_n C dX4_corner_55 rfl 1 rfl ?_
        refine j_imulN C dX4_corner_56 ?_
        refine j_iaddN C dX4_corner_57 ?_
        refine j_iconst (v := nI 1) C dX4_corner_58 rfl ?_
        refine j_iaddN C dX4_corner_59 ?_
        refine ml6 C ((7 + (3 * j)) + 1) rfl (by first | omega | assumption | (intro x hx; have := r26 x hx; omega)) dX4_corner_60 (v := S.2.2.2 6 ((7 + (3 * j)) + 1)) rfl ?_
        exact j_iret C (by omega) (by omega) (pM.mk (g0 j rfl hj hy1e)) dX4_corner_61
      · refine j_as (y := nI 1) hy1e ?_
        refine j_tableIn (off := 50) C 62 dX4_corner_12 (by decide +kernel) (by decide +kernel) (by decide +kernel) (by decide) ?_
        refine j_aload_n C dX4_corner_62 rfl 0 rfl ?_
        refine mg13 C q1487 dX4_corner_63 ?_
        refine j_bipush (v := nI 7) C dX4_corner_66 rfl ?_
        refine j_iconst (v := nI 3) C dX4_corner_68 rfl ?_
        refine j_iload_n C dX4_corner_69 rfl 1 rfl ?_
        refine j_imulN C dX4_corner_70 ?_
        refine j_iaddN C dX4_corner_71 ?_
        refine j_iconst (v := nI 2) C dX4_corner_72 rfl ?_
        refine j_iaddN C dX4_corner_73 ?_
        refine ml6 C ((7 + (3 * j)) + 2) rfl (by first | omega | assumption | (intro x hx; have := r26 x hx; omega)) dX4_corner_74 (v := S.2.2.2 6 ((7 + (3 * j)) + 2)) rfl ?_
        exact j_iret C (by omega) (by omega) (pM.mk (g1 j rfl hj hy1e)) dX4_corner_75
      · refine j_as (y := nI 2) hy1e ?_
        refine j_tableIn (off := 64) C 76 dX4_corner_12 (by decide +kernel) (by decide +kernel) (by decide +kernel) (by decide) ?_
        refine j_aload_n C dX4_corner_76 rfl 0 rfl ?_
        refine j_iload_n C dX4_corner_77 rfl 1 rfl ?_
        refine j_iconst (v := nI 0) C dX4_corner_78 rfl ?_
        refine j_callV C (mX4_ends G M sz o S j 0 (by first | omega | assumption | (intro x hx; have := r26 x hx; omega)) (by decide) ht0) pI.ret mset_o rfl 2 q1731 q1733 qs48 q73 q1734 (by decide +kernel) rfl (by decide) (by decide) (Nat.le_of_ble_eq_true rfl) rfl dX4_corner_79 (by omega) (by omega) (qI.k ?_)
        exact j_iret C (by omega) (by omega) (pM.mk (g2 j rfl hj hy1e)) dX4_corner_82
      · refine j_as (y := nI 3) hy1e ?_
        refine j_tableIn (off := 71) C 83 dX4_corner_12 (by decide +kernel) (by decide +kernel) (by decide +kernel) (by decide) ?_
        refine j_aload_n C dX4_corner_83 rfl 0 rfl ?_
        refine j_iload_n C dX4_corner_84 rfl 1 rfl ?_
        refine j_iconst (v := nI 1) C dX4_corner_85 rfl ?_
        refine j_callV C (mX4_ends G M sz o S j 1 (by first | omega | assumption | (intro x hx; have := r26 x hx; omega)) (by decide) ht0) pI.ret mset_o rfl 2 q1731 q1733 qs48 q73 q1734 (by decide +kernel) rfl (by decide) (by decide) (Nat.le_of_ble_eq_true rfl) rfl dX4_corner_86 (by omega) (by omega) (qI.k ?_)
        exact j_iret C (by omega) (by omega) (pM.mk (g3 j rfl hj hy1e)) dX4_corner_89
      · refine j_as (y := nI 4) hy1e ?_
        refine j_tableIn (off := 78) C 90 dX4_corner_12 (by decide +kernel) (by decide +kernel) (by decide +kernel) (by decide) ?_
        refine j_aload_n C dX4_corner_90 rfl 0 rfl ?_
        refine mg13 C q1487 dX4_corner_91 ?_
        refine j_iload_n C dX4_corner_94 rfl 1 rfl ?_
        refine j_aload_n C dX4_corner_95 rfl 0 rfl ?_
        refine mg13 C q1487 dX4_corner_96 ?_
        refine j_iconst (v := nI 1) C dX4_corner_99 rfl ?_
        refine ml6 C (1) rfl (by first | omega | assumption | (intro x hx; have := r26 x hx; omega)) dX4_corner_100 (v := S.2.2.2 6 1) rfl ?_
        refine j_aload_n C dX4_corner_101 rfl 0 rfl ?_
        refine mg13 C q1487 dX4_corner_102 ?_
        refine j_iconst (v := nI 3) C dX4_corner_105 rfl ?_
        refine ml6 C (3) rfl (by first | omega | assumption | (intro x hx; have := r26 x hx; omega)) dX4_corner_106 (v := S.2.2.2 6 3) rfl ?_
        refine j_callS C (mX4_passed G (mset G M o S, sz) (o + 6) o (S.2.2.2 6) j (S.2.2.2 6 1) (S.2.2.2 6 3) (mset_a 6 (by decide) (by decide)) (by first | omega | assumption | (intro x hx; have := r26 x hx; omega)) (by first | omega | assumption | (intro x hx; have := r26 x hx; omega)) (by first | omega | assumption | (intro x hx; have := r26 x hx; omega)) (by first | omega | assumption | (intro x hx; have := r26 x hx; omega)) (by first | omega | assumption | (intro x hx; have := r26 x hx; omega))) pI.ret 4 q1700 q1701 q73 q1702 (by decide +kernel) rfl (by decide) (by decide) (Nat.le_of_ble_eq_true rfl) rfl dX4_corner_107 (by omega) (by omega) (qI.k ?_)
        exact j_iret C (by omega) (by omega) (pM.mk (g4 j rfl hj hy1e)) dX4_corner_110
    case' false =>
      refine j_tableOut C 111 dX4_corner_12 (tsw_out (by decide) (by decide) c12) (by decide) ?_
      refine j_ldc C q1582 dX4_corner_111 ?_
      exact j_iret C (by omega) (by omega) (pM.mk (h1 (Or.inr c12))) dX4_corner_113
  · refine j_ldc C q1582 dX4_corner_8 ?_
    exact j_iret C (by omega) (by omega) (pM.mk (h1 (Or.inl c5))) dX4_corner_10
set_option maxHeartbeats 1000000 in
theorem mX4_way (G : gl_T) (M : Nat → Option (Nat × va_E)) (sz o : Nat) (S : ms_T) (x y : Int32) (ht : smT (S.2.2.2 6)) (P : Int32 → ms_T → Prop) (h1 : inB x (nI 0) (nI (S.2.2.2 6 25) - nI 1) = false ∨ inB y (nI 0) (nI 2) = false → P kBAD S) (h2 : ∀ j u, x = nI j → j < S.2.2.2 6 25 → y = nI u → u < 2 → P (nI (S.2.2.2 6 (26 + 2 * j + u))) S) (h3 : ∀ j, x = nI j → j < S.2.2.2 6 25 → y = nI 2 → P (nI (S.2.2.2 6 5 / 2 ^ j % 2)) S) : Mt G yX4_way cX4_way 3 (some .int) 2 [.ref o, .int x, .int y] (mset G M o S, sz) (pM G M o sz P) 0 0 := by
  refine Mt.start (by decide) (Nat.le_of_ble_eq_true rfl) (fun k C => ?_)
  have C : Cx G k cX4_way "MoodFareModel" "way" 3 (some .int) 2 0 0 _ := C
  have ht0 := ht
  obtain ⟨r0, r1, r2, r3, r4, r5, r6, r7, r25, r26⟩ := ht
  refine j_aload_n C dX4_way_0 rfl 0 rfl ?_
  refine j_iload_n C dX4_way_1 rfl 1 rfl ?_
  refine j_callV C (mX4_isStreet G M sz o S x) pI.ret mset_o rfl 1 q1679 q1681 qs44 q73 q1682 (by decide +kernel) rfl (by decide) (by decide) (Nat.le_of_ble_eq_true rfl) rfl dX4_way_2 (by omega) (by omega) (qI.k ?_)
  refine j_if_eqB C 17 dX4_way_5 (by decide) (fun c5 => ?_) (fun c5 => ?_)
  · refine j_ldc C q1582 dX4_way_17 ?_
    exact j_iret C (by omega) (by omega) (pM.mk (h1 (Or.inl c5))) dX4_way_19
  · obtain ⟨j, rfl, hj⟩ := inB_p (by first | omega | assumption | (intro x hx; have := r26 x hx; omega) | exact and1_lt _) c5
    refine j_iload_n C dX4_way_8 rfl 2 rfl ?_
    refine j_iconst (v := nI 0) C dX4_way_9 rfl ?_
    refine j_iconst (v := nI 2) C dX4_way_10 rfl ?_
    refine j_callS C (mX4_in G (mset G M o S, sz) y (nI 0) (nI 2)) pI.ret 3 q1579 q1580 q73 q1581 (by decide +kernel) rfl (by decide) (by decide) (Nat.le_of_ble_eq_true rfl) rfl dX4_way_11 (by omega) (by omega) (qI.k ?_)
    refine j_if_neB C 20 dX4_way_14 (by decide) (fun c14 => ?_) (fun c14 => ?_)
    · obtain ⟨u, rfl, -, hu⟩ := inB_n (by decide) c14 (by decide)
      refine j_iload_n C dX4_way_20 rfl 2 rfl ?_
      refine j_iconst (v := nI 2) C dX4_way_21 rfl ?_
      refine j_icmp_geN C 41 dX4_way_22 (by decide) (by first | omega | assumption | (intro x hx; have := r26 x hx; omega) | exact and1_lt _) (by first | omega | assumption | (intro x hx; have := r26 x hx; omega) | exact and1_lt _) (fun c22 => ?_) (fun c22 => ?_)
      · refine j_aload_n C dX4_way_41 rfl 0 rfl ?_
        refine mg13 C q1487 dX4_way_42 ?_
        refine j_iconst (v := nI 5) C dX4_way_45 rfl ?_
        refine ml6 C (5) rfl (by first | omega | assumption | (intro x hx; have := r26 x hx; omega) | exact and1_lt _) dX4_way_46 (v := S.2.2.2 6 5) rfl ?_
        refine j_iload_n C dX4_way_47 rfl 1 rfl ?_
        refine j_ishrN C dX4_way_48 (by first | omega | assumption | (intro x hx; have := r26 x hx; omega) | exact and1_lt _) (by first | omega | assumption | (intro x hx; have := r26 x hx; omega) | exact and1_lt _) ?_
        refine j_iconst (v := nI 1) C dX4_way_49 rfl ?_
        refine j_iandN C dX4_way_50 ?_
        refine j_as (y := nI (S.2.2.2 6 5 / 2 ^ j % 2)) (by rw [Nat.and_one_is_mod]) ?_
        exact j_iret C (by omega) (by omega) (pM.mk (h3 j rfl hj (by rw [show u = 2 by omega]))) dX4_way_51
      · refine j_aload_n C dX4_way_25 rfl 0 rfl ?_
        refine mg13 C q1487 dX4_way_26 ?_
        refine j_bipush (v := nI 26) C dX4_way_29 rfl ?_
        refine j_iconst (v := nI 2) C dX4_way_31 rfl ?_
        refine j_iload_n C dX4_way_32 rfl 1 rfl ?_
        refine j_imulN C dX4_way_33 ?_
        refine j_iaddN C dX4_way_34 ?_
        refine j_iload_n C dX4_way_35 rfl 2 rfl ?_
        refine j_iaddN C dX4_way_36 ?_
        refine ml6 C ((26 + (2 * j)) + u) rfl (by first | omega | assumption | (intro x hx; have := r26 x hx; omega) | exact and1_lt _) dX4_way_37 (v := S.2.2.2 6 ((26 + (2 * j)) + u)) rfl ?_
        refine j_goto C 51 dX4_way_38 (by decide) ?_
        exact j_iret C (by omega) (by omega) (pM.mk (h2 j u rfl hj rfl (by omega))) dX4_way_51
    · refine j_ldc C q1582 dX4_way_17 ?_
      exact j_iret C (by omega) (by omega) (pM.mk (h1 (Or.inr c14))) dX4_way_19
set_option maxHeartbeats 1000000 in
theorem mX4_would (G : gl_T) (M : Nat → Option (Nat × va_E)) (sz o : Nat) (S : ms_T) (x y : Int32) (ht : smT (S.2.2.2 6)) (P : Int32 → ms_T → Prop) (h1 : inB x (nI 0) (nI (S.2.2.2 6 25) - nI 1) = false ∨ inB y (nI 0) (nI 1) = false → P kBAD S) (h2 : ∀ j u, x = nI j → j < S.2.2.2 6 25 → y = nI u → u ≤ 1 → goN (S.2.2.2 6) j (S.2.2.2 6 4) = false → P kNONE S) (h3 : ∀ j, x = nI j → j < S.2.2.2 6 25 → y = nI 0 → goN (S.2.2.2 6) j (S.2.2.2 6 4) = true → P (nI (psd (S.2.2.2 6) (S.2.2.2 6 (26 + 2 * j + 1)) (S.2.2.2 6 1) (S.2.2.2 6 3))) S) (h4 : ∀ j, x = nI j → j < S.2.2.2 6 25 → y = nI 1 → goN (S.2.2.2 6) j (S.2.2.2 6 4) = true → P (nI (csd (S.2.2.2 6) (S.2.2.2 6 (26 + 2 * j + 1)) (S.2.2.2 6 1) (S.2.2.2 6 3))) S) : Mt G yX4_would cX4_would 4 (some .int) 2 [.ref o, .int x, .int y] (mset G M o S, sz) (pM G M o sz P) 0 0 := by
  refine Mt.start (by decide) (Nat.le_of_ble_eq_true rfl) (fun k C => ?_)
  have C : Cx G k cX4_would "MoodFareModel" "would" 4 (some .int) 2 0 0 _ := C
  have ht0 := ht
  obtain ⟨r0, r1, r2, r3, r4, r5, r6, r7, r25, r26⟩ := ht
  refine j_aload_n C dX4_would_0 rfl 0 rfl ?_
  refine j_iload_n C dX4_would_1 rfl 1 rfl ?_
  refine j_callV C (mX4_isStreet G M sz o S x) pI.ret mset_o rfl 1 q1679 q1681 qs44 q73 q1682 (by decide +kernel) rfl (by decide) (by decide) (Nat.le_of_ble_eq_true rfl) rfl dX4_would_2 (by omega) (by omega) (qI.k ?_)
  refine j_if_eqB C 17 dX4_would_5 (by decide) (fun c5 => ?_) (fun c5 => ?_)
  · refine j_ldc C q1582 dX4_would_17 ?_
    exact j_iret C (by omega) (by omega) (pM.mk (h1 (Or.inl c5))) dX4_would_19
  · obtain ⟨j, rfl, hj⟩ := inB_p (by first | omega | assumption | (intro x hx; have := r26 x hx; omega)) c5
    have rx := r26 j (by omega)
    have rc := r7 _ rx.2
    refine j_iload_n C dX4_would_8 rfl 2 rfl ?_
    refine j_iconst (v := nI 0) C dX4_would_9 rfl ?_
    refine j_iconst (v := nI 1) C dX4_would_10 rfl ?_
    refine j_callS C (mX4_in G (mset G M o S, sz) y (nI 0) (nI 1)) pI.ret 3 q1579 q1580 q73 q1581 (by decide +kernel) rfl (by decide) (by decide) (Nat.le_of_ble_eq_true rfl) rfl dX4_would_11 (by omega) (by omega) (qI.k ?_)
    refine j_if_neB C 20 dX4_would_14 (by decide) (fun c14 => ?_) (fun c14 => ?_)
    · obtain ⟨u, rfl, -, hu⟩ := inB_n (by decide) c14 (by decide)
      refine j_aload_n C dX4_would_20 rfl 0 rfl ?_
      refine mg13 C q1487 dX4_would_21 ?_
      refine j_iload_n C dX4_would_24 rfl 1 rfl ?_
      refine j_aload_n C dX4_would_25 rfl 0 rfl ?_
      refine mg13 C q1487 dX4_would_26 ?_
      refine j_iconst (v := nI 4) C dX4_would_29 rfl ?_
      refine ml6 C (4) rfl (by first | omega | assumption | (intro x hx; have := r26 x hx; omega)) dX4_would_30 (v := S.2.2.2 6 4) rfl ?_
      refine j_callS C (mX4_goes G (mset G M o S, sz) (o + 6) o (S.2.2.2 6) (nI j) (S.2.2.2 6 4) (mset_a 6 (by decide) (by decide)) (by first | omega | assumption | (intro x hx; have := r26 x hx; omega)) (by first | omega | assumption | (intro x hx; have := r26 x hx; omega)) (by first | omega | assumption | (intro x hx; have := r26 x hx; omega)) (by first | omega | assumption | (intro x hx; have := r26 x hx; omega))) pI.ret 3 q1683 q1684 q73 q1685 (by decide +kernel) rfl (by decide) (by decide) (Nat.le_of_ble_eq_true rfl) rfl dX4_would_31 (by omega) (by omega) (qI.k ?_)
      refine j_if_neB C 40 dX4_would_34 (by decide) (fun c34 => ?_) (fun c34 => ?_)
      · refine j_aload_n C dX4_would_40 rfl 0 rfl ?_
        refine mg13 C q1487 dX4_would_41 ?_
        refine j_bipush (v := nI 26) C dX4_would_44 rfl ?_
        refine j_iconst (v := nI 2) C dX4_would_46 rfl ?_
        refine j_iload_n C dX4_would_47 rfl 1 rfl ?_
        refine j_imulN C dX4_would_48 ?_
        refine j_iaddN C dX4_would_49 ?_
        refine j_iconst (v := nI 1) C dX4_would_50 rfl ?_
        refine j_iaddN C dX4_would_51 ?_
        refine ml6 C ((26 + (2 * j)) + 1) rfl (by first | omega | assumption | (intro x hx; have := r26 x hx; omega)) dX4_would_52 (v := S.2.2.2 6 ((26 + (2 * j)) + 1)) rfl ?_
        refine j_istore_n (lv' := [(3, .int (nI (S.2.2.2 6 ((26 + (2 * j)) + 1)))), (0, .ref o), (1, .int (nI j)), (2, .int (nI u))]) C dX4_would_53 rfl (by decide) rfl ?_
        refine j_iload_n C dX4_would_54 rfl 3 rfl ?_
        refine j_if_neN C 81 dX4_would_55 (by decide) (by first | omega | assumption | (intro x hx; have := r26 x hx; omega)) (fun c55 => ?_) (fun c55 => ?_)
        · refine j_aload_n C dX4_would_81 rfl 1 rfl ?_
          refine mg13 C q1487 dX4_would_82 ?_
          refine j_iload_n C dX4_would_85 rfl 0 rfl ?_
          refine j_aload_n C dX4_would_86 rfl 1 rfl ?_
          refine mg13 C q1487 dX4_would_87 ?_
          refine j_iconst (v := nI 1) C dX4_would_90 rfl ?_
          refine ml6 C (1) rfl (by first | omega | assumption | (intro x hx; have := r26 x hx; omega)) dX4_would_91 (v := S.2.2.2 6 1) rfl ?_
          refine j_aload_n C dX4_would_92 rfl 1 rfl ?_
          refine mg13 C q1487 dX4_would_93 ?_
          refine j_iconst (v := nI 3) C dX4_would_96 rfl ?_
          refine ml6 C (3) rfl (by first | omega | assumption | (intro x hx; have := r26 x hx; omega)) dX4_would_97 (v := S.2.2.2 6 3) rfl ?_
          refine j_callS C (mX4_cost G (mset G M o S, sz) (o + 6) o (S.2.2.2 6) (S.2.2.2 6 ((26 + (2 * j)) + 1)) (S.2.2.2 6 1) (S.2.2.2 6 3) (mset_a 6 (by decide) (by decide)) (by first | omega | assumption | (intro x hx; have := r26 x hx; omega)) (by first | omega | assumption | (intro x hx; have := r26 x hx; omega)) (by first | omega | assumption | (intro x hx; have := r26 x hx; omega)) (by first | omega | assumption | (intro x hx; have := r26 x hx; omega)) (by first | omega | assumption | (intro x hx; have := r26 x hx; omega))) pI.ret 4 q1697 q1698 q73 q1699 (by decide +kernel) rfl (by decide) (by decide) (Nat.le_of_ble_eq_true rfl) rfl dX4_would_98 (by omega) (by omega) (qI.k ?_)
          exact j_iret C (by omega) (by omega) (pM.mk (h4 j rfl hj (by rw [show u = 1 by omega]) (by rw [← goB_i (by omega) (by omega)]; exact c34))) dX4_would_101
        · refine j_aload_n C dX4_would_58 rfl 1 rfl ?_
          refine mg13 C q1487 dX4_would_59 ?_
          refine j_iload_n C dX4_would_62 rfl 0 rfl ?_
          refine j_aload_n C dX4_would_63 rfl 1 rfl ?_
          refine mg13 C q1487 dX4_would_64 ?_
          refine j_iconst (v := nI 1) C dX4_would_67 rfl ?_
          refine ml6 C (1) rfl (by first | omega | assumption | (intro x hx; have := r26 x hx; omega)) dX4_would_68 (v := S.2.2.2 6 1) rfl ?_
          refine j_aload_n C dX4_would_69 rfl 1 rfl ?_
          refine mg13 C q1487 dX4_would_70 ?_
          refine j_iconst (v := nI 3) C dX4_would_73 rfl ?_
          refine ml6 C (3) rfl (by first | omega | assumption | (intro x hx; have := r26 x hx; omega)) dX4_would_74 (v := S.2.2.2 6 3) rfl ?_
          refine j_callS C (mX4_passed G (mset G M o S, sz) (o + 6) o (S.2.2.2 6) (S.2.2.2 6 ((26 + (2 * j)) + 1)) (S.2.2.2 6 1) (S.2.2.2 6 3) (mset_a 6 (by decide) (by decide)) (by first | omega | assumption | (intro x hx; have := r26 x hx; omega)) (by first | omega | assumption | (intro x hx; have := r26 x hx; omega)) (by first | omega | assumption | (intro x hx; have := r26 x hx; omega)) (by first | omega | assumption | (intro x hx; have := r26 x hx; omega)) (by first | omega | assumption | (intro x hx; have := r26 x hx; omega))) pI.ret 4 q1700 q1701 q73 q1702 (by decide +kernel) rfl (by decide) (by decide) (Nat.le_of_ble_eq_true rfl) rfl dX4_would_75 (by omega) (by omega) (qI.k ?_)
          refine j_goto C 101 dX4_would_78 (by decide) ?_
          exact j_iret C (by omega) (by omega) (pM.mk (h3 j rfl hj (by rw [show u = 0 by omega]) (by rw [← goB_i (by omega) (by omega)]; exact c34))) dX4_would_101
      · refine j_ldc C q1473 dX4_would_37 ?_
        exact j_iret C (by omega) (by omega) (pM.mk (h2 j u rfl hj rfl hu (by rw [← goB_i (by omega) (by omega)]; exact c34))) dX4_would_39
    · refine j_ldc C q1582 dX4_would_17 ?_
      exact j_iret C (by omega) (by omega) (pM.mk (h1 (Or.inr c14))) dX4_would_19
set_option maxHeartbeats 1000000 in
theorem mX4_reach (G : gl_T) (M : Nat → Option (Nat × va_E)) (sz o : Nat) (S : ms_T) (ht : smT (S.2.2.2 6)) (P : Int32 → ms_T → Prop) (h1 : S.2.2.2 6 0 = 0 → P kSTATE S) (h2 : 0 < S.2.2.2 6 0 → P (nI (rchO (S.2.2.2 6) 6)) S) : Mt G yX4_reach cX4_reach 4 (some .int) 1 [.ref o] (mset G M o S, sz) (pM G M o sz P) 0 0 := by
  refine Mt.start (by decide) (Nat.le_of_ble_eq_true rfl) (fun k C => ?_)
  have C : Cx G k cX4_reach "MoodFareModel" "reach" 4 (some .int) 1 0 0 _ := C
  have ht0 := ht
  obtain ⟨r0, r1, r2, r3, r4, r5, r6, r7, r25, r26⟩ := ht
  refine j_aload_n C dX4_reach_0 rfl 0 rfl ?_
  refine j_callV C (mX4_isTown G M sz o S (by first | omega | (have := r26 i (by omega); omega) | (have q1 := rchI_lt (t := S.2.2.2 6) (s := rchO (S.2.2.2 6) e) (fun x h => (r26 x h).2) (rchO_lt r4 (fun x h => (r26 x h).2) r25 e) i (by omega); omega))) pI.ret mset_o rfl 0 q1715 q1717 qs47 q73 q1718 (by decide +kernel) rfl (by decide) (by decide) (Nat.le_of_ble_eq_true rfl) rfl dX4_reach_1 (by omega) (by omega) (qI.k ?_)
  refine j_if_neB C 10 dX4_reach_4 (by decide) (fun c4 => ?_) (fun c4 => ?_)
  · refine j_iconst (v := nI 1) C dX4_reach_10 rfl ?_
    refine j_aload_n C dX4_reach_11 rfl 0 rfl ?_
    refine mg13 C q1487 dX4_reach_12 ?_
    refine j_iconst (v := nI 4) C dX4_reach_15 rfl ?_
    refine ml6 C (4) rfl (by first | omega | (have := r26 i (by omega); omega) | (have q1 := rchI_lt (t := S.2.2.2 6) (s := rchO (S.2.2.2 6) e) (fun x h => (r26 x h).2) (rchO_lt r4 (fun x h => (r26 x h).2) r25 e) i (by omega); omega)) dX4_reach_16 (v := S.2.2.2 6 4) rfl ?_
    refine j_shl1 C dX4_reach_17 (by first | omega | (have := r26 i (by omega); omega) | (have q1 := rchI_lt (t := S.2.2.2 6) (s := rchO (S.2.2.2 6) e) (fun x h => (r26 x h).2) (rchO_lt r4 (fun x h => (r26 x h).2) r25 e) i (by omega); omega)) ?_
    refine j_istore_n (lv' := [(1, .int (nI (2 ^ (S.2.2.2 6 4)))), (0, .ref o)]) C dX4_reach_18 rfl (by decide) rfl ?_
    refine j_iconst (v := nI 0) C dX4_reach_19 rfl ?_
    refine j_istore_n (lv' := [(2, .int (nI 0)), (1, .int (nI (2 ^ (S.2.2.2 6 4)))), (0, .ref o)]) C dX4_reach_20 rfl (by decide) rfl ?_
    have lo : ∀ (n_lo e : Nat), 0 ≤ e → e ≤ 6 → 6 < e + n_lo → J G k (mset G M o S, sz) [(2, .int (nI e)), (1, .int (nI (rchO (S.2.2.2 6) e))), (0, .ref o)] 21 [] 0 0 := by
      intro n_lo
      induction n_lo with
      | zero => intro e h0_lo h1_lo h2_lo; omega
      | succ n_lo ih_lo =>
        intro e h0_lo h1_lo h2_lo
        refine j_iload_n C dX4_reach_21 rfl 0 rfl ?_
        refine j_bipush (v := nI 6) C dX4_reach_22 rfl ?_
        refine j_icmp_geN C 105 dX4_reach_24 (by decide) (by first | omega | (have := r26 i (by omega); omega) | (have q1 := rchI_lt (t := S.2.2.2 6) (s := rchO (S.2.2.2 6) e) (fun x h => (r26 x h).2) (rchO_lt r4 (fun x h => (r26 x h).2) r25 e) i (by omega); omega)) (by first | omega | (have := r26 i (by omega); omega) | (have q1 := rchI_lt (t := S.2.2.2 6) (s := rchO (S.2.2.2 6) e) (fun x h => (r26 x h).2) (rchO_lt r4 (fun x h => (r26 x h).2) r25 e) i (by omega); omega)) (fun c24 => ?_) (fun c24 => ?_)
        · obtain rfl : 6 = e := by omega
          refine j_iload_n C dX4_reach_105 rfl 1 rfl ?_
          exact j_iret C (by omega) (by omega) (pM.mk (h2 (of_decide_eq_true c4))) dX4_reach_106
        · refine j_iconst (v := nI 0) C dX4_reach_27 rfl ?_
          refine j_istore_n (lv' := [(3, .int (nI 0)), (2, .int (nI e)), (1, .int (nI (rchO (S.2.2.2 6) e))), (0, .ref o)]) C dX4_reach_28 rfl (by decide) rfl ?_
          have li : ∀ (n_li i : Nat), 0 ≤ i → i ≤ S.2.2.2 6 25 → S.2.2.2 6 25 < i + n_li → J G k (mset G M o S, sz) [(3, .int (nI i)), (2, .int (nI e)), (1, .int (nI (rchI (S.2.2.2 6) (rchO (S.2.2.2 6) e) i))), (0, .ref o)] 29 [] 0 0 := by
            intro n_li
            induction n_li with
            | zero => intro i h0_li h1_li h2_li; omega
            | succ n_li ih_li =>
              intro i h0_li h1_li h2_li
              refine j_iload_n C dX4_reach_29 rfl 0 rfl ?_
              refine j_aload_n C dX4_reach_30 rfl 3 rfl ?_
              refine mg13 C q1487 dX4_reach_31 ?_
              refine j_bipush (v := nI 25) C dX4_reach_34 rfl ?_
              refine ml6 C (25) rfl (by first | omega | (have := r26 i (by omega); omega) | (have q1 := rchI_lt (t := S.2.2.2 6) (s := rchO (S.2.2.2 6) e) (fun x h => (r26 x h).2) (rchO_lt r4 (fun x h => (r26 x h).2) r25 e) i (by omega); omega)) dX4_reach_36 (v := S.2.2.2 6 25) rfl ?_
              refine j_icmp_geN C 99 dX4_reach_37 (by decide) (by first | omega | (have := r26 i (by omega); omega) | (have q1 := rchI_lt (t := S.2.2.2 6) (s := rchO (S.2.2.2 6) e) (fun x h => (r26 x h).2) (rchO_lt r4 (fun x h => (r26 x h).2) r25 e) i (by omega); omega)) (by first | omega | (have := r26 i (by omega); omega) | (have q1 := rchI_lt (t := S.2.2.2 6) (s := rchO (S.2.2.2 6) e) (fun x h => (r26 x h).2) (rchO_lt r4 (fun x h => (r26 x h).2) r25 e) i (by omega); omega)) (fun c37 => ?_) (fun c37 => ?_)
              · obtain rfl : S.2.2.2 6 25 = i := by omega
                refine j_iincN (lv' := [(2, .int (nI (e + 1))), (3, .int (nI ((S.2.2.2 6 25)))), (1, .int (nI (rchI (S.2.2.2 6) (rchO (S.2.2.2 6) e) (S.2.2.2 6 25)))), (0, .ref o)]) C dX4_reach_99 1 rfl (by decide) rfl ?_
                refine j_goto C 21 dX4_reach_102 (by decide) ?_
                refine j_lv [0, 2, 3] (lv' := [(2, .int (nI (e + 1))), (1, .int (nI (rchI (S.2.2.2 6) (rchO (S.2.2.2 6) e) (S.2.2.2 6 25)))), (0, .ref o)]) rfl ?_
                refine j_lvN (lv' := [(2, .int (nI (e + 1))), (1, .int (nI (rchO (S.2.2.2 6) (e + 1)))), (0, .ref o)]) 1 rfl (rfl) rfl ?_
                exact ih_lo (e + 1) (by omega) (by omega) (by omega)
              · refine j_iload_n C dX4_reach_40 rfl 2 rfl ?_
                refine j_aload_n C dX4_reach_41 rfl 3 rfl ?_
                refine mg13 C q1487 dX4_reach_42 ?_
                refine j_iconst (v := nI 5) C dX4_reach_45 rfl ?_
                refine ml6 C (5) rfl (by first | omega | (have := r26 i (by omega); omega) | (have q1 := rchI_lt (t := S.2.2.2 6) (s := rchO (S.2.2.2 6) e) (fun x h => (r26 x h).2) (rchO_lt r4 (fun x h => (r26 x h).2) r25 e) i (by omega); omega)) dX4_reach_46 (v := S.2.2.2 6 5) rfl ?_
                refine j_iload_n C dX4_reach_47 rfl 0 rfl ?_
                refine j_callS C (mX4_has G (mset G M o S, sz) (S.2.2.2 6 5) i (by first | omega | (have := r26 i (by omega); omega) | (have q1 := rchI_lt (t := S.2.2.2 6) (s := rchO (S.2.2.2 6) e) (fun x h => (r26 x h).2) (rchO_lt r4 (fun x h => (r26 x h).2) r25 e) i (by omega); omega)) (by first | omega | (have := r26 i (by omega); omega) | (have q1 := rchI_lt (t := S.2.2.2 6) (s := rchO (S.2.2.2 6) e) (fun x h => (r26 x h).2) (rchO_lt r4 (fun x h => (r26 x h).2) r25 e) i (by omega); omega))) pI.ret 2 q1686 q1687 q73 q1688 (by decide +kernel) rfl (by decide) (by decide) (Nat.le_of_ble_eq_true rfl) rfl dX4_reach_48 (by omega) (by omega) (qI.k ?_)
                refine j_if_eqB C 90 dX4_reach_51 (by decide) (fun c51 => ?_) (fun c51 => ?_)
                · refine j_iconst (v := nI 0) C dX4_reach_90 rfl ?_
                  refine j_iorN C dX4_reach_91 ?_
                  refine j_istore_n (lv' := [(1, .int (nI ((rchI (S.2.2.2 6) (rchO (S.2.2.2 6) e) i) ||| 0))), (3, .int (nI i)), (2, .int (nI e)), (0, .ref o)]) C dX4_reach_92 rfl (by decide) rfl ?_
                  refine j_iincN (lv' := [(3, .int (nI (i + 1))), (1, .int (nI ((rchI (S.2.2.2 6) (rchO (S.2.2.2 6) e) i) ||| 0))), (2, .int (nI e)), (0, .ref o)]) C dX4_reach_93 1 rfl (by decide) rfl ?_
                  refine j_goto C 29 dX4_reach_96 (by decide) ?_
                  refine j_lv [0, 2, 1, 3] (lv' := [(3, .int (nI (i + 1))), (2, .int (nI e)), (1, .int (nI ((rchI (S.2.2.2 6) (rchO (S.2.2.2 6) e) i) ||| 0))), (0, .ref o)]) rfl ?_
                  refine j_lvN (lv' := [(3, .int (nI (i + 1))), (2, .int (nI e)), (1, .int (nI (rchI (S.2.2.2 6) (rchO (S.2.2.2 6) e) (i + 1)))), (0, .ref o)]) 2 rfl (by simp [rchI, c4, c24, c37, c51]) rfl ?_
                  exact ih_li (i + 1) (by omega) (by omega) (by omega)
                · refine j_iload_n C dX4_reach_54 rfl 2 rfl ?_
                  refine j_aload_n C dX4_reach_55 rfl 3 rfl ?_
                  refine mg13 C q1487 dX4_reach_56 ?_
                  refine j_bipush (v := nI 26) C dX4_reach_59 rfl ?_
                  refine j_iconst (v := nI 2) C dX4_reach_61 rfl ?_
                  refine j_iload_n C dX4_reach_62 rfl 0 rfl ?_
                  refine j_imulN C dX4_reach_63 ?_
                  refine j_iaddN C dX4_reach_64 ?_
                  refine ml6 C (26 + (2 * i)) rfl (by first | omega | (have := r26 i (by omega); omega) | (have q1 := rchI_lt (t := S.2.2.2 6) (s := rchO (S.2.2.2 6) e) (fun x h => (r26 x h).2) (rchO_lt r4 (fun x h => (r26 x h).2) r25 e) i (by omega); omega)) dX4_reach_65 (v := S.2.2.2 6 (26 + (2 * i))) rfl ?_
                  refine j_callS C (mX4_has G (mset G M o S, sz) (rchI (S.2.2.2 6) (rchO (S.2.2.2 6) e) i) (S.2.2.2 6 (26 + (2 * i))) (by first | omega | (have := r26 i (by omega); omega) | (have q1 := rchI_lt (t := S.2.2.2 6) (s := rchO (S.2.2.2 6) e) (fun x h => (r26 x h).2) (rchO_lt r4 (fun x h => (r26 x h).2) r25 e) i (by omega); omega)) (by first | omega | (have := r26 i (by omega); omega) | (have q1 := rchI_lt (t := S.2.2.2 6) (s := rchO (S.2.2.2 6) e) (fun x h => (r26 x h).2) (rchO_lt r4 (fun x h => (r26 x h).2) r25 e) i (by omega); omega))) pI.ret 2 q1686 q1687 q73 q1688 (by decide +kernel) rfl (by decide) (by decide) (Nat.le_of_ble_eq_true rfl) rfl dX4_reach_66 (by omega) (by omega) (qI.k ?_)
                  refine j_if_eqB C 90 dX4_reach_69 (by decide) (fun c69 => ?_) (fun c69 => ?_)
                  · refine j_iconst (v := nI 0) C dX4_reach_90 rfl ?_
                    refine j_iorN C dX4_reach_91 ?_
                    refine j_istore_n (lv' := [(1, .int (nI ((rchI (S.2.2.2 6) (rchO (S.2.2.2 6) e) i) ||| 0))), (3, .int (nI i)), (2, .int (nI e)), (0, .ref o)]) C dX4_reach_92 rfl (by decide) rfl ?_
                    refine j_iincN (lv' := [(3, .int (nI (i + 1))), (1, .int (nI ((rchI (S.2.2.2 6) (rchO (S.2.2.2 6) e) i) ||| 0))), (2, .int (nI e)), (0, .ref o)]) C dX4_reach_93 1 rfl (by decide) rfl ?_
                    refine j_goto C 29 dX4_reach_96 (by decide) ?_
                    refine j_lv [0, 2, 1, 3] (lv' := [(3, .int (nI (i + 1))), (2, .int (nI e)), (1, .int (nI ((rchI (S.2.2.2 6) (rchO (S.2.2.2 6) e) i) ||| 0))), (0, .ref o)]) rfl ?_
                    refine j_lvN (lv' := [(3, .int (nI (i + 1))), (2, .int (nI e)), (1, .int (nI (rchI (S.2.2.2 6) (rchO (S.2.2.2 6) e) (i + 1)))), (0, .ref o)]) 2 rfl (by simp [rchI, c4, c24, c37, c51, c69]) rfl ?_
                    exact ih_li (i + 1) (by omega) (by omega) (by omega)
                  · refine j_iconst (v := nI 1) C dX4_reach_72 rfl ?_
                    refine j_aload_n C dX4_reach_73 rfl 3 rfl ?_
                    refine mg13 C q1487 dX4_reach_74 ?_
                    refine j_bipush (v := nI 26) C dX4_reach_77 rfl ?_
                    refine j_iconst (v := nI 2) C dX4_reach_79 rfl ?_
                    refine j_iload_n C dX4_reach_80 rfl 0 rfl ?_
                    refine j_imulN C dX4_reach_81 ?_
                    refine j_iaddN C dX4_reach_82 ?_
                    refine j_iconst (v := nI 1) C dX4_reach_83 rfl ?_
                    refine j_iaddN C dX4_reach_84 ?_
                    refine ml6 C ((26 + (2 * i)) + 1) rfl (by first | omega | (have := r26 i (by omega); omega) | (have q1 := rchI_lt (t := S.2.2.2 6) (s := rchO (S.2.2.2 6) e) (fun x h => (r26 x h).2) (rchO_lt r4 (fun x h => (r26 x h).2) r25 e) i (by omega); omega)) dX4_reach_85 (v := S.2.2.2 6 ((26 + (2 * i)) + 1)) rfl ?_
                    refine j_shl1 C dX4_reach_86 (by first | omega | (have := r26 i (by omega); omega) | (have q1 := rchI_lt (t := S.2.2.2 6) (s := rchO (S.2.2.2 6) e) (fun x h => (r26 x h).2) (rchO_lt r4 (fun x h => (r26 x h).2) r25 e) i (by omega); omega)) ?_
                    refine j_goto C 91 dX4_reach_87 (by decide) ?_
                    refine j_iorN C dX4_reach_91 ?_
                    refine j_istore_n (lv' := [(1, .int (nI ((rchI (S.2.2.2 6) (rchO (S.2.2.2 6) e) i) ||| (2 ^ (S.2.2.2 6 ((26 + (2 * i)) + 1)))))), (3, .int (nI i)), (2, .int (nI e)), (0, .ref o)]) C dX4_reach_92 rfl (by decide) rfl ?_
                    refine j_iincN (lv' := [(3, .int (nI (i + 1))), (1, .int (nI ((rchI (S.2.2.2 6) (rchO (S.2.2.2 6) e) i) ||| (2 ^ (S.2.2.2 6 ((26 + (2 * i)) + 1)))))), (2, .int (nI e)), (0, .ref o)]) C dX4_reach_93 1 rfl (by decide) rfl ?_
                    refine j_goto C 29 dX4_reach_96 (by decide) ?_
                    refine j_lv [0, 2, 1, 3] (lv' := [(3, .int (nI (i + 1))), (2, .int (nI e)), (1, .int (nI ((rchI (S.2.2.2 6) (rchO (S.2.2.2 6) e) i) ||| (2 ^ (S.2.2.2 6 ((26 + (2 * i)) + 1)))))), (0, .ref o)]) rfl ?_
                    refine j_lvN (lv' := [(3, .int (nI (i + 1))), (2, .int (nI e)), (1, .int (nI (rchI (S.2.2.2 6) (rchO (S.2.2.2 6) e) (i + 1)))), (0, .ref o)]) 2 rfl (by simp [rchI, c4, c24, c37, c51, c69]) rfl ?_
                    exact ih_li (i + 1) (by omega) (by omega) (by omega)
          refine j_lv [0, 1, 2, 3] (lv' := [(3, .int (nI 0)), (2, .int (nI e)), (1, .int (nI (rchO (S.2.2.2 6) e))), (0, .ref o)]) rfl ?_
          refine j_lvN (lv' := [(3, .int (nI 0)), (2, .int (nI e)), (1, .int (nI (rchI (S.2.2.2 6) (rchO (S.2.2.2 6) e) 0))), (0, .ref o)]) 2 rfl rfl rfl ?_
          exact li (S.2.2.2 6 25 + 1 - 0) (0) (by omega) (by omega) (by omega)
    refine j_lv [0, 1, 2] (lv' := [(2, .int (nI 0)), (1, .int (nI (2 ^ (S.2.2.2 6 4)))), (0, .ref o)]) rfl ?_
    refine j_lvN (lv' := [(2, .int (nI 0)), (1, .int (nI (rchO (S.2.2.2 6) 0))), (0, .ref o)]) 1 rfl rfl rfl ?_
    exact lo (6 + 1 - 0) (0) (by omega) (by omega) (by omega)
  · refine j_ldc C q1689 dX4_reach_7 ?_
    exact j_iret C (by omega) (by omega) (pM.mk (h1 (by have := of_decide_eq_false c4; omega))) dX4_reach_9
set_option maxHeartbeats 1000000 in
theorem mX4_image (G : gl_T) (M : Nat → Option (Nat × va_E)) (sz o : Nat) (S : ms_T) (x : Int32) (ht : smT (S.2.2.2 6)) (P : Int32 → ms_T → Prop) (h1 : inB x (nI 0) (nI 1) = false → P kBAD S) (h2 : inB x (nI 0) (nI 1) = true → S.2.2.2 6 0 = 0 → P kSTATE S) (h3 : ∀ j, x = nI j → j ≤ 1 → 0 < S.2.2.2 6 0 → P (nI 1) (sB (sB S 10 (va_cpy (S.2.2.2 6) (S.2.2.2 10) 0 (42 * j) 42)) 11 (uN (S.2.2.2 11) j 1))) : Mt G yX4_image cX4_image 2 (some .int) 1 [.ref o, .int x] (mset G M o S, sz) (pM G M o sz P) 0 0 := by
  refine Mt.start (by decide) (Nat.le_of_ble_eq_true rfl) (fun k C => ?_)
  have C : Cx G k cX4_image "MoodFareModel" "image" 2 (some .int) 1 0 0 _ := C
  have ht0 := ht
  obtain ⟨r0, r1, r2, r3, r4, r5, r6, r7, r25, r26⟩ := ht
  refine j_iload_n C dX4_image_0 rfl 1 rfl ?_
  refine j_iconst (v := nI 0) C dX4_image_1 rfl ?_
  refine j_iconst (v := nI 1) C dX4_image_2 rfl ?_
  refine j_callS C (mX4_in G (mset G M o S, sz) x (nI 0) (nI 1)) pI.ret 3 q1579 q1580 q73 q1581 (by decide +kernel) rfl (by decide) (by decide) (Nat.le_of_ble_eq_true rfl) rfl dX4_image_3 (by omega) (by omega) (qI.k ?_)
  refine j_if_neB C 12 dX4_image_6 (by decide) (fun c6 => ?_) (fun c6 => ?_)
  · obtain ⟨j, rfl, -, hj⟩ := inB_n (by decide) c6 (by decide)
    refine j_aload_n C dX4_image_12 rfl 0 rfl ?_
    refine j_callV C (mX4_isTown G M sz o S (by first | omega | assumption | (intro x hx; have := r26 x hx; omega))) pI.ret mset_o rfl 0 q1715 q1717 qs47 q73 q1718 (by decide +kernel) rfl (by decide) (by decide) (Nat.le_of_ble_eq_true rfl) rfl dX4_image_13 (by omega) (by omega) (qI.k ?_)
    refine j_if_neB C 22 dX4_image_16 (by decide) (fun c16 => ?_) (fun c16 => ?_)
    · refine j_aload_n C dX4_image_22 rfl 0 rfl ?_
      refine mg13 C q1487 dX4_image_23 ?_
      refine j_iconst (v := nI 0) C dX4_image_26 rfl ?_
      refine j_aload_n C dX4_image_27 rfl 0 rfl ?_
      refine mg18 C q1492 dX4_image_28 ?_
      refine j_bipush (v := nI 42) C dX4_image_31 rfl ?_
      refine j_iload_n C dX4_image_33 rfl 1 rfl ?_
      refine j_imulN C dX4_image_34 ?_
      refine j_callS C (mX4_copies G (mset G M o S, sz) (o + 6) o (o + 10) o 42 84 0 (42 * j) (S.2.2.2 6) (S.2.2.2 10) (mset_a 6 (by decide) (by decide)) (mset_a 10 (by decide) (by decide)) (by omega) (by first | omega | assumption | (intro x hx; have := r26 x hx; omega)) (by first | omega | assumption | (intro x hx; have := r26 x hx; omega)) (by decide) (by decide)) pV.ret 4 q1668 q1669 q73 q1670 (by decide +kernel) rfl (by decide) (by decide) (Nat.le_of_ble_eq_true rfl) rfl dX4_image_35 (by omega) (by omega) (qV.k ?_)
      refine J.eq (w' := (mset G M o (sB S 10 (va_cpy (S.2.2.2 6) (S.2.2.2 10) 0 (42 * j) 42)), sz)) ?_ (congrArg (fun z => (z, sz)) (mset_ua 10 (by decide) (by decide) (mfs_B _ _ _ _) rfl (mcon_B _ _ _))) rfl rfl
      refine j_aload_n C dX4_image_38 rfl 0 rfl ?_
      refine mg19 C q1493 dX4_image_39 ?_
      refine j_iload_n C dX4_image_42 rfl 1 rfl ?_
      refine j_iconst (v := nI 1) C dX4_image_43 rfl ?_
      refine mt11 C (j) rfl (by first | omega | assumption | (intro x hx; have := r26 x hx; omega)) (by first | omega | assumption | (intro x hx; have := r26 x hx; omega)) dX4_image_44 ?_
      refine j_iconst (v := nI 1) C dX4_image_45 rfl ?_
      exact j_iret C (by omega) (by omega) (pM.mk (h3 j rfl hj (of_decide_eq_true c16))) dX4_image_46
    · refine j_ldc C q1689 dX4_image_19 ?_
      exact j_iret C (by omega) (by omega) (pM.mk (h2 c6 (by have := of_decide_eq_false c16; omega))) dX4_image_21
  · refine j_ldc C q1582 dX4_image_9 ?_
    exact j_iret C (by omega) (by omega) (pM.mk (h1 c6)) dX4_image_11
set_option maxHeartbeats 1000000 in
theorem mX4_restore (G : gl_T) (M : Nat → Option (Nat × va_E)) (sz o : Nat) (S : ms_T) (x : Int32) (hk : ∀ j, S.2.2.2 11 j ≤ 1) (P : Int32 → ms_T → Prop) (h1 : inB x (nI 0) (nI 1) = false → P kBAD S) (h2 : ∀ j, x = nI j → j ≤ 1 → S.2.2.2 11 j = 0 → P kSTATE S) (h3 : ∀ j, x = nI j → j ≤ 1 → ¬ S.2.2.2 11 j = 0 → P (nI 1) (sN (sB S 6 (fun i => S.2.2.2 10 (42 * j + i))) 17 0)) : Mt G yX4_restore cX4_restore 2 (some .int) 1 [.ref o, .int x] (mset G M o S, sz) (pM G M o sz P) 0 0 := by
  refine Mt.start (by decide) (Nat.le_of_ble_eq_true rfl) (fun k C => ?_)
  have C : Cx G k cX4_restore "MoodFareModel" "restore" 2 (some .int) 1 0 0 _ := C
  refine j_iload_n C dX4_restore_0 rfl 1 rfl ?_
  refine j_iconst (v := nI 0) C dX4_restore_1 rfl ?_
  refine j_iconst (v := nI 1) C dX4_restore_2 rfl ?_
  refine j_callS C (mX4_in G (mset G M o S, sz) x (nI 0) (nI 1)) pI.ret 3 q1579 q1580 q73 q1581 (by decide +kernel) rfl (by decide) (by decide) (Nat.le_of_ble_eq_true rfl) rfl dX4_restore_3 (by omega) (by omega) (qI.k ?_)
  refine j_if_neB C 12 dX4_restore_6 (by decide) (fun c6 => ?_) (fun c6 => ?_)
  · obtain ⟨j, rfl, -, hj⟩ := inB_n (by decide) c6 (by decide)
    have hkj := hk j
    refine j_aload_n C dX4_restore_12 rfl 0 rfl ?_
    refine mg19 C q1493 dX4_restore_13 ?_
    refine j_iload_n C dX4_restore_16 rfl 1 rfl ?_
    refine ml11 C (j) rfl (by omega) dX4_restore_17 (v := S.2.2.2 11 j) rfl ?_
    refine j_if_neN C 24 dX4_restore_18 (by decide) (by omega) (fun c18 => ?_) (fun c18 => ?_)
    · refine j_aload_n C dX4_restore_24 rfl 0 rfl ?_
      refine mg18 C q1492 dX4_restore_25 ?_
      refine j_bipush (v := nI 42) C dX4_restore_28 rfl ?_
      refine j_iload_n C dX4_restore_30 rfl 1 rfl ?_
      refine j_imulN C dX4_restore_31 ?_
      refine j_aload_n C dX4_restore_32 rfl 0 rfl ?_
      refine mg13 C q1487 dX4_restore_33 ?_
      refine j_iconst (v := nI 0) C dX4_restore_36 rfl ?_
      refine j_callS C (mX4_copies G (mset G M o S, sz) (o + 10) o (o + 6) o 84 42 (42 * j) 0 (S.2.2.2 10) (S.2.2.2 6) (mset_a 10 (by decide) (by decide)) (mset_a 6 (by decide) (by decide)) (by omega) (by omega) (by omega) (by decide) (by decide)) pV.ret 4 q1668 q1669 q73 q1670 (by decide +kernel) rfl (by decide) (by decide) (Nat.le_of_ble_eq_true rfl) rfl dX4_restore_37 (by omega) (by omega) (qV.k ?_)
      refine J.eq (w' := (mset G M o (sB S 6 (va_cpy (S.2.2.2 10) (S.2.2.2 6) (42 * j) 0 42)), sz)) ?_ (congrArg (fun z => (z, sz)) (mset_ua 6 (by decide) (by decide) (mfs_B _ _ _ _) rfl (mcon_B _ _ _))) rfl rfl
      refine j_cgB 6 (g' := fun i => S.2.2.2 10 (42 * j + i)) (by decide) (by decide) (fun i hi => by rw [pk_cpy_in (by omega) (by exact hi)]; simp) ?_
      refine j_aload_n C dX4_restore_40 rfl 0 rfl ?_
      refine j_iconst (v := nI 0) C dX4_restore_41 rfl ?_
      refine mp17 C q1491 dX4_restore_42 ?_
      refine j_iconst (v := nI 1) C dX4_restore_45 rfl ?_
      exact j_iret C (by omega) (by omega) (pM.mk (h3 j rfl hj c18)) dX4_restore_46
    · refine j_ldc C q1689 dX4_restore_21 ?_
      exact j_iret C (by omega) (by omega) (pM.mk (h2 j rfl hj c18)) dX4_restore_23
  · refine j_ldc C q1582 dX4_restore_9 ?_
    exact j_iret C (by omega) (by omega) (pM.mk (h1 c6)) dX4_restore_11
set_option maxHeartbeats 1000000 in
theorem mX4_kind (G : gl_T) (M : Nat → Option (Nat × va_E)) (sz o : Nat) (S : ms_T) (x : Int32) (ht : smT (S.2.2.2 6)) (P : Int32 → ms_T → Prop) (h1 : inB x (nI 0) (nI (S.2.2.2 6 6) - nI 1) = false → P kBAD S) (h2 : ∀ j, x = nI j → j < S.2.2.2 6 6 → P (nI (S.2.2.2 6 (7 + 3 * j))) S) : Mt G yX4_kind cX4_kind 2 (some .int) 2 [.ref o, .int x] (mset G M o S, sz) (pM G M o sz P) 0 0 := by
  refine Mt.start (by decide) (Nat.le_of_ble_eq_true rfl) (fun k C => ?_)
  have C : Cx G k cX4_kind "MoodFareModel" "kind" 2 (some .int) 2 0 0 _ := C
  have ht0 := ht
  obtain ⟨r0, r1, r2, r3, r4, r5, r6, r7, r25, r26⟩ := ht
  refine j_aload_n C dX4_kind_0 rfl 0 rfl ?_
  refine j_iload_n C dX4_kind_1 rfl 1 rfl ?_
  refine j_callV C (mX4_isCorner G M sz o S x) pI.ret mset_o rfl 1 q1707 q1709 qs46 q73 q1710 (by decide +kernel) rfl (by decide) (by decide) (Nat.le_of_ble_eq_true rfl) rfl dX4_kind_2 (by omega) (by omega) (qI.k ?_)
  refine j_if_eqB C 16 dX4_kind_5 (by decide) (fun c5 => ?_) (fun c5 => ?_)
  · refine j_ldc C q1582 dX4_kind_16 ?_
    exact j_iret C (by omega) (by omega) (pM.mk (h1 c5)) dX4_kind_18
  · obtain ⟨j, rfl, hj⟩ := inB_p (by first | omega | assumption | (intro x hx; have := r26 x hx; omega)) c5
    refine j_aload_n C dX4_kind_8 rfl 0 rfl ?_
    refine j_iload_n C dX4_kind_9 rfl 1 rfl ?_
    refine j_callV C (mX4_kindIn G M sz o S j (by first | omega | assumption | (intro x hx; have := r26 x hx; omega))) pI.ret mset_o rfl 1 q1838 q1840 qs59 q73 q1841 (by decide +kernel) rfl (by decide) (by decide) (Nat.le_of_ble_eq_true rfl) rfl dX4_kind_10 (by omega) (by omega) (qI.k ?_)
    refine j_goto C 18 dX4_kind_13 (by decide) ?_
    exact j_iret C (by omega) (by omega) (pM.mk (h2 j rfl hj)) dX4_kind_18
set_option maxHeartbeats 1000000 in
theorem mX4_as (G : gl_T) (M : Nat → Option (Nat × va_E)) (sz o : Nat) (S : ms_T) (x y : Int32) (ht : smT (S.2.2.2 6)) (P : Int32 → ms_T → Prop) (h1 : inB x (nI 0) (nI (S.2.2.2 6 6) - nI 1) = false ∨ inB y (nI 0) (nI 5) = false → P kBAD S) (h2 : ∀ j u, x = nI j → j < S.2.2.2 6 6 → y = nI u → u ≤ 5 → asB u (S.2.2.2 6 (7 + 3 * j)) = true → P (nI j) (sN S 4 0)) (h3 : ∀ j u, x = nI j → j < S.2.2.2 6 6 → y = nI u → u ≤ 5 → asB u (S.2.2.2 6 (7 + 3 * j)) = false → P ((-1000010) - nI 3) (sN S 4 3)) : Mt G yX4_as cX4_as 5 (some .int) 2 [.ref o, .int x, .int y] (mset G M o S, sz) (pM G M o sz P) 0 0 := by
  refine Mt.start (by decide) (Nat.le_of_ble_eq_true rfl) (fun k C => ?_)
  have C : Cx G k cX4_as "MoodFareModel" "as" 5 (some .int) 2 0 0 _ := C
  have ht0 := ht
  obtain ⟨r0, r1, r2, r3, r4, r5, r6, r7, r25, r26⟩ := ht
  refine j_aload_n C dX4_as_0 rfl 0 rfl ?_
  refine j_iload_n C dX4_as_1 rfl 1 rfl ?_
  refine j_callV C (mX4_isCorner G M sz o S x) pI.ret mset_o rfl 1 q1707 q1709 qs46 q73 q1710 (by decide +kernel) rfl (by decide) (by decide) (Nat.le_of_ble_eq_true rfl) rfl dX4_as_2 (by omega) (by omega) (qI.k ?_)
  refine j_if_eqB C 17 dX4_as_5 (by decide) (fun c5 => ?_) (fun c5 => ?_)
  · refine j_ldc C q1582 dX4_as_17 ?_
    exact j_iret C (by omega) (by omega) (pM.mk (h1 (Or.inl c5))) dX4_as_19
  · obtain ⟨j, rfl, hj⟩ := inB_p (by first | omega | assumption | (intro x hx; have := r26 x hx; omega)) c5
    have rj := r7 j (by omega)
    refine j_iload_n C dX4_as_8 rfl 2 rfl ?_
    refine j_iconst (v := nI 0) C dX4_as_9 rfl ?_
    refine j_iconst (v := nI 5) C dX4_as_10 rfl ?_
    refine j_callS C (mX4_in G (mset G M o S, sz) y (nI 0) (nI 5)) pI.ret 3 q1579 q1580 q73 q1581 (by decide +kernel) rfl (by decide) (by decide) (Nat.le_of_ble_eq_true rfl) rfl dX4_as_11 (by omega) (by omega) (qI.k ?_)
    refine j_if_neB C 20 dX4_as_14 (by decide) (fun c14 => ?_) (fun c14 => ?_)
    · obtain ⟨u, rfl, -, hu⟩ := inB_n (by decide) c14 (by decide)
      refine j_aload_n C dX4_as_20 rfl 0 rfl ?_
      refine j_iload_n C dX4_as_21 rfl 1 rfl ?_
      refine j_callV C (mX4_kindIn G M sz o S j (by first | omega | assumption | (intro x hx; have := r26 x hx; omega))) pI.ret mset_o rfl 1 q1838 q1840 qs59 q73 q1841 (by decide +kernel) rfl (by decide) (by decide) (Nat.le_of_ble_eq_true rfl) rfl dX4_as_22 (by omega) (by omega) (qI.k ?_)
      refine j_istore_n (lv' := [(3, .int (nI (S.2.2.2 6 (7 + 3 * j)))), (0, .ref o), (1, .int (nI j)), (2, .int (nI u))]) C dX4_as_25 rfl (by decide) rfl ?_
      refine j_iload_n C dX4_as_26 rfl 3 rfl ?_
      refine j_if_eqN C 55 dX4_as_27 (by decide) (by first | omega | assumption | (intro x hx; have := r26 x hx; omega)) (fun c27 => ?_) (fun c27 => ?_)
      · refine j_iconst (v := nI 1) C dX4_as_55 rfl ?_
        refine j_goto C 60 dX4_as_56 (by decide) ?_
        refine j_istore (lv' := [(4, .int (nI 1)), (3, .int (nI (S.2.2.2 6 (7 + 3 * j)))), (0, .ref o), (1, .int (nI j)), (2, .int (nI u))]) C dX4_as_60 (by decide) rfl ?_
        refine j_iload C dX4_as_62 0 rfl ?_
        refine j_if_eqN C 75 dX4_as_64 (by decide) (by first | omega | assumption | (intro x hx; have := r26 x hx; omega)) (fun c64 => ?_) (fun c64 => ?_)
        · exfalso; omega
        · refine j_aload_n C dX4_as_67 rfl 2 rfl ?_
          refine j_iload_n C dX4_as_68 rfl 3 rfl ?_
          refine j_callV C (mX4_well G M sz o S (nI j)) pI.ret mset_o rfl 1 q1588 q1590 qs31 q73 q1591 (by decide +kernel) rfl (by decide) (by decide) (Nat.le_of_ble_eq_true rfl) rfl dX4_as_69 (by omega) (by omega) (qI.k ?_)
          refine j_goto C 80 dX4_as_72 (by decide) ?_
          exact j_iret C (by omega) (by omega) (pM.mk (h2 j u rfl hj rfl hu (by unfold asB; exact decide_eq_true (by omega)))) dX4_as_80
      · refine j_iload_n C dX4_as_30 rfl 3 rfl ?_
        refine j_iload_n C dX4_as_31 rfl 0 rfl ?_
        refine j_icmp_eqN C 55 dX4_as_32 (by decide) (by first | omega | assumption | (intro x hx; have := r26 x hx; omega)) (by first | omega | assumption | (intro x hx; have := r26 x hx; omega)) (fun c32 => ?_) (fun c32 => ?_)
        · refine j_iconst (v := nI 1) C dX4_as_55 rfl ?_
          refine j_goto C 60 dX4_as_56 (by decide) ?_
          refine j_istore (lv' := [(4, .int (nI 1)), (3, .int (nI (S.2.2.2 6 (7 + 3 * j)))), (0, .ref o), (1, .int (nI j)), (2, .int (nI u))]) C dX4_as_60 (by decide) rfl ?_
          refine j_iload C dX4_as_62 0 rfl ?_
          refine j_if_eqN C 75 dX4_as_64 (by decide) (by first | omega | assumption | (intro x hx; have := r26 x hx; omega)) (fun c64 => ?_) (fun c64 => ?_)
          · exfalso; omega
          · refine j_aload_n C dX4_as_67 rfl 2 rfl ?_
            refine j_iload_n C dX4_as_68 rfl 3 rfl ?_
            refine j_callV C (mX4_well G M sz o S (nI j)) pI.ret mset_o rfl 1 q1588 q1590 qs31 q73 q1591 (by decide +kernel) rfl (by decide) (by decide) (Nat.le_of_ble_eq_true rfl) rfl dX4_as_69 (by omega) (by omega) (qI.k ?_)
            refine j_goto C 80 dX4_as_72 (by decide) ?_
            exact j_iret C (by omega) (by omega) (pM.mk (h2 j u rfl hj rfl hu (by unfold asB; exact decide_eq_true (by omega)))) dX4_as_80
        · refine j_iload_n C dX4_as_35 rfl 3 rfl ?_
          refine j_iconst (v := nI 1) C dX4_as_36 rfl ?_
          refine j_icmp_neN C 45 dX4_as_37 (by decide) (by first | omega | assumption | (intro x hx; have := r26 x hx; omega)) (by first | omega | assumption | (intro x hx; have := r26 x hx; omega)) (fun c37 => ?_) (fun c37 => ?_)
          · refine j_iload_n C dX4_as_45 rfl 3 rfl ?_
            refine j_iconst (v := nI 4) C dX4_as_46 rfl ?_
            refine j_icmp_neN C 59 dX4_as_47 (by decide) (by first | omega | assumption | (intro x hx; have := r26 x hx; omega)) (by first | omega | assumption | (intro x hx; have := r26 x hx; omega)) (fun c47 => ?_) (fun c47 => ?_)
            · refine j_iconst (v := nI 0) C dX4_as_59 rfl ?_
              refine j_istore (lv' := [(4, .int (nI 0)), (3, .int (nI (S.2.2.2 6 (7 + 3 * j)))), (0, .ref o), (1, .int (nI j)), (2, .int (nI u))]) C dX4_as_60 (by decide) rfl ?_
              refine j_iload C dX4_as_62 0 rfl ?_
              refine j_if_eqN C 75 dX4_as_64 (by decide) (by first | omega | assumption | (intro x hx; have := r26 x hx; omega)) (fun c64 => ?_) (fun c64 => ?_)
              · refine j_aload_n C dX4_as_75 rfl 2 rfl ?_
                refine j_iconst (v := nI 3) C dX4_as_76 rfl ?_
                refine j_callV C (mX4_found G M sz o S 3) pI.ret mset_o rfl 1 q1583 q1585 qs30 q73 q1586 (by decide +kernel) rfl (by decide) (by decide) (Nat.le_of_ble_eq_true rfl) rfl dX4_as_77 (by omega) (by omega) (qI.k ?_)
                exact j_iret C (by omega) (by omega) (pM.mk (h3 j u rfl hj rfl hu (by unfold asB; exact decide_eq_false (by omega)))) dX4_as_80
              · exfalso; omega
            · refine j_iload_n C dX4_as_50 rfl 0 rfl ?_
              refine j_iconst (v := nI 5) C dX4_as_51 rfl ?_
              refine j_icmp_neN C 59 dX4_as_52 (by decide) (by first | omega | assumption | (intro x hx; have := r26 x hx; omega)) (by first | omega | assumption | (intro x hx; have := r26 x hx; omega)) (fun c52 => ?_) (fun c52 => ?_)
              · refine j_iconst (v := nI 0) C dX4_as_59 rfl ?_
                refine j_istore (lv' := [(4, .int (nI 0)), (3, .int (nI (S.2.2.2 6 (7 + 3 * j)))), (0, .ref o), (1, .int (nI j)), (2, .int (nI u))]) C dX4_as_60 (by decide) rfl ?_
                refine j_iload C dX4_as_62 0 rfl ?_
                refine j_if_eqN C 75 dX4_as_64 (by decide) (by first | omega | assumption | (intro x hx; have := r26 x hx; omega)) (fun c64 => ?_) (fun c64 => ?_)
                · refine j_aload_n C dX4_as_75 rfl 2 rfl ?_
                  refine j_iconst (v := nI 3) C dX4_as_76 rfl ?_
                  refine j_callV C (mX4_found G M sz o S 3) pI.ret mset_o rfl 1 q1583 q1585 qs30 q73 q1586 (by decide +kernel) rfl (by decide) (by decide) (Nat.le_of_ble_eq_true rfl) rfl dX4_as_77 (by omega) (by omega) (qI.k ?_)
                  exact j_iret C (by omega) (by omega) (pM.mk (h3 j u rfl hj rfl hu (by unfold asB; exact decide_eq_false (by omega)))) dX4_as_80
                · exfalso; omega
              · refine j_iconst (v := nI 1) C dX4_as_55 rfl ?_
                refine j_goto C 60 dX4_as_56 (by decide) ?_
                refine j_istore (lv' := [(4, .int (nI 1)), (3, .int (nI (S.2.2.2 6 (7 + 3 * j)))), (0, .ref o), (1, .int (nI j)), (2, .int (nI u))]) C dX4_as_60 (by decide) rfl ?_
                refine j_iload C dX4_as_62 0 rfl ?_
                refine j_if_eqN C 75 dX4_as_64 (by decide) (by first | omega | assumption | (intro x hx; have := r26 x hx; omega)) (fun c64 => ?_) (fun c64 => ?_)
                · exfalso; omega
                · refine j_aload_n C dX4_as_67 rfl 2 rfl ?_
                  refine j_iload_n C dX4_as_68 rfl 3 rfl ?_
                  refine j_callV C (mX4_well G M sz o S (nI j)) pI.ret mset_o rfl 1 q1588 q1590 qs31 q73 q1591 (by decide +kernel) rfl (by decide) (by decide) (Nat.le_of_ble_eq_true rfl) rfl dX4_as_69 (by omega) (by omega) (qI.k ?_)
                  refine j_goto C 80 dX4_as_72 (by decide) ?_
                  exact j_iret C (by omega) (by omega) (pM.mk (h2 j u rfl hj rfl hu (by unfold asB; exact decide_eq_true (by omega)))) dX4_as_80
          · refine j_iload_n C dX4_as_40 rfl 0 rfl ?_
            refine j_iconst (v := nI 4) C dX4_as_41 rfl ?_
            refine j_icmp_ltN C 55 dX4_as_42 (by decide) (by first | omega | assumption | (intro x hx; have := r26 x hx; omega)) (by first | omega | assumption | (intro x hx; have := r26 x hx; omega)) (fun c42 => ?_) (fun c42 => ?_)
            · refine j_iconst (v := nI 1) C dX4_as_55 rfl ?_
              refine j_goto C 60 dX4_as_56 (by decide) ?_
              refine j_istore (lv' := [(4, .int (nI 1)), (3, .int (nI (S.2.2.2 6 (7 + 3 * j)))), (0, .ref o), (1, .int (nI j)), (2, .int (nI u))]) C dX4_as_60 (by decide) rfl ?_
              refine j_iload C dX4_as_62 0 rfl ?_
              refine j_if_eqN C 75 dX4_as_64 (by decide) (by first | omega | assumption | (intro x hx; have := r26 x hx; omega)) (fun c64 => ?_) (fun c64 => ?_)
              · exfalso; omega
              · refine j_aload_n C dX4_as_67 rfl 2 rfl ?_
                refine j_iload_n C dX4_as_68 rfl 3 rfl ?_
                refine j_callV C (mX4_well G M sz o S (nI j)) pI.ret mset_o rfl 1 q1588 q1590 qs31 q73 q1591 (by decide +kernel) rfl (by decide) (by decide) (Nat.le_of_ble_eq_true rfl) rfl dX4_as_69 (by omega) (by omega) (qI.k ?_)
                refine j_goto C 80 dX4_as_72 (by decide) ?_
                exact j_iret C (by omega) (by omega) (pM.mk (h2 j u rfl hj rfl hu (by unfold asB; exact decide_eq_true (by omega)))) dX4_as_80
            · refine j_iload_n C dX4_as_45 rfl 3 rfl ?_
              refine j_iconst (v := nI 4) C dX4_as_46 rfl ?_
              refine j_icmp_neN C 59 dX4_as_47 (by decide) (by first | omega | assumption | (intro x hx; have := r26 x hx; omega)) (by first | omega | assumption | (intro x hx; have := r26 x hx; omega)) (fun c47 => ?_) (fun c47 => ?_)
              · refine j_iconst (v := nI 0) C dX4_as_59 rfl ?_
                refine j_istore (lv' := [(4, .int (nI 0)), (3, .int (nI (S.2.2.2 6 (7 + 3 * j)))), (0, .ref o), (1, .int (nI j)), (2, .int (nI u))]) C dX4_as_60 (by decide) rfl ?_
                refine j_iload C dX4_as_62 0 rfl ?_
                refine j_if_eqN C 75 dX4_as_64 (by decide) (by first | omega | assumption | (intro x hx; have := r26 x hx; omega)) (fun c64 => ?_) (fun c64 => ?_)
                · refine j_aload_n C dX4_as_75 rfl 2 rfl ?_
                  refine j_iconst (v := nI 3) C dX4_as_76 rfl ?_
                  refine j_callV C (mX4_found G M sz o S 3) pI.ret mset_o rfl 1 q1583 q1585 qs30 q73 q1586 (by decide +kernel) rfl (by decide) (by decide) (Nat.le_of_ble_eq_true rfl) rfl dX4_as_77 (by omega) (by omega) (qI.k ?_)
                  exact j_iret C (by omega) (by omega) (pM.mk (h3 j u rfl hj rfl hu (by unfold asB; exact decide_eq_false (by omega)))) dX4_as_80
                · exfalso; omega
              · refine j_iload_n C dX4_as_50 rfl 0 rfl ?_
                refine j_iconst (v := nI 5) C dX4_as_51 rfl ?_
                refine j_icmp_neN C 59 dX4_as_52 (by decide) (by first | omega | assumption | (intro x hx; have := r26 x hx; omega)) (by first | omega | assumption | (intro x hx; have := r26 x hx; omega)) (fun c52 => ?_) (fun c52 => ?_)
                · refine j_iconst (v := nI 0) C dX4_as_59 rfl ?_
                  refine j_istore (lv' := [(4, .int (nI 0)), (3, .int (nI (S.2.2.2 6 (7 + 3 * j)))), (0, .ref o), (1, .int (nI j)), (2, .int (nI u))]) C dX4_as_60 (by decide) rfl ?_
                  refine j_iload C dX4_as_62 0 rfl ?_
                  refine j_if_eqN C 75 dX4_as_64 (by decide) (by first | omega | assumption | (intro x hx; have := r26 x hx; omega)) (fun c64 => ?_) (fun c64 => ?_)
                  · refine j_aload_n C dX4_as_75 rfl 2 rfl ?_
                    refine j_iconst (v := nI 3) C dX4_as_76 rfl ?_
                    refine j_callV C (mX4_found G M sz o S 3) pI.ret mset_o rfl 1 q1583 q1585 qs30 q73 q1586 (by decide +kernel) rfl (by decide) (by decide) (Nat.le_of_ble_eq_true rfl) rfl dX4_as_77 (by omega) (by omega) (qI.k ?_)
                    exact j_iret C (by omega) (by omega) (pM.mk (h3 j u rfl hj rfl hu (by unfold asB; exact decide_eq_false (by omega)))) dX4_as_80
                  · exfalso; omega
                · refine j_iconst (v := nI 1) C dX4_as_55 rfl ?_
                  refine j_goto C 60 dX4_as_56 (by decide) ?_
                  refine j_istore (lv' := [(4, .int (nI 1)), (3, .int (nI (S.2.2.2 6 (7 + 3 * j)))), (0, .ref o), (1, .int (nI j)), (2, .int (nI u))]) C dX4_as_60 (by decide) rfl ?_
                  refine j_iload C dX4_as_62 0 rfl ?_
                  refine j_if_eqN C 75 dX4_as_64 (by decide) (by first | omega | assumption | (intro x hx; have := r26 x hx; omega)) (fun c64 => ?_) (fun c64 => ?_)
                  · exfalso; omega
                  · refine j_aload_n C dX4_as_67 rfl 2 rfl ?_
                    refine j_iload_n C dX4_as_68 rfl 3 rfl ?_
                    refine j_callV C (mX4_well G M sz o S (nI j)) pI.ret mset_o rfl 1 q1588 q1590 qs31 q73 q1591 (by decide +kernel) rfl (by decide) (by decide) (Nat.le_of_ble_eq_true rfl) rfl dX4_as_69 (by omega) (by omega) (qI.k ?_)
                    refine j_goto C 80 dX4_as_72 (by decide) ?_
                    exact j_iret C (by omega) (by omega) (pM.mk (h2 j u rfl hj rfl hu (by unfold asB; exact decide_eq_true (by omega)))) dX4_as_80
    · refine j_ldc C q1582 dX4_as_17 ?_
      exact j_iret C (by omega) (by omega) (pM.mk (h1 (Or.inr c14))) dX4_as_19
