/-! ===== the reference: rows, tape, trace ===== -/
set_option maxRecDepth 100000
set_option maxHeartbeats 1000000 in
theorem mX4_row (G : gl_T) (M : Nat → Option (Nat × va_E)) (sz o : Nat) (S : ms_T) (r l n : Int32) (P : Int32 → ms_T → Prop) (h1 : inB r (nI 0) (nI 7) = false ∨ inB l (nI 0) (nI 2) = false ∨ nI 40 < n → P kBAD S) (h2 : ∀ j, r = nI j → j < 8 → inB l (nI 0) (nI 2) = true → n < 0 → P ((-1000010) - nI 4) (sN S 4 4)) (h3 : ∀ j m, r = nI j → j < 8 → inB l (nI 0) (nI 2) = true → n = nI m → m ≤ 40 → P n (sN (sR (sB (sR S 1 (upd (S.2.2.1 1) j l)) 2 (uN (S.2.2.2 2) j m)) 3 (zerosAt (S.2.2.1 3) (40 * j) 40)) 4 0)) : Mt G yX4_row cX4_row 5 (some .int) 2 [.ref o, .int r, .int l, .int n] (mset G M o S, sz) (pM G M o sz P) 0 0 := by
  refine Mt.start (by decide) (Nat.le_of_ble_eq_true rfl) (fun k C => ?_)
  have C : Cx G k cX4_row "MoodFareModel" "row" 5 (some .int) 2 0 0 _ := C
  refine j_iload_n C dX4_row_0 rfl 1 rfl ?_
  refine j_callS C (mX4_isRow G (mset G M o S, sz) r) pI.ret 1 q1576 q1577 q73 q1578 (by decide +kernel) rfl (by decide) (by decide) (Nat.le_of_ble_eq_true rfl) rfl dX4_row_1 (by omega) (by omega) (qI.k ?_)
  refine j_if_eqB C 22 dX4_row_4 (by decide) (fun c4 => ?_) (fun c4 => ?_)
  · refine j_ldc C q1582 dX4_row_22 ?_
    exact j_iret C (by omega) (by omega) (pM.mk (h1 (Or.inl c4))) dX4_row_24
  · obtain ⟨j, rfl, -, hj⟩ := inB_n (by decide) c4 (by decide)
    refine j_iload_n C dX4_row_7 rfl 2 rfl ?_
    refine j_iconst (v := nI 0) C dX4_row_8 rfl ?_
    refine j_iconst (v := nI 2) C dX4_row_9 rfl ?_
    refine j_callS C (mX4_in G (mset G M o S, sz) l (nI 0) (nI 2)) pI.ret 3 q1579 q1580 q73 q1581 (by decide +kernel) rfl (by decide) (by decide) (Nat.le_of_ble_eq_true rfl) rfl dX4_row_10 (by omega) (by omega) (qI.k ?_)
    refine j_if_eqB C 22 dX4_row_13 (by decide) (fun c13 => ?_) (fun c13 => ?_)
    · refine j_ldc C q1582 dX4_row_22 ?_
      exact j_iret C (by omega) (by omega) (pM.mk (h1 (Or.inr (Or.inl c13)))) dX4_row_24
    · refine j_iload_n C dX4_row_16 rfl 3 rfl ?_
      refine j_bipush (v := nI 40) C dX4_row_17 rfl ?_
      refine j_icmp_le C 25 dX4_row_19 (by decide) (fun c19 => ?_) (fun c19 => ?_)
      · refine j_iload_n C dX4_row_25 rfl 3 rfl ?_
        refine j_if_ge C 35 dX4_row_26 (by decide) (fun c26 => ?_) (fun c26 => ?_)
        · obtain ⟨m, hm, rfl⟩ := nI_of (Int32.not_lt.mpr c26)
          refine j_aload_n C dX4_row_35 rfl 0 rfl ?_
          refine mg0 C q1474 dX4_row_36 ?_
          refine j_iload_n C dX4_row_39 rfl 1 rfl ?_
          refine j_iload_n C dX4_row_40 rfl 2 rfl ?_
          refine mt1 C (j) rfl (by omega) dX4_row_41 ?_
          refine j_aload_n C dX4_row_42 rfl 0 rfl ?_
          refine mg1 C q1475 dX4_row_43 ?_
          refine j_iload_n C dX4_row_46 rfl 1 rfl ?_
          refine j_iload_n C dX4_row_47 rfl 3 rfl ?_
          refine mt2 C (j) rfl (by omega) dX4_row_48 ?_
          refine j_iconst (v := nI 0) C dX4_row_49 rfl ?_
          refine j_istore (lv' := [(4, .int (nI 0)), (0, .ref o), (1, .int (nI j)), (2, .int l), (3, .int (nI m))]) C dX4_row_50 (by decide) rfl ?_
          have lp : ∀ (n_lp i : Nat), 0 ≤ i → i ≤ 40 → 40 < i + n_lp → J G k (mset G M o (sR (sB (sR S 1 (upd (S.2.2.1 1) j l)) 2 (uN (S.2.2.2 2) j m)) 3 (zerosAt (S.2.2.1 3) (40 * j) i)), sz) [(4, .int (nI i)), (0, .ref o), (1, .int (nI j)), (2, .int l), (3, .int (nI m))] 52 [] 0 0 := by
            intro n_lp
            induction n_lp with
            | zero => intro i h0_lp h1_lp h2_lp; omega
            | succ n_lp ih_lp =>
              intro i h0_lp h1_lp h2_lp
              refine j_iload C dX4_row_52 0 rfl ?_
              refine j_bipush (v := nI 40) C dX4_row_54 rfl ?_
              refine j_icmp_geN C 78 dX4_row_56 (by decide) (by omega) (by omega) (fun c56 => ?_) (fun c56 => ?_)
              · obtain rfl : 40 = i := by omega
                refine j_aload_n C dX4_row_78 rfl 1 rfl ?_
                refine j_iload_n C dX4_row_79 rfl 4 rfl ?_
                refine j_callV C (mX4_well G M sz o (sR (sB (sR S 1 (upd (S.2.2.1 1) j l)) 2 (uN (S.2.2.2 2) j m)) 3 (zerosAt (S.2.2.1 3) (40 * j) 40)) (nI m)) pI.ret mset_o rfl 1 q1588 q1590 qs31 q73 q1591 (by decide +kernel) rfl (by decide) (by decide) (Nat.le_of_ble_eq_true rfl) rfl dX4_row_80 (by omega) (by omega) (qI.k ?_)
                refine j_as (y := nI m) rfl ?_
                exact j_iret C (by omega) (by omega) (pM.mk (h3 j m rfl (by omega) c13 rfl ((nI_leI (by omega) (by decide)).mp c19))) dX4_row_83
              · refine j_aload_n C dX4_row_59 rfl 1 rfl ?_
                refine mg2 C q1476 dX4_row_60 ?_
                refine j_bipush (v := nI 40) C dX4_row_63 rfl ?_
                refine j_iload_n C dX4_row_65 rfl 2 rfl ?_
                refine j_imulN C dX4_row_66 ?_
                refine j_iload C dX4_row_67 0 rfl ?_
                refine j_iaddN C dX4_row_69 ?_
                refine j_iconst (v := nI 0) C dX4_row_70 rfl ?_
                refine mt3 C ((40 * j) + i) rfl (by omega) dX4_row_71 ?_
                refine j_iincN (lv' := [(4, .int (nI (i + 1))), (0, .ref o), (1, .int (nI j)), (2, .int l), (3, .int (nI m))]) C dX4_row_72 0 rfl (by decide) rfl ?_
                refine j_goto C 52 dX4_row_75 (by decide) ?_
                refine j_lv [0, 1, 2, 3, 4] (lv' := [(4, .int (nI (i + 1))), (0, .ref o), (1, .int (nI j)), (2, .int l), (3, .int (nI m))]) rfl ?_
                refine J.eq (w' := (mset G M o (sR (sB (sR S 1 (upd (S.2.2.1 1) j l)) 2 (uN (S.2.2.2 2) j m)) 3 (zerosAt (S.2.2.1 3) (40 * j) (i + 1))), sz)) ?_ (by rw [← zerosAt_s]; rfl) rfl rfl
                exact ih_lp (i + 1) (by omega) (by omega) (by omega)
          refine j_lv [0, 1, 2, 3, 4] (lv' := [(4, .int (nI 0)), (0, .ref o), (1, .int (nI j)), (2, .int l), (3, .int (nI m))]) rfl ?_
          refine J.eq (w' := (mset G M o (sR (sB (sR S 1 (upd (S.2.2.1 1) j l)) 2 (uN (S.2.2.2 2) j m)) 3 (zerosAt (S.2.2.1 3) (40 * j) 0)), sz)) ?_ (by rw [zerosAt_0]; rfl) rfl rfl
          exact lp (40 + 1 - 0) (0) (by omega) (by omega) (by omega)
        · refine j_aload_n C dX4_row_29 rfl 0 rfl ?_
          refine j_iconst (v := nI 4) C dX4_row_30 rfl ?_
          refine j_callV C (mX4_found G M sz o S 4) pI.ret mset_o rfl 1 q1583 q1585 qs30 q73 q1586 (by decide +kernel) rfl (by decide) (by decide) (Nat.le_of_ble_eq_true rfl) rfl dX4_row_31 (by omega) (by omega) (qI.k ?_)
          exact j_iret C (by omega) (by omega) (pM.mk (h2 j rfl (by omega) c13 (Int32.not_le.mp c26))) dX4_row_34
      · refine j_ldc C q1582 dX4_row_22 ?_
        exact j_iret C (by omega) (by omega) (pM.mk (h1 (Or.inr (Or.inr (Int32.not_le.mp c19))))) dX4_row_24
set_option maxHeartbeats 1000000 in
theorem mX4_set (G : gl_T) (M : Nat → Option (Nat × va_E)) (sz o : Nat) (S : ms_T) (r i v : Int32) (hm : ∀ j, j < 8 → S.2.2.2 2 j ≤ 40) (P : Int32 → ms_T → Prop) (h1 : inB r (nI 0) (nI 7) = false → P kBAD S) (h2 : ∀ j, r = nI j → j < 8 → S.2.2.1 1 j = kNONE → P ((-1000010) - nI 1) (sN S 4 1)) (h3 : ∀ j, r = nI j → j < 8 → ¬ S.2.2.1 1 j = kNONE → inB i (nI 0) (nI (S.2.2.2 2 j) - nI 1) = false → P ((-1000010) - nI 2) (sN S 4 2)) (h4 : ∀ j a, r = nI j → j < 8 → ¬ S.2.2.1 1 j = kNONE → i = nI a → a < S.2.2.2 2 j → P (cutZ (S.2.2.1 1 j) v) (sN (sR S 3 (upd (S.2.2.1 3) (40 * j + a) (cutZ (S.2.2.1 1 j) v))) 4 0)) : Mt G yX4_set cX4_set 4 (some .int) 2 [.ref o, .int r, .int i, .int v] (mset G M o S, sz) (pM G M o sz P) 0 0 := by
  refine Mt.start (by decide) (Nat.le_of_ble_eq_true rfl) (fun k C => ?_)
  have C : Cx G k cX4_set "MoodFareModel" "set" 4 (some .int) 2 0 0 _ := C
  refine j_iload_n C dX4_set_0 rfl 1 rfl ?_
  refine j_callS C (mX4_isRow G (mset G M o S, sz) r) pI.ret 1 q1576 q1577 q73 q1578 (by decide +kernel) rfl (by decide) (by decide) (Nat.le_of_ble_eq_true rfl) rfl dX4_set_1 (by omega) (by omega) (qI.k ?_)
  refine j_if_neB C 10 dX4_set_4 (by decide) (fun c4 => ?_) (fun c4 => ?_)
  · obtain ⟨j, rfl, -, hj⟩ := inB_n (by decide) c4 (by decide)
    have hmj := hm j (by omega)
    refine j_aload_n C dX4_set_10 rfl 0 rfl ?_
    refine j_iload_n C dX4_set_11 rfl 1 rfl ?_
    refine j_callV C (mX4_isMissing G M sz o S j (by omega)) pI.ret mset_o rfl 1 q1596 q1598 qs32 q73 q1599 (by decide +kernel) rfl (by decide) (by decide) (Nat.le_of_ble_eq_true rfl) rfl dX4_set_12 (by omega) (by omega) (qI.k ?_)
    refine j_if_eqB C 24 dX4_set_15 (by decide) (fun c15 => ?_) (fun c15 => ?_)
    · refine j_iload_n C dX4_set_24 rfl 2 rfl ?_
      refine j_iconst (v := nI 0) C dX4_set_25 rfl ?_
      refine j_aload_n C dX4_set_26 rfl 0 rfl ?_
      refine mg1 C q1475 dX4_set_27 ?_
      refine j_iload_n C dX4_set_30 rfl 1 rfl ?_
      refine ml2 C (j) rfl (by omega) dX4_set_31 (v := S.2.2.2 2 j) rfl ?_
      refine j_iconst (v := nI 1) C dX4_set_32 rfl ?_
      refine j_isub C dX4_set_33 ?_
      refine j_callS C (mX4_in G (mset G M o S, sz) i (nI 0) (nI (S.2.2.2 2 j) - nI 1)) pI.ret 3 q1579 q1580 q73 q1581 (by decide +kernel) rfl (by decide) (by decide) (Nat.le_of_ble_eq_true rfl) rfl dX4_set_34 (by omega) (by omega) (qI.k ?_)
      refine j_if_neB C 46 dX4_set_37 (by decide) (fun c37 => ?_) (fun c37 => ?_)
      · obtain ⟨a, rfl, ha⟩ := inB_p (by omega) c37
        refine j_aload_n C dX4_set_46 rfl 0 rfl ?_
        refine mg2 C q1476 dX4_set_47 ?_
        refine j_bipush (v := nI 40) C dX4_set_50 rfl ?_
        refine j_iload_n C dX4_set_52 rfl 1 rfl ?_
        refine j_imulN C dX4_set_53 ?_
        refine j_iload_n C dX4_set_54 rfl 2 rfl ?_
        refine j_iaddN C dX4_set_55 ?_
        refine j_aload_n C dX4_set_56 rfl 0 rfl ?_
        refine mg0 C q1474 dX4_set_57 ?_
        refine j_iload_n C dX4_set_60 rfl 1 rfl ?_
        refine ml1 C (j) rfl (by omega) dX4_set_61 (v := S.2.2.1 1 j) rfl ?_
        refine j_iload_n C dX4_set_62 rfl 3 rfl ?_
        refine j_callS C (mX4_cut G (mset G M o S, sz) (S.2.2.1 1 j) v) pI.ret 2 q1600 q1601 q73 q1602 (by decide +kernel) rfl (by decide) (by decide) (Nat.le_of_ble_eq_true rfl) rfl dX4_set_63 (by omega) (by omega) (qI.k ?_)
        refine mt3 C ((40 * j) + a) rfl (by omega) dX4_set_66 ?_
        refine j_aload_n C dX4_set_67 rfl 0 rfl ?_
        refine j_aload_n C dX4_set_68 rfl 0 rfl ?_
        refine mg2 C q1476 dX4_set_69 ?_
        refine j_bipush (v := nI 40) C dX4_set_72 rfl ?_
        refine j_iload_n C dX4_set_74 rfl 1 rfl ?_
        refine j_imulN C dX4_set_75 ?_
        refine j_iload_n C dX4_set_76 rfl 2 rfl ?_
        refine j_iaddN C dX4_set_77 ?_
        refine ml3 C ((40 * j) + a) rfl (by omega) dX4_set_78 (v := (upd (S.2.2.1 3) ((40 * j) + a) (cutZ (S.2.2.1 1 j) v)) ((40 * j) + a)) rfl ?_
        refine j_as (y := cutZ (S.2.2.1 1 j) v) pk_us ?_
        refine j_callV C (mX4_well G M sz o (sR S 3 (upd (S.2.2.1 3) ((40 * j) + a) (cutZ (S.2.2.1 1 j) v))) (cutZ (S.2.2.1 1 j) v)) pI.ret mset_o rfl 1 q1588 q1590 qs31 q73 q1591 (by decide +kernel) rfl (by decide) (by decide) (Nat.le_of_ble_eq_true rfl) rfl dX4_set_79 (by omega) (by omega) (qI.k ?_)
        refine j_as (y := cutZ (S.2.2.1 1 j) v) rfl ?_
        exact j_iret C (by omega) (by omega) (pM.mk (h4 j a rfl (by omega) (of_decide_eq_false c15) rfl ha)) dX4_set_82
      · refine j_aload_n C dX4_set_40 rfl 0 rfl ?_
        refine j_iconst (v := nI 2) C dX4_set_41 rfl ?_
        refine j_callV C (mX4_found G M sz o S 2) pI.ret mset_o rfl 1 q1583 q1585 qs30 q73 q1586 (by decide +kernel) rfl (by decide) (by decide) (Nat.le_of_ble_eq_true rfl) rfl dX4_set_42 (by omega) (by omega) (qI.k ?_)
        exact j_iret C (by omega) (by omega) (pM.mk (h3 j rfl (by omega) (of_decide_eq_false c15) c37)) dX4_set_45
    · refine j_aload_n C dX4_set_18 rfl 0 rfl ?_
      refine j_iconst (v := nI 1) C dX4_set_19 rfl ?_
      refine j_callV C (mX4_found G M sz o S 1) pI.ret mset_o rfl 1 q1583 q1585 qs30 q73 q1586 (by decide +kernel) rfl (by decide) (by decide) (Nat.le_of_ble_eq_true rfl) rfl dX4_set_20 (by omega) (by omega) (qI.k ?_)
      exact j_iret C (by omega) (by omega) (pM.mk (h2 j rfl (by omega) (of_decide_eq_true c15))) dX4_set_23
  · refine j_ldc C q1582 dX4_set_7 ?_
    exact j_iret C (by omega) (by omega) (pM.mk (h1 c4)) dX4_set_9
set_option maxHeartbeats 1000000 in
theorem mX4_copy (G : gl_T) (M : Nat → Option (Nat × va_E)) (sz o : Nat) (S : ms_T) (r i q j0 n : Int32) (hm : ∀ j, j < 8 → S.2.2.2 2 j ≤ 40) (P : Int32 → ms_T → Prop) (h1 : inB r (nI 0) (nI 7) = false ∨ inB q (nI 0) (nI 7) = false → P kBAD S) (h2 : ∀ ja jb, r = nI ja → ja < 8 → q = nI jb → jb < 8 → S.2.2.1 1 ja = kNONE ∨ S.2.2.1 1 jb = kNONE → P ((-1000010) - nI 1) (sN S 4 1)) (h3 : ∀ ja jb, r = nI ja → ja < 8 → q = nI jb → jb < 8 → ¬ S.2.2.1 1 ja = kNONE → ¬ S.2.2.1 1 jb = kNONE → ¬ S.2.2.1 1 ja = S.2.2.1 1 jb → P ((-1000010) - nI 5) (sN S 4 5)) (h4 : ∀ ja jb, r = nI ja → ja < 8 → q = nI jb → jb < 8 → ¬ S.2.2.1 1 ja = kNONE → ¬ S.2.2.1 1 jb = kNONE → S.2.2.1 1 ja = S.2.2.1 1 jb → partB (S.2.2.2 2 ja) i n = false ∨ partB (S.2.2.2 2 jb) j0 n = false → P ((-1000010) - nI 2) (sN S 4 2)) (h5 : ∀ ja jb a b m, r = nI ja → ja < 8 → q = nI jb → jb < 8 → ¬ S.2.2.1 1 ja = kNONE → ¬ S.2.2.1 1 jb = kNONE → S.2.2.1 1 ja = S.2.2.1 1 jb → i = nI a → j0 = nI b → n = nI m → a + m ≤ S.2.2.2 2 ja → b + m ≤ S.2.2.2 2 jb → P n (sN (sR (sR S 4 (va_cpy (S.2.2.1 3) (S.2.2.1 4) (40 * ja + a) 0 m)) 3 (va_cpy (va_cpy (S.2.2.1 3) (S.2.2.1 4) (40 * ja + a) 0 m) (S.2.2.1 3) 0 (40 * jb + b) m)) 4 0)) : Mt G yX4_copy cX4_copy 7 (some .int) 2 [.ref o, .int r, .int i, .int q, .int j0, .int n] (mset G M o S, sz) (pM G M o sz P) 0 0 := by
  refine Mt.start (by decide) (Nat.le_of_ble_eq_true rfl) (fun k C => ?_)
  have C : Cx G k cX4_copy "MoodFareModel" "copy" 7 (some .int) 2 0 0 _ := C
  refine j_iload_n C dX4_copy_0 rfl 1 rfl ?_
  refine j_callS C (mX4_isRow G (mset G M o S, sz) r) pI.ret 1 q1576 q1577 q73 q1578 (by decide +kernel) rfl (by decide) (by decide) (Nat.le_of_ble_eq_true rfl) rfl dX4_copy_1 (by omega) (by omega) (qI.k ?_)
  refine j_if_eqB C 14 dX4_copy_4 (by decide) (fun c4 => ?_) (fun c4 => ?_)
  · refine j_ldc C q1582 dX4_copy_14 ?_
    exact j_iret C (by omega) (by omega) (pM.mk (h1 (Or.inl c4))) dX4_copy_16
  · obtain ⟨ja, rfl, -, hja⟩ := inB_n (by decide) c4 (by decide)
    have hma := hm ja (by omega)
    refine j_iload_n C dX4_copy_7 rfl 3 rfl ?_
    refine j_callS C (mX4_isRow G (mset G M o S, sz) q) pI.ret 1 q1576 q1577 q73 q1578 (by decide +kernel) rfl (by decide) (by decide) (Nat.le_of_ble_eq_true rfl) rfl dX4_copy_8 (by omega) (by omega) (qI.k ?_)
    refine j_if_neB C 17 dX4_copy_11 (by decide) (fun c11 => ?_) (fun c11 => ?_)
    · obtain ⟨jb, rfl, -, hjb⟩ := inB_n (by decide) c11 (by decide)
      have hmb := hm jb (by omega)
      refine j_aload_n C dX4_copy_17 rfl 0 rfl ?_
      refine j_iload_n C dX4_copy_18 rfl 1 rfl ?_
      refine j_callV C (mX4_isMissing G M sz o S ja (by omega)) pI.ret mset_o rfl 1 q1596 q1598 qs32 q73 q1599 (by decide +kernel) rfl (by decide) (by decide) (Nat.le_of_ble_eq_true rfl) rfl dX4_copy_19 (by omega) (by omega) (qI.k ?_)
      refine j_if_neB C 33 dX4_copy_22 (by decide) (fun c22 => ?_) (fun c22 => ?_)
      · refine j_aload_n C dX4_copy_33 rfl 0 rfl ?_
        refine j_iconst (v := nI 1) C dX4_copy_34 rfl ?_
        refine j_callV C (mX4_found G M sz o S 1) pI.ret mset_o rfl 1 q1583 q1585 qs30 q73 q1586 (by decide +kernel) rfl (by decide) (by decide) (Nat.le_of_ble_eq_true rfl) rfl dX4_copy_35 (by omega) (by omega) (qI.k ?_)
        exact j_iret C (by omega) (by omega) (pM.mk (h2 ja jb rfl (by omega) rfl (by omega) (Or.inl (of_decide_eq_true c22)))) dX4_copy_38
      · refine j_aload_n C dX4_copy_25 rfl 0 rfl ?_
        refine j_iload_n C dX4_copy_26 rfl 3 rfl ?_
        refine j_callV C (mX4_isMissing G M sz o S jb (by omega)) pI.ret mset_o rfl 1 q1596 q1598 qs32 q73 q1599 (by decide +kernel) rfl (by decide) (by decide) (Nat.le_of_ble_eq_true rfl) rfl dX4_copy_27 (by omega) (by omega) (qI.k ?_)
        refine j_if_eqB C 39 dX4_copy_30 (by decide) (fun c30 => ?_) (fun c30 => ?_)
        · refine j_aload_n C dX4_copy_39 rfl 0 rfl ?_
          refine mg0 C q1474 dX4_copy_40 ?_
          refine j_iload_n C dX4_copy_43 rfl 1 rfl ?_
          refine ml1 C (ja) rfl (by omega) dX4_copy_44 (v := S.2.2.1 1 ja) rfl ?_
          refine j_aload_n C dX4_copy_45 rfl 0 rfl ?_
          refine mg0 C q1474 dX4_copy_46 ?_
          refine j_iload_n C dX4_copy_49 rfl 3 rfl ?_
          refine ml1 C (jb) rfl (by omega) dX4_copy_50 (v := S.2.2.1 1 jb) rfl ?_
          refine j_icmp_eq C 60 dX4_copy_51 (by decide) (fun c51 => ?_) (fun c51 => ?_)
          · refine j_aload_n C dX4_copy_60 rfl 0 rfl ?_
            refine j_iload_n C dX4_copy_61 rfl 1 rfl ?_
            refine j_iload_n C dX4_copy_62 rfl 2 rfl ?_
            refine j_iload C dX4_copy_63 5 rfl ?_
            refine j_callV C (mX4_isPart G M sz o S ja i n (by omega)) pI.ret mset_o rfl 3 q1607 q1609 qs33 q73 q1610 (by decide +kernel) rfl (by decide) (by decide) (Nat.le_of_ble_eq_true rfl) rfl dX4_copy_65 (by omega) (by omega) (qI.k ?_)
            refine j_if_eqB C 83 dX4_copy_68 (by decide) (fun c68 => ?_) (fun c68 => ?_)
            · refine j_aload_n C dX4_copy_83 rfl 0 rfl ?_
              refine j_iconst (v := nI 2) C dX4_copy_84 rfl ?_
              refine j_callV C (mX4_found G M sz o S 2) pI.ret mset_o rfl 1 q1583 q1585 qs30 q73 q1586 (by decide +kernel) rfl (by decide) (by decide) (Nat.le_of_ble_eq_true rfl) rfl dX4_copy_85 (by omega) (by omega) (qI.k ?_)
              exact j_iret C (by omega) (by omega) (pM.mk (h4 ja jb rfl (by omega) rfl (by omega) (of_decide_eq_false c22) (of_decide_eq_false c30) c51 (Or.inl c68))) dX4_copy_88
            · refine j_aload_n C dX4_copy_71 rfl 0 rfl ?_
              refine j_iload_n C dX4_copy_72 rfl 3 rfl ?_
              refine j_iload C dX4_copy_73 4 rfl ?_
              refine j_iload C dX4_copy_75 5 rfl ?_
              refine j_callV C (mX4_isPart G M sz o S jb j0 n (by omega)) pI.ret mset_o rfl 3 q1607 q1609 qs33 q73 q1610 (by decide +kernel) rfl (by decide) (by decide) (Nat.le_of_ble_eq_true rfl) rfl dX4_copy_77 (by omega) (by omega) (qI.k ?_)
              refine j_if_neB C 89 dX4_copy_80 (by decide) (fun c80 => ?_) (fun c80 => ?_)
              · obtain ⟨a, m, rfl, rfl, hab⟩ := partB_n (by omega) c68
                obtain ⟨b, m', rfl, hm', hbb⟩ := partB_n (by omega) c80
                have hmm : m = m' := (nI_eq (by omega) (by omega)).mp hm'
                subst hmm
                refine j_iconst (v := nI 0) C dX4_copy_89 rfl ?_
                refine j_istore (lv' := [(6, .int (nI 0)), (0, .ref o), (1, .int (nI ja)), (2, .int (nI a)), (3, .int (nI jb)), (4, .int (nI b)), (5, .int (nI m))]) C dX4_copy_90 (by decide) rfl ?_
                have lq : ∀ (n_lq e : Nat), 0 ≤ e → e ≤ m → m < e + n_lq → J G k (mset G M o (sR S 4 (va_cpy (S.2.2.1 3) (S.2.2.1 4) (40 * ja + a) 0 e)), sz) [(6, .int (nI e)), (0, .ref o), (1, .int (nI ja)), (2, .int (nI a)), (3, .int (nI jb)), (4, .int (nI b)), (5, .int (nI m))] 92 [] 0 0 := by
                  intro n_lq
                  induction n_lq with
                  | zero => intro e h0_lq h1_lq h2_lq; omega
                  | succ n_lq ih_lq =>
                    intro e h0_lq h1_lq h2_lq
                    refine j_iload C dX4_copy_92 0 rfl ?_
                    refine j_iload C dX4_copy_94 6 rfl ?_
                    refine j_icmp_geN C 126 dX4_copy_96 (by decide) (by omega) (by omega) (fun c96 => ?_) (fun c96 => ?_)
                    · obtain rfl : m = e := by omega
                      refine j_iconst (v := nI 0) C dX4_copy_126 rfl ?_
                      refine j_istore (lv' := [(6, .int (nI 0)), (0, .ref o), (1, .int (nI ja)), (2, .int (nI a)), (3, .int (nI jb)), (4, .int (nI b)), (5, .int (nI m))]) C dX4_copy_127 (by decide) rfl ?_
                      have lr : ∀ (n_lr e : Nat), 0 ≤ e → e ≤ m → m < e + n_lr → J G k (mset G M o (sR (sR S 4 (va_cpy (S.2.2.1 3) (S.2.2.1 4) (40 * ja + a) 0 m)) 3 (va_cpy (va_cpy (S.2.2.1 3) (S.2.2.1 4) (40 * ja + a) 0 m) (S.2.2.1 3) 0 (40 * jb + b) e)), sz) [(6, .int (nI e)), (0, .ref o), (1, .int (nI ja)), (2, .int (nI a)), (3, .int (nI jb)), (4, .int (nI b)), (5, .int (nI m))] 129 [] 0 0 := by
                        intro n_lr
                        induction n_lr with
                        | zero => intro e h0_lr h1_lr h2_lr; omega
                        | succ n_lr ih_lr =>
                          intro e h0_lr h1_lr h2_lr
                          refine j_iload C dX4_copy_129 0 rfl ?_
                          refine j_iload C dX4_copy_131 6 rfl ?_
                          refine j_icmp_geN C 164 dX4_copy_133 (by decide) (by omega) (by omega) (fun c133 => ?_) (fun c133 => ?_)
                          · obtain rfl : m = e := by omega
                            refine j_aload_n C dX4_copy_164 rfl 1 rfl ?_
                            refine j_iload C dX4_copy_165 6 rfl ?_
                            refine j_callV C (mX4_well G M sz o (sR (sR S 4 (va_cpy (S.2.2.1 3) (S.2.2.1 4) (40 * ja + a) 0 m)) 3 (va_cpy (va_cpy (S.2.2.1 3) (S.2.2.1 4) (40 * ja + a) 0 m) (S.2.2.1 3) 0 (40 * jb + b) m)) (nI m)) pI.ret mset_o rfl 1 q1588 q1590 qs31 q73 q1591 (by decide +kernel) rfl (by decide) (by decide) (Nat.le_of_ble_eq_true rfl) rfl dX4_copy_167 (by omega) (by omega) (qI.k ?_)
                            refine j_as (y := nI m) rfl ?_
                            exact j_iret C (by omega) (by omega) (pM.mk (h5 ja jb a b m rfl (by omega) rfl (by omega) (of_decide_eq_false c22) (of_decide_eq_false c30) c51 rfl rfl rfl hab hbb)) dX4_copy_170
                          · refine j_aload_n C dX4_copy_136 rfl 1 rfl ?_
                            refine mg2 C q1476 dX4_copy_137 ?_
                            refine j_bipush (v := nI 40) C dX4_copy_140 rfl ?_
                            refine j_iload_n C dX4_copy_142 rfl 4 rfl ?_
                            refine j_imulN C dX4_copy_143 ?_
                            refine j_iload C dX4_copy_144 5 rfl ?_
                            refine j_iaddN C dX4_copy_146 ?_
                            refine j_iload C dX4_copy_147 0 rfl ?_
                            refine j_iaddN C dX4_copy_149 ?_
                            refine j_aload_n C dX4_copy_150 rfl 1 rfl ?_
                            refine mg3 C q1477 dX4_copy_151 ?_
                            refine j_iload C dX4_copy_154 0 rfl ?_
                            refine ml4 C (e) rfl (by omega) dX4_copy_156 (v := (va_cpy (S.2.2.1 3) (S.2.2.1 4) (40 * ja + a) 0 m) e) rfl ?_
                            refine mt3 C (((40 * jb) + b) + e) rfl (by omega) dX4_copy_157 ?_
                            refine j_iincN (lv' := [(6, .int (nI (e + 1))), (0, .ref o), (1, .int (nI ja)), (2, .int (nI a)), (3, .int (nI jb)), (4, .int (nI b)), (5, .int (nI m))]) C dX4_copy_158 0 rfl (by decide) rfl ?_
                            refine j_goto C 129 dX4_copy_161 (by decide) ?_
                            refine j_lv [0, 1, 2, 3, 4, 5, 6] (lv' := [(6, .int (nI (e + 1))), (0, .ref o), (1, .int (nI ja)), (2, .int (nI a)), (3, .int (nI jb)), (4, .int (nI b)), (5, .int (nI m))]) rfl ?_
                            refine J.eq (w' := (mset G M o (sR (sR S 4 (va_cpy (S.2.2.1 3) (S.2.2.1 4) (40 * ja + a) 0 m)) 3 (va_cpy (va_cpy (S.2.2.1 3) (S.2.2.1 4) (40 * ja + a) 0 m) (S.2.2.1 3) 0 (40 * jb + b) (e + 1))), sz)) ?_ (by rw [← cpy_s]; simp; rfl) rfl rfl
                            exact ih_lr (e + 1) (by omega) (by omega) (by omega)
                      refine j_lv [0, 1, 2, 3, 4, 5, 6] (lv' := [(6, .int (nI 0)), (0, .ref o), (1, .int (nI ja)), (2, .int (nI a)), (3, .int (nI jb)), (4, .int (nI b)), (5, .int (nI m))]) rfl ?_
                      refine J.eq (w' := (mset G M o (sR (sR S 4 (va_cpy (S.2.2.1 3) (S.2.2.1 4) (40 * ja + a) 0 m)) 3 (va_cpy (va_cpy (S.2.2.1 3) (S.2.2.1 4) (40 * ja + a) 0 m) (S.2.2.1 3) 0 (40 * jb + b) 0)), sz)) ?_ (by rw [cpy_0]; rfl) rfl rfl
                      exact lr (m + 1 - 0) (0) (by omega) (by omega) (by omega)
                    · refine j_aload_n C dX4_copy_99 rfl 1 rfl ?_
                      refine mg3 C q1477 dX4_copy_100 ?_
                      refine j_iload C dX4_copy_103 0 rfl ?_
                      refine j_aload_n C dX4_copy_105 rfl 1 rfl ?_
                      refine mg2 C q1476 dX4_copy_106 ?_
                      refine j_bipush (v := nI 40) C dX4_copy_109 rfl ?_
                      refine j_iload_n C dX4_copy_111 rfl 2 rfl ?_
                      refine j_imulN C dX4_copy_112 ?_
                      refine j_iload_n C dX4_copy_113 rfl 3 rfl ?_
                      refine j_iaddN C dX4_copy_114 ?_
                      refine j_iload C dX4_copy_115 0 rfl ?_
                      refine j_iaddN C dX4_copy_117 ?_
                      refine ml3 C (((40 * ja) + a) + e) rfl (by omega) dX4_copy_118 (v := S.2.2.1 3 (((40 * ja) + a) + e)) rfl ?_
                      refine mt4 C (e) rfl (by omega) dX4_copy_119 ?_
                      refine j_iincN (lv' := [(6, .int (nI (e + 1))), (0, .ref o), (1, .int (nI ja)), (2, .int (nI a)), (3, .int (nI jb)), (4, .int (nI b)), (5, .int (nI m))]) C dX4_copy_120 0 rfl (by decide) rfl ?_
                      refine j_goto C 92 dX4_copy_123 (by decide) ?_
                      refine j_lv [0, 1, 2, 3, 4, 5, 6] (lv' := [(6, .int (nI (e + 1))), (0, .ref o), (1, .int (nI ja)), (2, .int (nI a)), (3, .int (nI jb)), (4, .int (nI b)), (5, .int (nI m))]) rfl ?_
                      refine J.eq (w' := (mset G M o (sR S 4 (va_cpy (S.2.2.1 3) (S.2.2.1 4) (40 * ja + a) 0 (e + 1))), sz)) ?_ (by rw [← cpy_s]; simp; rfl) rfl rfl
                      exact ih_lq (e + 1) (by omega) (by omega) (by omega)
                refine j_lv [0, 1, 2, 3, 4, 5, 6] (lv' := [(6, .int (nI 0)), (0, .ref o), (1, .int (nI ja)), (2, .int (nI a)), (3, .int (nI jb)), (4, .int (nI b)), (5, .int (nI m))]) rfl ?_
                refine J.eq (w' := (mset G M o (sR S 4 (va_cpy (S.2.2.1 3) (S.2.2.1 4) (40 * ja + a) 0 0)), sz)) ?_ (by rw [cpy_0]; rfl) rfl rfl
                exact lq (m + 1 - 0) (0) (by omega) (by omega) (by omega)
              · refine j_aload_n C dX4_copy_83 rfl 0 rfl ?_
                refine j_iconst (v := nI 2) C dX4_copy_84 rfl ?_
                refine j_callV C (mX4_found G M sz o S 2) pI.ret mset_o rfl 1 q1583 q1585 qs30 q73 q1586 (by decide +kernel) rfl (by decide) (by decide) (Nat.le_of_ble_eq_true rfl) rfl dX4_copy_85 (by omega) (by omega) (qI.k ?_)
                exact j_iret C (by omega) (by omega) (pM.mk (h4 ja jb rfl (by omega) rfl (by omega) (of_decide_eq_false c22) (of_decide_eq_false c30) c51 (Or.inr c80))) dX4_copy_88
          · refine j_aload_n C dX4_copy_54 rfl 0 rfl ?_
            refine j_iconst (v := nI 5) C dX4_copy_55 rfl ?_
            refine j_callV C (mX4_found G M sz o S 5) pI.ret mset_o rfl 1 q1583 q1585 qs30 q73 q1586 (by decide +kernel) rfl (by decide) (by decide) (Nat.le_of_ble_eq_true rfl) rfl dX4_copy_56 (by omega) (by omega) (qI.k ?_)
            exact j_iret C (by omega) (by omega) (pM.mk (h3 ja jb rfl (by omega) rfl (by omega) (of_decide_eq_false c22) (of_decide_eq_false c30) c51)) dX4_copy_59
        · refine j_aload_n C dX4_copy_33 rfl 0 rfl ?_
          refine j_iconst (v := nI 1) C dX4_copy_34 rfl ?_
          refine j_callV C (mX4_found G M sz o S 1) pI.ret mset_o rfl 1 q1583 q1585 qs30 q73 q1586 (by decide +kernel) rfl (by decide) (by decide) (Nat.le_of_ble_eq_true rfl) rfl dX4_copy_35 (by omega) (by omega) (qI.k ?_)
          exact j_iret C (by omega) (by omega) (pM.mk (h2 ja jb rfl (by omega) rfl (by omega) (Or.inr (of_decide_eq_true c30)))) dX4_copy_38
    · refine j_ldc C q1582 dX4_copy_14 ?_
      exact j_iret C (by omega) (by omega) (pM.mk (h1 (Or.inr c11))) dX4_copy_16
set_option maxHeartbeats 1000000 in
theorem mX4_drop (G : gl_T) (M : Nat → Option (Nat × va_E)) (sz o : Nat) (S : ms_T) (r : Int32) (P : Int32 → ms_T → Prop) (h1 : inB r (nI 0) (nI 7) = false → P kBAD S) (h2 : ∀ j, r = nI j → j < 8 → S.2.2.1 1 j = kNONE → P ((-1000010) - nI 1) (sN S 4 1)) (h3 : ∀ j, r = nI j → j < 8 → ¬ S.2.2.1 1 j = kNONE → P (nI (S.2.2.2 2 j)) (sN (sR S 1 (upd (S.2.2.1 1) j kNONE)) 4 0)) : Mt G yX4_drop cX4_drop 2 (some .int) 2 [.ref o, .int r] (mset G M o S, sz) (pM G M o sz P) 0 0 := by
  refine Mt.start (by decide) (Nat.le_of_ble_eq_true rfl) (fun k C => ?_)
  have C : Cx G k cX4_drop "MoodFareModel" "drop" 2 (some .int) 2 0 0 _ := C
  refine j_iload_n C dX4_drop_0 rfl 1 rfl ?_
  refine j_callS C (mX4_isRow G (mset G M o S, sz) r) pI.ret 1 q1576 q1577 q73 q1578 (by decide +kernel) rfl (by decide) (by decide) (Nat.le_of_ble_eq_true rfl) rfl dX4_drop_1 (by omega) (by omega) (qI.k ?_)
  refine j_if_neB C 10 dX4_drop_4 (by decide) (fun c4 => ?_) (fun c4 => ?_)
  · obtain ⟨j, rfl, -, hj⟩ := inB_n (by decide) c4 (by decide)
    refine j_aload_n C dX4_drop_10 rfl 0 rfl ?_
    refine j_iload_n C dX4_drop_11 rfl 1 rfl ?_
    refine j_callV C (mX4_isMissing G M sz o S j (by omega)) pI.ret mset_o rfl 1 q1596 q1598 qs32 q73 q1599 (by decide +kernel) rfl (by decide) (by decide) (Nat.le_of_ble_eq_true rfl) rfl dX4_drop_12 (by omega) (by omega) (qI.k ?_)
    refine j_if_eqB C 24 dX4_drop_15 (by decide) (fun c15 => ?_) (fun c15 => ?_)
    · refine j_aload_n C dX4_drop_24 rfl 0 rfl ?_
      refine mg0 C q1474 dX4_drop_25 ?_
      refine j_iload_n C dX4_drop_28 rfl 1 rfl ?_
      refine j_ldc C q1473 dX4_drop_29 ?_
      refine mt1 C (j) rfl (by omega) dX4_drop_31 ?_
      refine j_aload_n C dX4_drop_32 rfl 0 rfl ?_
      refine j_aload_n C dX4_drop_33 rfl 0 rfl ?_
      refine mg1 C q1475 dX4_drop_34 ?_
      refine j_iload_n C dX4_drop_37 rfl 1 rfl ?_
      refine ml2 C (j) rfl (by omega) dX4_drop_38 (v := S.2.2.2 2 j) rfl ?_
      refine j_callV C (mX4_well G M sz o (sR S 1 (upd (S.2.2.1 1) j ((-1000000)))) (nI (S.2.2.2 2 j))) pI.ret mset_o rfl 1 q1588 q1590 qs31 q73 q1591 (by decide +kernel) rfl (by decide) (by decide) (Nat.le_of_ble_eq_true rfl) rfl dX4_drop_39 (by omega) (by omega) (qI.k ?_)
      refine j_as (y := nI (S.2.2.2 2 j)) rfl ?_
      exact j_iret C (by omega) (by omega) (pM.mk (h3 j rfl (by omega) (of_decide_eq_false c15))) dX4_drop_42
    · refine j_aload_n C dX4_drop_18 rfl 0 rfl ?_
      refine j_iconst (v := nI 1) C dX4_drop_19 rfl ?_
      refine j_callV C (mX4_found G M sz o S 1) pI.ret mset_o rfl 1 q1583 q1585 qs30 q73 q1586 (by decide +kernel) rfl (by decide) (by decide) (Nat.le_of_ble_eq_true rfl) rfl dX4_drop_20 (by omega) (by omega) (qI.k ?_)
      exact j_iret C (by omega) (by omega) (pM.mk (h2 j rfl (by omega) (of_decide_eq_true c15))) dX4_drop_23
  · refine j_ldc C q1582 dX4_drop_7 ?_
    exact j_iret C (by omega) (by omega) (pM.mk (h1 c4)) dX4_drop_9
set_option maxHeartbeats 1000000 in
theorem mX4_feed (G : gl_T) (M : Nat → Option (Nat × va_E)) (sz o : Nat) (S : ms_T) (x : Int32) (ht : S.2.1 6 ≤ 120) (P : Int32 → ms_T → Prop) (h1 : inB x (nI 0) (nI 255) = false → P kBAD S) (h2 : inB x (nI 0) (nI 255) = true → S.2.1 6 = 120 → P kFULL S) (h3 : ∀ c, x = nI c → c ≤ 255 → S.2.1 6 < 120 → P (nI (S.2.1 6 + 1)) (sN (sB S 5 (uN (S.2.2.2 5) (S.2.1 6) c)) 6 (S.2.1 6 + 1))) : Mt G yX4_feed cX4_feed 2 (some .int) 1 [.ref o, .int x] (mset G M o S, sz) (pM G M o sz P) 0 0 := by
  refine Mt.start (by decide) (Nat.le_of_ble_eq_true rfl) (fun k C => ?_)
  have C : Cx G k cX4_feed "MoodFareModel" "feed" 2 (some .int) 1 0 0 _ := C
  refine j_iload_n C dX4_feed_0 rfl 1 rfl ?_
  refine j_iconst (v := nI 0) C dX4_feed_1 rfl ?_
  refine j_sipush (v := nI 255) C dX4_feed_2 rfl ?_
  refine j_callS C (mX4_in G (mset G M o S, sz) x (nI 0) (nI 255)) pI.ret 3 q1579 q1580 q73 q1581 (by decide +kernel) rfl (by decide) (by decide) (Nat.le_of_ble_eq_true rfl) rfl dX4_feed_5 (by omega) (by omega) (qI.k ?_)
  refine j_if_neB C 14 dX4_feed_8 (by decide) (fun c8 => ?_) (fun c8 => ?_)
  · obtain ⟨c, rfl, -, hc⟩ := inB_n (by decide) c8 (by decide)
    refine j_aload_n C dX4_feed_14 rfl 0 rfl ?_
    refine mg6 C q1480 dX4_feed_15 (v := S.2.1 6) rfl ?_
    refine j_bipush (v := nI 120) C dX4_feed_18 rfl ?_
    refine j_icmp_neN C 26 dX4_feed_20 (by decide) (by omega) (by omega) (fun c20 => ?_) (fun c20 => ?_)
    · refine j_aload_n C dX4_feed_26 rfl 0 rfl ?_
      refine mg5 C q1479 dX4_feed_27 ?_
      refine j_aload_n C dX4_feed_30 rfl 0 rfl ?_
      refine mg6 C q1480 dX4_feed_31 (v := S.2.1 6) rfl ?_
      refine j_iload_n C dX4_feed_34 rfl 1 rfl ?_
      refine mt5 C (S.2.1 6) rfl (by omega) dX4_feed_35 ?_
      refine j_aload_n C dX4_feed_36 rfl 0 rfl ?_
      refine j_dup C dX4_feed_37 rfl ?_
      refine mg6 C q1480 dX4_feed_38 (v := S.2.1 6) rfl ?_
      refine j_iconst (v := nI 1) C dX4_feed_41 rfl ?_
      refine j_iaddN C dX4_feed_42 ?_
      refine mp6 C q1480 dX4_feed_43 ?_
      refine j_aload_n C dX4_feed_46 rfl 0 rfl ?_
      refine mg6 C q1480 dX4_feed_47 (v := (S.2.1 6) + 1) rfl ?_
      exact j_iret C (by omega) (by omega) (pM.mk (h3 c rfl hc (by omega))) dX4_feed_50
    · refine j_ldc C q1619 dX4_feed_23 ?_
      exact j_iret C (by omega) (by omega) (pM.mk (h2 c8 c20)) dX4_feed_25
  · refine j_ldc C q1582 dX4_feed_11 ?_
    exact j_iret C (by omega) (by omega) (pM.mk (h1 c8)) dX4_feed_13
set_option maxHeartbeats 400000 in
theorem mX4_leaves (G : gl_T) (M : Nat → Option (Nat × va_E)) (sz o : Nat) (S : ms_T) (b : Nat) (h : S.2.1 31 < 16) : Mt G yX4_leaves cX4_leaves 2 none 0 [.ref o, .int (nI b)] (mset G M o S, sz) (qV (mset G M o (tpS S b), sz)) 0 0 := by
  refine Mt.start (by decide) (Nat.le_of_ble_eq_true rfl) (fun k C => ?_)
  have C : Cx G k cX4_leaves "MoodFareModel" "leaves" 2 none 0 0 0 _ := C
  refine j_aload_n C dX4_leaves_0 rfl 0 rfl ?_
  refine mg31 C q1505 dX4_leaves_1 (v := S.2.1 31) rfl ?_
  refine j_bipush (v := nI 16) C dX4_leaves_4 rfl ?_
  refine j_icmp_geN C 29 dX4_leaves_6 (by decide) (by omega) (by omega) (fun c6 => ?_) (fun c6 => ?_)
  · exact j_vret C (by omega) (by omega) (absurd c6 (by omega)) dX4_leaves_29
  · refine j_aload_n C dX4_leaves_9 rfl 0 rfl ?_
    refine mg30 C q1504 dX4_leaves_10 ?_
    refine j_aload_n C dX4_leaves_13 rfl 0 rfl ?_
    refine mg31 C q1505 dX4_leaves_14 (v := S.2.1 31) rfl ?_
    refine j_iload_n C dX4_leaves_17 rfl 1 rfl ?_
    refine mt18 C (S.2.1 31) rfl (by omega) dX4_leaves_18 ?_
    refine j_aload_n C dX4_leaves_19 rfl 0 rfl ?_
    refine j_dup C dX4_leaves_20 rfl ?_
    refine mg31 C q1505 dX4_leaves_21 (v := S.2.1 31) rfl ?_
    refine j_iconst (v := nI 1) C dX4_leaves_24 rfl ?_
    refine j_iaddN C dX4_leaves_25 ?_
    refine mp31 C q1505 dX4_leaves_26 ?_
    exact j_vret C (by omega) (by omega) (pV.mk rfl) dX4_leaves_29
set_option maxHeartbeats 1000000 in
theorem mX4_trace (G : gl_T) (M : Nat → Option (Nat × va_E)) (sz o : Nat) (S : ms_T) (x : Int32) (ht : S.2.1 31 ≤ 16) (P : Int32 → ms_T → Prop) (h1 : inB x (nI 0) (nI (S.2.1 31) - nI 1) = false → P kNONE S) (h2 : ∀ j, x = nI j → j < S.2.1 31 → P (nI (S.2.2.2 18 j)) S) : Mt G yX4_trace cX4_trace 2 (some .int) 1 [.ref o, .int x] (mset G M o S, sz) (pM G M o sz P) 0 0 := by
  refine Mt.start (by decide) (Nat.le_of_ble_eq_true rfl) (fun k C => ?_)
  have C : Cx G k cX4_trace "MoodFareModel" "trace" 2 (some .int) 1 0 0 _ := C
  refine j_iload_n C dX4_trace_0 rfl 1 rfl ?_
  refine j_iconst (v := nI 0) C dX4_trace_1 rfl ?_
  refine j_aload_n C dX4_trace_2 rfl 0 rfl ?_
  refine mg31 C q1505 dX4_trace_3 (v := S.2.1 31) rfl ?_
  refine j_iconst (v := nI 1) C dX4_trace_6 rfl ?_
  refine j_isub C dX4_trace_7 ?_
  refine j_callS C (mX4_in G (mset G M o S, sz) x (nI 0) (nI (S.2.1 31) - nI 1)) pI.ret 3 q1579 q1580 q73 q1581 (by decide +kernel) rfl (by decide) (by decide) (Nat.le_of_ble_eq_true rfl) rfl dX4_trace_8 (by omega) (by omega) (qI.k ?_)
  refine j_if_eqB C 23 dX4_trace_11 (by decide) (fun c11 => ?_) (fun c11 => ?_)
  · refine j_ldc C q1473 dX4_trace_23 ?_
    exact j_iret C (by omega) (by omega) (pM.mk (h1 c11)) dX4_trace_25
  · obtain ⟨j, rfl, hj⟩ := inB_p (by omega) c11
    refine j_aload_n C dX4_trace_14 rfl 0 rfl ?_
    refine mg30 C q1504 dX4_trace_15 ?_
    refine j_iload_n C dX4_trace_18 rfl 1 rfl ?_
    refine ml18 C (j) rfl (by omega) dX4_trace_19 (v := S.2.2.2 18 j) rfl ?_
    refine j_goto C 25 dX4_trace_20 (by decide) ?_
    exact j_iret C (by omega) (by omega) (pM.mk (h2 j rfl hj)) dX4_trace_25
