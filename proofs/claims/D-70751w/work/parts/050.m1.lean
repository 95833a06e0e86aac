/-! ===== the reference: small methods, rows ===== -/
set_option maxRecDepth 100000
set_option maxHeartbeats 400000 in
theorem mX4_in (G : gl_T) (w : wd_T) (x lo hi : Int32)  : Mt G yX4_in cX4_in 3 (some .boolean) 0 [.int x, .int lo, .int hi] w (qI (bZ (inB x lo hi)) w) 0 0 := by
  refine Mt.start (by decide) (Nat.le_of_ble_eq_true rfl) (fun k C => ?_)
  have C : Cx G k cX4_in "MoodFareModel" "in" 3 (some .boolean) 0 0 0 _ := C
  refine j_iload_n C dX4_in_0 rfl 0 rfl ?_
  refine j_iload_n C dX4_in_1 rfl 1 rfl ?_
  refine j_icmp_lt C 14 dX4_in_2 (by decide) (fun c2 => ?_) (fun c2 => ?_)
  · refine j_iconst (v := nI 0) C dX4_in_14 rfl ?_
    exact j_zret C (by decide +kernel) (by omega) (by omega) (pI.mk ⟨inB_01 c2, rfl⟩) dX4_in_15
  · refine j_iload_n C dX4_in_5 rfl 0 rfl ?_
    refine j_iload_n C dX4_in_6 rfl 2 rfl ?_
    refine j_icmp_gt C 14 dX4_in_7 (by decide) (fun c7 => ?_) (fun c7 => ?_)
    · refine j_iconst (v := nI 0) C dX4_in_14 rfl ?_
      exact j_zret C (by decide +kernel) (by omega) (by omega) (pI.mk ⟨inB_02 c7, rfl⟩) dX4_in_15
    · refine j_iconst (v := nI 1) C dX4_in_10 rfl ?_
      refine j_goto C 15 dX4_in_11 (by decide) ?_
      exact j_zret C (by decide +kernel) (by omega) (by omega) (pI.mk ⟨inB_11 c2 c7, rfl⟩) dX4_in_15
set_option maxHeartbeats 400000 in
theorem mX4_has (G : gl_T) (w : wd_T) (n j : Nat) (hn : n < 2 ^ 31) (hj : j ≤ 30) : Mt G yX4_has cX4_has 2 (some .boolean) 0 [.int (nI n), .int (nI j)] w (qI (bZ (hasN n j)) w) 0 0 := by
  refine Mt.start (by decide) (Nat.le_of_ble_eq_true rfl) (fun k C => ?_)
  have C : Cx G k cX4_has "MoodFareModel" "has" 2 (some .boolean) 0 0 0 _ := C
  refine j_iload_n C dX4_has_0 rfl 0 rfl ?_
  refine j_iload_n C dX4_has_1 rfl 1 rfl ?_
  refine j_ishrN C dX4_has_2 (by first | omega | exact and1_lt _) (by first | omega | exact and1_lt _) ?_
  refine j_iconst (v := nI 1) C dX4_has_3 rfl ?_
  refine j_iandN C dX4_has_4 ?_
  refine j_iconst (v := nI 1) C dX4_has_5 rfl ?_
  refine j_icmp_neN C 13 dX4_has_6 (by decide) (by first | omega | exact and1_lt _) (by first | omega | exact and1_lt _) (fun c6 => ?_) (fun c6 => ?_)
  · refine j_iconst (v := nI 0) C dX4_has_13 rfl ?_
    exact j_zret C (by decide +kernel) (by omega) (by omega) (pI.mk ⟨by simp only [Nat.and_one_is_mod] at c6; simp [bZ, hasN, c6], rfl⟩) dX4_has_14
  · refine j_iconst (v := nI 1) C dX4_has_9 rfl ?_
    refine j_goto C 14 dX4_has_10 (by decide) ?_
    exact j_zret C (by decide +kernel) (by omega) (by omega) (pI.mk ⟨by simp only [Nat.and_one_is_mod] at c6; simp [bZ, hasN, c6], rfl⟩) dX4_has_14
set_option maxHeartbeats 400000 in
theorem mX4_found (G : gl_T) (M : Nat → Option (Nat × va_E)) (sz o : Nat) (S : ms_T) (n : Nat) : Mt G yX4_found cX4_found 2 (some .int) 0 [.ref o, .int (nI n)] (mset G M o S, sz) (qI ((-1000010) - nI n) (mset G M o (sN S 4 n), sz)) 0 0 := by
  refine Mt.start (by decide) (Nat.le_of_ble_eq_true rfl) (fun k C => ?_)
  have C : Cx G k cX4_found "MoodFareModel" "found" 2 (some .int) 0 0 0 _ := C
  refine j_aload_n C dX4_found_0 rfl 0 rfl ?_
  refine j_iload_n C dX4_found_1 rfl 1 rfl ?_
  refine mp4 C q1478 dX4_found_2 ?_
  refine j_ldc C q1587 dX4_found_5 ?_
  refine j_iload_n C dX4_found_7 rfl 1 rfl ?_
  refine j_isub C dX4_found_8 ?_
  exact j_iret C (by omega) (by omega) (pI.mk ⟨rfl, rfl⟩) dX4_found_9
set_option maxHeartbeats 400000 in
theorem mX4_well (G : gl_T) (M : Nat → Option (Nat × va_E)) (sz o : Nat) (S : ms_T) (v : Int32) : Mt G yX4_well cX4_well 2 (some .int) 0 [.ref o, .int v] (mset G M o S, sz) (qI v (mset G M o (sN S 4 0), sz)) 0 0 := by
  refine Mt.start (by decide) (Nat.le_of_ble_eq_true rfl) (fun k C => ?_)
  have C : Cx G k cX4_well "MoodFareModel" "well" 2 (some .int) 0 0 0 _ := C
  refine j_aload_n C dX4_well_0 rfl 0 rfl ?_
  refine j_iconst (v := nI 0) C dX4_well_1 rfl ?_
  refine mp4 C q1478 dX4_well_2 ?_
  refine j_iload_n C dX4_well_5 rfl 1 rfl ?_
  exact j_iret C (by omega) (by omega) (pI.mk ⟨rfl, rfl⟩) dX4_well_6
set_option maxHeartbeats 400000 in
theorem mX4_isRow (G : gl_T) (w : wd_T) (x : Int32)  : Mt G yX4_isRow cX4_isRow 1 (some .boolean) 1 [.int x] w (qI (bZ (inB x (nI 0) (nI 7))) w) 0 0 := by
  refine Mt.start (by decide) (Nat.le_of_ble_eq_true rfl) (fun k C => ?_)
  have C : Cx G k cX4_isRow "MoodFareModel" "isRow" 1 (some .boolean) 1 0 0 _ := C
  refine j_iload_n C dX4_isRow_0 rfl 0 rfl ?_
  refine j_iconst (v := nI 0) C dX4_isRow_1 rfl ?_
  refine j_bipush (v := nI 7) C dX4_isRow_2 rfl ?_
  refine j_callS C (mX4_in G w x (nI 0) (nI 7)) pI.ret 3 q1579 q1580 q73 q1581 (by decide +kernel) rfl (by decide) (by decide) (Nat.le_of_ble_eq_true rfl) rfl dX4_isRow_4 (by omega) (by omega) (qI.k ?_)
  exact j_zret C (bZ_n _) (by omega) (by omega) (pI.mk ⟨rfl, rfl⟩) dX4_isRow_7
set_option maxHeartbeats 400000 in
theorem mX4_isMissing (G : gl_T) (M : Nat → Option (Nat × va_E)) (sz o : Nat) (S : ms_T) (r : Nat) (hr : r < 8) : Mt G yX4_isMissing cX4_isMissing 2 (some .boolean) 0 [.ref o, .int (nI r)] (mset G M o S, sz) (qI (bZ (decide (S.2.2.1 1 r = kNONE))) (mset G M o S, sz)) 0 0 := by
  refine Mt.start (by decide) (Nat.le_of_ble_eq_true rfl) (fun k C => ?_)
  have C : Cx G k cX4_isMissing "MoodFareModel" "isMissing" 2 (some .boolean) 0 0 0 _ := C
  refine j_aload_n C dX4_isMissing_0 rfl 0 rfl ?_
  refine mg0 C q1474 dX4_isMissing_1 ?_
  refine j_iload_n C dX4_isMissing_4 rfl 1 rfl ?_
  refine ml1 C (r) rfl (by omega) dX4_isMissing_5 (v := S.2.2.1 1 r) rfl ?_
  refine j_ldc C q1473 dX4_isMissing_6 ?_
  refine j_icmp_ne C 15 dX4_isMissing_8 (by decide) (fun c8 => ?_) (fun c8 => ?_)
  · refine j_iconst (v := nI 0) C dX4_isMissing_15 rfl ?_
    exact j_zret C (by decide +kernel) (by omega) (by omega) (pI.mk ⟨by simp [bZ, kNONE, c8], by simp [bZ, kNONE, c8]⟩) dX4_isMissing_16
  · refine j_iconst (v := nI 1) C dX4_isMissing_11 rfl ?_
    refine j_goto C 16 dX4_isMissing_12 (by decide) ?_
    exact j_zret C (by decide +kernel) (by omega) (by omega) (pI.mk ⟨by simp [bZ, kNONE, c8], by simp [bZ, kNONE, c8]⟩) dX4_isMissing_16
set_option maxHeartbeats 400000 in
theorem mX4_cut (G : gl_T) (w : wd_T) (x v : Int32)  : Mt G yX4_cut cX4_cut 2 (some .int) 0 [.int x, .int v] w (qI (cutZ x v) w) 0 0 := by
  refine Mt.start (by decide) (Nat.le_of_ble_eq_true rfl) (fun k C => ?_)
  have C : Cx G k cX4_cut "MoodFareModel" "cut" 2 (some .int) 0 0 0 _ := C
  refine j_iload_n C dX4_cut_0 rfl 0 rfl ?_
  refine j_if_ne C 14 dX4_cut_1 (by decide) (fun c1 => ?_) (fun c1 => ?_)
  · refine j_iload_n C dX4_cut_14 rfl 0 rfl ?_
    refine j_iconst (v := nI 1) C dX4_cut_15 rfl ?_
    refine j_icmp_ne C 29 dX4_cut_16 (by decide) (fun c16 => ?_) (fun c16 => ?_)
    · refine j_iload_n C dX4_cut_29 rfl 1 rfl ?_
      exact j_iret C (by omega) (by omega) (pI.mk ⟨by unfold cutZ; rw [if_neg c1, if_neg c16], rfl⟩) dX4_cut_30
    · refine j_iload_n C dX4_cut_19 rfl 1 rfl ?_
      refine j_bipush (v := nI 16) C dX4_cut_20 rfl ?_
      refine j_ishl C dX4_cut_22 ?_
      refine j_bipush (v := nI 16) C dX4_cut_23 rfl ?_
      refine j_ishr C dX4_cut_25 ?_
      refine j_goto C 30 dX4_cut_26 (by decide) ?_
      exact j_iret C (by omega) (by omega) (pI.mk ⟨by unfold cutZ; rw [if_neg c1, if_pos c16], rfl⟩) dX4_cut_30
  · refine j_iload_n C dX4_cut_4 rfl 1 rfl ?_
    refine j_bipush (v := nI 24) C dX4_cut_5 rfl ?_
    refine j_ishl C dX4_cut_7 ?_
    refine j_bipush (v := nI 24) C dX4_cut_8 rfl ?_
    refine j_ishr C dX4_cut_10 ?_
    refine j_goto C 30 dX4_cut_11 (by decide) ?_
    exact j_iret C (by omega) (by omega) (pI.mk ⟨by unfold cutZ; rw [if_pos c1], rfl⟩) dX4_cut_30
set_option maxHeartbeats 400000 in
theorem mX4_fault (G : gl_T) (M : Nat → Option (Nat × va_E)) (sz o : Nat) (S : ms_T)  : Mt G yX4_fault cX4_fault 1 (some .int) 0 [.ref o] (mset G M o S, sz) (qI (nI (S.2.1 7)) (mset G M o S, sz)) 0 0 := by
  refine Mt.start (by decide) (Nat.le_of_ble_eq_true rfl) (fun k C => ?_)
  have C : Cx G k cX4_fault "MoodFareModel" "fault" 1 (some .int) 0 0 0 _ := C
  refine j_aload_n C dX4_fault_0 rfl 0 rfl ?_
  refine mg7 C q1481 dX4_fault_1 (v := S.2.1 7) rfl ?_
  exact j_iret C (by omega) (by omega) (pI.mk ⟨rfl, rfl⟩) dX4_fault_4
set_option maxHeartbeats 400000 in
theorem mX4_status (G : gl_T) (M : Nat → Option (Nat × va_E)) (sz o : Nat) (S : ms_T)  : Mt G yX4_status cX4_status 1 (some .int) 0 [.ref o] (mset G M o S, sz) (qI (nI (S.2.1 4)) (mset G M o S, sz)) 0 0 := by
  refine Mt.start (by decide) (Nat.le_of_ble_eq_true rfl) (fun k C => ?_)
  have C : Cx G k cX4_status "MoodFareModel" "status" 1 (some .int) 0 0 0 _ := C
  refine j_aload_n C dX4_status_0 rfl 0 rfl ?_
  refine mg4 C q1478 dX4_status_1 (v := S.2.1 4) rfl ?_
  exact j_iret C (by omega) (by omega) (pI.mk ⟨rfl, rfl⟩) dX4_status_4
set_option maxHeartbeats 400000 in
theorem mX4_isTown (G : gl_T) (M : Nat → Option (Nat × va_E)) (sz o : Nat) (S : ms_T) (hb : S.2.2.2 6 0 < 2 ^ 31) : Mt G yX4_isTown cX4_isTown 1 (some .boolean) 0 [.ref o] (mset G M o S, sz) (qI (bZ (decide (0 < S.2.2.2 6 0))) (mset G M o S, sz)) 0 0 := by
  refine Mt.start (by decide) (Nat.le_of_ble_eq_true rfl) (fun k C => ?_)
  have C : Cx G k cX4_isTown "MoodFareModel" "isTown" 1 (some .boolean) 0 0 0 _ := C
  refine j_aload_n C dX4_isTown_0 rfl 0 rfl ?_
  refine mg13 C q1487 dX4_isTown_1 ?_
  refine j_iconst (v := nI 0) C dX4_isTown_4 rfl ?_
  refine ml6 C (0) rfl (by omega) dX4_isTown_5 (v := S.2.2.2 6 0) rfl ?_
  refine j_if_leN C 13 dX4_isTown_6 (by decide) (by omega) (fun c6 => ?_) (fun c6 => ?_)
  · refine j_iconst (v := nI 0) C dX4_isTown_13 rfl ?_
    exact j_zret C (by decide +kernel) (by omega) (by omega) (pI.mk ⟨by simp [bZ, c6], by simp [bZ, c6]⟩) dX4_isTown_14
  · refine j_iconst (v := nI 1) C dX4_isTown_9 rfl ?_
    refine j_goto C 14 dX4_isTown_10 (by decide) ?_
    exact j_zret C (by decide +kernel) (by omega) (by omega) (pI.mk ⟨by simp [bZ, c6], by simp [bZ, c6]⟩) dX4_isTown_14
set_option maxHeartbeats 400000 in
theorem mX4_isWell (G : gl_T) (M : Nat → Option (Nat × va_E)) (sz o : Nat) (S : ms_T)  : Mt G yX4_isWell cX4_isWell 1 (some .boolean) 0 [.ref o] (mset G M o S, sz) (qI (bZ (decide (S.1 8 < 0))) (mset G M o S, sz)) 0 0 := by
  refine Mt.start (by decide) (Nat.le_of_ble_eq_true rfl) (fun k C => ?_)
  have C : Cx G k cX4_isWell "MoodFareModel" "isWell" 1 (some .boolean) 0 0 0 _ := C
  refine j_aload_n C dX4_isWell_0 rfl 0 rfl ?_
  refine mg8 C q1482 dX4_isWell_1 (v := S.1 8) rfl ?_
  refine j_if_ge C 11 dX4_isWell_4 (by decide) (fun c4 => ?_) (fun c4 => ?_)
  · refine j_iconst (v := nI 0) C dX4_isWell_11 rfl ?_
    exact j_zret C (by decide +kernel) (by omega) (by omega) (pI.mk ⟨by simp [bZ, ← Int32.not_le, c4], by simp [bZ, ← Int32.not_le, c4]⟩) dX4_isWell_12
  · refine j_iconst (v := nI 1) C dX4_isWell_7 rfl ?_
    refine j_goto C 12 dX4_isWell_8 (by decide) ?_
    exact j_zret C (by decide +kernel) (by omega) (by omega) (pI.mk ⟨by simp [bZ, ← Int32.not_le, c4], by simp [bZ, ← Int32.not_le, c4]⟩) dX4_isWell_12
set_option maxHeartbeats 400000 in
theorem mX4_isCorner (G : gl_T) (M : Nat → Option (Nat × va_E)) (sz o : Nat) (S : ms_T) (x : Int32) : Mt G yX4_isCorner cX4_isCorner 2 (some .boolean) 1 [.ref o, .int x] (mset G M o S, sz) (qI (bZ (inB x (nI 0) (nI (S.2.2.2 6 6) - nI 1))) (mset G M o S, sz)) 0 0 := by
  refine Mt.start (by decide) (Nat.le_of_ble_eq_true rfl) (fun k C => ?_)
  have C : Cx G k cX4_isCorner "MoodFareModel" "isCorner" 2 (some .boolean) 1 0 0 _ := C
  refine j_iload_n C dX4_isCorner_0 rfl 1 rfl ?_
  refine j_iconst (v := nI 0) C dX4_isCorner_1 rfl ?_
  refine j_aload_n C dX4_isCorner_2 rfl 0 rfl ?_
  refine mg13 C q1487 dX4_isCorner_3 ?_
  refine j_bipush (v := nI 6) C dX4_isCorner_6 rfl ?_
  refine ml6 C (6) rfl (by omega) dX4_isCorner_8 (v := S.2.2.2 6 6) rfl ?_
  refine j_iconst (v := nI 1) C dX4_isCorner_9 rfl ?_
  refine j_isub C dX4_isCorner_10 ?_
  refine j_callS C (mX4_in G (mset G M o S, sz) x (nI 0) (nI (S.2.2.2 6 6) - nI 1)) pI.ret 3 q1579 q1580 q73 q1581 (by decide +kernel) rfl (by decide) (by decide) (Nat.le_of_ble_eq_true rfl) rfl dX4_isCorner_11 (by omega) (by omega) (qI.k ?_)
  exact j_zret C (bZ_n _) (by omega) (by omega) (pI.mk ⟨rfl, rfl⟩) dX4_isCorner_14
set_option maxHeartbeats 400000 in
theorem mX4_isStreet (G : gl_T) (M : Nat → Option (Nat × va_E)) (sz o : Nat) (S : ms_T) (x : Int32) : Mt G yX4_isStreet cX4_isStreet 2 (some .boolean) 1 [.ref o, .int x] (mset G M o S, sz) (qI (bZ (inB x (nI 0) (nI (S.2.2.2 6 25) - nI 1))) (mset G M o S, sz)) 0 0 := by
  refine Mt.start (by decide) (Nat.le_of_ble_eq_true rfl) (fun k C => ?_)
  have C : Cx G k cX4_isStreet "MoodFareModel" "isStreet" 2 (some .boolean) 1 0 0 _ := C
  refine j_iload_n C dX4_isStreet_0 rfl 1 rfl ?_
  refine j_iconst (v := nI 0) C dX4_isStreet_1 rfl ?_
  refine j_aload_n C dX4_isStreet_2 rfl 0 rfl ?_
  refine mg13 C q1487 dX4_isStreet_3 ?_
  refine j_bipush (v := nI 25) C dX4_isStreet_6 rfl ?_
  refine ml6 C (25) rfl (by omega) dX4_isStreet_8 (v := S.2.2.2 6 25) rfl ?_
  refine j_iconst (v := nI 1) C dX4_isStreet_9 rfl ?_
  refine j_isub C dX4_isStreet_10 ?_
  refine j_callS C (mX4_in G (mset G M o S, sz) x (nI 0) (nI (S.2.2.2 6 25) - nI 1)) pI.ret 3 q1579 q1580 q73 q1581 (by decide +kernel) rfl (by decide) (by decide) (Nat.le_of_ble_eq_true rfl) rfl dX4_isStreet_11 (by omega) (by omega) (qI.k ?_)
  exact j_zret C (bZ_n _) (by omega) (by omega) (pI.mk ⟨rfl, rfl⟩) dX4_isStreet_14
set_option maxHeartbeats 400000 in
theorem mX4_kindIn (G : gl_T) (M : Nat → Option (Nat × va_E)) (sz o : Nat) (S : ms_T) (c : Nat) (hc : c < 6) : Mt G yX4_kindIn cX4_kindIn 2 (some .int) 0 [.ref o, .int (nI c)] (mset G M o S, sz) (qI (nI (S.2.2.2 6 (7 + 3 * c))) (mset G M o S, sz)) 0 0 := by
  refine Mt.start (by decide) (Nat.le_of_ble_eq_true rfl) (fun k C => ?_)
  have C : Cx G k cX4_kindIn "MoodFareModel" "kindIn" 2 (some .int) 0 0 0 _ := C
  refine j_aload_n C dX4_kindIn_0 rfl 0 rfl ?_
  refine mg13 C q1487 dX4_kindIn_1 ?_
  refine j_bipush (v := nI 7) C dX4_kindIn_4 rfl ?_
  refine j_iconst (v := nI 3) C dX4_kindIn_6 rfl ?_
  refine j_iload_n C dX4_kindIn_7 rfl 1 rfl ?_
  refine j_imulN C dX4_kindIn_8 ?_
  refine j_iaddN C dX4_kindIn_9 ?_
  refine ml6 C (7 + (3 * c)) rfl (by omega) dX4_kindIn_10 (v := S.2.2.2 6 (7 + (3 * c))) rfl ?_
  exact j_iret C (by omega) (by omega) (pI.mk ⟨rfl, rfl⟩) dX4_kindIn_11
set_option maxHeartbeats 400000 in
theorem mX4_isPart (G : gl_T) (M : Nat → Option (Nat × va_E)) (sz o : Nat) (S : ms_T) (r : Nat) (i n : Int32) (hr : r < 8) : Mt G yX4_isPart cX4_isPart 4 (some .boolean) 0 [.ref o, .int (nI r), .int i, .int n] (mset G M o S, sz) (qI (bZ (partB (S.2.2.2 2 r) i n)) (mset G M o S, sz)) 0 0 := by
  refine Mt.start (by decide) (Nat.le_of_ble_eq_true rfl) (fun k C => ?_)
  have C : Cx G k cX4_isPart "MoodFareModel" "isPart" 4 (some .boolean) 0 0 0 _ := C
  refine j_iload_n C dX4_isPart_0 rfl 2 rfl ?_
  refine j_if_lt C 34 dX4_isPart_1 (by decide) (fun c1 => ?_) (fun c1 => ?_)
  · refine j_iconst (v := nI 0) C dX4_isPart_34 rfl ?_
    exact j_zret C (by decide +kernel) (by omega) (by omega) (pI.mk ⟨partB_0 (fun z => Int32.not_lt.mpr z.1 c1), rfl⟩) dX4_isPart_35
  · refine j_iload_n C dX4_isPart_4 rfl 3 rfl ?_
    refine j_if_lt C 34 dX4_isPart_5 (by decide) (fun c5 => ?_) (fun c5 => ?_)
    · refine j_iconst (v := nI 0) C dX4_isPart_34 rfl ?_
      exact j_zret C (by decide +kernel) (by omega) (by omega) (pI.mk ⟨partB_0 (fun z => Int32.not_lt.mpr z.2.1 c5), rfl⟩) dX4_isPart_35
    · refine j_iload_n C dX4_isPart_8 rfl 2 rfl ?_
      refine j_aload_n C dX4_isPart_9 rfl 0 rfl ?_
      refine mg1 C q1475 dX4_isPart_10 ?_
      refine j_iload_n C dX4_isPart_13 rfl 1 rfl ?_
      refine ml2 C (r) rfl (by omega) dX4_isPart_14 (v := S.2.2.2 2 r) rfl ?_
      refine j_icmp_gt C 34 dX4_isPart_15 (by decide) (fun c15 => ?_) (fun c15 => ?_)
      · refine j_iconst (v := nI 0) C dX4_isPart_34 rfl ?_
        exact j_zret C (by decide +kernel) (by omega) (by omega) (pI.mk ⟨partB_0 (fun z => Int32.not_lt.mpr z.2.2.1 c15), rfl⟩) dX4_isPart_35
      · refine j_iload_n C dX4_isPart_18 rfl 3 rfl ?_
        refine j_aload_n C dX4_isPart_19 rfl 0 rfl ?_
        refine mg1 C q1475 dX4_isPart_20 ?_
        refine j_iload_n C dX4_isPart_23 rfl 1 rfl ?_
        refine ml2 C (r) rfl (by omega) dX4_isPart_24 (v := S.2.2.2 2 r) rfl ?_
        refine j_iload_n C dX4_isPart_25 rfl 2 rfl ?_
        refine j_isub C dX4_isPart_26 ?_
        refine j_icmp_gt C 34 dX4_isPart_27 (by decide) (fun c27 => ?_) (fun c27 => ?_)
        · refine j_iconst (v := nI 0) C dX4_isPart_34 rfl ?_
          exact j_zret C (by decide +kernel) (by omega) (by omega) (pI.mk ⟨partB_0 (fun z => Int32.not_lt.mpr z.2.2.2 c27), rfl⟩) dX4_isPart_35
        · refine j_iconst (v := nI 1) C dX4_isPart_30 rfl ?_
          refine j_goto C 35 dX4_isPart_31 (by decide) ?_
          exact j_zret C (by decide +kernel) (by omega) (by omega) (pI.mk ⟨partB_1 (Int32.not_lt.mp c1) (Int32.not_lt.mp c5) (Int32.not_lt.mp c15) (Int32.not_lt.mp c27), rfl⟩) dX4_isPart_35
