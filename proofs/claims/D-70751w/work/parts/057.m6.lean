/-! ===== the reference: rows of streets ===== -/
set_option maxRecDepth 100000
set_option maxHeartbeats 1000000 in
theorem mX4_begins (G : gl_T) (M : Nat → Option (Nat × va_E)) (sz o : Nat) (S : ms_T)  : Mt G yX4_begins cX4_begins 1 none 1 [.ref o] (mset G M o S, sz) (qV (mset G M o (bgnS S), sz)) 0 0 := by
  refine Mt.start (by decide) (Nat.le_of_ble_eq_true rfl) (fun k C => ?_)
  have C : Cx G k cX4_begins "MoodFareModel" "begins" 1 none 1 0 0 _ := C
  refine j_aload_n C dX4_begins_0 rfl 0 rfl ?_
  refine mg13 C q1487 dX4_begins_1 ?_
  refine j_iconst (v := nI 0) C dX4_begins_4 rfl ?_
  refine j_aload_n C dX4_begins_5 rfl 0 rfl ?_
  refine mg15 C q1489 dX4_begins_6 ?_
  refine j_iconst (v := nI 0) C dX4_begins_9 rfl ?_
  refine j_callS C (mX4_copies G (mset G M o S, sz) (o + 6) o (o + 8) o 42 42 0 0 (S.2.2.2 6) (S.2.2.2 8) (mset_a 6 (by decide) (by decide)) (mset_a 8 (by decide) (by decide)) (by omega) (by omega) (by omega) (by decide) (by decide)) pV.ret 4 q1668 q1669 q73 q1670 (by decide +kernel) rfl (by decide) (by decide) (Nat.le_of_ble_eq_true rfl) rfl dX4_begins_10 (by omega) (by omega) (qV.k ?_)
  refine J.eq (w' := (mset G M o (sB S 8 (va_cpy (S.2.2.2 6) (S.2.2.2 8) 0 0 42)), sz)) ?_ (congrArg (fun z => (z, sz)) (mset_ua 8 (by decide) (by decide) (mfs_B _ _ _ _) rfl (mcon_B _ _ _))) rfl rfl
  refine j_cgB 8 (g' := S.2.2.2 6) (by decide) (by decide) (fun i hi => by rw [pk_cpy_in (by omega) (by exact hi)]; simp) ?_
  refine j_aload_n C dX4_begins_13 rfl 0 rfl ?_
  refine j_iconst (v := nI 0) C dX4_begins_14 rfl ?_
  refine mp20 C q1494 dX4_begins_15 ?_
  refine j_aload_n C dX4_begins_18 rfl 0 rfl ?_
  refine mg22 C q1496 dX4_begins_19 ?_
  refine j_iconst (v := nI 0) C dX4_begins_22 rfl ?_
  refine j_iconst (v := nI 0) C dX4_begins_23 rfl ?_
  refine mt13 C (0) rfl (by omega) dX4_begins_24 ?_
  refine j_aload_n C dX4_begins_25 rfl 0 rfl ?_
  refine mg23 C q1497 dX4_begins_26 ?_
  refine j_iconst (v := nI 0) C dX4_begins_29 rfl ?_
  refine j_aload_n C dX4_begins_30 rfl 0 rfl ?_
  refine mg13 C q1487 dX4_begins_31 ?_
  refine j_iconst (v := nI 4) C dX4_begins_34 rfl ?_
  refine ml6 C (4) rfl (by omega) dX4_begins_35 (v := S.2.2.2 6 4) rfl ?_
  refine mt14 C (0) rfl (by omega) dX4_begins_36 ?_
  refine j_aload_n C dX4_begins_37 rfl 0 rfl ?_
  refine mg24 C q1498 dX4_begins_38 ?_
  refine j_iconst (v := nI 0) C dX4_begins_41 rfl ?_
  refine j_aload_n C dX4_begins_42 rfl 0 rfl ?_
  refine mg13 C q1487 dX4_begins_43 ?_
  refine j_iconst (v := nI 1) C dX4_begins_46 rfl ?_
  refine ml6 C (1) rfl (by omega) dX4_begins_47 (v := S.2.2.2 6 1) rfl ?_
  refine mt15 C (0) rfl (by omega) dX4_begins_48 ?_
  refine j_aload_n C dX4_begins_49 rfl 0 rfl ?_
  refine mg25 C q1499 dX4_begins_50 ?_
  refine j_iconst (v := nI 0) C dX4_begins_53 rfl ?_
  refine j_iconst (v := nI 0) C dX4_begins_54 rfl ?_
  refine mt16 C (0) rfl (by omega) dX4_begins_55 ?_
  exact j_vret C (by omega) (by omega) (pV.mk rfl) dX4_begins_56
set_option maxHeartbeats 2000000 in
theorem mX4_adds (G : gl_T) (M : Nat → Option (Nat × va_E)) (sz o : Nat) (S : ms_T) (d x : Nat) (hd : S.1 20 = nI d) (h8 : d < 8) (ht : smT (S.2.2.2 8)) (h3 : S.2.2.2 8 3 ≤ 999) (hx : x < S.2.2.2 8 25) (ha : ∀ i, i ≤ d → S.2.2.2 14 i < 6 ∧ S.2.2.2 15 i ≤ 9 ∧ S.2.2.2 16 i ≤ 90 * i) : Mt G yX4_adds cX4_adds 4 none 2 [.ref o, .int (nI x)] (mset G M o S, sz) (qV (mset G M o (addS S d x), sz)) 0 0 := by
  refine Mt.start (by decide) (Nat.le_of_ble_eq_true rfl) (fun k C => ?_)
  have C : Cx G k cX4_adds "MoodFareModel" "adds" 4 none 2 0 0 _ := C
  obtain ⟨r0, r1, r2, r3, r4, r5, r6, r7, r25, r26⟩ := ht
  have hx8 : x < 8 := by omega
  have rx := r26 x hx8
  have rc := r7 _ rx.2
  have had := ha d (Nat.le_refl _)
  refine j_aload_n C dX4_adds_0 rfl 0 rfl ?_
  refine mg15 C q1489 dX4_adds_1 ?_
  refine j_bipush (v := nI 26) C dX4_adds_4 rfl ?_
  refine j_iconst (v := nI 2) C dX4_adds_6 rfl ?_
  refine j_iload_n C dX4_adds_7 rfl 1 rfl ?_
  refine j_imulN C dX4_adds_8 ?_
  refine j_iaddN C dX4_adds_9 ?_
  refine j_iconst (v := nI 1) C dX4_adds_10 rfl ?_
  refine j_iaddN C dX4_adds_11 ?_
  refine ml8 C ((26 + (2 * x)) + 1) rfl (by first | omega | (have := ha d (Nat.le_refl _); omega) | (have := psd_le (t := S.2.2.2 8) (c := S.2.2.2 8 (26 + 2 * x + 1)) (step := S.2.2.2 8 3 + d) (ha d (Nat.le_refl _)).2.1; omega)) dX4_adds_12 (v := S.2.2.2 8 ((26 + (2 * x)) + 1)) rfl ?_
  refine j_istore_n (lv' := [(2, .int (nI (S.2.2.2 8 ((26 + (2 * x)) + 1)))), (0, .ref o), (1, .int (nI x))]) C dX4_adds_13 rfl (by decide) rfl ?_
  refine j_aload_n C dX4_adds_14 rfl 1 rfl ?_
  refine mg15 C q1489 dX4_adds_15 ?_
  refine j_iconst (v := nI 3) C dX4_adds_18 rfl ?_
  refine ml8 C (3) rfl (by first | omega | (have := ha d (Nat.le_refl _); omega) | (have := psd_le (t := S.2.2.2 8) (c := S.2.2.2 8 (26 + 2 * x + 1)) (step := S.2.2.2 8 3 + d) (ha d (Nat.le_refl _)).2.1; omega)) dX4_adds_19 (v := S.2.2.2 8 3) rfl ?_
  refine j_aload_n C dX4_adds_20 rfl 1 rfl ?_
  refine mg20 C q1494 dX4_adds_21 (v := nI d) hd ?_
  refine j_iaddN C dX4_adds_24 ?_
  refine j_istore_n (lv' := [(3, .int (nI ((S.2.2.2 8 3) + d))), (2, .int (nI (S.2.2.2 8 ((26 + (2 * x)) + 1)))), (0, .ref o), (1, .int (nI x))]) C dX4_adds_25 rfl (by decide) rfl ?_
  refine j_aload_n C dX4_adds_26 rfl 2 rfl ?_
  refine mg21 C q1495 dX4_adds_27 ?_
  refine j_aload_n C dX4_adds_30 rfl 2 rfl ?_
  refine mg20 C q1494 dX4_adds_31 (v := nI d) hd ?_
  refine j_iload_n C dX4_adds_34 rfl 3 rfl ?_
  refine mt12 C (d) rfl (by first | omega | (have := ha d (Nat.le_refl _); omega) | (have := psd_le (t := S.2.2.2 8) (c := S.2.2.2 8 (26 + 2 * x + 1)) (step := S.2.2.2 8 3 + d) (ha d (Nat.le_refl _)).2.1; omega)) dX4_adds_35 ?_
  refine j_aload_n C dX4_adds_36 rfl 2 rfl ?_
  refine mg22 C q1496 dX4_adds_37 ?_
  refine j_aload_n C dX4_adds_40 rfl 2 rfl ?_
  refine mg20 C q1494 dX4_adds_41 (v := nI d) hd ?_
  refine j_iload_n C dX4_adds_44 rfl 3 rfl ?_
  refine j_iconst (v := nI 1) C dX4_adds_45 rfl ?_
  refine j_iaddN C dX4_adds_46 ?_
  refine mt13 C (d) rfl (by first | omega | (have := ha d (Nat.le_refl _); omega) | (have := psd_le (t := S.2.2.2 8) (c := S.2.2.2 8 (26 + 2 * x + 1)) (step := S.2.2.2 8 3 + d) (ha d (Nat.le_refl _)).2.1; omega)) dX4_adds_47 ?_
  refine j_aload_n C dX4_adds_48 rfl 2 rfl ?_
  refine mg23 C q1497 dX4_adds_49 ?_
  refine j_aload_n C dX4_adds_52 rfl 2 rfl ?_
  refine mg20 C q1494 dX4_adds_53 (v := nI d) hd ?_
  refine j_iconst (v := nI 1) C dX4_adds_56 rfl ?_
  refine j_iaddN C dX4_adds_57 ?_
  refine j_iload_n C dX4_adds_58 rfl 1 rfl ?_
  refine mt14 C (d + 1) rfl (by first | omega | (have := ha d (Nat.le_refl _); omega) | (have := psd_le (t := S.2.2.2 8) (c := S.2.2.2 8 (26 + 2 * x + 1)) (step := S.2.2.2 8 3 + d) (ha d (Nat.le_refl _)).2.1; omega)) dX4_adds_59 ?_
  refine j_aload_n C dX4_adds_60 rfl 2 rfl ?_
  refine mg24 C q1498 dX4_adds_61 ?_
  refine j_aload_n C dX4_adds_64 rfl 2 rfl ?_
  refine mg20 C q1494 dX4_adds_65 (v := nI d) hd ?_
  refine j_iconst (v := nI 1) C dX4_adds_68 rfl ?_
  refine j_iaddN C dX4_adds_69 ?_
  refine j_aload_n C dX4_adds_70 rfl 2 rfl ?_
  refine mg15 C q1489 dX4_adds_71 ?_
  refine j_iload_n C dX4_adds_74 rfl 1 rfl ?_
  refine j_aload_n C dX4_adds_75 rfl 2 rfl ?_
  refine mg24 C q1498 dX4_adds_76 ?_
  refine j_aload_n C dX4_adds_79 rfl 2 rfl ?_
  refine mg20 C q1494 dX4_adds_80 (v := nI d) hd ?_
  refine ml15 C (d) rfl (by first | omega | (have := ha d (Nat.le_refl _); omega) | (have := psd_le (t := S.2.2.2 8) (c := S.2.2.2 8 (26 + 2 * x + 1)) (step := S.2.2.2 8 3 + d) (ha d (Nat.le_refl _)).2.1; omega)) dX4_adds_83 (v := S.2.2.2 15 d) rfl ?_
  refine j_iload_n C dX4_adds_84 rfl 0 rfl ?_
  refine j_callS C (mX4_passed G (mset G M o (sB (sB (sB S 12 (uN (S.2.2.2 12) d x)) 13 (uN (S.2.2.2 13) d (x + 1))) 14 (uN (S.2.2.2 14) (d + 1) (S.2.2.2 8 ((26 + (2 * x)) + 1)))), sz) (o + 8) o (S.2.2.2 8) (S.2.2.2 8 ((26 + (2 * x)) + 1)) (S.2.2.2 15 d) ((S.2.2.2 8 3) + d) (mset_a 8 (by decide) (by decide)) (by first | omega | (have := ha d (Nat.le_refl _); omega) | (have := psd_le (t := S.2.2.2 8) (c := S.2.2.2 8 (26 + 2 * x + 1)) (step := S.2.2.2 8 3 + d) (ha d (Nat.le_refl _)).2.1; omega)) (by first | omega | (have := ha d (Nat.le_refl _); omega) | (have := psd_le (t := S.2.2.2 8) (c := S.2.2.2 8 (26 + 2 * x + 1)) (step := S.2.2.2 8 3 + d) (ha d (Nat.le_refl _)).2.1; omega)) (by first | omega | (have := ha d (Nat.le_refl _); omega) | (have := psd_le (t := S.2.2.2 8) (c := S.2.2.2 8 (26 + 2 * x + 1)) (step := S.2.2.2 8 3 + d) (ha d (Nat.le_refl _)).2.1; omega)) (by first | omega | (have := ha d (Nat.le_refl _); omega) | (have := psd_le (t := S.2.2.2 8) (c := S.2.2.2 8 (26 + 2 * x + 1)) (step := S.2.2.2 8 3 + d) (ha d (Nat.le_refl _)).2.1; omega)) (by first | omega | (have := ha d (Nat.le_refl _); omega) | (have := psd_le (t := S.2.2.2 8) (c := S.2.2.2 8 (26 + 2 * x + 1)) (step := S.2.2.2 8 3 + d) (ha d (Nat.le_refl _)).2.1; omega))) pI.ret 4 q1700 q1701 q73 q1702 (by decide +kernel) rfl (by decide) (by decide) (Nat.le_of_ble_eq_true rfl) rfl dX4_adds_85 (by omega) (by omega) (qI.k ?_)
  refine j_as (y := nI (psd (S.2.2.2 8) (S.2.2.2 8 ((26 + (2 * x)) + 1)) (S.2.2.2 15 d) ((S.2.2.2 8 3) + d))) rfl ?_
  refine mt15 C (d + 1) rfl (by first | omega | (have := ha d (Nat.le_refl _); omega) | (have := psd_le (t := S.2.2.2 8) (c := S.2.2.2 8 (26 + 2 * x + 1)) (step := S.2.2.2 8 3 + d) (ha d (Nat.le_refl _)).2.1; omega)) dX4_adds_88 ?_
  refine j_aload_n C dX4_adds_89 rfl 2 rfl ?_
  refine mg25 C q1499 dX4_adds_90 ?_
  refine j_aload_n C dX4_adds_93 rfl 2 rfl ?_
  refine mg20 C q1494 dX4_adds_94 (v := nI d) hd ?_
  refine j_iconst (v := nI 1) C dX4_adds_97 rfl ?_
  refine j_iaddN C dX4_adds_98 ?_
  refine j_aload_n C dX4_adds_99 rfl 2 rfl ?_
  refine mg25 C q1499 dX4_adds_100 ?_
  refine j_aload_n C dX4_adds_103 rfl 2 rfl ?_
  refine mg20 C q1494 dX4_adds_104 (v := nI d) hd ?_
  refine ml16 C (d) rfl (by first | omega | (have := ha d (Nat.le_refl _); omega) | (have := psd_le (t := S.2.2.2 8) (c := S.2.2.2 8 (26 + 2 * x + 1)) (step := S.2.2.2 8 3 + d) (ha d (Nat.le_refl _)).2.1; omega)) dX4_adds_107 (v := S.2.2.2 16 d) rfl ?_
  refine j_aload_n C dX4_adds_108 rfl 2 rfl ?_
  refine mg15 C q1489 dX4_adds_109 ?_
  refine j_iload_n C dX4_adds_112 rfl 1 rfl ?_
  refine j_aload_n C dX4_adds_113 rfl 2 rfl ?_
  refine mg24 C q1498 dX4_adds_114 ?_
  refine j_aload_n C dX4_adds_117 rfl 2 rfl ?_
  refine mg20 C q1494 dX4_adds_118 (v := nI d) hd ?_
  refine ml15 C (d) rfl (by first | omega | (have := ha d (Nat.le_refl _); omega) | (have := psd_le (t := S.2.2.2 8) (c := S.2.2.2 8 (26 + 2 * x + 1)) (step := S.2.2.2 8 3 + d) (ha d (Nat.le_refl _)).2.1; omega)) dX4_adds_121 (v := (uN (S.2.2.2 15) (d + 1) (psd (S.2.2.2 8) (S.2.2.2 8 ((26 + (2 * x)) + 1)) (S.2.2.2 15 d) ((S.2.2.2 8 3) + d))) d) rfl ?_
  refine j_as (y := nI (S.2.2.2 15 d)) (congrArg nI (uN_n (by omega))) ?_
  refine j_iload_n C dX4_adds_122 rfl 0 rfl ?_
  refine j_callS C (mX4_cost G (mset G M o (sB (sB (sB (sB S 12 (uN (S.2.2.2 12) d x)) 13 (uN (S.2.2.2 13) d (x + 1))) 14 (uN (S.2.2.2 14) (d + 1) (S.2.2.2 8 ((26 + (2 * x)) + 1)))) 15 (uN (S.2.2.2 15) (d + 1) (psd (S.2.2.2 8) (S.2.2.2 8 ((26 + (2 * x)) + 1)) (S.2.2.2 15 d) ((S.2.2.2 8 3) + d)))), sz) (o + 8) o (S.2.2.2 8) (S.2.2.2 8 ((26 + (2 * x)) + 1)) (S.2.2.2 15 d) ((S.2.2.2 8 3) + d) (mset_a 8 (by decide) (by decide)) (by first | omega | (have := ha d (Nat.le_refl _); omega) | (have := psd_le (t := S.2.2.2 8) (c := S.2.2.2 8 (26 + 2 * x + 1)) (step := S.2.2.2 8 3 + d) (ha d (Nat.le_refl _)).2.1; omega)) (by first | omega | (have := ha d (Nat.le_refl _); omega) | (have := psd_le (t := S.2.2.2 8) (c := S.2.2.2 8 (26 + 2 * x + 1)) (step := S.2.2.2 8 3 + d) (ha d (Nat.le_refl _)).2.1; omega)) (by first | omega | (have := ha d (Nat.le_refl _); omega) | (have := psd_le (t := S.2.2.2 8) (c := S.2.2.2 8 (26 + 2 * x + 1)) (step := S.2.2.2 8 3 + d) (ha d (Nat.le_refl _)).2.1; omega)) (by first | omega | (have := ha d (Nat.le_refl _); omega) | (have := psd_le (t := S.2.2.2 8) (c := S.2.2.2 8 (26 + 2 * x + 1)) (step := S.2.2.2 8 3 + d) (ha d (Nat.le_refl _)).2.1; omega)) (by first | omega | (have := ha d (Nat.le_refl _); omega) | (have := psd_le (t := S.2.2.2 8) (c := S.2.2.2 8 (26 + 2 * x + 1)) (step := S.2.2.2 8 3 + d) (ha d (Nat.le_refl _)).2.1; omega))) pI.ret 4 q1697 q1698 q73 q1699 (by decide +kernel) rfl (by decide) (by decide) (Nat.le_of_ble_eq_true rfl) rfl dX4_adds_123 (by omega) (by omega) (qI.k ?_)
  refine j_as (y := nI (csd (S.2.2.2 8) (S.2.2.2 8 ((26 + (2 * x)) + 1)) (S.2.2.2 15 d) ((S.2.2.2 8 3) + d))) rfl ?_
  refine j_iaddN C dX4_adds_126 ?_
  refine mt16 C (d + 1) rfl (by first | omega | (have := ha d (Nat.le_refl _); omega) | (have := psd_le (t := S.2.2.2 8) (c := S.2.2.2 8 (26 + 2 * x + 1)) (step := S.2.2.2 8 3 + d) (ha d (Nat.le_refl _)).2.1; omega)) dX4_adds_127 ?_
  refine j_aload_n C dX4_adds_128 rfl 2 rfl ?_
  refine j_dup C dX4_adds_129 rfl ?_
  refine mg20 C q1494 dX4_adds_130 (v := nI d) hd ?_
  refine j_iconst (v := nI 1) C dX4_adds_133 rfl ?_
  refine j_iaddN C dX4_adds_134 ?_
  refine mp20 C q1494 dX4_adds_135 ?_
  exact j_vret C (by omega) (by omega) (pV.mk rfl) dX4_adds_138
set_option maxHeartbeats 4000000 in
theorem mX4_goesOn_lo (G : gl_T) (M : Nat → Option (Nat × va_E)) (sz o : Nat) (k : KX) (most : Nat) (R : Bool × ms_T) (hm : most ≤ 8) (C : Cx G k cX4_goesOn "MoodFareModel" "goesOn" 3 (some .boolean) 3 0 0 (qI (bZ R.1) (mset G M o R.2, sz))) (S : ms_T) (ht : smT (S.2.2.2 8)) (h3 : S.2.2.2 8 3 ≤ 999) : ∀ l : Nat, l ≤ 8 → (∀ i, i < l → S.2.2.2 13 i ≤ S.2.2.2 8 25) → (∀ i, i < l → S.2.2.2 14 i < 6 ∧ S.2.2.2 15 i ≤ 9 ∧ S.2.2.2 16 i ≤ 90 * i) → bckS S l = R → J G k (mset G M o (sF S 20 (nI l - nI 1)), sz) [(0, .ref o), (1, .int (nI most))] 31 [] 0 0 := by
  have ht0 := ht
  obtain ⟨r0, r1, r2, r3, r4, r5, r6, r7, r25, r26⟩ := ht
  intro l
  induction l with
  | zero =>
    intro hl hnl hal hE
    refine j_aload_n C dX4_goesOn_31 rfl 0 rfl ?_
    refine mg20 C q1494 dX4_goesOn_32 (v := -1) (show nI 0 - nI 1 = -1 by decide +kernel) ?_
    refine j_if_lt C 105 dX4_goesOn_35 (by decide) (fun c35 => ?_) (fun c35 => absurd (by decide +kernel) c35)
    refine j_iconst (v := nI 0) C dX4_goesOn_105 rfl ?_
    exact j_zret C (by decide +kernel) (by omega) (by omega) (pI.mk ⟨by rw [← hE]; rfl, by rw [← hE]; exact congrArg (fun z => (mset G M o (sF _ 20 z), sz)) (by decide +kernel)⟩) dX4_goesOn_106
  | succ l ih =>
    intro hl hnl hal hE
    have hnll := hnl l (by omega)
    have hall := hal l (by omega)
    refine J.eq (w' := (mset G M o (sF S 20 (nI l)), sz)) ?_ (by rw [nI_one.symm, nI_pred]) rfl rfl
    refine j_aload_n C dX4_goesOn_31 rfl 0 rfl ?_
    refine mg20 C q1494 dX4_goesOn_32 (v := nI l) rfl ?_
    refine j_if_ltN C dX4_goesOn_35 105 (by decide) (by first | omega | assumption | exact (show i < S.2.2.2 8 25 by omega) | exact (fun i hi => hal i (by omega)) | (intro z hz; have := r26 z hz; omega)) ?_
    refine j_aload_n C dX4_goesOn_38 rfl 0 rfl ?_
    refine mg22 C q1496 dX4_goesOn_39 ?_
    refine j_aload_n C dX4_goesOn_42 rfl 0 rfl ?_
    refine mg20 C q1494 dX4_goesOn_43 (v := nI l) rfl ?_
    refine ml13 C (l) rfl (by first | omega | assumption | exact (show i < S.2.2.2 8 25 by omega) | exact (fun i hi => hal i (by omega)) | (intro z hz; have := r26 z hz; omega)) dX4_goesOn_46 (v := S.2.2.2 13 l) rfl ?_
    refine j_istore_n (lv' := [(2, .int (nI (S.2.2.2 13 l))), (0, .ref o), (1, .int (nI most))]) C dX4_goesOn_47 rfl (by decide) rfl ?_
    have li : ∀ (n_li i : Nat), S.2.2.2 13 l ≤ i → i ≤ S.2.2.2 8 25 → S.2.2.2 8 25 < i + n_li → fstS (S.2.2.2 8) (S.2.2.2 14 l) (S.2.2.2 8 25 - S.2.2.2 13 l) (S.2.2.2 13 l) = fstS (S.2.2.2 8) (S.2.2.2 14 l) (S.2.2.2 8 25 - i) i → J G k (mset G M o (sF S 20 (nI l)), sz) [(2, .int (nI i)), (0, .ref o), (1, .int (nI most))] 48 [] 0 0 := by
      intro n_li
      induction n_li with
      | zero => intro i h0_li h1_li h2_li; omega
      | succ n_li ih_li =>
        intro i h0_li h1_li h2_li hI_li
        refine j_iload_n C dX4_goesOn_48 rfl 0 rfl ?_
        refine j_aload_n C dX4_goesOn_49 rfl 1 rfl ?_
        refine mg15 C q1489 dX4_goesOn_50 ?_
        refine j_bipush (v := nI 25) C dX4_goesOn_53 rfl ?_
        refine ml8 C (25) rfl (by first | omega | assumption | exact (show i < S.2.2.2 8 25 by omega) | exact (fun i hi => hal i (by omega)) | (intro z hz; have := r26 z hz; omega)) dX4_goesOn_55 (v := S.2.2.2 8 25) rfl ?_
        refine j_icmp_geN C 92 dX4_goesOn_56 (by decide) (by first | omega | assumption | exact (show i < S.2.2.2 8 25 by omega) | exact (fun i hi => hal i (by omega)) | (intro z hz; have := r26 z hz; omega)) (by first | omega | assumption | exact (show i < S.2.2.2 8 25 by omega) | exact (fun i hi => hal i (by omega)) | (intro z hz; have := r26 z hz; omega)) (fun c56 => ?_) (fun c56 => ?_)
        · obtain rfl : S.2.2.2 8 25 = i := by omega
          refine j_aload_n C dX4_goesOn_92 rfl 1 rfl ?_
          refine j_dup C dX4_goesOn_93 rfl ?_
          refine mg20 C q1494 dX4_goesOn_94 (v := nI l) rfl ?_
          refine j_iconst (v := nI 1) C dX4_goesOn_97 rfl ?_
          refine j_isub C dX4_goesOn_98 ?_
          refine mp20 C q1494 dX4_goesOn_99 ?_
          refine j_goto C 31 dX4_goesOn_102 (by decide) ?_
          refine j_lv [1, 2] (lv' := [(0, .ref o), (1, .int (nI most))]) rfl ?_
          refine J.eq (w' := (mset G M o (sF S 20 (nI l - nI 1)), sz)) ?_ (congrArg (fun z => (mset G M o z, sz)) (sF_sF _ _ _ _)) rfl rfl
          exact ih (by omega) (fun i hi => hnl i (by omega)) (fun i hi => hal i (by omega)) (by rw [← hE, bckS, hI_li, fstS_e (by omega)])
        · refine j_aload_n C dX4_goesOn_59 rfl 1 rfl ?_
          refine mg15 C q1489 dX4_goesOn_60 ?_
          refine j_iload_n C dX4_goesOn_63 rfl 0 rfl ?_
          refine j_aload_n C dX4_goesOn_64 rfl 1 rfl ?_
          refine mg23 C q1497 dX4_goesOn_65 ?_
          refine j_aload_n C dX4_goesOn_68 rfl 1 rfl ?_
          refine mg20 C q1494 dX4_goesOn_69 (v := nI l) rfl ?_
          refine ml14 C (l) rfl (by first | omega | assumption | exact (show i < S.2.2.2 8 25 by omega) | exact (fun i hi => hal i (by omega)) | (intro z hz; have := r26 z hz; omega)) dX4_goesOn_72 (v := S.2.2.2 14 l) rfl ?_
          refine j_callS C (mX4_goes G (mset G M o (sF S 20 (nI l)), sz) (o + 8) o (S.2.2.2 8) (nI i) (S.2.2.2 14 l) (mset_a 8 (by decide) (by decide)) (by first | omega | assumption | exact (show i < S.2.2.2 8 25 by omega) | exact (fun i hi => hal i (by omega)) | (intro z hz; have := r26 z hz; omega)) (by first | omega | assumption | exact (show i < S.2.2.2 8 25 by omega) | exact (fun i hi => hal i (by omega)) | (intro z hz; have := r26 z hz; omega)) (by first | omega | assumption | exact (show i < S.2.2.2 8 25 by omega) | exact (fun i hi => hal i (by omega)) | (intro z hz; have := r26 z hz; omega)) (by first | omega | assumption | exact (show i < S.2.2.2 8 25 by omega) | exact (fun i hi => hal i (by omega)) | (intro z hz; have := r26 z hz; omega))) pI.ret 3 q1683 q1684 q73 q1685 (by decide +kernel) rfl (by decide) (by decide) (Nat.le_of_ble_eq_true rfl) rfl dX4_goesOn_73 (by omega) (by omega) (qI.k ?_)
          refine j_as (y := bZ (goB (S.2.2.2 8) (nI i) (S.2.2.2 14 l))) rfl ?_
          refine j_if_eqB C 86 dX4_goesOn_76 (by decide) (fun c76 => ?_) (fun c76 => ?_)
          · have hgo : goN (S.2.2.2 8) i (S.2.2.2 14 l) = false := by rw [← goB_i (by omega) (by omega)]; exact c76
            refine j_iincN (lv' := [(2, .int (nI (i + 1))), (0, .ref o), (1, .int (nI most))]) C dX4_goesOn_86 0 rfl (by decide) rfl ?_
            refine j_goto C 48 dX4_goesOn_89 (by decide) ?_
            refine j_lv [0, 1, 2] (lv' := [(2, .int (nI (i + 1))), (0, .ref o), (1, .int (nI most))]) rfl ?_
            exact ih_li (i + 1) (by omega) (by omega) (by omega) (by rw [hI_li, fstS_s (by omega) hgo])
          · have hgo : goN (S.2.2.2 8) i (S.2.2.2 14 l) = true := by rw [← goB_i (by omega) (by omega)]; exact c76
            refine j_aload_n C dX4_goesOn_79 rfl 1 rfl ?_
            refine j_iload_n C dX4_goesOn_80 rfl 0 rfl ?_
            refine j_callV C (mX4_adds G M sz o (sF S 20 (nI l)) l i rfl (by first | omega | assumption | exact (show i < S.2.2.2 8 25 by omega) | exact (fun i hi => hal i (by omega)) | (intro z hz; have := r26 z hz; omega)) (by first | omega | assumption | exact (show i < S.2.2.2 8 25 by omega) | exact (fun i hi => hal i (by omega)) | (intro z hz; have := r26 z hz; omega)) (by first | omega | assumption | exact (show i < S.2.2.2 8 25 by omega) | exact (fun i hi => hal i (by omega)) | (intro z hz; have := r26 z hz; omega)) (by first | omega | assumption | exact (show i < S.2.2.2 8 25 by omega) | exact (fun i hi => hal i (by omega)) | (intro z hz; have := r26 z hz; omega)) (by first | omega | assumption | exact (show i < S.2.2.2 8 25 by omega) | exact (fun i hi => hal i (by omega)) | (intro z hz; have := r26 z hz; omega))) pV.ret mset_o rfl 1 q1767 q1769 qs53 q73 q1770 (by decide +kernel) rfl (by decide) (by decide) (Nat.le_of_ble_eq_true rfl) rfl dX4_goesOn_81 (by omega) (by omega) (qV.k ?_)
            refine j_iconst (v := nI 1) C dX4_goesOn_84 rfl ?_
            exact j_zret C (by decide +kernel) (by omega) (by omega) (pI.mk ⟨by rw [← hE, bckS, hI_li, fstS_t (by omega) hgo]; rfl, by rw [← hE, bckS, hI_li, fstS_t (by omega) hgo]; rfl⟩) dX4_goesOn_85
    refine j_lv [0, 1, 2] (lv' := [(2, .int (nI (S.2.2.2 13 l))), (0, .ref o), (1, .int (nI most))]) rfl ?_
    exact li (S.2.2.2 8 25 + 1 - S.2.2.2 13 l) (S.2.2.2 13 l) (by omega) (by omega) (by omega) (by rfl)
set_option maxHeartbeats 4000000 in
theorem mX4_goesOn (G : gl_T) (M : Nat → Option (Nat × va_E)) (sz o : Nat) (S : ms_T) (most d : Nat) (hm : most ≤ 8) (hO : dOK S d) : Mt G yX4_goesOn cX4_goesOn 3 (some .boolean) 3 [.ref o, .int (nI most)] (mset G M o S, sz) (qI (bZ (gonS S most d).1) (mset G M o (gonS S most d).2, sz)) 0 0 := by
  refine Mt.start (by decide) (Nat.le_of_ble_eq_true rfl) (fun k C => ?_)
  have C : Cx G k cX4_goesOn "MoodFareModel" "goesOn" 3 (some .boolean) 3 0 0 _ := C
  obtain ⟨hd, h8, ht, h3, hn, ha⟩ := hO
  have ht0 := ht
  obtain ⟨r0, r1, r2, r3, r4, r5, r6, r7, r25, r26⟩ := ht
  refine j_aload_n C dX4_goesOn_0 rfl 0 rfl ?_
  refine mg20 C q1494 dX4_goesOn_1 (v := nI d) hd ?_
  refine j_iload_n C dX4_goesOn_4 rfl 1 rfl ?_
  refine j_icmp_geN C 21 dX4_goesOn_5 (by decide) (by first | omega | assumption) (by first | omega | assumption) (fun c5 => ?_) (fun c5 => ?_)
  · refine j_aload_n C dX4_goesOn_21 rfl 0 rfl ?_
    refine j_dup C dX4_goesOn_22 rfl ?_
    refine mg20 C q1494 dX4_goesOn_23 (v := nI d) hd ?_
    refine j_iconst (v := nI 1) C dX4_goesOn_26 rfl ?_
    refine j_isub C dX4_goesOn_27 ?_
    refine mp20 C q1494 dX4_goesOn_28 ?_
    exact mX4_goesOn_lo G M sz o k most (gonS S most d) hm C S ht0 h3 d h8 hn (fun i hi => ha i (by omega)) (by unfold gonS; rw [if_neg (by omega)])
  · refine j_aload_n C dX4_goesOn_8 rfl 0 rfl ?_
    refine mg22 C q1496 dX4_goesOn_9 ?_
    refine j_aload_n C dX4_goesOn_12 rfl 0 rfl ?_
    refine mg20 C q1494 dX4_goesOn_13 (v := nI d) hd ?_
    refine j_iconst (v := nI 0) C dX4_goesOn_16 rfl ?_
    refine mt13 C (d) rfl (by first | omega | assumption) dX4_goesOn_17 ?_
    refine j_goto C 31 dX4_goesOn_18 (by decide) ?_
    refine J.eq (w' := (mset G M o (sF (sB S 13 (uN (S.2.2.2 13) d 0)) 20 (nI (d + 1) - nI 1)), sz)) ?_ (congrArg (fun z => (mset G M o z, sz)) (by rw [nI_one.symm, nI_pred, ← hd]; exact (sF_self _ 20).symm)) rfl rfl
    exact mX4_goesOn_lo G M sz o k most (gonS S most d) hm C (sB S 13 (uN (S.2.2.2 13) d 0)) ht0 h3 (d + 1) (by omega) (uN0_le hn) (fun i hi => ha i (by omega)) (by unfold gonS; rw [if_pos (by omega)])
set_option maxHeartbeats 1000000 in
theorem mX4_keeps (G : gl_T) (M : Nat → Option (Nat × va_E)) (sz o : Nat) (S : ms_T) (d : Nat) (h8 : d ≤ 8) : Mt G yX4_keeps cX4_keeps 3 none 0 [.ref o, .int (nI d)] (mset G M o S, sz) (qV (mset G M o (kpsS S d), sz)) 0 0 := by
  refine Mt.start (by decide) (Nat.le_of_ble_eq_true rfl) (fun k C => ?_)
  have C : Cx G k cX4_keeps "MoodFareModel" "keeps" 3 none 0 0 0 _ := C
  refine j_aload_n C dX4_keeps_0 rfl 0 rfl ?_
  refine j_aload_n C dX4_keeps_1 rfl 0 rfl ?_
  refine mg25 C q1499 dX4_keeps_2 ?_
  refine j_iload_n C dX4_keeps_5 rfl 1 rfl ?_
  refine ml16 C (d) rfl (by omega) dX4_keeps_6 (v := S.2.2.2 16 d) rfl ?_
  refine mp27 C q1501 dX4_keeps_7 ?_
  refine j_aload_n C dX4_keeps_10 rfl 0 rfl ?_
  refine j_iload_n C dX4_keeps_11 rfl 1 rfl ?_
  refine mp28 C q1502 dX4_keeps_12 ?_
  refine j_aload_n C dX4_keeps_15 rfl 0 rfl ?_
  refine j_aload_n C dX4_keeps_16 rfl 0 rfl ?_
  refine mg23 C q1497 dX4_keeps_17 ?_
  refine j_iload_n C dX4_keeps_20 rfl 1 rfl ?_
  refine ml14 C (d) rfl (by omega) dX4_keeps_21 (v := S.2.2.2 14 d) rfl ?_
  refine mp29 C q1503 dX4_keeps_22 ?_
  refine j_iconst (v := nI 0) C dX4_keeps_25 rfl ?_
  refine j_istore_n (lv' := [(2, .int (nI 0)), (0, .ref o), (1, .int (nI d))]) C dX4_keeps_26 rfl (by decide) rfl ?_
  have lp : ∀ (n_lp e : Nat), 0 ≤ e → e ≤ d → d < e + n_lp → J G k (mset G M o (sB (sN (sN (sF S 27 (nI (S.2.2.2 16 d))) 28 d) 29 (S.2.2.2 14 d)) 17 (va_cpy (S.2.2.2 12) (S.2.2.2 17) 0 0 e)), sz) [(2, .int (nI e)), (0, .ref o), (1, .int (nI d))] 27 [] 0 0 := by
    intro n_lp
    induction n_lp with
    | zero => intro e h0_lp h1_lp h2_lp; omega
    | succ n_lp ih_lp =>
      intro e h0_lp h1_lp h2_lp
      refine j_iload_n C dX4_keeps_27 rfl 0 rfl ?_
      refine j_iload_n C dX4_keeps_28 rfl 2 rfl ?_
      refine j_icmp_geN C 50 dX4_keeps_29 (by decide) (by omega) (by omega) (fun c29 => ?_) (fun c29 => ?_)
      · obtain rfl : d = e := by omega
        exact j_vret C (by omega) (by omega) (pV.mk rfl) dX4_keeps_50
      · refine j_aload_n C dX4_keeps_32 rfl 1 rfl ?_
        refine mg26 C q1500 dX4_keeps_33 ?_
        refine j_iload_n C dX4_keeps_36 rfl 0 rfl ?_
        refine j_aload_n C dX4_keeps_37 rfl 1 rfl ?_
        refine mg21 C q1495 dX4_keeps_38 ?_
        refine j_iload_n C dX4_keeps_41 rfl 0 rfl ?_
        refine ml12 C (e) rfl (by omega) dX4_keeps_42 (v := S.2.2.2 12 e) rfl ?_
        refine mt17 C (e) rfl (by omega) dX4_keeps_43 ?_
        refine j_iincN (lv' := [(2, .int (nI (e + 1))), (0, .ref o), (1, .int (nI d))]) C dX4_keeps_44 0 rfl (by decide) rfl ?_
        refine j_goto C 27 dX4_keeps_47 (by decide) ?_
        refine j_lv [0, 1, 2] (lv' := [(2, .int (nI (e + 1))), (0, .ref o), (1, .int (nI d))]) rfl ?_
        refine J.eq (w' := (mset G M o (sB (sN (sN (sF S 27 (nI (S.2.2.2 16 d))) 28 d) 29 (S.2.2.2 14 d)) 17 (va_cpy (S.2.2.2 12) (S.2.2.2 17) 0 0 (e + 1))), sz)) ?_ (by have q := cpyN_s (S.2.2.2 12) (S.2.2.2 17) 0 0 e; rw [Nat.zero_add] at q; rw [← q]; rfl) rfl rfl
        exact ih_lp (e + 1) (by omega) (by omega) (by omega)
  refine j_lv [0, 1, 2] (lv' := [(2, .int (nI 0)), (0, .ref o), (1, .int (nI d))]) rfl ?_
  refine J.eq (w' := (mset G M o (sB (sN (sN (sF S 27 (nI (S.2.2.2 16 d))) 28 d) 29 (S.2.2.2 14 d)) 17 (va_cpy (S.2.2.2 12) (S.2.2.2 17) 0 0 0)), sz)) ?_ (by rw [cpy_0]; exact congrArg (fun z => (mset G M o z, sz)) (sB_self _ 17).symm) rfl rfl
  exact lp (d + 1 - 0) (0) (by omega) (by omega) (by omega)
set_option maxHeartbeats 1000000 in
theorem mX4_told (G : gl_T) (M : Nat → Option (Nat × va_E)) (sz o : Nat) (S : ms_T) (x y : Int32) (hb : S.2.1 28 ≤ 8) (hx : ∀ b, b ≤ 8 → (¬ nI b ≤ x) → x = -1 ∨ x = -2 ∨ ∃ j, x = nI j ∧ j < b) (P : Int32 → ms_T → Prop) (h1 : S.1 27 = kNONE → P kNONE S) (h2 : ¬ S.1 27 = kNONE → x = -1 → P (S.1 27) S) (h3 : ¬ S.1 27 = kNONE → x = -2 → P y S) (h4 : ∀ j, ¬ S.1 27 = kNONE → x = nI j → j < S.2.1 28 → P (nI (S.2.2.2 17 j)) S) (h5 : ¬ S.1 27 = kNONE → ¬ x = -1 → ¬ x = -2 → nI (S.2.1 28) ≤ x → P kNONE S) : Mt G yX4_told cX4_told 3 (some .int) 0 [.ref o, .int x, .int y] (mset G M o S, sz) (pM G M o sz P) 0 0 := by
  refine Mt.start (by decide) (Nat.le_of_ble_eq_true rfl) (fun k C => ?_)
  have C : Cx G k cX4_told "MoodFareModel" "told" 3 (some .int) 0 0 0 _ := C
  refine j_aload_n C dX4_told_0 rfl 0 rfl ?_
  refine mg27 C q1501 dX4_told_1 (v := S.1 27) rfl ?_
  refine j_ldc C q1473 dX4_told_4 ?_
  refine j_icmp_ne C 14 dX4_told_6 (by decide) (fun c6 => ?_) (fun c6 => ?_)
  · refine j_iload_n C dX4_told_14 rfl 1 rfl ?_
    refine j_iconst (v := -1) C dX4_told_15 rfl ?_
    refine j_icmp_ne C 26 dX4_told_16 (by decide) (fun c16 => ?_) (fun c16 => ?_)
    · refine j_iload_n C dX4_told_26 rfl 1 rfl ?_
      refine j_bipush (v := -2) C dX4_told_27 rfl ?_
      refine j_icmp_ne C 36 dX4_told_29 (by decide) (fun c29 => ?_) (fun c29 => ?_)
      · refine j_iload_n C dX4_told_36 rfl 1 rfl ?_
        refine j_aload_n C dX4_told_37 rfl 0 rfl ?_
        refine mg28 C q1502 dX4_told_38 (v := S.2.1 28) rfl ?_
        refine j_icmp_ge C 53 dX4_told_41 (by decide) (fun c41 => ?_) (fun c41 => ?_)
        · refine j_ldc C q1473 dX4_told_53 ?_
          exact j_iret C (by omega) (by omega) (pM.mk (h5 c6 c16 c29 c41)) dX4_told_55
        · rcases hx _ hb c41 with hq | hq | ⟨j, rfl, hj⟩
          · exact absurd hq c16
          · exact absurd hq c29
          refine j_aload_n C dX4_told_44 rfl 0 rfl ?_
          refine mg26 C q1500 dX4_told_45 ?_
          refine j_iload_n C dX4_told_48 rfl 1 rfl ?_
          refine ml17 C (j) rfl (by omega) dX4_told_49 (v := S.2.2.2 17 j) rfl ?_
          refine j_goto C 55 dX4_told_50 (by decide) ?_
          exact j_iret C (by omega) (by omega) (pM.mk (h4 j c6 rfl hj)) dX4_told_55
      · refine j_iload_n C dX4_told_32 rfl 2 rfl ?_
        refine j_goto C 55 dX4_told_33 (by decide) ?_
        exact j_iret C (by omega) (by omega) (pM.mk (h3 c6 c29)) dX4_told_55
    · refine j_aload_n C dX4_told_19 rfl 0 rfl ?_
      refine mg27 C q1501 dX4_told_20 (v := S.1 27) rfl ?_
      refine j_goto C 55 dX4_told_23 (by decide) ?_
      exact j_iret C (by omega) (by omega) (pM.mk (h2 c6 c16)) dX4_told_55
  · refine j_ldc C q1473 dX4_told_9 ?_
    refine j_goto C 55 dX4_told_11 (by decide) ?_
    exact j_iret C (by omega) (by omega) (pM.mk (h1 c6)) dX4_told_55
