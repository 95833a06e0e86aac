/-! ===== the reference: asked, counted, fits ===== -/
set_option maxRecDepth 100000
set_option maxHeartbeats 1000000 in
theorem mX4_joyMark (G : gl_T) (M : Nat → Option (Nat × va_E)) (sz o : Nat) (S : ms_T) (c : Nat) (hc : c < 6) (hk : S.2.2.2 6 (7 + 3 * c) ≤ 5) (hu : S.2.2.2 6 (7 + 3 * c + 1) ≤ 9) (hf : S.2.2.2 6 (7 + 3 * c + 2) ≤ 9) (hn : S.2.1 31 + 3 ≤ 16) : Mt G yX4_joyMark cX4_joyMark 4 (some .int) 1 [.ref o, .int (nI c)] (mset G M o S, sz) (qI (jmV (S.2.2.2 6) c) (mset G M o (jmS S c), sz)) 0 0 := by
  refine Mt.start (by decide) (Nat.le_of_ble_eq_true rfl) (fun k C => ?_)
  have C : Cx G k cX4_joyMark "MoodFareModel" "joyMark" 4 (some .int) 1 0 0 _ := C
  refine j_aload_n C dX4_joyMark_0 rfl 0 rfl ?_
  refine j_iload_n C dX4_joyMark_1 rfl 1 rfl ?_
  refine j_callV C (mX4_kindIn G M sz o S c (by first | omega | (simp only [tpS_n]; omega) | assumption)) pI.ret mset_o rfl 1 q1838 q1840 qs59 q73 q1841 (by decide +kernel) rfl (by decide) (by decide) (Nat.le_of_ble_eq_true rfl) rfl dX4_joyMark_2 (by omega) (by omega) (qI.k ?_)
  refine j_istore_n (lv' := [(2, .int (nI (S.2.2.2 6 (7 + 3 * c)))), (0, .ref o), (1, .int (nI c))]) C dX4_joyMark_5 rfl (by decide) rfl ?_
  refine j_iload_n C dX4_joyMark_6 rfl 0 rfl ?_
  refine j_iconst (v := nI 1) C dX4_joyMark_7 rfl ?_
  refine j_icmp_eqN C 27 dX4_joyMark_8 (by decide) (by first | omega | (simp only [tpS_n]; omega) | assumption) (by first | omega | (simp only [tpS_n]; omega) | assumption) (fun c8 => ?_) (fun c8 => ?_)
  · refine j_aload_n C dX4_joyMark_27 rfl 1 rfl ?_
    refine j_bipush (v := nI 21) C dX4_joyMark_28 rfl ?_
    refine j_callV C (mX4_leaves G M sz o S 21 (by first | omega | (simp only [tpS_n]; omega) | assumption)) pV.ret mset_o rfl 1 q1854 q1856 qs61 q73 q1857 (by decide +kernel) rfl (by decide) (by decide) (Nat.le_of_ble_eq_true rfl) rfl dX4_joyMark_30 (by omega) (by omega) (qV.k ?_)
    refine j_aload_n C dX4_joyMark_33 rfl 1 rfl ?_
    refine j_bipush (v := nI 20) C dX4_joyMark_34 rfl ?_
    refine j_callV C (mX4_leaves G M sz o (tpS S 21) 20 (by first | omega | (simp only [tpS_n]; omega) | assumption)) pV.ret mset_o rfl 1 q1854 q1856 qs61 q73 q1857 (by decide +kernel) rfl (by decide) (by decide) (Nat.le_of_ble_eq_true rfl) rfl dX4_joyMark_36 (by omega) (by omega) (qV.k ?_)
    refine j_iload_n C dX4_joyMark_39 rfl 2 rfl ?_
    refine j_aload_n C dX4_joyMark_40 rfl 1 rfl ?_
    refine mg13 C q1487 dX4_joyMark_41 ?_
    refine j_bipush (v := nI 7) C dX4_joyMark_44 rfl ?_
    refine j_iconst (v := nI 3) C dX4_joyMark_46 rfl ?_
    refine j_iload_n C dX4_joyMark_47 rfl 2 rfl ?_
    refine j_imulN C dX4_joyMark_48 ?_
    refine j_iaddN C dX4_joyMark_49 ?_
    refine j_iconst (v := nI 1) C dX4_joyMark_50 rfl ?_
    refine j_iaddN C dX4_joyMark_51 ?_
    refine ml6 C ((7 + (3 * c)) + 1) rfl (by first | omega | (simp only [tpS_n]; omega) | assumption) dX4_joyMark_52 (v := S.2.2.2 6 ((7 + (3 * c)) + 1)) rfl ?_
    refine j_iaddN C dX4_joyMark_53 ?_
    refine j_istore_n (lv' := [(3, .int (nI (c + (S.2.2.2 6 ((7 + (3 * c)) + 1))))), (2, .int (nI (S.2.2.2 6 (7 + 3 * c)))), (0, .ref o), (1, .int (nI c))]) C dX4_joyMark_54 rfl (by decide) rfl ?_
    refine j_iload_n C dX4_joyMark_55 rfl 1 rfl ?_
    refine j_iconst (v := nI 2) C dX4_joyMark_56 rfl ?_
    refine j_icmp_neN C 66 dX4_joyMark_57 (by decide) (by first | omega | (simp only [tpS_n]; omega) | assumption) (by first | omega | (simp only [tpS_n]; omega) | assumption) (fun c57 => ?_) (fun c57 => ?_)
    · refine j_iload_n C dX4_joyMark_66 rfl 1 rfl ?_
      refine j_iconst (v := nI 3) C dX4_joyMark_67 rfl ?_
      refine j_icmp_neN C 79 dX4_joyMark_68 (by decide) (by first | omega | (simp only [tpS_n]; omega) | assumption) (by first | omega | (simp only [tpS_n]; omega) | assumption) (fun c68 => ?_) (fun c68 => ?_)
      · refine j_iload_n C dX4_joyMark_79 rfl 0 rfl ?_
        exact j_iret C (by omega) (by omega) (by first | (exfalso; omega) | exact pI.mk ⟨by simp [jmV, jmS, c8, c57, c68], by simp [jmV, jmS, c8, c57, c68]⟩) dX4_joyMark_80
      · refine j_iload_n C dX4_joyMark_71 rfl 0 rfl ?_
        refine j_sipush (v := nI 1000) C dX4_joyMark_72 rfl ?_
        refine j_isub C dX4_joyMark_75 ?_
        refine j_goto C 80 dX4_joyMark_76 (by decide) ?_
        exact j_iret C (by omega) (by omega) (by first | (exfalso; omega) | exact pI.mk ⟨by simp [jmV, jmS, c8, c57, c68], by simp [jmV, jmS, c8, c57, c68]⟩) dX4_joyMark_80
    · refine j_iconst (v := nI 2) C dX4_joyMark_60 rfl ?_
      refine j_iload_n C dX4_joyMark_61 rfl 0 rfl ?_
      refine j_imulN C dX4_joyMark_62 ?_
      refine j_goto C 80 dX4_joyMark_63 (by decide) ?_
      exact j_iret C (by omega) (by omega) (by first | (exfalso; omega) | exact pI.mk ⟨by simp [jmV, jmS, c8, c57], by simp [jmV, jmS, c8, c57]⟩) dX4_joyMark_80
  · refine j_aload_n C dX4_joyMark_11 rfl 1 rfl ?_
    refine j_iload_n C dX4_joyMark_12 rfl 0 rfl ?_
    refine j_iconst (v := nI 2) C dX4_joyMark_13 rfl ?_
    refine j_icmp_neN C 22 dX4_joyMark_14 (by decide) (by first | omega | (simp only [tpS_n]; omega) | assumption) (by first | omega | (simp only [tpS_n]; omega) | assumption) (fun c14 => ?_) (fun c14 => ?_)
    · refine j_bipush (v := nI 22) C dX4_joyMark_22 rfl ?_
      refine j_callV C (mX4_leaves G M sz o S 22 (by first | omega | (simp only [tpS_n]; omega) | assumption)) pV.ret mset_o rfl 1 q1854 q1856 qs61 q73 q1857 (by decide +kernel) rfl (by decide) (by decide) (Nat.le_of_ble_eq_true rfl) rfl dX4_joyMark_24 (by omega) (by omega) (qV.k ?_)
      refine j_aload_n C dX4_joyMark_27 rfl 1 rfl ?_
      refine j_bipush (v := nI 21) C dX4_joyMark_28 rfl ?_
      refine j_callV C (mX4_leaves G M sz o (tpS S 22) 21 (by first | omega | (simp only [tpS_n]; omega) | assumption)) pV.ret mset_o rfl 1 q1854 q1856 qs61 q73 q1857 (by decide +kernel) rfl (by decide) (by decide) (Nat.le_of_ble_eq_true rfl) rfl dX4_joyMark_30 (by omega) (by omega) (qV.k ?_)
      refine j_aload_n C dX4_joyMark_33 rfl 1 rfl ?_
      refine j_bipush (v := nI 20) C dX4_joyMark_34 rfl ?_
      refine j_callV C (mX4_leaves G M sz o (tpS (tpS S 22) 21) 20 (by first | omega | (simp only [tpS_n]; omega) | assumption)) pV.ret mset_o rfl 1 q1854 q1856 qs61 q73 q1857 (by decide +kernel) rfl (by decide) (by decide) (Nat.le_of_ble_eq_true rfl) rfl dX4_joyMark_36 (by omega) (by omega) (qV.k ?_)
      refine j_iload_n C dX4_joyMark_39 rfl 2 rfl ?_
      refine j_aload_n C dX4_joyMark_40 rfl 1 rfl ?_
      refine mg13 C q1487 dX4_joyMark_41 ?_
      refine j_bipush (v := nI 7) C dX4_joyMark_44 rfl ?_
      refine j_iconst (v := nI 3) C dX4_joyMark_46 rfl ?_
      refine j_iload_n C dX4_joyMark_47 rfl 2 rfl ?_
      refine j_imulN C dX4_joyMark_48 ?_
      refine j_iaddN C dX4_joyMark_49 ?_
      refine j_iconst (v := nI 1) C dX4_joyMark_50 rfl ?_
      refine j_iaddN C dX4_joyMark_51 ?_
      refine ml6 C ((7 + (3 * c)) + 1) rfl (by first | omega | (simp only [tpS_n]; omega) | assumption) dX4_joyMark_52 (v := S.2.2.2 6 ((7 + (3 * c)) + 1)) rfl ?_
      refine j_iaddN C dX4_joyMark_53 ?_
      refine j_istore_n (lv' := [(3, .int (nI (c + (S.2.2.2 6 ((7 + (3 * c)) + 1))))), (2, .int (nI (S.2.2.2 6 (7 + 3 * c)))), (0, .ref o), (1, .int (nI c))]) C dX4_joyMark_54 rfl (by decide) rfl ?_
      refine j_iload_n C dX4_joyMark_55 rfl 1 rfl ?_
      refine j_iconst (v := nI 2) C dX4_joyMark_56 rfl ?_
      refine j_icmp_neN C 66 dX4_joyMark_57 (by decide) (by first | omega | (simp only [tpS_n]; omega) | assumption) (by first | omega | (simp only [tpS_n]; omega) | assumption) (fun c57 => ?_) (fun c57 => ?_)
      · refine j_iload_n C dX4_joyMark_66 rfl 1 rfl ?_
        refine j_iconst (v := nI 3) C dX4_joyMark_67 rfl ?_
        refine j_icmp_neN C 79 dX4_joyMark_68 (by decide) (by first | omega | (simp only [tpS_n]; omega) | assumption) (by first | omega | (simp only [tpS_n]; omega) | assumption) (fun c68 => ?_) (fun c68 => ?_)
        · refine j_iload_n C dX4_joyMark_79 rfl 0 rfl ?_
          exact j_iret C (by omega) (by omega) (by first | (exfalso; omega) | exact pI.mk ⟨by simp [jmV, jmS, c8, c14, c57, c68], by simp [jmV, jmS, c8, c14, c57, c68]⟩) dX4_joyMark_80
        · refine j_iload_n C dX4_joyMark_71 rfl 0 rfl ?_
          refine j_sipush (v := nI 1000) C dX4_joyMark_72 rfl ?_
          refine j_isub C dX4_joyMark_75 ?_
          refine j_goto C 80 dX4_joyMark_76 (by decide) ?_
          exact j_iret C (by omega) (by omega) (by first | (exfalso; omega) | exact pI.mk ⟨by simp [jmV, jmS, c8, c14, c57, c68], by simp [jmV, jmS, c8, c14, c57, c68]⟩) dX4_joyMark_80
      · refine j_iconst (v := nI 2) C dX4_joyMark_60 rfl ?_
        refine j_iload_n C dX4_joyMark_61 rfl 0 rfl ?_
        refine j_imulN C dX4_joyMark_62 ?_
        refine j_goto C 80 dX4_joyMark_63 (by decide) ?_
        exact j_iret C (by omega) (by omega) (by first | (exfalso; omega) | exact pI.mk ⟨by simp [jmV, jmS, c8, c14, c57], by simp [jmV, jmS, c8, c14, c57]⟩) dX4_joyMark_80
    · refine j_bipush (v := nI 24) C dX4_joyMark_17 rfl ?_
      refine j_goto C 24 dX4_joyMark_19 (by decide) ?_
      refine j_callV C (mX4_leaves G M sz o S 24 (by first | omega | (simp only [tpS_n]; omega) | assumption)) pV.ret mset_o rfl 1 q1854 q1856 qs61 q73 q1857 (by decide +kernel) rfl (by decide) (by decide) (Nat.le_of_ble_eq_true rfl) rfl dX4_joyMark_24 (by omega) (by omega) (qV.k ?_)
      refine j_aload_n C dX4_joyMark_27 rfl 1 rfl ?_
      refine j_bipush (v := nI 21) C dX4_joyMark_28 rfl ?_
      refine j_callV C (mX4_leaves G M sz o (tpS S 24) 21 (by first | omega | (simp only [tpS_n]; omega) | assumption)) pV.ret mset_o rfl 1 q1854 q1856 qs61 q73 q1857 (by decide +kernel) rfl (by decide) (by decide) (Nat.le_of_ble_eq_true rfl) rfl dX4_joyMark_30 (by omega) (by omega) (qV.k ?_)
      refine j_aload_n C dX4_joyMark_33 rfl 1 rfl ?_
      refine j_bipush (v := nI 20) C dX4_joyMark_34 rfl ?_
      refine j_callV C (mX4_leaves G M sz o (tpS (tpS S 24) 21) 20 (by first | omega | (simp only [tpS_n]; omega) | assumption)) pV.ret mset_o rfl 1 q1854 q1856 qs61 q73 q1857 (by decide +kernel) rfl (by decide) (by decide) (Nat.le_of_ble_eq_true rfl) rfl dX4_joyMark_36 (by omega) (by omega) (qV.k ?_)
      refine j_iload_n C dX4_joyMark_39 rfl 2 rfl ?_
      refine j_aload_n C dX4_joyMark_40 rfl 1 rfl ?_
      refine mg13 C q1487 dX4_joyMark_41 ?_
      refine j_bipush (v := nI 7) C dX4_joyMark_44 rfl ?_
      refine j_iconst (v := nI 3) C dX4_joyMark_46 rfl ?_
      refine j_iload_n C dX4_joyMark_47 rfl 2 rfl ?_
      refine j_imulN C dX4_joyMark_48 ?_
      refine j_iaddN C dX4_joyMark_49 ?_
      refine j_iconst (v := nI 1) C dX4_joyMark_50 rfl ?_
      refine j_iaddN C dX4_joyMark_51 ?_
      refine ml6 C ((7 + (3 * c)) + 1) rfl (by first | omega | (simp only [tpS_n]; omega) | assumption) dX4_joyMark_52 (v := S.2.2.2 6 ((7 + (3 * c)) + 1)) rfl ?_
      refine j_iaddN C dX4_joyMark_53 ?_
      refine j_istore_n (lv' := [(3, .int (nI (c + (S.2.2.2 6 ((7 + (3 * c)) + 1))))), (2, .int (nI (S.2.2.2 6 (7 + 3 * c)))), (0, .ref o), (1, .int (nI c))]) C dX4_joyMark_54 rfl (by decide) rfl ?_
      refine j_iload_n C dX4_joyMark_55 rfl 1 rfl ?_
      refine j_iconst (v := nI 2) C dX4_joyMark_56 rfl ?_
      refine j_icmp_neN C 66 dX4_joyMark_57 (by decide) (by first | omega | (simp only [tpS_n]; omega) | assumption) (by first | omega | (simp only [tpS_n]; omega) | assumption) (fun c57 => ?_) (fun c57 => ?_)
      · refine j_iload_n C dX4_joyMark_66 rfl 1 rfl ?_
        refine j_iconst (v := nI 3) C dX4_joyMark_67 rfl ?_
        refine j_icmp_neN C 79 dX4_joyMark_68 (by decide) (by first | omega | (simp only [tpS_n]; omega) | assumption) (by first | omega | (simp only [tpS_n]; omega) | assumption) (fun c68 => ?_) (fun c68 => ?_)
        · refine j_iload_n C dX4_joyMark_79 rfl 0 rfl ?_
          exact j_iret C (by omega) (by omega) (by first | (exfalso; omega) | exact pI.mk ⟨by simp [jmV, jmS, c8, c14, c57, c68], by simp [jmV, jmS, c8, c14, c57, c68]⟩) dX4_joyMark_80
        · refine j_iload_n C dX4_joyMark_71 rfl 0 rfl ?_
          refine j_sipush (v := nI 1000) C dX4_joyMark_72 rfl ?_
          refine j_isub C dX4_joyMark_75 ?_
          refine j_goto C 80 dX4_joyMark_76 (by decide) ?_
          exact j_iret C (by omega) (by omega) (by first | (exfalso; omega) | exact pI.mk ⟨by simp [jmV, jmS, c8, c14, c57, c68], by simp [jmV, jmS, c8, c14, c57, c68]⟩) dX4_joyMark_80
      · refine j_iconst (v := nI 2) C dX4_joyMark_60 rfl ?_
        refine j_iload_n C dX4_joyMark_61 rfl 0 rfl ?_
        refine j_imulN C dX4_joyMark_62 ?_
        refine j_goto C 80 dX4_joyMark_63 (by decide) ?_
        exact j_iret C (by omega) (by omega) (by first | (exfalso; omega) | exact pI.mk ⟨by simp [jmV, jmS, c8, c14, c57], by simp [jmV, jmS, c8, c14, c57]⟩) dX4_joyMark_80
set_option maxHeartbeats 1000000 in
theorem mX4_griefSize (G : gl_T) (M : Nat → Option (Nat × va_E)) (sz o : Nat) (S : ms_T) (c : Nat) (hc : c < 6) (hk : S.2.2.2 6 (7 + 3 * c) ≤ 5) (hu : S.2.2.2 6 (7 + 3 * c + 1) ≤ 9) (hf : S.2.2.2 6 (7 + 3 * c + 2) ≤ 9) (hn : S.2.1 31 + 3 ≤ 16) : Mt G yX4_griefSize cX4_griefSize 4 (some .int) 1 [.ref o, .int (nI c)] (mset G M o S, sz) (qI (gzV (S.2.2.2 6) c) (mset G M o (gzS S c), sz)) 0 0 := by
  refine Mt.start (by decide) (Nat.le_of_ble_eq_true rfl) (fun k C => ?_)
  have C : Cx G k cX4_griefSize "MoodFareModel" "griefSize" 4 (some .int) 1 0 0 _ := C
  refine j_aload_n C dX4_griefSize_0 rfl 0 rfl ?_
  refine j_iload_n C dX4_griefSize_1 rfl 1 rfl ?_
  refine j_callV C (mX4_kindIn G M sz o S c (by first | omega | (simp only [tpS_n]; omega) | assumption)) pI.ret mset_o rfl 1 q1838 q1840 qs59 q73 q1841 (by decide +kernel) rfl (by decide) (by decide) (Nat.le_of_ble_eq_true rfl) rfl dX4_griefSize_2 (by omega) (by omega) (qI.k ?_)
  refine j_iconst (v := nI 5) C dX4_griefSize_5 rfl ?_
  refine j_icmp_neN C 13 dX4_griefSize_6 (by decide) (by first | omega | (simp only [tpS_n]; omega) | assumption) (by first | omega | (simp only [tpS_n]; omega) | assumption) (fun c6 => ?_) (fun c6 => ?_)
  · refine j_iconst (v := nI 0) C dX4_griefSize_13 rfl ?_
    refine j_istore_n (lv' := [(2, .int (nI 0)), (0, .ref o), (1, .int (nI c))]) C dX4_griefSize_14 rfl (by decide) rfl ?_
    refine j_iload_n C dX4_griefSize_15 rfl 0 rfl ?_
    refine j_if_eqN C 25 dX4_griefSize_16 (by decide) (by first | omega | (simp only [tpS_n]; omega) | assumption) (fun c16 => ?_) (fun c16 => ?_)
    · refine j_aload_n C dX4_griefSize_25 rfl 1 rfl ?_
      refine j_bipush (v := nI 13) C dX4_griefSize_26 rfl ?_
      refine j_callV C (mX4_leaves G M sz o S 13 (by first | omega | (simp only [tpS_n]; omega) | assumption)) pV.ret mset_o rfl 1 q1854 q1856 qs61 q73 q1857 (by decide +kernel) rfl (by decide) (by decide) (Nat.le_of_ble_eq_true rfl) rfl dX4_griefSize_28 (by omega) (by omega) (qV.k ?_)
      refine j_aload_n C dX4_griefSize_31 rfl 1 rfl ?_
      refine j_bipush (v := nI 10) C dX4_griefSize_32 rfl ?_
      refine j_callV C (mX4_leaves G M sz o (tpS S 13) 10 (by first | omega | (simp only [tpS_n]; omega) | assumption)) pV.ret mset_o rfl 1 q1854 q1856 qs61 q73 q1857 (by decide +kernel) rfl (by decide) (by decide) (Nat.le_of_ble_eq_true rfl) rfl dX4_griefSize_34 (by omega) (by omega) (qV.k ?_)
      refine j_aload_n C dX4_griefSize_37 rfl 1 rfl ?_
      refine mg13 C q1487 dX4_griefSize_38 ?_
      refine j_bipush (v := nI 7) C dX4_griefSize_41 rfl ?_
      refine j_iconst (v := nI 3) C dX4_griefSize_43 rfl ?_
      refine j_iload_n C dX4_griefSize_44 rfl 2 rfl ?_
      refine j_imulN C dX4_griefSize_45 ?_
      refine j_iaddN C dX4_griefSize_46 ?_
      refine j_iconst (v := nI 2) C dX4_griefSize_47 rfl ?_
      refine j_iaddN C dX4_griefSize_48 ?_
      refine ml6 C ((7 + (3 * c)) + 2) rfl (by first | omega | (simp only [tpS_n]; omega) | assumption) dX4_griefSize_49 (v := S.2.2.2 6 ((7 + (3 * c)) + 2)) rfl ?_
      refine j_bipush (v := nI 100) C dX4_griefSize_50 rfl ?_
      refine j_isub C dX4_griefSize_52 ?_
      refine j_istore_n (lv' := [(3, .int (nI (S.2.2.2 6 ((7 + (3 * c)) + 2)) - nI 100)), (2, .int (nI 0)), (0, .ref o), (1, .int (nI c))]) C dX4_griefSize_53 rfl (by decide) rfl ?_
      refine j_iload_n C dX4_griefSize_54 rfl 1 rfl ?_
      refine j_if_eqN C 64 dX4_griefSize_55 (by decide) (by first | omega | (simp only [tpS_n]; omega) | assumption) (fun c55 => ?_) (fun c55 => ?_)
      · refine j_iload_n C dX4_griefSize_64 rfl 0 rfl ?_
        exact j_iret C (by omega) (by omega) (by first | (exfalso; omega) | exact pI.mk ⟨by simp [gzV, gzS, c6, c16, c55], by simp [gzV, gzS, c6, c16, c55]⟩) dX4_griefSize_65
      · exfalso; omega
    · exfalso; omega
  · refine j_iconst (v := nI 1) C dX4_griefSize_9 rfl ?_
    refine j_goto C 14 dX4_griefSize_10 (by decide) ?_
    refine j_istore_n (lv' := [(2, .int (nI 1)), (0, .ref o), (1, .int (nI c))]) C dX4_griefSize_14 rfl (by decide) rfl ?_
    refine j_iload_n C dX4_griefSize_15 rfl 0 rfl ?_
    refine j_if_eqN C 25 dX4_griefSize_16 (by decide) (by first | omega | (simp only [tpS_n]; omega) | assumption) (fun c16 => ?_) (fun c16 => ?_)
    · exfalso; omega
    · refine j_aload_n C dX4_griefSize_19 rfl 1 rfl ?_
      refine j_bipush (v := nI 14) C dX4_griefSize_20 rfl ?_
      refine j_callV C (mX4_leaves G M sz o S 14 (by first | omega | (simp only [tpS_n]; omega) | assumption)) pV.ret mset_o rfl 1 q1854 q1856 qs61 q73 q1857 (by decide +kernel) rfl (by decide) (by decide) (Nat.le_of_ble_eq_true rfl) rfl dX4_griefSize_22 (by omega) (by omega) (qV.k ?_)
      refine j_aload_n C dX4_griefSize_25 rfl 1 rfl ?_
      refine j_bipush (v := nI 13) C dX4_griefSize_26 rfl ?_
      refine j_callV C (mX4_leaves G M sz o (tpS S 14) 13 (by first | omega | (simp only [tpS_n]; omega) | assumption)) pV.ret mset_o rfl 1 q1854 q1856 qs61 q73 q1857 (by decide +kernel) rfl (by decide) (by decide) (Nat.le_of_ble_eq_true rfl) rfl dX4_griefSize_28 (by omega) (by omega) (qV.k ?_)
      refine j_aload_n C dX4_griefSize_31 rfl 1 rfl ?_
      refine j_bipush (v := nI 10) C dX4_griefSize_32 rfl ?_
      refine j_callV C (mX4_leaves G M sz o (tpS (tpS S 14) 13) 10 (by first | omega | (simp only [tpS_n]; omega) | assumption)) pV.ret mset_o rfl 1 q1854 q1856 qs61 q73 q1857 (by decide +kernel) rfl (by decide) (by decide) (Nat.le_of_ble_eq_true rfl) rfl dX4_griefSize_34 (by omega) (by omega) (qV.k ?_)
      refine j_aload_n C dX4_griefSize_37 rfl 1 rfl ?_
      refine mg13 C q1487 dX4_griefSize_38 ?_
      refine j_bipush (v := nI 7) C dX4_griefSize_41 rfl ?_
      refine j_iconst (v := nI 3) C dX4_griefSize_43 rfl ?_
      refine j_iload_n C dX4_griefSize_44 rfl 2 rfl ?_
      refine j_imulN C dX4_griefSize_45 ?_
      refine j_iaddN C dX4_griefSize_46 ?_
      refine j_iconst (v := nI 2) C dX4_griefSize_47 rfl ?_
      refine j_iaddN C dX4_griefSize_48 ?_
      refine ml6 C ((7 + (3 * c)) + 2) rfl (by first | omega | (simp only [tpS_n]; omega) | assumption) dX4_griefSize_49 (v := S.2.2.2 6 ((7 + (3 * c)) + 2)) rfl ?_
      refine j_bipush (v := nI 100) C dX4_griefSize_50 rfl ?_
      refine j_isub C dX4_griefSize_52 ?_
      refine j_istore_n (lv' := [(3, .int (nI (S.2.2.2 6 ((7 + (3 * c)) + 2)) - nI 100)), (2, .int (nI 1)), (0, .ref o), (1, .int (nI c))]) C dX4_griefSize_53 rfl (by decide) rfl ?_
      refine j_iload_n C dX4_griefSize_54 rfl 1 rfl ?_
      refine j_if_eqN C 64 dX4_griefSize_55 (by decide) (by first | omega | (simp only [tpS_n]; omega) | assumption) (fun c55 => ?_) (fun c55 => ?_)
      · exfalso; omega
      · refine j_iconst (v := nI 2) C dX4_griefSize_58 rfl ?_
        refine j_iload_n C dX4_griefSize_59 rfl 0 rfl ?_
        refine j_imul C dX4_griefSize_60 ?_
        refine j_goto C 65 dX4_griefSize_61 (by decide) ?_
        exact j_iret C (by omega) (by omega) (by first | (exfalso; omega) | exact pI.mk ⟨by simp [gzV, gzS, c6, c16, c55], by simp [gzV, gzS, c6, c16, c55]⟩) dX4_griefSize_65
set_option maxHeartbeats 1000000 in
theorem mX4_joySize (G : gl_T) (M : Nat → Option (Nat × va_E)) (sz o : Nat) (S : ms_T) (c : Nat) (hc : c < 6) (hk : S.2.2.2 6 (7 + 3 * c) ≤ 5) (hu : S.2.2.2 6 (7 + 3 * c + 1) ≤ 9) (hf : S.2.2.2 6 (7 + 3 * c + 2) ≤ 9) (hn : S.2.1 31 + 6 ≤ 16) : Mt G yX4_joySize cX4_joySize 4 (some .int) 2 [.ref o, .int (nI c)] (mset G M o S, sz) (qI (jzV (S.2.2.2 6) c) (mset G M o (jzS S c), sz)) 0 0 := by
  refine Mt.start (by decide) (Nat.le_of_ble_eq_true rfl) (fun k C => ?_)
  have C : Cx G k cX4_joySize "MoodFareModel" "joySize" 4 (some .int) 2 0 0 _ := C
  refine j_aload_n C dX4_joySize_0 rfl 0 rfl ?_
  refine j_iload_n C dX4_joySize_1 rfl 1 rfl ?_
  refine j_callV C (mX4_kindIn G M sz o S c (by first | omega | (simp only [tpS_n]; omega) | assumption)) pI.ret mset_o rfl 1 q1838 q1840 qs59 q73 q1841 (by decide +kernel) rfl (by decide) (by decide) (Nat.le_of_ble_eq_true rfl) rfl dX4_joySize_2 (by omega) (by omega) (qI.k ?_)
  refine j_iconst (v := nI 2) C dX4_joySize_5 rfl ?_
  refine j_icmp_neN C 13 dX4_joySize_6 (by decide) (by first | omega | (simp only [tpS_n]; omega) | assumption) (by first | omega | (simp only [tpS_n]; omega) | assumption) (fun c6 => ?_) (fun c6 => ?_)
  · refine j_iconst (v := nI 0) C dX4_joySize_13 rfl ?_
    refine j_istore_n (lv' := [(2, .int (nI 0)), (0, .ref o), (1, .int (nI c))]) C dX4_joySize_14 rfl (by decide) rfl ?_
    refine j_iload_n C dX4_joySize_15 rfl 0 rfl ?_
    refine j_if_eqN C 25 dX4_joySize_16 (by decide) (by first | omega | (simp only [tpS_n]; omega) | assumption) (fun c16 => ?_) (fun c16 => ?_)
    · refine j_aload_n C dX4_joySize_25 rfl 1 rfl ?_
      refine j_bipush (v := nI 11) C dX4_joySize_26 rfl ?_
      refine j_callV C (mX4_leaves G M sz o S 11 (by first | omega | (simp only [tpS_n]; omega) | assumption)) pV.ret mset_o rfl 1 q1854 q1856 qs61 q73 q1857 (by decide +kernel) rfl (by decide) (by decide) (Nat.le_of_ble_eq_true rfl) rfl dX4_joySize_28 (by omega) (by omega) (qV.k ?_)
      refine j_aload_n C dX4_joySize_31 rfl 1 rfl ?_
      refine j_bipush (v := nI 10) C dX4_joySize_32 rfl ?_
      refine j_callV C (mX4_leaves G M sz o (tpS S 11) 10 (by first | omega | (simp only [tpS_n]; omega) | assumption)) pV.ret mset_o rfl 1 q1854 q1856 qs61 q73 q1857 (by decide +kernel) rfl (by decide) (by decide) (Nat.le_of_ble_eq_true rfl) rfl dX4_joySize_34 (by omega) (by omega) (qV.k ?_)
      refine j_aload_n C dX4_joySize_37 rfl 1 rfl ?_
      refine mg13 C q1487 dX4_joySize_38 ?_
      refine j_bipush (v := nI 7) C dX4_joySize_41 rfl ?_
      refine j_iconst (v := nI 3) C dX4_joySize_43 rfl ?_
      refine j_iload_n C dX4_joySize_44 rfl 2 rfl ?_
      refine j_imulN C dX4_joySize_45 ?_
      refine j_iaddN C dX4_joySize_46 ?_
      refine j_iconst (v := nI 2) C dX4_joySize_47 rfl ?_
      refine j_iaddN C dX4_joySize_48 ?_
      refine ml6 C ((7 + (3 * c)) + 2) rfl (by first | omega | (simp only [tpS_n]; omega) | assumption) dX4_joySize_49 (v := S.2.2.2 6 ((7 + (3 * c)) + 2)) rfl ?_
      refine j_aload_n C dX4_joySize_50 rfl 1 rfl ?_
      refine j_iload_n C dX4_joySize_51 rfl 2 rfl ?_
      refine j_callV C (mX4_joyMark G M sz o (tpS (tpS S 11) 10) c (by first | omega | (simp only [tpS_n]; omega) | assumption) (by first | omega | (simp only [tpS_n]; omega) | assumption) (by first | omega | (simp only [tpS_n]; omega) | assumption) (by first | omega | (simp only [tpS_n]; omega) | assumption) (by first | omega | (simp only [tpS_n]; omega) | assumption)) pI.ret mset_o rfl 1 q1862 q1864 qs63 q73 q1865 (by decide +kernel) rfl (by decide) (by decide) (Nat.le_of_ble_eq_true rfl) rfl dX4_joySize_52 (by omega) (by omega) (qI.k ?_)
      refine j_as (y := jmV (S.2.2.2 6) c) rfl ?_
      refine j_iadd C dX4_joySize_55 ?_
      refine j_istore_n (lv' := [(3, .int ((nI (S.2.2.2 6 ((7 + (3 * c)) + 2))) + (jmV (S.2.2.2 6) c))), (2, .int (nI 0)), (0, .ref o), (1, .int (nI c))]) C dX4_joySize_56 rfl (by decide) rfl ?_
      refine j_iload_n C dX4_joySize_57 rfl 1 rfl ?_
      refine j_if_eqN C 66 dX4_joySize_58 (by decide) (by first | omega | (simp only [tpS_n]; omega) | assumption) (fun c58 => ?_) (fun c58 => ?_)
      · refine j_iload_n C dX4_joySize_66 rfl 0 rfl ?_
        exact j_iret C (by omega) (by omega) (by first | (exfalso; omega) | exact pI.mk ⟨by simp [jzV, jzS, c6, c16, c58], by simp [jzV, jzS, c6, c16, c58]⟩) dX4_joySize_67
      · exfalso; omega
    · exfalso; omega
  · refine j_iconst (v := nI 1) C dX4_joySize_9 rfl ?_
    refine j_goto C 14 dX4_joySize_10 (by decide) ?_
    refine j_istore_n (lv' := [(2, .int (nI 1)), (0, .ref o), (1, .int (nI c))]) C dX4_joySize_14 rfl (by decide) rfl ?_
    refine j_iload_n C dX4_joySize_15 rfl 0 rfl ?_
    refine j_if_eqN C 25 dX4_joySize_16 (by decide) (by first | omega | (simp only [tpS_n]; omega) | assumption) (fun c16 => ?_) (fun c16 => ?_)
    · exfalso; omega
    · refine j_aload_n C dX4_joySize_19 rfl 1 rfl ?_
      refine j_bipush (v := nI 12) C dX4_joySize_20 rfl ?_
      refine j_callV C (mX4_leaves G M sz o S 12 (by first | omega | (simp only [tpS_n]; omega) | assumption)) pV.ret mset_o rfl 1 q1854 q1856 qs61 q73 q1857 (by decide +kernel) rfl (by decide) (by decide) (Nat.le_of_ble_eq_true rfl) rfl dX4_joySize_22 (by omega) (by omega) (qV.k ?_)
      refine j_aload_n C dX4_joySize_25 rfl 1 rfl ?_
      refine j_bipush (v := nI 11) C dX4_joySize_26 rfl ?_
      refine j_callV C (mX4_leaves G M sz o (tpS S 12) 11 (by first | omega | (simp only [tpS_n]; omega) | assumption)) pV.ret mset_o rfl 1 q1854 q1856 qs61 q73 q1857 (by decide +kernel) rfl (by decide) (by decide) (Nat.le_of_ble_eq_true rfl) rfl dX4_joySize_28 (by omega) (by omega) (qV.k ?_)
      refine j_aload_n C dX4_joySize_31 rfl 1 rfl ?_
      refine j_bipush (v := nI 10) C dX4_joySize_32 rfl ?_
      refine j_callV C (mX4_leaves G M sz o (tpS (tpS S 12) 11) 10 (by first | omega | (simp only [tpS_n]; omega) | assumption)) pV.ret mset_o rfl 1 q1854 q1856 qs61 q73 q1857 (by decide +kernel) rfl (by decide) (by decide) (Nat.le_of_ble_eq_true rfl) rfl dX4_joySize_34 (by omega) (by omega) (qV.k ?_)
      refine j_aload_n C dX4_joySize_37 rfl 1 rfl ?_
      refine mg13 C q1487 dX4_joySize_38 ?_
      refine j_bipush (v := nI 7) C dX4_joySize_41 rfl ?_
      refine j_iconst (v := nI 3) C dX4_joySize_43 rfl ?_
      refine j_iload_n C dX4_joySize_44 rfl 2 rfl ?_
      refine j_imulN C dX4_joySize_45 ?_
      refine j_iaddN C dX4_joySize_46 ?_
      refine j_iconst (v := nI 2) C dX4_joySize_47 rfl ?_
      refine j_iaddN C dX4_joySize_48 ?_
      refine ml6 C ((7 + (3 * c)) + 2) rfl (by first | omega | (simp only [tpS_n]; omega) | assumption) dX4_joySize_49 (v := S.2.2.2 6 ((7 + (3 * c)) + 2)) rfl ?_
      refine j_aload_n C dX4_joySize_50 rfl 1 rfl ?_
      refine j_iload_n C dX4_joySize_51 rfl 2 rfl ?_
      refine j_callV C (mX4_joyMark G M sz o (tpS (tpS (tpS S 12) 11) 10) c (by first | omega | (simp only [tpS_n]; omega) | assumption) (by first | omega | (simp only [tpS_n]; omega) | assumption) (by first | omega | (simp only [tpS_n]; omega) | assumption) (by first | omega | (simp only [tpS_n]; omega) | assumption) (by first | omega | (simp only [tpS_n]; omega) | assumption)) pI.ret mset_o rfl 1 q1862 q1864 qs63 q73 q1865 (by decide +kernel) rfl (by decide) (by decide) (Nat.le_of_ble_eq_true rfl) rfl dX4_joySize_52 (by omega) (by omega) (qI.k ?_)
      refine j_as (y := jmV (S.2.2.2 6) c) rfl ?_
      refine j_iadd C dX4_joySize_55 ?_
      refine j_istore_n (lv' := [(3, .int ((nI (S.2.2.2 6 ((7 + (3 * c)) + 2))) + (jmV (S.2.2.2 6) c))), (2, .int (nI 1)), (0, .ref o), (1, .int (nI c))]) C dX4_joySize_56 rfl (by decide) rfl ?_
      refine j_iload_n C dX4_joySize_57 rfl 1 rfl ?_
      refine j_if_eqN C 66 dX4_joySize_58 (by decide) (by first | omega | (simp only [tpS_n]; omega) | assumption) (fun c58 => ?_) (fun c58 => ?_)
      · exfalso; omega
      · refine j_iload_n C dX4_joySize_61 rfl 0 rfl ?_
        refine j_ineg C dX4_joySize_62 ?_
        refine j_goto C 67 dX4_joySize_63 (by decide) ?_
        exact j_iret C (by omega) (by omega) (by first | (exfalso; omega) | exact pI.mk ⟨by simp [jzV, jzS, c6, c16, c58], by simp [jzV, jzS, c6, c16, c58]⟩) dX4_joySize_67
set_option maxHeartbeats 1000000 in
theorem mX4_griefMark (G : gl_T) (M : Nat → Option (Nat × va_E)) (sz o : Nat) (S : ms_T) (c : Nat) (hc : c < 6) (hk : S.2.2.2 6 (7 + 3 * c) ≤ 5) (hu : S.2.2.2 6 (7 + 3 * c + 1) ≤ 9) (hf : S.2.2.2 6 (7 + 3 * c + 2) ≤ 9) (hn : S.2.1 31 + 5 ≤ 16) : Mt G yX4_griefMark cX4_griefMark 2 (some .int) 2 [.ref o, .int (nI c)] (mset G M o S, sz) (qI (gmV (S.2.2.2 6) c) (mset G M o (gmS S c), sz)) 0 0 := by
  refine Mt.start (by decide) (Nat.le_of_ble_eq_true rfl) (fun k C => ?_)
  have C : Cx G k cX4_griefMark "MoodFareModel" "griefMark" 2 (some .int) 2 0 0 _ := C
  refine j_aload_n C dX4_griefMark_0 rfl 0 rfl ?_
  refine j_bipush (v := nI 23) C dX4_griefMark_1 rfl ?_
  refine j_callV C (mX4_leaves G M sz o S 23 (by first | omega | (simp only [tpS_n]; omega) | assumption)) pV.ret mset_o rfl 1 q1854 q1856 qs61 q73 q1857 (by decide +kernel) rfl (by decide) (by decide) (Nat.le_of_ble_eq_true rfl) rfl dX4_griefMark_3 (by omega) (by omega) (qV.k ?_)
  refine j_aload_n C dX4_griefMark_6 rfl 0 rfl ?_
  refine j_bipush (v := nI 20) C dX4_griefMark_7 rfl ?_
  refine j_callV C (mX4_leaves G M sz o (tpS S 23) 20 (by first | omega | (simp only [tpS_n]; omega) | assumption)) pV.ret mset_o rfl 1 q1854 q1856 qs61 q73 q1857 (by decide +kernel) rfl (by decide) (by decide) (Nat.le_of_ble_eq_true rfl) rfl dX4_griefMark_9 (by omega) (by omega) (qV.k ?_)
  refine j_iload_n C dX4_griefMark_12 rfl 1 rfl ?_
  refine j_aload_n C dX4_griefMark_13 rfl 0 rfl ?_
  refine j_iload_n C dX4_griefMark_14 rfl 1 rfl ?_
  refine j_callV C (mX4_griefSize G M sz o (tpS (tpS S 23) 20) c (by first | omega | (simp only [tpS_n]; omega) | assumption) (by first | omega | (simp only [tpS_n]; omega) | assumption) (by first | omega | (simp only [tpS_n]; omega) | assumption) (by first | omega | (simp only [tpS_n]; omega) | assumption) (by first | omega | (simp only [tpS_n]; omega) | assumption)) pI.ret mset_o rfl 1 q1850 q1852 qs60 q73 q1853 (by decide +kernel) rfl (by decide) (by decide) (Nat.le_of_ble_eq_true rfl) rfl dX4_griefMark_15 (by omega) (by omega) (qI.k ?_)
  refine j_as (y := gzV (S.2.2.2 6) c) rfl ?_
  refine j_isub C dX4_griefMark_18 ?_
  exact j_iret C (by omega) (by omega) (pI.mk ⟨rfl, rfl⟩) dX4_griefMark_19
set_option maxHeartbeats 1000000 in
theorem mX4_ask (G : gl_T) (M : Nat → Option (Nat × va_E)) (sz o : Nat) (S : ms_T) (x y : Int32) (ht : smT (S.2.2.2 6)) (P : Int32 → ms_T → Prop) (h1 : inB x (nI 0) (nI (S.2.2.2 6 6) - nI 1) = false ∨ inB y (nI 0) (nI 1) = false → P kBAD S) (g0 : ∀ j, x = nI j → j < S.2.2.2 6 6 → y = nI 0 → 4 ≤ S.2.2.2 6 (7 + 3 * j) → P (gzV (S.2.2.2 6) j) (gzS (sN S 31 0) j)) (g1 : ∀ j, x = nI j → j < S.2.2.2 6 6 → y = nI 0 → S.2.2.2 6 (7 + 3 * j) < 4 → P (jzV (S.2.2.2 6) j) (jzS (sN S 31 0) j)) (g2 : ∀ j, x = nI j → j < S.2.2.2 6 6 → y = nI 1 → 4 ≤ S.2.2.2 6 (7 + 3 * j) → P (gmV (S.2.2.2 6) j) (gmS (sN S 31 0) j)) (g3 : ∀ j, x = nI j → j < S.2.2.2 6 6 → y = nI 1 → S.2.2.2 6 (7 + 3 * j) < 4 → P (jmV (S.2.2.2 6) j) (jmS (sN S 31 0) j)) : Mt G yX4_ask cX4_ask 4 (some .int) 3 [.ref o, .int x, .int y] (mset G M o S, sz) (pM G M o sz P) 0 0 := by
  refine Mt.start (by decide) (Nat.le_of_ble_eq_true rfl) (fun k C => ?_)
  have C : Cx G k cX4_ask "MoodFareModel" "ask" 4 (some .int) 3 0 0 _ := C
  have ht0 := ht
  obtain ⟨r0, r1, r2, r3, r4, r5, r6, r7, r25, r26⟩ := ht
  refine j_aload_n C dX4_ask_0 rfl 0 rfl ?_
  refine j_iload_n C dX4_ask_1 rfl 1 rfl ?_
  refine j_callV C (mX4_isCorner G M sz o S x) pI.ret mset_o rfl 1 q1707 q1709 qs46 q73 q1710 (by decide +kernel) rfl (by decide) (by decide) (Nat.le_of_ble_eq_true rfl) rfl dX4_ask_2 (by omega) (by omega) (qI.k ?_)
  refine j_if_eqB C 17 dX4_ask_5 (by decide) (fun c5 => ?_) (fun c5 => ?_)
  · refine j_ldc C q1582 dX4_ask_17 ?_
    exact j_iret C (by omega) (by omega) (pM.mk (h1 (Or.inl c5))) dX4_ask_19
  · obtain ⟨j, rfl, hj⟩ := inB_p (by first | omega | (show (0 : Nat) + _ ≤ _; omega) | exact rj.1 | exact rj.2.1 | exact rj.2.2) c5
    have rj := r7 j (by omega)
    refine j_iload_n C dX4_ask_8 rfl 2 rfl ?_
    refine j_iconst (v := nI 0) C dX4_ask_9 rfl ?_
    refine j_iconst (v := nI 1) C dX4_ask_10 rfl ?_
    refine j_callS C (mX4_in G (mset G M o S, sz) y (nI 0) (nI 1)) pI.ret 3 q1579 q1580 q73 q1581 (by decide +kernel) rfl (by decide) (by decide) (Nat.le_of_ble_eq_true rfl) rfl dX4_ask_11 (by omega) (by omega) (qI.k ?_)
    refine j_if_neB C 20 dX4_ask_14 (by decide) (fun c14 => ?_) (fun c14 => ?_)
    · obtain ⟨u, rfl, -, hu⟩ := inB_n (by decide) c14 (by decide)
      refine j_aload_n C dX4_ask_20 rfl 0 rfl ?_
      refine j_iconst (v := nI 0) C dX4_ask_21 rfl ?_
      refine mp31 C q1505 dX4_ask_22 ?_
      refine j_aload_n C dX4_ask_25 rfl 0 rfl ?_
      refine j_iload_n C dX4_ask_26 rfl 1 rfl ?_
      refine j_callV C (mX4_kindIn G M sz o (sN S 31 0) j (by first | omega | (show (0 : Nat) + _ ≤ _; omega) | exact rj.1 | exact rj.2.1 | exact rj.2.2)) pI.ret mset_o rfl 1 q1838 q1840 qs59 q73 q1841 (by decide +kernel) rfl (by decide) (by decide) (Nat.le_of_ble_eq_true rfl) rfl dX4_ask_27 (by omega) (by omega) (qI.k ?_)
      refine j_as (y := nI (S.2.2.2 6 (7 + 3 * j))) rfl ?_
      refine j_iconst (v := nI 4) C dX4_ask_30 rfl ?_
      refine j_icmp_ltN C 38 dX4_ask_31 (by decide) (by first | omega | (show (0 : Nat) + _ ≤ _; omega) | exact rj.1 | exact rj.2.1 | exact rj.2.2) (by first | omega | (show (0 : Nat) + _ ≤ _; omega) | exact rj.1 | exact rj.2.1 | exact rj.2.2) (fun c31 => ?_) (fun c31 => ?_)
      · refine j_iconst (v := nI 0) C dX4_ask_38 rfl ?_
        refine j_istore_n (lv' := [(3, .int (nI 0)), (0, .ref o), (1, .int (nI j)), (2, .int (nI u))]) C dX4_ask_39 rfl (by decide) rfl ?_
        refine j_iload_n C dX4_ask_40 rfl 3 rfl ?_
        refine j_if_neN C 62 dX4_ask_41 (by decide) (by first | omega | (show (0 : Nat) + _ ≤ _; omega) | exact rj.1 | exact rj.2.1 | exact rj.2.2) (fun c41 => ?_) (fun c41 => ?_)
        · refine j_iload_n C dX4_ask_62 rfl 0 rfl ?_
          refine j_if_eqN C 74 dX4_ask_63 (by decide) (by first | omega | (show (0 : Nat) + _ ≤ _; omega) | exact rj.1 | exact rj.2.1 | exact rj.2.2) (fun c63 => ?_) (fun c63 => ?_)
          · refine j_aload_n C dX4_ask_74 rfl 1 rfl ?_
            refine j_iload_n C dX4_ask_75 rfl 2 rfl ?_
            refine j_callV C (mX4_joyMark G M sz o (sN S 31 0) j (by first | omega | (show (0 : Nat) + _ ≤ _; omega) | exact rj.1 | exact rj.2.1 | exact rj.2.2) (by first | omega | (show (0 : Nat) + _ ≤ _; omega) | exact rj.1 | exact rj.2.1 | exact rj.2.2) (by first | omega | (show (0 : Nat) + _ ≤ _; omega) | exact rj.1 | exact rj.2.1 | exact rj.2.2) (by first | omega | (show (0 : Nat) + _ ≤ _; omega) | exact rj.1 | exact rj.2.1 | exact rj.2.2) (by first | omega | (show (0 : Nat) + _ ≤ _; omega) | exact rj.1 | exact rj.2.1 | exact rj.2.2)) pI.ret mset_o rfl 1 q1862 q1864 qs63 q73 q1865 (by decide +kernel) rfl (by decide) (by decide) (Nat.le_of_ble_eq_true rfl) rfl dX4_ask_76 (by omega) (by omega) (qI.k ?_)
            refine j_as (y := jmV (S.2.2.2 6) j) rfl ?_
            exact j_iret C (by omega) (by omega) (pM.mk (g3 j rfl hj (by rw [show u = 1 by omega]) (by omega))) dX4_ask_79
          · exfalso; omega
        · refine j_iload_n C dX4_ask_44 rfl 0 rfl ?_
          refine j_if_eqN C 56 dX4_ask_45 (by decide) (by first | omega | (show (0 : Nat) + _ ≤ _; omega) | exact rj.1 | exact rj.2.1 | exact rj.2.2) (fun c45 => ?_) (fun c45 => ?_)
          · refine j_aload_n C dX4_ask_56 rfl 1 rfl ?_
            refine j_iload_n C dX4_ask_57 rfl 2 rfl ?_
            refine j_callV C (mX4_joySize G M sz o (sN S 31 0) j (by first | omega | (show (0 : Nat) + _ ≤ _; omega) | exact rj.1 | exact rj.2.1 | exact rj.2.2) (by first | omega | (show (0 : Nat) + _ ≤ _; omega) | exact rj.1 | exact rj.2.1 | exact rj.2.2) (by first | omega | (show (0 : Nat) + _ ≤ _; omega) | exact rj.1 | exact rj.2.1 | exact rj.2.2) (by first | omega | (show (0 : Nat) + _ ≤ _; omega) | exact rj.1 | exact rj.2.1 | exact rj.2.2) (by first | omega | (show (0 : Nat) + _ ≤ _; omega) | exact rj.1 | exact rj.2.1 | exact rj.2.2)) pI.ret mset_o rfl 1 q1858 q1860 qs62 q73 q1861 (by decide +kernel) rfl (by decide) (by decide) (Nat.le_of_ble_eq_true rfl) rfl dX4_ask_58 (by omega) (by omega) (qI.k ?_)
            refine j_as (y := jzV (S.2.2.2 6) j) rfl ?_
            exact j_iret C (by omega) (by omega) (pM.mk (g1 j rfl hj (by rw [show u = 0 by omega]) (by omega))) dX4_ask_61
          · exfalso; omega
      · refine j_iconst (v := nI 1) C dX4_ask_34 rfl ?_
        refine j_goto C 39 dX4_ask_35 (by decide) ?_
        refine j_istore_n (lv' := [(3, .int (nI 1)), (0, .ref o), (1, .int (nI j)), (2, .int (nI u))]) C dX4_ask_39 rfl (by decide) rfl ?_
        refine j_iload_n C dX4_ask_40 rfl 3 rfl ?_
        refine j_if_neN C 62 dX4_ask_41 (by decide) (by first | omega | (show (0 : Nat) + _ ≤ _; omega) | exact rj.1 | exact rj.2.1 | exact rj.2.2) (fun c41 => ?_) (fun c41 => ?_)
        · refine j_iload_n C dX4_ask_62 rfl 0 rfl ?_
          refine j_if_eqN C 74 dX4_ask_63 (by decide) (by first | omega | (show (0 : Nat) + _ ≤ _; omega) | exact rj.1 | exact rj.2.1 | exact rj.2.2) (fun c63 => ?_) (fun c63 => ?_)
          · exfalso; omega
          · refine j_aload_n C dX4_ask_66 rfl 1 rfl ?_
            refine j_iload_n C dX4_ask_67 rfl 2 rfl ?_
            refine j_callV C (mX4_griefMark G M sz o (sN S 31 0) j (by first | omega | (show (0 : Nat) + _ ≤ _; omega) | exact rj.1 | exact rj.2.1 | exact rj.2.2) (by first | omega | (show (0 : Nat) + _ ≤ _; omega) | exact rj.1 | exact rj.2.1 | exact rj.2.2) (by first | omega | (show (0 : Nat) + _ ≤ _; omega) | exact rj.1 | exact rj.2.1 | exact rj.2.2) (by first | omega | (show (0 : Nat) + _ ≤ _; omega) | exact rj.1 | exact rj.2.1 | exact rj.2.2) (by first | omega | (show (0 : Nat) + _ ≤ _; omega) | exact rj.1 | exact rj.2.1 | exact rj.2.2)) pI.ret mset_o rfl 1 q1866 q1868 qs64 q73 q1869 (by decide +kernel) rfl (by decide) (by decide) (Nat.le_of_ble_eq_true rfl) rfl dX4_ask_68 (by omega) (by omega) (qI.k ?_)
            refine j_as (y := gmV (S.2.2.2 6) j) rfl ?_
            refine j_goto C 79 dX4_ask_71 (by decide) ?_
            exact j_iret C (by omega) (by omega) (pM.mk (g2 j rfl hj (by rw [show u = 1 by omega]) (by omega))) dX4_ask_79
        · refine j_iload_n C dX4_ask_44 rfl 0 rfl ?_
          refine j_if_eqN C 56 dX4_ask_45 (by decide) (by first | omega | (show (0 : Nat) + _ ≤ _; omega) | exact rj.1 | exact rj.2.1 | exact rj.2.2) (fun c45 => ?_) (fun c45 => ?_)
          · exfalso; omega
          · refine j_aload_n C dX4_ask_48 rfl 1 rfl ?_
            refine j_iload_n C dX4_ask_49 rfl 2 rfl ?_
            refine j_callV C (mX4_griefSize G M sz o (sN S 31 0) j (by first | omega | (show (0 : Nat) + _ ≤ _; omega) | exact rj.1 | exact rj.2.1 | exact rj.2.2) (by first | omega | (show (0 : Nat) + _ ≤ _; omega) | exact rj.1 | exact rj.2.1 | exact rj.2.2) (by first | omega | (show (0 : Nat) + _ ≤ _; omega) | exact rj.1 | exact rj.2.1 | exact rj.2.2) (by first | omega | (show (0 : Nat) + _ ≤ _; omega) | exact rj.1 | exact rj.2.1 | exact rj.2.2) (by first | omega | (show (0 : Nat) + _ ≤ _; omega) | exact rj.1 | exact rj.2.1 | exact rj.2.2)) pI.ret mset_o rfl 1 q1850 q1852 qs60 q73 q1853 (by decide +kernel) rfl (by decide) (by decide) (Nat.le_of_ble_eq_true rfl) rfl dX4_ask_50 (by omega) (by omega) (qI.k ?_)
            refine j_as (y := gzV (S.2.2.2 6) j) rfl ?_
            refine j_goto C 61 dX4_ask_53 (by decide) ?_
            exact j_iret C (by omega) (by omega) (pM.mk (g0 j rfl hj (by rw [show u = 0 by omega]) (by omega))) dX4_ask_61
    · refine j_ldc C q1582 dX4_ask_17 ?_
      exact j_iret C (by omega) (by omega) (pM.mk (h1 (Or.inr c14))) dX4_ask_19
set_option maxHeartbeats 1000000 in
theorem mX4_count (G : gl_T) (M : Nat → Option (Nat × va_E)) (sz o : Nat) (S : ms_T) (x : Int32) (P : Int32 → ms_T → Prop) (h1 : inB x (nI 0) (nI 9) = false → P kBAD S) (g0 : x = nI 0 → P (nI (cntF (S.2.2.1 1) 8)) S) (g1 : x = nI 1 → P (nI (S.2.2.2 6 6)) S) (g2 : x = nI 2 → P (nI (S.2.2.2 6 25)) S) (g3 : x = nI 3 → P (nI (S.2.2.2 6 3)) S) (g4 : x = nI 4 → P (nI (S.2.2.2 6 4)) S) (g5 : x = nI 5 → P (nI (S.2.2.2 6 1)) S) (g6 : x = nI 6 → P (nI (S.2.1 17)) S) (g7 : x = nI 7 → P (nI (S.2.1 6)) S) (g8 : x = nI 8 → P (nI (S.2.2.2 6 2)) S) (g9 : x = nI 9 → P (nI (S.2.2.2 6 5)) S) : Mt G yX4_count cX4_count 4 (some .int) 1 [.ref o, .int x] (mset G M o S, sz) (pM G M o sz P) 0 0 := by
  refine Mt.start (by decide) (Nat.le_of_ble_eq_true rfl) (fun k C => ?_)
  have C : Cx G k cX4_count "MoodFareModel" "count" 4 (some .int) 1 0 0 _ := C
  refine j_iconst (v := nI 0) C dX4_count_0 rfl ?_
  refine j_istore_n (lv' := [(2, .int (nI 0)), (0, .ref o), (1, .int x)]) C dX4_count_1 rfl (by decide) rfl ?_
  refine j_iload_n C dX4_count_2 rfl 2 rfl ?_
  cases c3 : inB x (nI 0) (nI 9)
  case' true =>
    obtain ⟨y1, hy1e, y1l, y1h⟩ := inB_n (by decide) c3 (by decide)
    rcases (show y1 = 0 ∨ y1 = 1 ∨ y1 = 2 ∨ y1 = 3 ∨ y1 = 4 ∨ y1 = 5 ∨ y1 = 6 ∨ y1 = 7 ∨ y1 = 8 ∨ y1 = 9 by omega) with rfl | rfl | rfl | rfl | rfl | rfl | rfl | rfl | rfl | rfl
    · refine j_as (y := nI 0) hy1e ?_
      refine j_tableIn (off := 53) C 56 dX4_count_3 (by decide +kernel) (by decide +kernel) (by decide +kernel) (by decide) ?_
      refine j_iconst (v := nI 0) C dX4_count_56 rfl ?_
      refine j_istore_n (lv' := [(3, .int (nI 0)), (2, .int (nI 0)), (0, .ref o), (1, .int x)]) C dX4_count_57 rfl (by decide) rfl ?_
      have lp : ∀ (n_lp e : Nat), 0 ≤ e → e ≤ 8 → 8 < e + n_lp → J G k (mset G M o S, sz) [(3, .int (nI e)), (2, .int (nI (cntF (S.2.2.1 1) e))), (0, .ref o), (1, .int x)] 58 [] 0 0 := by
        intro n_lp
        induction n_lp with
        | zero => intro e h0_lp h1_lp h2_lp; omega
        | succ n_lp ih_lp =>
          intro e h0_lp h1_lp h2_lp
          refine j_iload_n C dX4_count_58 rfl 0 rfl ?_
          refine j_bipush (v := nI 8) C dX4_count_59 rfl ?_
          refine j_icmp_geN C 86 dX4_count_61 (by decide) (by omega) (by omega) (fun c61 => ?_) (fun c61 => ?_)
          · obtain rfl : 8 = e := by omega
            refine j_iload_n C dX4_count_86 rfl 1 rfl ?_
            exact j_iret C (by omega) (by omega) (pM.mk (g0 hy1e)) dX4_count_87
          · refine j_iload_n C dX4_count_64 rfl 1 rfl ?_
            refine j_aload_n C dX4_count_65 rfl 2 rfl ?_
            refine j_iload_n C dX4_count_66 rfl 0 rfl ?_
            refine j_callV C (mX4_isMissing G M sz o S e (by omega)) pI.ret mset_o rfl 1 q1596 q1598 qs32 q73 q1599 (by decide +kernel) rfl (by decide) (by decide) (Nat.le_of_ble_eq_true rfl) rfl dX4_count_67 (by omega) (by omega) (qI.k ?_)
            refine j_if_eqB C 77 dX4_count_70 (by decide) (fun c70 => ?_) (fun c70 => ?_)
            · refine j_iconst (v := nI 1) C dX4_count_77 rfl ?_
              refine j_iaddN C dX4_count_78 ?_
              refine j_istore_n (lv' := [(2, .int (nI ((cntF (S.2.2.1 1) e) + 1))), (3, .int (nI e)), (0, .ref o), (1, .int x)]) C dX4_count_79 rfl (by decide) rfl ?_
              refine j_iincN (lv' := [(3, .int (nI (e + 1))), (2, .int (nI ((cntF (S.2.2.1 1) e) + 1))), (0, .ref o), (1, .int x)]) C dX4_count_80 1 rfl (by decide) rfl ?_
              refine j_goto C 58 dX4_count_83 (by decide) ?_
              refine j_lv [0, 1, 2, 3] (lv' := [(3, .int (nI (e + 1))), (2, .int (nI ((cntF (S.2.2.1 1) e) + 1))), (0, .ref o), (1, .int x)]) rfl ?_
              refine j_lvN (lv' := [(3, .int (nI (e + 1))), (2, .int (nI (cntF (S.2.2.1 1) (e + 1)))), (0, .ref o), (1, .int x)]) 1 rfl (by simp only [cntF]; first | rw [if_pos (of_decide_eq_true c70)] | rw [if_neg (of_decide_eq_false c70)]) rfl ?_
              exact ih_lp (e + 1) (by omega) (by omega) (by omega)
            · refine j_iconst (v := nI 0) C dX4_count_73 rfl ?_
              refine j_goto C 78 dX4_count_74 (by decide) ?_
              refine j_iaddN C dX4_count_78 ?_
              refine j_istore_n (lv' := [(2, .int (nI ((cntF (S.2.2.1 1) e) + 0))), (3, .int (nI e)), (0, .ref o), (1, .int x)]) C dX4_count_79 rfl (by decide) rfl ?_
              refine j_iincN (lv' := [(3, .int (nI (e + 1))), (2, .int (nI ((cntF (S.2.2.1 1) e) + 0))), (0, .ref o), (1, .int x)]) C dX4_count_80 1 rfl (by decide) rfl ?_
              refine j_goto C 58 dX4_count_83 (by decide) ?_
              refine j_lv [0, 1, 2, 3] (lv' := [(3, .int (nI (e + 1))), (2, .int (nI ((cntF (S.2.2.1 1) e) + 0))), (0, .ref o), (1, .int x)]) rfl ?_
              refine j_lvN (lv' := [(3, .int (nI (e + 1))), (2, .int (nI (cntF (S.2.2.1 1) (e + 1)))), (0, .ref o), (1, .int x)]) 1 rfl (by simp only [cntF]; first | rw [if_pos (of_decide_eq_true c70)] | rw [if_neg (of_decide_eq_false c70)]) rfl ?_
              exact ih_lp (e + 1) (by omega) (by omega) (by omega)
      refine j_lv [0, 1, 2, 3] (lv' := [(3, .int (nI 0)), (2, .int (nI 0)), (0, .ref o), (1, .int x)]) rfl ?_
      refine j_lvN (lv' := [(3, .int (nI 0)), (2, .int (nI (cntF (S.2.2.1 1) 0))), (0, .ref o), (1, .int x)]) 1 rfl rfl rfl ?_
      exact lp (8 + 1 - 0) (0) (by omega) (by omega) (by omega)
    · refine j_as (y := nI 1) hy1e ?_
      refine j_tableIn (off := 85) C 88 dX4_count_3 (by decide +kernel) (by decide +kernel) (by decide +kernel) (by decide) ?_
      refine j_aload_n C dX4_count_88 rfl 1 rfl ?_
      refine mg13 C q1487 dX4_count_89 ?_
      refine j_bipush (v := nI 6) C dX4_count_92 rfl ?_
      refine ml6 C (6) rfl (by omega) dX4_count_94 (v := S.2.2.2 6 6) rfl ?_
      exact j_iret C (by omega) (by omega) (pM.mk (g1 hy1e)) dX4_count_95
    · refine j_as (y := nI 2) hy1e ?_
      refine j_tableIn (off := 93) C 96 dX4_count_3 (by decide +kernel) (by decide +kernel) (by decide +kernel) (by decide) ?_
      refine j_aload_n C dX4_count_96 rfl 1 rfl ?_
      refine mg13 C q1487 dX4_count_97 ?_
      refine j_bipush (v := nI 25) C dX4_count_100 rfl ?_
      refine ml6 C (25) rfl (by omega) dX4_count_102 (v := S.2.2.2 6 25) rfl ?_
      exact j_iret C (by omega) (by omega) (pM.mk (g2 hy1e)) dX4_count_103
    · refine j_as (y := nI 3) hy1e ?_
      refine j_tableIn (off := 101) C 104 dX4_count_3 (by decide +kernel) (by decide +kernel) (by decide +kernel) (by decide) ?_
      refine j_aload_n C dX4_count_104 rfl 1 rfl ?_
      refine mg13 C q1487 dX4_count_105 ?_
      refine j_iconst (v := nI 3) C dX4_count_108 rfl ?_
      refine ml6 C (3) rfl (by omega) dX4_count_109 (v := S.2.2.2 6 3) rfl ?_
      exact j_iret C (by omega) (by omega) (pM.mk (g3 hy1e)) dX4_count_110
    · refine j_as (y := nI 4) hy1e ?_
      refine j_tableIn (off := 108) C 111 dX4_count_3 (by decide +kernel) (by decide +kernel) (by decide +kernel) (by decide) ?_
      refine j_aload_n C dX4_count_111 rfl 1 rfl ?_
      refine mg13 C q1487 dX4_count_112 ?_
      refine j_iconst (v := nI 4) C dX4_count_115 rfl ?_
      refine ml6 C (4) rfl (by omega) dX4_count_116 (v := S.2.2.2 6 4) rfl ?_
      exact j_iret C (by omega) (by omega) (pM.mk (g4 hy1e)) dX4_count_117
    · refine j_as (y := nI 5) hy1e ?_
      refine j_tableIn (off := 115) C 118 dX4_count_3 (by decide +kernel) (by decide +kernel) (by decide +kernel) (by decide) ?_
      refine j_aload_n C dX4_count_118 rfl 1 rfl ?_
      refine mg13 C q1487 dX4_count_119 ?_
      refine j_iconst (v := nI 1) C dX4_count_122 rfl ?_
      refine ml6 C (1) rfl (by omega) dX4_count_123 (v := S.2.2.2 6 1) rfl ?_
      exact j_iret C (by omega) (by omega) (pM.mk (g5 hy1e)) dX4_count_124
    · refine j_as (y := nI 6) hy1e ?_
      refine j_tableIn (off := 122) C 125 dX4_count_3 (by decide +kernel) (by decide +kernel) (by decide +kernel) (by decide) ?_
      refine j_aload_n C dX4_count_125 rfl 1 rfl ?_
      refine mg17 C q1491 dX4_count_126 (v := S.2.1 17) rfl ?_
      exact j_iret C (by omega) (by omega) (pM.mk (g6 hy1e)) dX4_count_129
    · refine j_as (y := nI 7) hy1e ?_
      refine j_tableIn (off := 127) C 130 dX4_count_3 (by decide +kernel) (by decide +kernel) (by decide +kernel) (by decide) ?_
      refine j_aload_n C dX4_count_130 rfl 1 rfl ?_
      refine mg6 C q1480 dX4_count_131 (v := S.2.1 6) rfl ?_
      exact j_iret C (by omega) (by omega) (pM.mk (g7 hy1e)) dX4_count_134
    · refine j_as (y := nI 8) hy1e ?_
      refine j_tableIn (off := 132) C 135 dX4_count_3 (by decide +kernel) (by decide +kernel) (by decide +kernel) (by decide) ?_
      refine j_aload_n C dX4_count_135 rfl 1 rfl ?_
      refine mg13 C q1487 dX4_count_136 ?_
      refine j_iconst (v := nI 2) C dX4_count_139 rfl ?_
      refine ml6 C (2) rfl (by omega) dX4_count_140 (v := S.2.2.2 6 2) rfl ?_
      exact j_iret C (by omega) (by omega) (pM.mk (g8 hy1e)) dX4_count_141
    · refine j_as (y := nI 9) hy1e ?_
      refine j_tableIn (off := 139) C 142 dX4_count_3 (by decide +kernel) (by decide +kernel) (by decide +kernel) (by decide) ?_
      refine j_aload_n C dX4_count_142 rfl 1 rfl ?_
      refine mg13 C q1487 dX4_count_143 ?_
      refine j_iconst (v := nI 5) C dX4_count_146 rfl ?_
      refine ml6 C (5) rfl (by omega) dX4_count_147 (v := S.2.2.2 6 5) rfl ?_
      exact j_iret C (by omega) (by omega) (pM.mk (g9 hy1e)) dX4_count_148
  case' false =>
    refine j_tableOut C 149 dX4_count_3 (tsw_out (by decide) (by decide) c3) (by decide) ?_
    refine j_ldc C q1582 dX4_count_149 ?_
    exact j_iret C (by omega) (by omega) (pM.mk (h1 c3)) dX4_count_151
set_option maxHeartbeats 1000000 in
theorem mX4_bar (G : gl_T) (M : Nat → Option (Nat × va_E)) (sz o : Nat) (S : ms_T) (r q : Nat) (i j0 n : Int32) (hr : r < 8) (hq : q < 8) (P : Int32 → ms_T → Prop) (h1 : S.2.2.1 1 r = kNONE → P ((-1000010) - nI 1) (sN S 4 1)) (h2 : ¬ S.2.2.1 1 r = kNONE → partB (S.2.2.2 2 r) i n = false → P ((-1000010) - nI 2) (sN S 4 2)) (h3 : ¬ S.2.2.1 1 r = kNONE → partB (S.2.2.2 2 r) i n = true → S.2.2.1 1 q = kNONE → P ((-1000010) - nI 1) (sN S 4 1)) (h4 : ¬ S.2.2.1 1 r = kNONE → partB (S.2.2.2 2 r) i n = true → ¬ S.2.2.1 1 q = kNONE → partB (S.2.2.2 2 q) j0 n = false → P ((-1000010) - nI 2) (sN S 4 2)) (h5 : ¬ S.2.2.1 1 r = kNONE → partB (S.2.2.2 2 r) i n = true → ¬ S.2.2.1 1 q = kNONE → partB (S.2.2.2 2 q) j0 n = true → P (nI 0) S) : Mt G yX4_bar cX4_bar 6 (some .int) 1 [.ref o, .int (nI r), .int i, .int (nI q), .int j0, .int n] (mset G M o S, sz) (pM G M o sz P) 0 0 := by
  refine Mt.start (by decide) (Nat.le_of_ble_eq_true rfl) (fun k C => ?_)
  have C : Cx G k cX4_bar "MoodFareModel" "bar" 6 (some .int) 1 0 0 _ := C
  refine j_aload_n C dX4_bar_0 rfl 0 rfl ?_
  refine j_iload_n C dX4_bar_1 rfl 1 rfl ?_
  refine j_callV C (mX4_isMissing G M sz o S r (by omega)) pI.ret mset_o rfl 1 q1596 q1598 qs32 q73 q1599 (by decide +kernel) rfl (by decide) (by decide) (Nat.le_of_ble_eq_true rfl) rfl dX4_bar_2 (by omega) (by omega) (qI.k ?_)
  refine j_if_eqB C 14 dX4_bar_5 (by decide) (fun c5 => ?_) (fun c5 => ?_)
  · refine j_aload_n C dX4_bar_14 rfl 0 rfl ?_
    refine j_iload_n C dX4_bar_15 rfl 1 rfl ?_
    refine j_iload_n C dX4_bar_16 rfl 2 rfl ?_
    refine j_iload C dX4_bar_17 5 rfl ?_
    refine j_callV C (mX4_isPart G M sz o S r i n (by omega)) pI.ret mset_o rfl 3 q1607 q1609 qs33 q73 q1610 (by decide +kernel) rfl (by decide) (by decide) (Nat.le_of_ble_eq_true rfl) rfl dX4_bar_19 (by omega) (by omega) (qI.k ?_)
    refine j_if_neB C 31 dX4_bar_22 (by decide) (fun c22 => ?_) (fun c22 => ?_)
    · refine j_aload_n C dX4_bar_31 rfl 0 rfl ?_
      refine j_iload_n C dX4_bar_32 rfl 3 rfl ?_
      refine j_callV C (mX4_isMissing G M sz o S q (by omega)) pI.ret mset_o rfl 1 q1596 q1598 qs32 q73 q1599 (by decide +kernel) rfl (by decide) (by decide) (Nat.le_of_ble_eq_true rfl) rfl dX4_bar_33 (by omega) (by omega) (qI.k ?_)
      refine j_if_eqB C 45 dX4_bar_36 (by decide) (fun c36 => ?_) (fun c36 => ?_)
      · refine j_aload_n C dX4_bar_45 rfl 0 rfl ?_
        refine j_iload_n C dX4_bar_46 rfl 3 rfl ?_
        refine j_iload C dX4_bar_47 4 rfl ?_
        refine j_iload C dX4_bar_49 5 rfl ?_
        refine j_callV C (mX4_isPart G M sz o S q j0 n (by omega)) pI.ret mset_o rfl 3 q1607 q1609 qs33 q73 q1610 (by decide +kernel) rfl (by decide) (by decide) (Nat.le_of_ble_eq_true rfl) rfl dX4_bar_51 (by omega) (by omega) (qI.k ?_)
        refine j_if_eqB C 61 dX4_bar_54 (by decide) (fun c54 => ?_) (fun c54 => ?_)
        · refine j_aload_n C dX4_bar_61 rfl 0 rfl ?_
          refine j_iconst (v := nI 2) C dX4_bar_62 rfl ?_
          refine j_callV C (mX4_found G M sz o S 2) pI.ret mset_o rfl 1 q1583 q1585 qs30 q73 q1586 (by decide +kernel) rfl (by decide) (by decide) (Nat.le_of_ble_eq_true rfl) rfl dX4_bar_63 (by omega) (by omega) (qI.k ?_)
          exact j_iret C (by omega) (by omega) (pM.mk (h4 (of_decide_eq_false c5) c22 (of_decide_eq_false c36) c54)) dX4_bar_66
        · refine j_iconst (v := nI 0) C dX4_bar_57 rfl ?_
          refine j_goto C 66 dX4_bar_58 (by decide) ?_
          exact j_iret C (by omega) (by omega) (pM.mk (h5 (of_decide_eq_false c5) c22 (of_decide_eq_false c36) c54)) dX4_bar_66
      · refine j_aload_n C dX4_bar_39 rfl 0 rfl ?_
        refine j_iconst (v := nI 1) C dX4_bar_40 rfl ?_
        refine j_callV C (mX4_found G M sz o S 1) pI.ret mset_o rfl 1 q1583 q1585 qs30 q73 q1586 (by decide +kernel) rfl (by decide) (by decide) (Nat.le_of_ble_eq_true rfl) rfl dX4_bar_41 (by omega) (by omega) (qI.k ?_)
        exact j_iret C (by omega) (by omega) (pM.mk (h3 (of_decide_eq_false c5) c22 (of_decide_eq_true c36))) dX4_bar_44
    · refine j_aload_n C dX4_bar_25 rfl 0 rfl ?_
      refine j_iconst (v := nI 2) C dX4_bar_26 rfl ?_
      refine j_callV C (mX4_found G M sz o S 2) pI.ret mset_o rfl 1 q1583 q1585 qs30 q73 q1586 (by decide +kernel) rfl (by decide) (by decide) (Nat.le_of_ble_eq_true rfl) rfl dX4_bar_27 (by omega) (by omega) (qI.k ?_)
      exact j_iret C (by omega) (by omega) (pM.mk (h2 (of_decide_eq_false c5) c22)) dX4_bar_30
  · refine j_aload_n C dX4_bar_8 rfl 0 rfl ?_
    refine j_iconst (v := nI 1) C dX4_bar_9 rfl ?_
    refine j_callV C (mX4_found G M sz o S 1) pI.ret mset_o rfl 1 q1583 q1585 qs30 q73 q1586 (by decide +kernel) rfl (by decide) (by decide) (Nat.le_of_ble_eq_true rfl) rfl dX4_bar_10 (by omega) (by omega) (qI.k ?_)
    exact j_iret C (by omega) (by omega) (pM.mk (h1 (of_decide_eq_true c5))) dX4_bar_13
set_option maxHeartbeats 2000000 in
theorem mX4_goesSo (G : gl_T) (M : Nat → Option (Nat × va_E)) (sz o : Nat) (S : ms_T) (p f n : Nat) (ht : smT (S.2.2.2 8)) (h3 : S.2.2.2 8 3 + n ≤ 1100) (hp : p + n ≤ 320) (hf : f + n ≤ 320) : Mt G yX4_goesSo cX4_goesSo 7 (some .boolean) 3 [.ref o, .int (nI p), .int (nI f), .int (nI n)] (mset G M o S, sz) (qI (bZ (gsF (S.2.2.1 3) (S.2.2.2 8) p f n).1) (mset G M o (sB S 8 (gsF (S.2.2.1 3) (S.2.2.2 8) p f n).2), sz)) 0 0 := by
  refine Mt.start (by decide) (Nat.le_of_ble_eq_true rfl) (fun k C => ?_)
  have C : Cx G k cX4_goesSo "MoodFareModel" "goesSo" 7 (some .boolean) 3 0 0 _ := C
  refine j_iconst (v := nI 1) C dX4_goesSo_0 rfl ?_
  refine j_istore (lv' := [(4, .int (nI 1)), (0, .ref o), (1, .int (nI p)), (2, .int (nI f)), (3, .int (nI n))]) C dX4_goesSo_1 (by decide) rfl ?_
  refine j_iconst (v := nI 0) C dX4_goesSo_3 rfl ?_
  refine j_istore (lv' := [(5, .int (nI 0)), (4, .int (nI 1)), (0, .ref o), (1, .int (nI p)), (2, .int (nI f)), (3, .int (nI n))]) C dX4_goesSo_4 (by decide) rfl ?_
  have lp : ∀ (n_lp e : Nat), 0 ≤ e → e ≤ n → n < e + n_lp → (gsF (S.2.2.1 3) (S.2.2.2 8) p f e).1 = true → J G k (mset G M o (sB S 8 (gsF (S.2.2.1 3) (S.2.2.2 8) p f e).2), sz) [(5, .int (nI e)), (4, .int (nI 1)), (0, .ref o), (1, .int (nI p)), (2, .int (nI f)), (3, .int (nI n))] 6 [] 0 0 := by
    intro n_lp
    induction n_lp with
    | zero => intro e h0_lp h1_lp h2_lp; omega
    | succ n_lp ih_lp =>
      intro e h0_lp h1_lp h2_lp hI_lp
      refine j_iload C dX4_goesSo_6 0 rfl ?_
      refine j_iload_n C dX4_goesSo_8 rfl 5 rfl ?_
      refine j_icmp_geN C 118 dX4_goesSo_9 (by decide) (by first | omega | assumption | (intro z hz; have := r26 z hz; omega)) (by first | omega | assumption | (intro z hz; have := r26 z hz; omega)) (fun c9 => ?_) (fun c9 => ?_)
      · obtain rfl : n = e := by omega
        refine j_iload C dX4_goesSo_118 1 rfl ?_
        exact j_zret C (by decide +kernel) (by omega) (by omega) (pI.mk ⟨by rw [hI_lp]; rfl, rfl⟩) dX4_goesSo_120
      · obtain ⟨hsm, hs3⟩ := gsF_sm (it := S.2.2.1 3) (p := p) (f := f) ht e (by omega)
        have hsm0 := hsm
        obtain ⟨r0, r1, r2, r3, r4, r5, r6, r7, r25, r26⟩ := hsm
        refine j_iload C dX4_goesSo_12 1 rfl ?_
        refine j_if_eqN C 118 dX4_goesSo_14 (by decide) (by first | omega | assumption | (intro z hz; have := r26 z hz; omega)) (fun c14 => ?_) (fun c14 => ?_)
        · exfalso; omega
        · refine j_aload_n C dX4_goesSo_17 rfl 2 rfl ?_
          refine mg2 C q1476 dX4_goesSo_18 ?_
          refine j_iload_n C dX4_goesSo_21 rfl 4 rfl ?_
          refine j_iload C dX4_goesSo_22 0 rfl ?_
          refine j_iaddN C dX4_goesSo_24 ?_
          refine ml3 C (f + e) rfl (by first | omega | assumption | (intro z hz; have := r26 z hz; omega)) dX4_goesSo_25 (v := S.2.2.1 3 (f + e)) rfl ?_
          refine j_istore (lv' := [(6, .int (S.2.2.1 3 (f + e))), (5, .int (nI e)), (4, .int (nI 1)), (0, .ref o), (1, .int (nI p)), (2, .int (nI f)), (3, .int (nI n))]) C dX4_goesSo_26 (by decide) rfl ?_
          refine j_aload_n C dX4_goesSo_28 rfl 3 rfl ?_
          refine mg15 C q1489 dX4_goesSo_29 ?_
          refine j_iload C dX4_goesSo_32 0 rfl ?_
          refine j_aload_n C dX4_goesSo_34 rfl 3 rfl ?_
          refine mg15 C q1489 dX4_goesSo_35 ?_
          refine j_iconst (v := nI 4) C dX4_goesSo_38 rfl ?_
          refine ml8 C (4) rfl (by first | omega | assumption | (intro z hz; have := r26 z hz; omega)) dX4_goesSo_39 (v := ((gsF (S.2.2.1 3) (S.2.2.2 8) p f e).2) 4) rfl ?_
          refine j_callS C (mX4_goes G (mset G M o (sB S 8 (gsF (S.2.2.1 3) (S.2.2.2 8) p f e).2), sz) (o + 8) o ((gsF (S.2.2.1 3) (S.2.2.2 8) p f e).2) (S.2.2.1 3 (f + e)) (((gsF (S.2.2.1 3) (S.2.2.2 8) p f e).2) 4) (mset_a 8 (by decide) (by decide)) (by first | omega | assumption | (intro z hz; have := r26 z hz; omega)) (by first | omega | assumption | (intro z hz; have := r26 z hz; omega)) (by first | omega | assumption | (intro z hz; have := r26 z hz; omega)) (by first | omega | assumption | (intro z hz; have := r26 z hz; omega))) pI.ret 3 q1683 q1684 q73 q1685 (by decide +kernel) rfl (by decide) (by decide) (Nat.le_of_ble_eq_true rfl) rfl dX4_goesSo_40 (by omega) (by omega) (qI.k ?_)
          refine j_as (y := bZ (goB ((gsF (S.2.2.1 3) (S.2.2.2 8) p f e).2) (S.2.2.1 3 (f + e)) (((gsF (S.2.2.1 3) (S.2.2.2 8) p f e).2) 4))) rfl ?_
          refine j_if_eqB C 95 dX4_goesSo_43 (by decide) (fun c43 => ?_) (fun c43 => ?_)
          · refine j_iconst (v := nI 0) C dX4_goesSo_95 rfl ?_
            refine j_istore (lv' := [(4, .int (nI 0)), (6, .int (S.2.2.1 3 (f + e))), (5, .int (nI e)), (0, .ref o), (1, .int (nI p)), (2, .int (nI f)), (3, .int (nI n))]) C dX4_goesSo_96 (by decide) rfl ?_
            refine j_iload C dX4_goesSo_98 0 rfl ?_
            refine j_if_eqN C 112 dX4_goesSo_100 (by decide) (by first | omega | assumption | (intro z hz; have := r26 z hz; omega)) (fun c100 => ?_) (fun c100 => ?_)
            · refine j_iincN (lv' := [(5, .int (nI (e + 1))), (4, .int (nI 0)), (6, .int (S.2.2.1 3 (f + e))), (0, .ref o), (1, .int (nI p)), (2, .int (nI f)), (3, .int (nI n))]) C dX4_goesSo_112 2 rfl (by decide) rfl ?_
              refine j_goto C 6 dX4_goesSo_115 (by decide) ?_
              refine j_iload C dX4_goesSo_6 0 rfl ?_
              refine j_iload_n C dX4_goesSo_8 rfl 6 rfl ?_
              refine j_icmp_geN C 118 dX4_goesSo_9 (by decide) (by first | omega | assumption | (intro z hz; have := r26 z hz; omega)) (by first | omega | assumption | (intro z hz; have := r26 z hz; omega)) (fun c9 => ?_) (fun c9 => ?_)
              · refine j_iload C dX4_goesSo_118 1 rfl ?_
                exact j_zret C (by decide +kernel) (by omega) (by omega) (by have hf : gsF (S.2.2.1 3) (S.2.2.2 8) p f (e + 1) = (false, (gsF (S.2.2.1 3) (S.2.2.2 8) p f e).2) := (by rw [gsF_s]; simp [c43]); have hg := gsF_f (show (gsF (S.2.2.1 3) (S.2.2.2 8) p f (e + 1)).1 = false by rw [hf]) n (by omega); refine pI.mk ⟨by rw [hg]; rfl, by rw [hg, hf]⟩) dX4_goesSo_120
              · refine j_iload C dX4_goesSo_12 1 rfl ?_
                refine j_if_eqN C 118 dX4_goesSo_14 (by decide) (by first | omega | assumption | (intro z hz; have := r26 z hz; omega)) (fun c14 => ?_) (fun c14 => ?_)
                · refine j_iload C dX4_goesSo_118 1 rfl ?_
                  exact j_zret C (by decide +kernel) (by omega) (by omega) (by have hf : gsF (S.2.2.1 3) (S.2.2.2 8) p f (e + 1) = (false, (gsF (S.2.2.1 3) (S.2.2.2 8) p f e).2) := (by rw [gsF_s]; simp [c43]); have hg := gsF_f (show (gsF (S.2.2.1 3) (S.2.2.2 8) p f (e + 1)).1 = false by rw [hf]) n (by omega); refine pI.mk ⟨by rw [hg]; rfl, by rw [hg, hf]⟩) dX4_goesSo_120
                · exfalso; omega
            · exfalso; omega
          · obtain ⟨x, hx, hxl, hgo⟩ := goB_n (by omega) c43
            have hgb := c43
            rw [hx] at hgb
            have hx8 : x < 8 := by omega
            have rx := r26 x hx8
            have rc := r7 _ rx.2
            refine j_lvI (lv' := [(6, .int (nI x)), (5, .int (nI e)), (4, .int (nI 1)), (0, .ref o), (1, .int (nI p)), (2, .int (nI f)), (3, .int (nI n))]) 0 rfl hx rfl ?_
            refine j_aload_n C dX4_goesSo_46 rfl 3 rfl ?_
            refine mg15 C q1489 dX4_goesSo_47 ?_
            refine j_aload_n C dX4_goesSo_50 rfl 3 rfl ?_
            refine mg15 C q1489 dX4_goesSo_51 ?_
            refine j_bipush (v := nI 26) C dX4_goesSo_54 rfl ?_
            refine j_iconst (v := nI 2) C dX4_goesSo_56 rfl ?_
            refine j_iload C dX4_goesSo_57 0 rfl ?_
            refine j_imulN C dX4_goesSo_59 ?_
            refine j_iaddN C dX4_goesSo_60 ?_
            refine j_iconst (v := nI 1) C dX4_goesSo_61 rfl ?_
            refine j_iaddN C dX4_goesSo_62 ?_
            refine ml8 C ((26 + (2 * x)) + 1) rfl (by first | omega | assumption | (intro z hz; have := r26 z hz; omega)) dX4_goesSo_63 (v := ((gsF (S.2.2.1 3) (S.2.2.2 8) p f e).2) ((26 + (2 * x)) + 1)) rfl ?_
            refine j_aload_n C dX4_goesSo_64 rfl 3 rfl ?_
            refine mg15 C q1489 dX4_goesSo_65 ?_
            refine j_iconst (v := nI 1) C dX4_goesSo_68 rfl ?_
            refine ml8 C (1) rfl (by first | omega | assumption | (intro z hz; have := r26 z hz; omega)) dX4_goesSo_69 (v := ((gsF (S.2.2.1 3) (S.2.2.2 8) p f e).2) 1) rfl ?_
            refine j_aload_n C dX4_goesSo_70 rfl 3 rfl ?_
            refine mg15 C q1489 dX4_goesSo_71 ?_
            refine j_iconst (v := nI 3) C dX4_goesSo_74 rfl ?_
            refine ml8 C (3) rfl (by first | omega | assumption | (intro z hz; have := r26 z hz; omega)) dX4_goesSo_75 (v := ((gsF (S.2.2.1 3) (S.2.2.2 8) p f e).2) 3) rfl ?_
            refine j_callS C (mX4_cost G (mset G M o (sB S 8 (gsF (S.2.2.1 3) (S.2.2.2 8) p f e).2), sz) (o + 8) o ((gsF (S.2.2.1 3) (S.2.2.2 8) p f e).2) (((gsF (S.2.2.1 3) (S.2.2.2 8) p f e).2) ((26 + (2 * x)) + 1)) (((gsF (S.2.2.1 3) (S.2.2.2 8) p f e).2) 1) (((gsF (S.2.2.1 3) (S.2.2.2 8) p f e).2) 3) (mset_a 8 (by decide) (by decide)) (by first | omega | assumption | (intro z hz; have := r26 z hz; omega)) (by first | omega | assumption | (intro z hz; have := r26 z hz; omega)) (by first | omega | assumption | (intro z hz; have := r26 z hz; omega)) (by first | omega | assumption | (intro z hz; have := r26 z hz; omega)) (by first | omega | assumption | (intro z hz; have := r26 z hz; omega))) pI.ret 4 q1697 q1698 q73 q1699 (by decide +kernel) rfl (by decide) (by decide) (Nat.le_of_ble_eq_true rfl) rfl dX4_goesSo_76 (by omega) (by omega) (qI.k ?_)
            refine j_as (y := nI (csd ((gsF (S.2.2.1 3) (S.2.2.2 8) p f e).2) (((gsF (S.2.2.1 3) (S.2.2.2 8) p f e).2) ((26 + (2 * x)) + 1)) (((gsF (S.2.2.1 3) (S.2.2.2 8) p f e).2) 1) (((gsF (S.2.2.1 3) (S.2.2.2 8) p f e).2) 3))) rfl ?_
            refine j_aload_n C dX4_goesSo_79 rfl 3 rfl ?_
            refine mg2 C q1476 dX4_goesSo_80 ?_
            refine j_iload_n C dX4_goesSo_83 rfl 4 rfl ?_
            refine j_iload C dX4_goesSo_84 1 rfl ?_
            refine j_iaddN C dX4_goesSo_86 ?_
            refine ml3 C (p + e) rfl (by first | omega | assumption | (intro z hz; have := r26 z hz; omega)) dX4_goesSo_87 (v := S.2.2.1 3 (p + e)) rfl ?_
            refine j_icmp_ne C 95 dX4_goesSo_88 (by decide) (fun c88 => ?_) (fun c88 => ?_)
            · refine j_iconst (v := nI 0) C dX4_goesSo_95 rfl ?_
              refine j_istore (lv' := [(4, .int (nI 0)), (6, .int (nI x)), (5, .int (nI e)), (0, .ref o), (1, .int (nI p)), (2, .int (nI f)), (3, .int (nI n))]) C dX4_goesSo_96 (by decide) rfl ?_
              refine j_iload C dX4_goesSo_98 0 rfl ?_
              refine j_if_eqN C 112 dX4_goesSo_100 (by decide) (by first | omega | assumption | (intro z hz; have := r26 z hz; omega)) (fun c100 => ?_) (fun c100 => ?_)
              · refine j_iincN (lv' := [(5, .int (nI (e + 1))), (4, .int (nI 0)), (6, .int (nI x)), (0, .ref o), (1, .int (nI p)), (2, .int (nI f)), (3, .int (nI n))]) C dX4_goesSo_112 2 rfl (by decide) rfl ?_
                refine j_goto C 6 dX4_goesSo_115 (by decide) ?_
                refine j_iload C dX4_goesSo_6 0 rfl ?_
                refine j_iload_n C dX4_goesSo_8 rfl 6 rfl ?_
                refine j_icmp_geN C 118 dX4_goesSo_9 (by decide) (by first | omega | assumption | (intro z hz; have := r26 z hz; omega)) (by first | omega | assumption | (intro z hz; have := r26 z hz; omega)) (fun c9 => ?_) (fun c9 => ?_)
                · refine j_iload C dX4_goesSo_118 1 rfl ?_
                  exact j_zret C (by decide +kernel) (by omega) (by omega) (by have hf : gsF (S.2.2.1 3) (S.2.2.2 8) p f (e + 1) = (false, (gsF (S.2.2.1 3) (S.2.2.2 8) p f e).2) := (by rw [gsF_s]; simp [c88, hx, nI_clamp (show x < 2 ^ 31 by omega)]); have hg := gsF_f (show (gsF (S.2.2.1 3) (S.2.2.2 8) p f (e + 1)).1 = false by rw [hf]) n (by omega); refine pI.mk ⟨by rw [hg]; rfl, by rw [hg, hf]⟩) dX4_goesSo_120
                · refine j_iload C dX4_goesSo_12 1 rfl ?_
                  refine j_if_eqN C 118 dX4_goesSo_14 (by decide) (by first | omega | assumption | (intro z hz; have := r26 z hz; omega)) (fun c14 => ?_) (fun c14 => ?_)
                  · refine j_iload C dX4_goesSo_118 1 rfl ?_
                    exact j_zret C (by decide +kernel) (by omega) (by omega) (by have hf : gsF (S.2.2.1 3) (S.2.2.2 8) p f (e + 1) = (false, (gsF (S.2.2.1 3) (S.2.2.2 8) p f e).2) := (by rw [gsF_s]; simp [c88, hx, nI_clamp (show x < 2 ^ 31 by omega)]); have hg := gsF_f (show (gsF (S.2.2.1 3) (S.2.2.2 8) p f (e + 1)).1 = false by rw [hf]) n (by omega); refine pI.mk ⟨by rw [hg]; rfl, by rw [hg, hf]⟩) dX4_goesSo_120
                  · exfalso; omega
              · exfalso; omega
            · refine j_iconst (v := nI 1) C dX4_goesSo_91 rfl ?_
              refine j_goto C 96 dX4_goesSo_92 (by decide) ?_
              refine j_istore (lv' := [(4, .int (nI 1)), (6, .int (nI x)), (5, .int (nI e)), (0, .ref o), (1, .int (nI p)), (2, .int (nI f)), (3, .int (nI n))]) C dX4_goesSo_96 (by decide) rfl ?_
              refine j_iload C dX4_goesSo_98 0 rfl ?_
              refine j_if_eqN C 112 dX4_goesSo_100 (by decide) (by first | omega | assumption | (intro z hz; have := r26 z hz; omega)) (fun c100 => ?_) (fun c100 => ?_)
              · exfalso; omega
              · refine j_aload_n C dX4_goesSo_103 rfl 3 rfl ?_
                refine mg15 C q1489 dX4_goesSo_104 ?_
                refine j_iload C dX4_goesSo_107 1 rfl ?_
                refine j_callS C (mX4_rides G (mset G M o (sB S 8 (gsF (S.2.2.1 3) (S.2.2.2 8) p f e).2), sz) (o + 8) o ((gsF (S.2.2.1 3) (S.2.2.2 8) p f e).2) x (mset_a 8 (by decide) (by decide)) hsm0 (by first | omega | assumption | (intro z hz; have := r26 z hz; omega))) pV.ret 2 q1694 q1695 q73 q1696 (by decide +kernel) rfl (by decide) (by decide) (Nat.le_of_ble_eq_true rfl) rfl dX4_goesSo_109 (by omega) (by omega) (qV.k ?_)
                refine J.eq (w' := (mset G M o (sB (sB S 8 (gsF (S.2.2.1 3) (S.2.2.2 8) p f e).2) 8 (rdT ((gsF (S.2.2.1 3) (S.2.2.2 8) p f e).2) x)), sz)) ?_ (congrArg (fun z => (z, sz)) (mset_ua 8 (by decide) (by decide) (mfs_B _ _ _ _) rfl (mcon_B _ _ _))) rfl rfl
                refine j_iincN (lv' := [(5, .int (nI (e + 1))), (4, .int (nI 1)), (6, .int (nI x)), (0, .ref o), (1, .int (nI p)), (2, .int (nI f)), (3, .int (nI n))]) C dX4_goesSo_112 2 rfl (by decide) rfl ?_
                refine j_goto C 6 dX4_goesSo_115 (by decide) ?_
                refine j_lv [0, 1, 3, 4, 5, 6] (lv' := [(5, .int (nI (e + 1))), (4, .int (nI 1)), (0, .ref o), (1, .int (nI p)), (2, .int (nI f)), (3, .int (nI n))]) rfl ?_
                refine J.eq (w' := (mset G M o (sB S 8 (gsF (S.2.2.1 3) (S.2.2.2 8) p f (e + 1)).2), sz)) ?_ (by rw [gsF_s, hI_lp]; simp [hgb, c88, hx, nI_clamp (show x < 2 ^ 31 by omega), sB_sB]) rfl rfl
                exact ih_lp (e + 1) (by omega) (by omega) (by omega) (by rw [gsF_s, hI_lp]; simp [hgb, c88, hx, nI_clamp (show x < 2 ^ 31 by omega)])
  refine j_lv [0, 1, 2, 3, 4, 5] (lv' := [(5, .int (nI 0)), (4, .int (nI 1)), (0, .ref o), (1, .int (nI p)), (2, .int (nI f)), (3, .int (nI n))]) rfl ?_
  refine J.eq (w' := (mset G M o (sB S 8 (gsF (S.2.2.1 3) (S.2.2.2 8) p f 0).2), sz)) ?_ (by exact congrArg (fun z => (mset G M o z, sz)) (sB_self S 8).symm) rfl rfl
  exact lp (n + 1 - 0) (0) (by omega) (by omega) (by omega) (by rfl)
