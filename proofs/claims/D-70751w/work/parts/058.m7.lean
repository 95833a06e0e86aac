/-! ===== the reference: all rows of streets, judged ===== -/
set_option maxRecDepth 100000
set_option maxHeartbeats 4000000 in
theorem mX4_finds_lo (G : gl_T) (M : Nat → Option (Nat × va_E)) (sz o : Nat) (k : KX) (c op : Nat) (R : Nat × ms_T) (C : Cx G k cX4_finds "MoodFareModel" "finds" 5 none 4 0 0 (qV (mset G M o R.2, sz))) (hc : c < 2 ^ 31) : ∀ (n a : Nat) (S : ms_T) (d : Nat), dOK S d → S.2.1 28 ≤ 8 → rowsL 8 (jdC c) n (a, S) d = some R → J G k (mset G M o S, sz) [(0, .ref o), (1, .int (nI c)), (2, .int (nI op)), (3, .int (nI 1))] 19 [] 0 0 := by
  intro n
  induction n with
  | zero => intro a S d hO h28 hR; cases hR
  | succ n ih =>
    intro a S d hO h28 hR
    have hd8 := hO.2.1
    have ho := hO.2.2.2.2.2
    have hod := ho d (Nat.le_refl _)
    refine j_iload_n C dX4_finds_19 rfl 3 rfl ?_
    refine j_if_eqN C 118 dX4_finds_20 (by decide) (by first | omega | (have q1 := ho d (Nat.le_refl _); omega) | exact Nat.le_refl _) (fun c20 => ?_) (fun c20 => ?_)
    · exfalso; omega
    · refine j_aload_n C dX4_finds_23 rfl 0 rfl ?_
      refine mg27 C q1501 dX4_finds_24 (v := S.1 27) rfl ?_
      refine j_ldc C q1473 dX4_finds_27 ?_
      refine j_icmp_eq C 75 dX4_finds_29 (by decide) (fun c29 => ?_) (fun c29 => ?_)
      · refine j_iconst (v := nI 1) C dX4_finds_75 rfl ?_
        refine j_goto C 80 dX4_finds_76 (by decide) ?_
        refine j_istore (lv' := [(4, .int (nI 1)), (0, .ref o), (1, .int (nI c)), (2, .int (nI op)), (3, .int (nI 1))]) C dX4_finds_80 (by decide) rfl ?_
        refine j_aload_n C dX4_finds_82 rfl 1 rfl ?_
        refine mg23 C q1497 dX4_finds_83 ?_
        refine j_aload_n C dX4_finds_86 rfl 1 rfl ?_
        refine mg20 C q1494 dX4_finds_87 (v := nI d) hO.1 ?_
        refine ml14 C (d) rfl (by first | omega | (have q1 := ho d (Nat.le_refl _); omega) | exact Nat.le_refl _) dX4_finds_90 (v := S.2.2.2 14 d) rfl ?_
        refine j_iload_n C dX4_finds_91 rfl 2 rfl ?_
        refine j_icmp_neN C 108 dX4_finds_92 (by decide) (by first | omega | (have q1 := ho d (Nat.le_refl _); omega) | exact Nat.le_refl _) (by first | omega | (have q1 := ho d (Nat.le_refl _); omega) | exact Nat.le_refl _) (fun c92 => ?_) (fun c92 => ?_)
        · refine j_aload_n C dX4_finds_108 rfl 1 rfl ?_
          refine j_bipush (v := nI 8) C dX4_finds_109 rfl ?_
          refine j_callV C (mX4_goesOn G M sz o S 8 d (by first | omega | (have q1 := ho d (Nat.le_refl _); omega) | exact Nat.le_refl _) hO) pI.ret mset_o rfl 1 q1763 q1765 qs52 q73 q1766 (by decide +kernel) rfl (by decide) (by decide) (Nat.le_of_ble_eq_true rfl) rfl dX4_finds_111 (by omega) (by omega) (qI.k ?_)
          refine j_istore_n (lv' := [(3, .int (bZ ((gonS S 8 d).1))), (4, .int (nI 1)), (0, .ref o), (1, .int (nI c)), (2, .int (nI op))]) C dX4_finds_114 rfl (by decide) rfl ?_
          refine j_goto C 19 dX4_finds_115 (by decide) ?_
          have hj : jdC c (a, S) d = (a, S) := by simp [jdC, c29, c92] <;> omega
          cases hb : (gonS S 8 d).1
          case' true =>
            refine j_lvI (lv' := [(3, .int (nI 1)), (4, .int (nI 1)), (0, .ref o), (1, .int (nI c)), (2, .int (nI op))]) 0 rfl (show bZ true = nI 1 from rfl) rfl ?_
            obtain ⟨d', hO'⟩ := gonS_ok (by decide) (show dOK S d from hO) hb
            rw [rowsL_t (by decide) hj hb hO'] at hR
            refine j_lv [2, 3, 4, 0] (lv' := [(0, .ref o), (1, .int (nI c)), (2, .int (nI op)), (3, .int (nI 1))]) rfl ?_
            exact ih a _ d' hO' (gonS_28 _ _ _ h28) hR
          case' false =>
            refine j_lvI (lv' := [(3, .int (nI 0)), (4, .int (nI 1)), (0, .ref o), (1, .int (nI c)), (2, .int (nI op))]) 0 rfl (show bZ false = nI 0 from rfl) rfl ?_
            rw [rowsL_f (by decide) hj hb] at hR
            cases hR
            refine j_iload_n C dX4_finds_19 rfl 0 rfl ?_
            refine j_if_eqN C 118 dX4_finds_20 (by decide) (by first | omega | (have q1 := ho d (Nat.le_refl _); omega) | exact Nat.le_refl _) (fun c20 => ?_) (fun c20 => ?_)
            · exact j_vret C (by omega) (by omega) (pV.mk rfl) dX4_finds_118
            · exfalso; omega
        · refine j_iload C dX4_finds_95 0 rfl ?_
          refine j_if_eqN C 108 dX4_finds_97 (by decide) (by first | omega | (have q1 := ho d (Nat.le_refl _); omega) | exact Nat.le_refl _) (fun c97 => ?_) (fun c97 => ?_)
          · exfalso; omega
          · refine j_aload_n C dX4_finds_100 rfl 1 rfl ?_
            refine j_aload_n C dX4_finds_101 rfl 1 rfl ?_
            refine mg20 C q1494 dX4_finds_102 (v := nI d) hO.1 ?_
            refine j_callV C (mX4_keeps G M sz o S d (by first | omega | (have q1 := ho d (Nat.le_refl _); omega) | exact Nat.le_refl _)) pV.ret mset_o rfl 1 q1759 q1761 qs51 q73 q1762 (by decide +kernel) rfl (by decide) (by decide) (Nat.le_of_ble_eq_true rfl) rfl dX4_finds_105 (by omega) (by omega) (qV.k ?_)
            refine j_aload_n C dX4_finds_108 rfl 1 rfl ?_
            refine j_bipush (v := nI 8) C dX4_finds_109 rfl ?_
            refine j_callV C (mX4_goesOn G M sz o (kpsS S d) 8 d (by first | omega | (have q1 := ho d (Nat.le_refl _); omega) | exact Nat.le_refl _) hO) pI.ret mset_o rfl 1 q1763 q1765 qs52 q73 q1766 (by decide +kernel) rfl (by decide) (by decide) (Nat.le_of_ble_eq_true rfl) rfl dX4_finds_111 (by omega) (by omega) (qI.k ?_)
            refine j_istore_n (lv' := [(3, .int (bZ ((gonS (kpsS S d) 8 d).1))), (4, .int (nI 1)), (0, .ref o), (1, .int (nI c)), (2, .int (nI op))]) C dX4_finds_114 rfl (by decide) rfl ?_
            refine j_goto C 19 dX4_finds_115 (by decide) ?_
            have hj : jdC c (a, S) d = (a, (kpsS S d)) := by simp [jdC, c29, c92, c97] <;> omega
            cases hb : (gonS (kpsS S d) 8 d).1
            case' true =>
              refine j_lvI (lv' := [(3, .int (nI 1)), (4, .int (nI 1)), (0, .ref o), (1, .int (nI c)), (2, .int (nI op))]) 0 rfl (show bZ true = nI 1 from rfl) rfl ?_
              obtain ⟨d', hO'⟩ := gonS_ok (by decide) (show dOK (kpsS S d) d from hO) hb
              rw [rowsL_t (by decide) hj hb hO'] at hR
              refine j_lv [2, 3, 4, 0] (lv' := [(0, .ref o), (1, .int (nI c)), (2, .int (nI op)), (3, .int (nI 1))]) rfl ?_
              exact ih a _ d' hO' (gonS_28 _ _ _ hd8) hR
            case' false =>
              refine j_lvI (lv' := [(3, .int (nI 0)), (4, .int (nI 1)), (0, .ref o), (1, .int (nI c)), (2, .int (nI op))]) 0 rfl (show bZ false = nI 0 from rfl) rfl ?_
              rw [rowsL_f (by decide) hj hb] at hR
              cases hR
              refine j_iload_n C dX4_finds_19 rfl 0 rfl ?_
              refine j_if_eqN C 118 dX4_finds_20 (by decide) (by first | omega | (have q1 := ho d (Nat.le_refl _); omega) | exact Nat.le_refl _) (fun c20 => ?_) (fun c20 => ?_)
              · exact j_vret C (by omega) (by omega) (pV.mk rfl) dX4_finds_118
              · exfalso; omega
      · refine j_aload_n C dX4_finds_32 rfl 0 rfl ?_
        refine mg25 C q1499 dX4_finds_33 ?_
        refine j_aload_n C dX4_finds_36 rfl 0 rfl ?_
        refine mg20 C q1494 dX4_finds_37 (v := nI d) hO.1 ?_
        refine ml16 C (d) rfl (by first | omega | (have q1 := ho d (Nat.le_refl _); omega) | exact Nat.le_refl _) dX4_finds_40 (v := S.2.2.2 16 d) rfl ?_
        refine j_aload_n C dX4_finds_41 rfl 0 rfl ?_
        refine mg27 C q1501 dX4_finds_42 (v := S.1 27) rfl ?_
        refine j_icmp_lt C 75 dX4_finds_45 (by decide) (fun c45 => ?_) (fun c45 => ?_)
        · refine j_iconst (v := nI 1) C dX4_finds_75 rfl ?_
          refine j_goto C 80 dX4_finds_76 (by decide) ?_
          refine j_istore (lv' := [(4, .int (nI 1)), (0, .ref o), (1, .int (nI c)), (2, .int (nI op)), (3, .int (nI 1))]) C dX4_finds_80 (by decide) rfl ?_
          refine j_aload_n C dX4_finds_82 rfl 1 rfl ?_
          refine mg23 C q1497 dX4_finds_83 ?_
          refine j_aload_n C dX4_finds_86 rfl 1 rfl ?_
          refine mg20 C q1494 dX4_finds_87 (v := nI d) hO.1 ?_
          refine ml14 C (d) rfl (by first | omega | (have q1 := ho d (Nat.le_refl _); omega) | exact Nat.le_refl _) dX4_finds_90 (v := S.2.2.2 14 d) rfl ?_
          refine j_iload_n C dX4_finds_91 rfl 2 rfl ?_
          refine j_icmp_neN C 108 dX4_finds_92 (by decide) (by first | omega | (have q1 := ho d (Nat.le_refl _); omega) | exact Nat.le_refl _) (by first | omega | (have q1 := ho d (Nat.le_refl _); omega) | exact Nat.le_refl _) (fun c92 => ?_) (fun c92 => ?_)
          · refine j_aload_n C dX4_finds_108 rfl 1 rfl ?_
            refine j_bipush (v := nI 8) C dX4_finds_109 rfl ?_
            refine j_callV C (mX4_goesOn G M sz o S 8 d (by first | omega | (have q1 := ho d (Nat.le_refl _); omega) | exact Nat.le_refl _) hO) pI.ret mset_o rfl 1 q1763 q1765 qs52 q73 q1766 (by decide +kernel) rfl (by decide) (by decide) (Nat.le_of_ble_eq_true rfl) rfl dX4_finds_111 (by omega) (by omega) (qI.k ?_)
            refine j_istore_n (lv' := [(3, .int (bZ ((gonS S 8 d).1))), (4, .int (nI 1)), (0, .ref o), (1, .int (nI c)), (2, .int (nI op))]) C dX4_finds_114 rfl (by decide) rfl ?_
            refine j_goto C 19 dX4_finds_115 (by decide) ?_
            have hj : jdC c (a, S) d = (a, S) := by simp [jdC, c29, c45, c92] <;> omega
            cases hb : (gonS S 8 d).1
            case' true =>
              refine j_lvI (lv' := [(3, .int (nI 1)), (4, .int (nI 1)), (0, .ref o), (1, .int (nI c)), (2, .int (nI op))]) 0 rfl (show bZ true = nI 1 from rfl) rfl ?_
              obtain ⟨d', hO'⟩ := gonS_ok (by decide) (show dOK S d from hO) hb
              rw [rowsL_t (by decide) hj hb hO'] at hR
              refine j_lv [2, 3, 4, 0] (lv' := [(0, .ref o), (1, .int (nI c)), (2, .int (nI op)), (3, .int (nI 1))]) rfl ?_
              exact ih a _ d' hO' (gonS_28 _ _ _ h28) hR
            case' false =>
              refine j_lvI (lv' := [(3, .int (nI 0)), (4, .int (nI 1)), (0, .ref o), (1, .int (nI c)), (2, .int (nI op))]) 0 rfl (show bZ false = nI 0 from rfl) rfl ?_
              rw [rowsL_f (by decide) hj hb] at hR
              cases hR
              refine j_iload_n C dX4_finds_19 rfl 0 rfl ?_
              refine j_if_eqN C 118 dX4_finds_20 (by decide) (by first | omega | (have q1 := ho d (Nat.le_refl _); omega) | exact Nat.le_refl _) (fun c20 => ?_) (fun c20 => ?_)
              · exact j_vret C (by omega) (by omega) (pV.mk rfl) dX4_finds_118
              · exfalso; omega
          · refine j_iload C dX4_finds_95 0 rfl ?_
            refine j_if_eqN C 108 dX4_finds_97 (by decide) (by first | omega | (have q1 := ho d (Nat.le_refl _); omega) | exact Nat.le_refl _) (fun c97 => ?_) (fun c97 => ?_)
            · exfalso; omega
            · refine j_aload_n C dX4_finds_100 rfl 1 rfl ?_
              refine j_aload_n C dX4_finds_101 rfl 1 rfl ?_
              refine mg20 C q1494 dX4_finds_102 (v := nI d) hO.1 ?_
              refine j_callV C (mX4_keeps G M sz o S d (by first | omega | (have q1 := ho d (Nat.le_refl _); omega) | exact Nat.le_refl _)) pV.ret mset_o rfl 1 q1759 q1761 qs51 q73 q1762 (by decide +kernel) rfl (by decide) (by decide) (Nat.le_of_ble_eq_true rfl) rfl dX4_finds_105 (by omega) (by omega) (qV.k ?_)
              refine j_aload_n C dX4_finds_108 rfl 1 rfl ?_
              refine j_bipush (v := nI 8) C dX4_finds_109 rfl ?_
              refine j_callV C (mX4_goesOn G M sz o (kpsS S d) 8 d (by first | omega | (have q1 := ho d (Nat.le_refl _); omega) | exact Nat.le_refl _) hO) pI.ret mset_o rfl 1 q1763 q1765 qs52 q73 q1766 (by decide +kernel) rfl (by decide) (by decide) (Nat.le_of_ble_eq_true rfl) rfl dX4_finds_111 (by omega) (by omega) (qI.k ?_)
              refine j_istore_n (lv' := [(3, .int (bZ ((gonS (kpsS S d) 8 d).1))), (4, .int (nI 1)), (0, .ref o), (1, .int (nI c)), (2, .int (nI op))]) C dX4_finds_114 rfl (by decide) rfl ?_
              refine j_goto C 19 dX4_finds_115 (by decide) ?_
              have hj : jdC c (a, S) d = (a, (kpsS S d)) := by simp [jdC, c29, c45, c92, c97] <;> omega
              cases hb : (gonS (kpsS S d) 8 d).1
              case' true =>
                refine j_lvI (lv' := [(3, .int (nI 1)), (4, .int (nI 1)), (0, .ref o), (1, .int (nI c)), (2, .int (nI op))]) 0 rfl (show bZ true = nI 1 from rfl) rfl ?_
                obtain ⟨d', hO'⟩ := gonS_ok (by decide) (show dOK (kpsS S d) d from hO) hb
                rw [rowsL_t (by decide) hj hb hO'] at hR
                refine j_lv [2, 3, 4, 0] (lv' := [(0, .ref o), (1, .int (nI c)), (2, .int (nI op)), (3, .int (nI 1))]) rfl ?_
                exact ih a _ d' hO' (gonS_28 _ _ _ hd8) hR
              case' false =>
                refine j_lvI (lv' := [(3, .int (nI 0)), (4, .int (nI 1)), (0, .ref o), (1, .int (nI c)), (2, .int (nI op))]) 0 rfl (show bZ false = nI 0 from rfl) rfl ?_
                rw [rowsL_f (by decide) hj hb] at hR
                cases hR
                refine j_iload_n C dX4_finds_19 rfl 0 rfl ?_
                refine j_if_eqN C 118 dX4_finds_20 (by decide) (by first | omega | (have q1 := ho d (Nat.le_refl _); omega) | exact Nat.le_refl _) (fun c20 => ?_) (fun c20 => ?_)
                · exact j_vret C (by omega) (by omega) (pV.mk rfl) dX4_finds_118
                · exfalso; omega
        · refine j_aload_n C dX4_finds_48 rfl 0 rfl ?_
          refine mg25 C q1499 dX4_finds_49 ?_
          refine j_aload_n C dX4_finds_52 rfl 0 rfl ?_
          refine mg20 C q1494 dX4_finds_53 (v := nI d) hO.1 ?_
          refine ml16 C (d) rfl (by first | omega | (have q1 := ho d (Nat.le_refl _); omega) | exact Nat.le_refl _) dX4_finds_56 (v := S.2.2.2 16 d) rfl ?_
          refine j_aload_n C dX4_finds_57 rfl 0 rfl ?_
          refine mg27 C q1501 dX4_finds_58 (v := S.1 27) rfl ?_
          refine j_icmp_ne C 79 dX4_finds_61 (by decide) (fun c61 => ?_) (fun c61 => ?_)
          · refine j_iconst (v := nI 0) C dX4_finds_79 rfl ?_
            refine j_istore (lv' := [(4, .int (nI 0)), (0, .ref o), (1, .int (nI c)), (2, .int (nI op)), (3, .int (nI 1))]) C dX4_finds_80 (by decide) rfl ?_
            refine j_aload_n C dX4_finds_82 rfl 1 rfl ?_
            refine mg23 C q1497 dX4_finds_83 ?_
            refine j_aload_n C dX4_finds_86 rfl 1 rfl ?_
            refine mg20 C q1494 dX4_finds_87 (v := nI d) hO.1 ?_
            refine ml14 C (d) rfl (by first | omega | (have q1 := ho d (Nat.le_refl _); omega) | exact Nat.le_refl _) dX4_finds_90 (v := S.2.2.2 14 d) rfl ?_
            refine j_iload_n C dX4_finds_91 rfl 2 rfl ?_
            refine j_icmp_neN C 108 dX4_finds_92 (by decide) (by first | omega | (have q1 := ho d (Nat.le_refl _); omega) | exact Nat.le_refl _) (by first | omega | (have q1 := ho d (Nat.le_refl _); omega) | exact Nat.le_refl _) (fun c92 => ?_) (fun c92 => ?_)
            · refine j_aload_n C dX4_finds_108 rfl 1 rfl ?_
              refine j_bipush (v := nI 8) C dX4_finds_109 rfl ?_
              refine j_callV C (mX4_goesOn G M sz o S 8 d (by first | omega | (have q1 := ho d (Nat.le_refl _); omega) | exact Nat.le_refl _) hO) pI.ret mset_o rfl 1 q1763 q1765 qs52 q73 q1766 (by decide +kernel) rfl (by decide) (by decide) (Nat.le_of_ble_eq_true rfl) rfl dX4_finds_111 (by omega) (by omega) (qI.k ?_)
              refine j_istore_n (lv' := [(3, .int (bZ ((gonS S 8 d).1))), (4, .int (nI 0)), (0, .ref o), (1, .int (nI c)), (2, .int (nI op))]) C dX4_finds_114 rfl (by decide) rfl ?_
              refine j_goto C 19 dX4_finds_115 (by decide) ?_
              have hj : jdC c (a, S) d = (a, S) := by simp [jdC, c29, c45, c61, c92] <;> omega
              cases hb : (gonS S 8 d).1
              case' true =>
                refine j_lvI (lv' := [(3, .int (nI 1)), (4, .int (nI 0)), (0, .ref o), (1, .int (nI c)), (2, .int (nI op))]) 0 rfl (show bZ true = nI 1 from rfl) rfl ?_
                obtain ⟨d', hO'⟩ := gonS_ok (by decide) (show dOK S d from hO) hb
                rw [rowsL_t (by decide) hj hb hO'] at hR
                refine j_lv [2, 3, 4, 0] (lv' := [(0, .ref o), (1, .int (nI c)), (2, .int (nI op)), (3, .int (nI 1))]) rfl ?_
                exact ih a _ d' hO' (gonS_28 _ _ _ h28) hR
              case' false =>
                refine j_lvI (lv' := [(3, .int (nI 0)), (4, .int (nI 0)), (0, .ref o), (1, .int (nI c)), (2, .int (nI op))]) 0 rfl (show bZ false = nI 0 from rfl) rfl ?_
                rw [rowsL_f (by decide) hj hb] at hR
                cases hR
                refine j_iload_n C dX4_finds_19 rfl 0 rfl ?_
                refine j_if_eqN C 118 dX4_finds_20 (by decide) (by first | omega | (have q1 := ho d (Nat.le_refl _); omega) | exact Nat.le_refl _) (fun c20 => ?_) (fun c20 => ?_)
                · exact j_vret C (by omega) (by omega) (pV.mk rfl) dX4_finds_118
                · exfalso; omega
            · refine j_iload C dX4_finds_95 0 rfl ?_
              refine j_if_eqN C 108 dX4_finds_97 (by decide) (by first | omega | (have q1 := ho d (Nat.le_refl _); omega) | exact Nat.le_refl _) (fun c97 => ?_) (fun c97 => ?_)
              · refine j_aload_n C dX4_finds_108 rfl 1 rfl ?_
                refine j_bipush (v := nI 8) C dX4_finds_109 rfl ?_
                refine j_callV C (mX4_goesOn G M sz o S 8 d (by first | omega | (have q1 := ho d (Nat.le_refl _); omega) | exact Nat.le_refl _) hO) pI.ret mset_o rfl 1 q1763 q1765 qs52 q73 q1766 (by decide +kernel) rfl (by decide) (by decide) (Nat.le_of_ble_eq_true rfl) rfl dX4_finds_111 (by omega) (by omega) (qI.k ?_)
                refine j_istore_n (lv' := [(3, .int (bZ ((gonS S 8 d).1))), (4, .int (nI 0)), (0, .ref o), (1, .int (nI c)), (2, .int (nI op))]) C dX4_finds_114 rfl (by decide) rfl ?_
                refine j_goto C 19 dX4_finds_115 (by decide) ?_
                have hj : jdC c (a, S) d = (a, S) := by simp [jdC, c29, c45, c61, c92, c97] <;> omega
                cases hb : (gonS S 8 d).1
                case' true =>
                  refine j_lvI (lv' := [(3, .int (nI 1)), (4, .int (nI 0)), (0, .ref o), (1, .int (nI c)), (2, .int (nI op))]) 0 rfl (show bZ true = nI 1 from rfl) rfl ?_
                  obtain ⟨d', hO'⟩ := gonS_ok (by decide) (show dOK S d from hO) hb
                  rw [rowsL_t (by decide) hj hb hO'] at hR
                  refine j_lv [2, 3, 4, 0] (lv' := [(0, .ref o), (1, .int (nI c)), (2, .int (nI op)), (3, .int (nI 1))]) rfl ?_
                  exact ih a _ d' hO' (gonS_28 _ _ _ h28) hR
                case' false =>
                  refine j_lvI (lv' := [(3, .int (nI 0)), (4, .int (nI 0)), (0, .ref o), (1, .int (nI c)), (2, .int (nI op))]) 0 rfl (show bZ false = nI 0 from rfl) rfl ?_
                  rw [rowsL_f (by decide) hj hb] at hR
                  cases hR
                  refine j_iload_n C dX4_finds_19 rfl 0 rfl ?_
                  refine j_if_eqN C 118 dX4_finds_20 (by decide) (by first | omega | (have q1 := ho d (Nat.le_refl _); omega) | exact Nat.le_refl _) (fun c20 => ?_) (fun c20 => ?_)
                  · exact j_vret C (by omega) (by omega) (pV.mk rfl) dX4_finds_118
                  · exfalso; omega
              · exfalso; omega
          · refine j_aload_n C dX4_finds_64 rfl 0 rfl ?_
            refine mg20 C q1494 dX4_finds_65 (v := nI d) hO.1 ?_
            refine j_aload_n C dX4_finds_68 rfl 0 rfl ?_
            refine mg28 C q1502 dX4_finds_69 (v := S.2.1 28) rfl ?_
            refine j_icmp_geN C 79 dX4_finds_72 (by decide) (by first | omega | (have q1 := ho d (Nat.le_refl _); omega) | exact Nat.le_refl _) (by first | omega | (have q1 := ho d (Nat.le_refl _); omega) | exact Nat.le_refl _) (fun c72 => ?_) (fun c72 => ?_)
            · refine j_iconst (v := nI 0) C dX4_finds_79 rfl ?_
              refine j_istore (lv' := [(4, .int (nI 0)), (0, .ref o), (1, .int (nI c)), (2, .int (nI op)), (3, .int (nI 1))]) C dX4_finds_80 (by decide) rfl ?_
              refine j_aload_n C dX4_finds_82 rfl 1 rfl ?_
              refine mg23 C q1497 dX4_finds_83 ?_
              refine j_aload_n C dX4_finds_86 rfl 1 rfl ?_
              refine mg20 C q1494 dX4_finds_87 (v := nI d) hO.1 ?_
              refine ml14 C (d) rfl (by first | omega | (have q1 := ho d (Nat.le_refl _); omega) | exact Nat.le_refl _) dX4_finds_90 (v := S.2.2.2 14 d) rfl ?_
              refine j_iload_n C dX4_finds_91 rfl 2 rfl ?_
              refine j_icmp_neN C 108 dX4_finds_92 (by decide) (by first | omega | (have q1 := ho d (Nat.le_refl _); omega) | exact Nat.le_refl _) (by first | omega | (have q1 := ho d (Nat.le_refl _); omega) | exact Nat.le_refl _) (fun c92 => ?_) (fun c92 => ?_)
              · refine j_aload_n C dX4_finds_108 rfl 1 rfl ?_
                refine j_bipush (v := nI 8) C dX4_finds_109 rfl ?_
                refine j_callV C (mX4_goesOn G M sz o S 8 d (by first | omega | (have q1 := ho d (Nat.le_refl _); omega) | exact Nat.le_refl _) hO) pI.ret mset_o rfl 1 q1763 q1765 qs52 q73 q1766 (by decide +kernel) rfl (by decide) (by decide) (Nat.le_of_ble_eq_true rfl) rfl dX4_finds_111 (by omega) (by omega) (qI.k ?_)
                refine j_istore_n (lv' := [(3, .int (bZ ((gonS S 8 d).1))), (4, .int (nI 0)), (0, .ref o), (1, .int (nI c)), (2, .int (nI op))]) C dX4_finds_114 rfl (by decide) rfl ?_
                refine j_goto C 19 dX4_finds_115 (by decide) ?_
                have hj : jdC c (a, S) d = (a, S) := by simp [jdC, c29, c45, c61, c72, c92] <;> omega
                cases hb : (gonS S 8 d).1
                case' true =>
                  refine j_lvI (lv' := [(3, .int (nI 1)), (4, .int (nI 0)), (0, .ref o), (1, .int (nI c)), (2, .int (nI op))]) 0 rfl (show bZ true = nI 1 from rfl) rfl ?_
                  obtain ⟨d', hO'⟩ := gonS_ok (by decide) (show dOK S d from hO) hb
                  rw [rowsL_t (by decide) hj hb hO'] at hR
                  refine j_lv [2, 3, 4, 0] (lv' := [(0, .ref o), (1, .int (nI c)), (2, .int (nI op)), (3, .int (nI 1))]) rfl ?_
                  exact ih a _ d' hO' (gonS_28 _ _ _ h28) hR
                case' false =>
                  refine j_lvI (lv' := [(3, .int (nI 0)), (4, .int (nI 0)), (0, .ref o), (1, .int (nI c)), (2, .int (nI op))]) 0 rfl (show bZ false = nI 0 from rfl) rfl ?_
                  rw [rowsL_f (by decide) hj hb] at hR
                  cases hR
                  refine j_iload_n C dX4_finds_19 rfl 0 rfl ?_
                  refine j_if_eqN C 118 dX4_finds_20 (by decide) (by first | omega | (have q1 := ho d (Nat.le_refl _); omega) | exact Nat.le_refl _) (fun c20 => ?_) (fun c20 => ?_)
                  · exact j_vret C (by omega) (by omega) (pV.mk rfl) dX4_finds_118
                  · exfalso; omega
              · refine j_iload C dX4_finds_95 0 rfl ?_
                refine j_if_eqN C 108 dX4_finds_97 (by decide) (by first | omega | (have q1 := ho d (Nat.le_refl _); omega) | exact Nat.le_refl _) (fun c97 => ?_) (fun c97 => ?_)
                · refine j_aload_n C dX4_finds_108 rfl 1 rfl ?_
                  refine j_bipush (v := nI 8) C dX4_finds_109 rfl ?_
                  refine j_callV C (mX4_goesOn G M sz o S 8 d (by first | omega | (have q1 := ho d (Nat.le_refl _); omega) | exact Nat.le_refl _) hO) pI.ret mset_o rfl 1 q1763 q1765 qs52 q73 q1766 (by decide +kernel) rfl (by decide) (by decide) (Nat.le_of_ble_eq_true rfl) rfl dX4_finds_111 (by omega) (by omega) (qI.k ?_)
                  refine j_istore_n (lv' := [(3, .int (bZ ((gonS S 8 d).1))), (4, .int (nI 0)), (0, .ref o), (1, .int (nI c)), (2, .int (nI op))]) C dX4_finds_114 rfl (by decide) rfl ?_
                  refine j_goto C 19 dX4_finds_115 (by decide) ?_
                  have hj : jdC c (a, S) d = (a, S) := by simp [jdC, c29, c45, c61, c72, c92, c97] <;> omega
                  cases hb : (gonS S 8 d).1
                  case' true =>
                    refine j_lvI (lv' := [(3, .int (nI 1)), (4, .int (nI 0)), (0, .ref o), (1, .int (nI c)), (2, .int (nI op))]) 0 rfl (show bZ true = nI 1 from rfl) rfl ?_
                    obtain ⟨d', hO'⟩ := gonS_ok (by decide) (show dOK S d from hO) hb
                    rw [rowsL_t (by decide) hj hb hO'] at hR
                    refine j_lv [2, 3, 4, 0] (lv' := [(0, .ref o), (1, .int (nI c)), (2, .int (nI op)), (3, .int (nI 1))]) rfl ?_
                    exact ih a _ d' hO' (gonS_28 _ _ _ h28) hR
                  case' false =>
                    refine j_lvI (lv' := [(3, .int (nI 0)), (4, .int (nI 0)), (0, .ref o), (1, .int (nI c)), (2, .int (nI op))]) 0 rfl (show bZ false = nI 0 from rfl) rfl ?_
                    rw [rowsL_f (by decide) hj hb] at hR
                    cases hR
                    refine j_iload_n C dX4_finds_19 rfl 0 rfl ?_
                    refine j_if_eqN C 118 dX4_finds_20 (by decide) (by first | omega | (have q1 := ho d (Nat.le_refl _); omega) | exact Nat.le_refl _) (fun c20 => ?_) (fun c20 => ?_)
                    · exact j_vret C (by omega) (by omega) (pV.mk rfl) dX4_finds_118
                    · exfalso; omega
                · exfalso; omega
            · refine j_iconst (v := nI 1) C dX4_finds_75 rfl ?_
              refine j_goto C 80 dX4_finds_76 (by decide) ?_
              refine j_istore (lv' := [(4, .int (nI 1)), (0, .ref o), (1, .int (nI c)), (2, .int (nI op)), (3, .int (nI 1))]) C dX4_finds_80 (by decide) rfl ?_
              refine j_aload_n C dX4_finds_82 rfl 1 rfl ?_
              refine mg23 C q1497 dX4_finds_83 ?_
              refine j_aload_n C dX4_finds_86 rfl 1 rfl ?_
              refine mg20 C q1494 dX4_finds_87 (v := nI d) hO.1 ?_
              refine ml14 C (d) rfl (by first | omega | (have q1 := ho d (Nat.le_refl _); omega) | exact Nat.le_refl _) dX4_finds_90 (v := S.2.2.2 14 d) rfl ?_
              refine j_iload_n C dX4_finds_91 rfl 2 rfl ?_
              refine j_icmp_neN C 108 dX4_finds_92 (by decide) (by first | omega | (have q1 := ho d (Nat.le_refl _); omega) | exact Nat.le_refl _) (by first | omega | (have q1 := ho d (Nat.le_refl _); omega) | exact Nat.le_refl _) (fun c92 => ?_) (fun c92 => ?_)
              · refine j_aload_n C dX4_finds_108 rfl 1 rfl ?_
                refine j_bipush (v := nI 8) C dX4_finds_109 rfl ?_
                refine j_callV C (mX4_goesOn G M sz o S 8 d (by first | omega | (have q1 := ho d (Nat.le_refl _); omega) | exact Nat.le_refl _) hO) pI.ret mset_o rfl 1 q1763 q1765 qs52 q73 q1766 (by decide +kernel) rfl (by decide) (by decide) (Nat.le_of_ble_eq_true rfl) rfl dX4_finds_111 (by omega) (by omega) (qI.k ?_)
                refine j_istore_n (lv' := [(3, .int (bZ ((gonS S 8 d).1))), (4, .int (nI 1)), (0, .ref o), (1, .int (nI c)), (2, .int (nI op))]) C dX4_finds_114 rfl (by decide) rfl ?_
                refine j_goto C 19 dX4_finds_115 (by decide) ?_
                have hj : jdC c (a, S) d = (a, S) := by simp [jdC, c29, c45, c61, c72, c92] <;> omega
                cases hb : (gonS S 8 d).1
                case' true =>
                  refine j_lvI (lv' := [(3, .int (nI 1)), (4, .int (nI 1)), (0, .ref o), (1, .int (nI c)), (2, .int (nI op))]) 0 rfl (show bZ true = nI 1 from rfl) rfl ?_
                  obtain ⟨d', hO'⟩ := gonS_ok (by decide) (show dOK S d from hO) hb
                  rw [rowsL_t (by decide) hj hb hO'] at hR
                  refine j_lv [2, 3, 4, 0] (lv' := [(0, .ref o), (1, .int (nI c)), (2, .int (nI op)), (3, .int (nI 1))]) rfl ?_
                  exact ih a _ d' hO' (gonS_28 _ _ _ h28) hR
                case' false =>
                  refine j_lvI (lv' := [(3, .int (nI 0)), (4, .int (nI 1)), (0, .ref o), (1, .int (nI c)), (2, .int (nI op))]) 0 rfl (show bZ false = nI 0 from rfl) rfl ?_
                  rw [rowsL_f (by decide) hj hb] at hR
                  cases hR
                  refine j_iload_n C dX4_finds_19 rfl 0 rfl ?_
                  refine j_if_eqN C 118 dX4_finds_20 (by decide) (by first | omega | (have q1 := ho d (Nat.le_refl _); omega) | exact Nat.le_refl _) (fun c20 => ?_) (fun c20 => ?_)
                  · exact j_vret C (by omega) (by omega) (pV.mk rfl) dX4_finds_118
                  · exfalso; omega
              · refine j_iload C dX4_finds_95 0 rfl ?_
                refine j_if_eqN C 108 dX4_finds_97 (by decide) (by first | omega | (have q1 := ho d (Nat.le_refl _); omega) | exact Nat.le_refl _) (fun c97 => ?_) (fun c97 => ?_)
                · exfalso; omega
                · refine j_aload_n C dX4_finds_100 rfl 1 rfl ?_
                  refine j_aload_n C dX4_finds_101 rfl 1 rfl ?_
                  refine mg20 C q1494 dX4_finds_102 (v := nI d) hO.1 ?_
                  refine j_callV C (mX4_keeps G M sz o S d (by first | omega | (have q1 := ho d (Nat.le_refl _); omega) | exact Nat.le_refl _)) pV.ret mset_o rfl 1 q1759 q1761 qs51 q73 q1762 (by decide +kernel) rfl (by decide) (by decide) (Nat.le_of_ble_eq_true rfl) rfl dX4_finds_105 (by omega) (by omega) (qV.k ?_)
                  refine j_aload_n C dX4_finds_108 rfl 1 rfl ?_
                  refine j_bipush (v := nI 8) C dX4_finds_109 rfl ?_
                  refine j_callV C (mX4_goesOn G M sz o (kpsS S d) 8 d (by first | omega | (have q1 := ho d (Nat.le_refl _); omega) | exact Nat.le_refl _) hO) pI.ret mset_o rfl 1 q1763 q1765 qs52 q73 q1766 (by decide +kernel) rfl (by decide) (by decide) (Nat.le_of_ble_eq_true rfl) rfl dX4_finds_111 (by omega) (by omega) (qI.k ?_)
                  refine j_istore_n (lv' := [(3, .int (bZ ((gonS (kpsS S d) 8 d).1))), (4, .int (nI 1)), (0, .ref o), (1, .int (nI c)), (2, .int (nI op))]) C dX4_finds_114 rfl (by decide) rfl ?_
                  refine j_goto C 19 dX4_finds_115 (by decide) ?_
                  have hj : jdC c (a, S) d = (a, (kpsS S d)) := by simp [jdC, c29, c45, c61, c72, c92, c97] <;> omega
                  cases hb : (gonS (kpsS S d) 8 d).1
                  case' true =>
                    refine j_lvI (lv' := [(3, .int (nI 1)), (4, .int (nI 1)), (0, .ref o), (1, .int (nI c)), (2, .int (nI op))]) 0 rfl (show bZ true = nI 1 from rfl) rfl ?_
                    obtain ⟨d', hO'⟩ := gonS_ok (by decide) (show dOK (kpsS S d) d from hO) hb
                    rw [rowsL_t (by decide) hj hb hO'] at hR
                    refine j_lv [2, 3, 4, 0] (lv' := [(0, .ref o), (1, .int (nI c)), (2, .int (nI op)), (3, .int (nI 1))]) rfl ?_
                    exact ih a _ d' hO' (gonS_28 _ _ _ hd8) hR
                  case' false =>
                    refine j_lvI (lv' := [(3, .int (nI 0)), (4, .int (nI 1)), (0, .ref o), (1, .int (nI c)), (2, .int (nI op))]) 0 rfl (show bZ false = nI 0 from rfl) rfl ?_
                    rw [rowsL_f (by decide) hj hb] at hR
                    cases hR
                    refine j_iload_n C dX4_finds_19 rfl 0 rfl ?_
                    refine j_if_eqN C 118 dX4_finds_20 (by decide) (by first | omega | (have q1 := ho d (Nat.le_refl _); omega) | exact Nat.le_refl _) (fun c20 => ?_) (fun c20 => ?_)
                    · exact j_vret C (by omega) (by omega) (pV.mk rfl) dX4_finds_118
                    · exfalso; omega
set_option maxHeartbeats 1000000 in
theorem mX4_finds (G : gl_T) (M : Nat → Option (Nat × va_E)) (sz o : Nat) (S : ms_T) (c op a n : Nat) (R : Nat × ms_T) (hc : c < 2 ^ 31) (hO : dOK (sF (sB (bgnS S) 8 (uN (S.2.2.2 6) 5 op)) 27 kNONE) 0) (h28 : S.2.1 28 ≤ 8) (hR : rowsL 8 (jdC c) n (a, sF (sB (bgnS S) 8 (uN (S.2.2.2 6) 5 op)) 27 kNONE) 0 = some R) : Mt G yX4_finds cX4_finds 5 none 4 [.ref o, .int (nI c), .int (nI op)] (mset G M o S, sz) (qV (mset G M o R.2, sz)) 0 0 := by
  refine Mt.start (by decide) (Nat.le_of_ble_eq_true rfl) (fun k C => ?_)
  have C : Cx G k cX4_finds "MoodFareModel" "finds" 5 none 4 0 0 _ := C
  refine j_aload_n C dX4_finds_0 rfl 0 rfl ?_
  refine j_callV C (mX4_begins G M sz o S) pV.ret mset_o rfl 0 q1755 q1757 qs50 q73 q1758 (by decide +kernel) rfl (by decide) (by decide) (Nat.le_of_ble_eq_true rfl) rfl dX4_finds_1 (by omega) (by omega) (qV.k ?_)
  refine j_aload_n C dX4_finds_4 rfl 0 rfl ?_
  refine mg15 C q1489 dX4_finds_5 ?_
  refine j_iconst (v := nI 5) C dX4_finds_8 rfl ?_
  refine j_iload_n C dX4_finds_9 rfl 2 rfl ?_
  refine mt8 C (5) rfl (by first | omega) dX4_finds_10 ?_
  refine j_aload_n C dX4_finds_11 rfl 0 rfl ?_
  refine j_ldc C q1473 dX4_finds_12 ?_
  refine mp27 C q1501 dX4_finds_14 ?_
  refine j_iconst (v := nI 1) C dX4_finds_17 rfl ?_
  refine j_istore_n (lv' := [(3, .int (nI 1)), (0, .ref o), (1, .int (nI c)), (2, .int (nI op))]) C dX4_finds_18 rfl (by decide) rfl ?_
  refine j_lv [1, 2, 3, 0] (lv' := [(0, .ref o), (1, .int (nI c)), (2, .int (nI op)), (3, .int (nI 1))]) rfl ?_
  exact mX4_finds_lo G M sz o k c op R C hc n a _ 0 hO h28 hR
set_option maxHeartbeats 1000000 in
theorem mX4_cheapest (G : gl_T) (M : Nat → Option (Nat × va_E)) (sz o : Nat) (S : ms_T) (x y : Int32) (ht : smT (S.2.2.2 6)) (h3 : S.2.2.2 6 3 ≤ 999) (h28 : S.2.1 28 ≤ 8) (P : Int32 → ms_T → Prop) (h1 : inB x (nI 0) (nI (S.2.2.2 6 6) - nI 1) = false ∨ inB y (-2) (nI 7) = false → P kBAD S) (hF : ∀ j, x = nI j → j < S.2.2.2 6 6 → inB y (-2) (nI 7) = true → ∃ (n : Nat) (R : Nat × ms_T), rowsL 8 (jdC j) n (0, sF (sB (bgnS S) 8 (uN (S.2.2.2 6) 5 (S.2.2.2 6 5))) 27 kNONE) 0 = some R ∧ R.2.2.1 28 ≤ 8 ∧ (R.2.1 27 = kNONE → P kNONE R.2) ∧ (¬ R.2.1 27 = kNONE → y = -1 → P (R.2.1 27) R.2) ∧ (¬ R.2.1 27 = kNONE → y = -2 → P (nI (R.2.2.1 28)) R.2) ∧ (∀ j, ¬ R.2.1 27 = kNONE → y = nI j → j < R.2.2.1 28 → P (nI (R.2.2.2.2 17 j)) R.2) ∧ (¬ R.2.1 27 = kNONE → ¬ y = -1 → ¬ y = -2 → nI (R.2.2.1 28) ≤ y → P kNONE R.2)) : Mt G yX4_cheapest cX4_cheapest 3 (some .int) 5 [.ref o, .int x, .int y] (mset G M o S, sz) (pM G M o sz P) 0 0 := by
  refine Mt.start (by decide) (Nat.le_of_ble_eq_true rfl) (fun k C => ?_)
  have C : Cx G k cX4_cheapest "MoodFareModel" "cheapest" 3 (some .int) 5 0 0 _ := C
  have ht0 := ht
  obtain ⟨r0, r1, r2, r3, r4, r5, r6, r7, r25, r26⟩ := ht
  refine j_aload_n C dX4_cheapest_0 rfl 0 rfl ?_
  refine j_iload_n C dX4_cheapest_1 rfl 1 rfl ?_
  refine j_callV C (mX4_isCorner G M sz o S x) pI.ret mset_o rfl 1 q1707 q1709 qs46 q73 q1710 (by decide +kernel) rfl (by decide) (by decide) (Nat.le_of_ble_eq_true rfl) rfl dX4_cheapest_2 (by omega) (by omega) (qI.k ?_)
  refine j_if_eqB C 19 dX4_cheapest_5 (by decide) (fun c5 => ?_) (fun c5 => ?_)
  · refine j_ldc C q1582 dX4_cheapest_19 ?_
    exact j_iret C (by omega) (by omega) (pM.mk (h1 (Or.inl c5))) dX4_cheapest_21
  · obtain ⟨j, rfl, hj⟩ := inB_p (by first | omega | assumption | (intro x hx; have := r26 x hx; omega)) c5
    refine j_iload_n C dX4_cheapest_8 rfl 2 rfl ?_
    refine j_bipush (v := -2) C dX4_cheapest_9 rfl ?_
    refine j_bipush (v := nI 7) C dX4_cheapest_11 rfl ?_
    refine j_callS C (mX4_in G (mset G M o S, sz) y ((-2)) (nI 7)) pI.ret 3 q1579 q1580 q73 q1581 (by decide +kernel) rfl (by decide) (by decide) (Nat.le_of_ble_eq_true rfl) rfl dX4_cheapest_13 (by omega) (by omega) (qI.k ?_)
    refine j_if_neB C 22 dX4_cheapest_16 (by decide) (fun c16 => ?_) (fun c16 => ?_)
    · obtain ⟨n, R, hR, hR28, t1, t2, t3, t4, t5⟩ := hF j rfl hj c16
      refine j_aload_n C dX4_cheapest_22 rfl 0 rfl ?_
      refine j_iload_n C dX4_cheapest_23 rfl 1 rfl ?_
      refine j_aload_n C dX4_cheapest_24 rfl 0 rfl ?_
      refine mg13 C q1487 dX4_cheapest_25 ?_
      refine j_iconst (v := nI 5) C dX4_cheapest_28 rfl ?_
      refine ml6 C (5) rfl (by first | omega | assumption | (intro x hx; have := r26 x hx; omega)) dX4_cheapest_29 (v := S.2.2.2 6 5) rfl ?_
      refine j_callV C (mX4_finds G M sz o S j (S.2.2.2 6 5) 0 n R (by omega) (dOK_fnd ht0 h3 (by omega)) h28 hR) pV.ret mset_o rfl 2 q1751 q1753 qs49 q73 q1754 (by decide +kernel) rfl (by decide) (by decide) (Nat.le_of_ble_eq_true rfl) rfl dX4_cheapest_30 (by omega) (by omega) (qV.k ?_)
      refine j_aload_n C dX4_cheapest_33 rfl 0 rfl ?_
      refine j_iload_n C dX4_cheapest_34 rfl 2 rfl ?_
      refine j_aload_n C dX4_cheapest_35 rfl 0 rfl ?_
      refine mg28 C q1502 dX4_cheapest_36 (v := R.2.2.1 28) rfl ?_
      refine j_callV C (mX4_told G M sz o R.2 y (nI (R.2.2.1 28)) hR28 (fun b hb q => key_cases (Or.inl rfl) c16 hb q) P t1 t2 t3 t4 t5) pM.ret mset_o rfl 2 q1771 q1773 qs54 q73 q1774 (by decide +kernel) rfl (by decide) (by decide) (Nat.le_of_ble_eq_true rfl) rfl dX4_cheapest_39 (by omega) (by omega) (pM.k (fun r S1 hP => ?_))
      exact j_iret C (by omega) (by omega) (pM.mk hP) dX4_cheapest_42
    · refine j_ldc C q1582 dX4_cheapest_19 ?_
      exact j_iret C (by omega) (by omega) (pM.mk (h1 (Or.inr c16))) dX4_cheapest_21
set_option maxHeartbeats 4000000 in
theorem mX4_dearest_lo (G : gl_T) (M : Nat → Option (Nat × va_E)) (sz o : Nat) (k : KX) (nn : Nat) (y : Int32) (P : Int32 → ms_T → Prop) (R : Nat × ms_T) (C : Cx G k cX4_dearest "MoodFareModel" "dearest" 4 (some .int) 4 0 0 (pM G M o sz P)) (hm : nn ≤ 8) (hy : inB y (-2) (nI 7) = true) (hR28 : R.2.2.1 28 ≤ 8) (t1 : R.2.1 27 = kNONE → P kNONE R.2) (t2 : ¬ R.2.1 27 = kNONE → y = -1 → P (R.2.1 27) R.2) (t3 : ¬ R.2.1 27 = kNONE → y = -2 → P (nI (R.2.2.1 29)) R.2) (t4 : ∀ j, ¬ R.2.1 27 = kNONE → y = nI j → j < R.2.2.1 28 → P (nI (R.2.2.2.2 17 j)) R.2) (t5 : ¬ R.2.1 27 = kNONE → ¬ y = -1 → ¬ y = -2 → nI (R.2.2.1 28) ≤ y → P kNONE R.2) : ∀ (n a : Nat) (S : ms_T) (d : Nat), dOK S d → S.2.1 28 ≤ 8 → rowsL nn (jdD nn) n (a, S) d = some R → J G k (mset G M o S, sz) [(0, .ref o), (1, .int (nI nn)), (2, .int y), (3, .int (nI 1))] 46 [] 0 0 := by
  intro n
  induction n with
  | zero => intro a S d hO h28 hR; cases hR
  | succ n ih =>
    intro a S d hO h28 hR
    have hd8 := hO.2.1
    have ho := hO.2.2.2.2.2
    have hod := ho d (Nat.le_refl _)
    refine j_iload_n C dX4_dearest_46 rfl 3 rfl ?_
    refine j_if_eqN C 103 dX4_dearest_47 (by decide) (by first | omega | (have q1 := ho d (Nat.le_refl _); omega) | exact Nat.le_refl _) (fun c47 => ?_) (fun c47 => ?_)
    · exfalso; omega
    · refine j_aload_n C dX4_dearest_50 rfl 0 rfl ?_
      refine mg20 C q1494 dX4_dearest_51 (v := nI d) hO.1 ?_
      refine j_iload_n C dX4_dearest_54 rfl 1 rfl ?_
      refine j_icmp_neN C 82 dX4_dearest_55 (by decide) (by first | omega | (have q1 := ho d (Nat.le_refl _); omega) | exact Nat.le_refl _) (by first | omega | (have q1 := ho d (Nat.le_refl _); omega) | exact Nat.le_refl _) (fun c55 => ?_) (fun c55 => ?_)
      · refine j_iload_n C dX4_dearest_82 rfl 1 rfl ?_
        refine j_if_leN C 98 dX4_dearest_83 (by decide) (by first | omega | (have q1 := ho d (Nat.le_refl _); omega) | exact Nat.le_refl _) (fun c83 => ?_) (fun c83 => ?_)
        · subst c83
          refine j_iconst (v := nI 0) C dX4_dearest_98 rfl ?_
          refine j_istore_n (lv' := [(3, .int (nI 0)), (0, .ref o), (1, .int (nI 0)), (2, .int y)]) C dX4_dearest_99 rfl (by decide) rfl ?_
          refine j_goto C 46 dX4_dearest_100 (by decide) ?_
          have hj : jdD 0 (a, S) d = (a, S) := by unfold jdD; rw [if_neg (fun z => c55 z.1)]
          rw [rowsL_0 hj] at hR
          cases hR
          refine j_iload_n C dX4_dearest_46 rfl 0 rfl ?_
          refine j_if_eqN C 103 dX4_dearest_47 (by decide) (by first | omega | (have q1 := ho d (Nat.le_refl _); omega) | exact Nat.le_refl _) (fun c47 => ?_) (fun c47 => ?_)
          · refine j_aload_n C dX4_dearest_103 rfl 1 rfl ?_
            refine j_iload_n C dX4_dearest_104 rfl 3 rfl ?_
            refine j_aload_n C dX4_dearest_105 rfl 1 rfl ?_
            refine mg29 C q1503 dX4_dearest_106 (v := S.2.1 29) rfl ?_
            refine j_callV C (mX4_told G M sz o S y (nI (S.2.1 29)) hR28 (fun b hb q => key_cases (Or.inl rfl) hy hb q) P t1 t2 t3 t4 t5) pM.ret mset_o rfl 2 q1771 q1773 qs54 q73 q1774 (by decide +kernel) rfl (by decide) (by decide) (Nat.le_of_ble_eq_true rfl) rfl dX4_dearest_109 (by omega) (by omega) (pM.k (fun r S1 hP => ?_))
            exact j_iret C (by omega) (by omega) (pM.mk hP) dX4_dearest_112
          · exfalso; omega
        · have hm0 : nn ≠ 0 := c83
          refine j_aload_n C dX4_dearest_86 rfl 0 rfl ?_
          refine j_iload_n C dX4_dearest_87 rfl 1 rfl ?_
          refine j_callV C (mX4_goesOn G M sz o S nn d (by first | omega | (have q1 := ho d (Nat.le_refl _); omega) | exact Nat.le_refl _) hO) pI.ret mset_o rfl 1 q1763 q1765 qs52 q73 q1766 (by decide +kernel) rfl (by decide) (by decide) (Nat.le_of_ble_eq_true rfl) rfl dX4_dearest_88 (by omega) (by omega) (qI.k ?_)
          refine j_if_eqB C 98 dX4_dearest_91 (by decide) (fun c91 => ?_) (fun c91 => ?_)
          · refine j_iconst (v := nI 0) C dX4_dearest_98 rfl ?_
            refine j_istore_n (lv' := [(3, .int (nI 0)), (0, .ref o), (1, .int (nI nn)), (2, .int y)]) C dX4_dearest_99 rfl (by decide) rfl ?_
            refine j_goto C 46 dX4_dearest_100 (by decide) ?_
            have hj : jdD nn (a, S) d = (a, S) := by unfold jdD; rw [if_neg (fun z => c55 z.1)]
            have hb := c91
            rw [rowsL_f hm0 hj hb] at hR
            cases hR
            refine j_iload_n C dX4_dearest_46 rfl 0 rfl ?_
            refine j_if_eqN C 103 dX4_dearest_47 (by decide) (by first | omega | (have q1 := ho d (Nat.le_refl _); omega) | exact Nat.le_refl _) (fun c47 => ?_) (fun c47 => ?_)
            · refine j_aload_n C dX4_dearest_103 rfl 1 rfl ?_
              refine j_iload_n C dX4_dearest_104 rfl 3 rfl ?_
              refine j_aload_n C dX4_dearest_105 rfl 1 rfl ?_
              refine mg29 C q1503 dX4_dearest_106 (v := ((gonS S nn d).2).2.1 29) rfl ?_
              refine j_callV C (mX4_told G M sz o ((gonS S nn d).2) y (nI (((gonS S nn d).2).2.1 29)) hR28 (fun b hb q => key_cases (Or.inl rfl) hy hb q) P t1 t2 t3 t4 t5) pM.ret mset_o rfl 2 q1771 q1773 qs54 q73 q1774 (by decide +kernel) rfl (by decide) (by decide) (Nat.le_of_ble_eq_true rfl) rfl dX4_dearest_109 (by omega) (by omega) (pM.k (fun r S1 hP => ?_))
              exact j_iret C (by omega) (by omega) (pM.mk hP) dX4_dearest_112
            · exfalso; omega
          · refine j_iconst (v := nI 1) C dX4_dearest_94 rfl ?_
            refine j_goto C 99 dX4_dearest_95 (by decide) ?_
            refine j_istore_n (lv' := [(3, .int (nI 1)), (0, .ref o), (1, .int (nI nn)), (2, .int y)]) C dX4_dearest_99 rfl (by decide) rfl ?_
            refine j_goto C 46 dX4_dearest_100 (by decide) ?_
            have hj : jdD nn (a, S) d = (a, S) := by unfold jdD; rw [if_neg (fun z => c55 z.1)]
            have hb := c91
            obtain ⟨d', hO'⟩ := gonS_ok hm (show dOK S d from hO) hb
            rw [rowsL_t hm0 hj hb hO'] at hR
            refine j_lv [1, 2, 3, 0] (lv' := [(0, .ref o), (1, .int (nI nn)), (2, .int y), (3, .int (nI 1))]) rfl ?_
            exact ih a _ d' hO' (gonS_28 _ _ _ h28) hR
      · refine j_aload_n C dX4_dearest_58 rfl 0 rfl ?_
        refine mg25 C q1499 dX4_dearest_59 ?_
        refine j_aload_n C dX4_dearest_62 rfl 0 rfl ?_
        refine mg20 C q1494 dX4_dearest_63 (v := nI d) hO.1 ?_
        refine ml16 C (d) rfl (by first | omega | (have q1 := ho d (Nat.le_refl _); omega) | exact Nat.le_refl _) dX4_dearest_66 (v := S.2.2.2 16 d) rfl ?_
        refine j_aload_n C dX4_dearest_67 rfl 0 rfl ?_
        refine mg27 C q1501 dX4_dearest_68 (v := S.1 27) rfl ?_
        refine j_icmp_le C 82 dX4_dearest_71 (by decide) (fun c71 => ?_) (fun c71 => ?_)
        · refine j_iload_n C dX4_dearest_82 rfl 1 rfl ?_
          refine j_if_leN C 98 dX4_dearest_83 (by decide) (by first | omega | (have q1 := ho d (Nat.le_refl _); omega) | exact Nat.le_refl _) (fun c83 => ?_) (fun c83 => ?_)
          · subst c83
            refine j_iconst (v := nI 0) C dX4_dearest_98 rfl ?_
            refine j_istore_n (lv' := [(3, .int (nI 0)), (0, .ref o), (1, .int (nI 0)), (2, .int y)]) C dX4_dearest_99 rfl (by decide) rfl ?_
            refine j_goto C 46 dX4_dearest_100 (by decide) ?_
            have hj : jdD 0 (a, S) d = (a, S) := by unfold jdD; rw [if_neg (fun z => absurd z.2 (Int32.not_lt.mpr c71))]
            rw [rowsL_0 hj] at hR
            cases hR
            refine j_iload_n C dX4_dearest_46 rfl 0 rfl ?_
            refine j_if_eqN C 103 dX4_dearest_47 (by decide) (by first | omega | (have q1 := ho d (Nat.le_refl _); omega) | exact Nat.le_refl _) (fun c47 => ?_) (fun c47 => ?_)
            · refine j_aload_n C dX4_dearest_103 rfl 1 rfl ?_
              refine j_iload_n C dX4_dearest_104 rfl 3 rfl ?_
              refine j_aload_n C dX4_dearest_105 rfl 1 rfl ?_
              refine mg29 C q1503 dX4_dearest_106 (v := S.2.1 29) rfl ?_
              refine j_callV C (mX4_told G M sz o S y (nI (S.2.1 29)) hR28 (fun b hb q => key_cases (Or.inl rfl) hy hb q) P t1 t2 t3 t4 t5) pM.ret mset_o rfl 2 q1771 q1773 qs54 q73 q1774 (by decide +kernel) rfl (by decide) (by decide) (Nat.le_of_ble_eq_true rfl) rfl dX4_dearest_109 (by omega) (by omega) (pM.k (fun r S1 hP => ?_))
              exact j_iret C (by omega) (by omega) (pM.mk hP) dX4_dearest_112
            · exfalso; omega
          · have hm0 : nn ≠ 0 := c83
            refine j_aload_n C dX4_dearest_86 rfl 0 rfl ?_
            refine j_iload_n C dX4_dearest_87 rfl 1 rfl ?_
            refine j_callV C (mX4_goesOn G M sz o S nn d (by first | omega | (have q1 := ho d (Nat.le_refl _); omega) | exact Nat.le_refl _) hO) pI.ret mset_o rfl 1 q1763 q1765 qs52 q73 q1766 (by decide +kernel) rfl (by decide) (by decide) (Nat.le_of_ble_eq_true rfl) rfl dX4_dearest_88 (by omega) (by omega) (qI.k ?_)
            refine j_if_eqB C 98 dX4_dearest_91 (by decide) (fun c91 => ?_) (fun c91 => ?_)
            · refine j_iconst (v := nI 0) C dX4_dearest_98 rfl ?_
              refine j_istore_n (lv' := [(3, .int (nI 0)), (0, .ref o), (1, .int (nI nn)), (2, .int y)]) C dX4_dearest_99 rfl (by decide) rfl ?_
              refine j_goto C 46 dX4_dearest_100 (by decide) ?_
              have hj : jdD nn (a, S) d = (a, S) := by unfold jdD; rw [if_neg (fun z => absurd z.2 (Int32.not_lt.mpr c71))]
              have hb := c91
              rw [rowsL_f hm0 hj hb] at hR
              cases hR
              refine j_iload_n C dX4_dearest_46 rfl 0 rfl ?_
              refine j_if_eqN C 103 dX4_dearest_47 (by decide) (by first | omega | (have q1 := ho d (Nat.le_refl _); omega) | exact Nat.le_refl _) (fun c47 => ?_) (fun c47 => ?_)
              · refine j_aload_n C dX4_dearest_103 rfl 1 rfl ?_
                refine j_iload_n C dX4_dearest_104 rfl 3 rfl ?_
                refine j_aload_n C dX4_dearest_105 rfl 1 rfl ?_
                refine mg29 C q1503 dX4_dearest_106 (v := ((gonS S nn d).2).2.1 29) rfl ?_
                refine j_callV C (mX4_told G M sz o ((gonS S nn d).2) y (nI (((gonS S nn d).2).2.1 29)) hR28 (fun b hb q => key_cases (Or.inl rfl) hy hb q) P t1 t2 t3 t4 t5) pM.ret mset_o rfl 2 q1771 q1773 qs54 q73 q1774 (by decide +kernel) rfl (by decide) (by decide) (Nat.le_of_ble_eq_true rfl) rfl dX4_dearest_109 (by omega) (by omega) (pM.k (fun r S1 hP => ?_))
                exact j_iret C (by omega) (by omega) (pM.mk hP) dX4_dearest_112
              · exfalso; omega
            · refine j_iconst (v := nI 1) C dX4_dearest_94 rfl ?_
              refine j_goto C 99 dX4_dearest_95 (by decide) ?_
              refine j_istore_n (lv' := [(3, .int (nI 1)), (0, .ref o), (1, .int (nI nn)), (2, .int y)]) C dX4_dearest_99 rfl (by decide) rfl ?_
              refine j_goto C 46 dX4_dearest_100 (by decide) ?_
              have hj : jdD nn (a, S) d = (a, S) := by unfold jdD; rw [if_neg (fun z => absurd z.2 (Int32.not_lt.mpr c71))]
              have hb := c91
              obtain ⟨d', hO'⟩ := gonS_ok hm (show dOK S d from hO) hb
              rw [rowsL_t hm0 hj hb hO'] at hR
              refine j_lv [1, 2, 3, 0] (lv' := [(0, .ref o), (1, .int (nI nn)), (2, .int y), (3, .int (nI 1))]) rfl ?_
              exact ih a _ d' hO' (gonS_28 _ _ _ h28) hR
        · refine j_aload_n C dX4_dearest_74 rfl 0 rfl ?_
          refine j_aload_n C dX4_dearest_75 rfl 0 rfl ?_
          refine mg20 C q1494 dX4_dearest_76 (v := nI d) hO.1 ?_
          refine j_callV C (mX4_keeps G M sz o S d (by first | omega | (have q1 := ho d (Nat.le_refl _); omega) | exact Nat.le_refl _)) pV.ret mset_o rfl 1 q1759 q1761 qs51 q73 q1762 (by decide +kernel) rfl (by decide) (by decide) (Nat.le_of_ble_eq_true rfl) rfl dX4_dearest_79 (by omega) (by omega) (qV.k ?_)
          refine j_iload_n C dX4_dearest_82 rfl 1 rfl ?_
          refine j_if_leN C 98 dX4_dearest_83 (by decide) (by first | omega | (have q1 := ho d (Nat.le_refl _); omega) | exact Nat.le_refl _) (fun c83 => ?_) (fun c83 => ?_)
          · subst c83
            refine j_iconst (v := nI 0) C dX4_dearest_98 rfl ?_
            refine j_istore_n (lv' := [(3, .int (nI 0)), (0, .ref o), (1, .int (nI 0)), (2, .int y)]) C dX4_dearest_99 rfl (by decide) rfl ?_
            refine j_goto C 46 dX4_dearest_100 (by decide) ?_
            have hj : jdD 0 (a, S) d = (a, (kpsS S d)) := by unfold jdD; rw [if_pos ⟨c55, Int32.not_le.mp c71⟩]
            rw [rowsL_0 hj] at hR
            cases hR
            refine j_iload_n C dX4_dearest_46 rfl 0 rfl ?_
            refine j_if_eqN C 103 dX4_dearest_47 (by decide) (by first | omega | (have q1 := ho d (Nat.le_refl _); omega) | exact Nat.le_refl _) (fun c47 => ?_) (fun c47 => ?_)
            · refine j_aload_n C dX4_dearest_103 rfl 1 rfl ?_
              refine j_iload_n C dX4_dearest_104 rfl 3 rfl ?_
              refine j_aload_n C dX4_dearest_105 rfl 1 rfl ?_
              refine mg29 C q1503 dX4_dearest_106 (v := (kpsS S d).2.1 29) rfl ?_
              refine j_callV C (mX4_told G M sz o (kpsS S d) y (nI ((kpsS S d).2.1 29)) hR28 (fun b hb q => key_cases (Or.inl rfl) hy hb q) P t1 t2 t3 t4 t5) pM.ret mset_o rfl 2 q1771 q1773 qs54 q73 q1774 (by decide +kernel) rfl (by decide) (by decide) (Nat.le_of_ble_eq_true rfl) rfl dX4_dearest_109 (by omega) (by omega) (pM.k (fun r S1 hP => ?_))
              exact j_iret C (by omega) (by omega) (pM.mk hP) dX4_dearest_112
            · exfalso; omega
          · have hm0 : nn ≠ 0 := c83
            refine j_aload_n C dX4_dearest_86 rfl 0 rfl ?_
            refine j_iload_n C dX4_dearest_87 rfl 1 rfl ?_
            refine j_callV C (mX4_goesOn G M sz o (kpsS S d) nn d (by first | omega | (have q1 := ho d (Nat.le_refl _); omega) | exact Nat.le_refl _) hO) pI.ret mset_o rfl 1 q1763 q1765 qs52 q73 q1766 (by decide +kernel) rfl (by decide) (by decide) (Nat.le_of_ble_eq_true rfl) rfl dX4_dearest_88 (by omega) (by omega) (qI.k ?_)
            refine j_if_eqB C 98 dX4_dearest_91 (by decide) (fun c91 => ?_) (fun c91 => ?_)
            · refine j_iconst (v := nI 0) C dX4_dearest_98 rfl ?_
              refine j_istore_n (lv' := [(3, .int (nI 0)), (0, .ref o), (1, .int (nI nn)), (2, .int y)]) C dX4_dearest_99 rfl (by decide) rfl ?_
              refine j_goto C 46 dX4_dearest_100 (by decide) ?_
              have hj : jdD nn (a, S) d = (a, (kpsS S d)) := by unfold jdD; rw [if_pos ⟨c55, Int32.not_le.mp c71⟩]
              have hb := c91
              rw [rowsL_f hm0 hj hb] at hR
              cases hR
              refine j_iload_n C dX4_dearest_46 rfl 0 rfl ?_
              refine j_if_eqN C 103 dX4_dearest_47 (by decide) (by first | omega | (have q1 := ho d (Nat.le_refl _); omega) | exact Nat.le_refl _) (fun c47 => ?_) (fun c47 => ?_)
              · refine j_aload_n C dX4_dearest_103 rfl 1 rfl ?_
                refine j_iload_n C dX4_dearest_104 rfl 3 rfl ?_
                refine j_aload_n C dX4_dearest_105 rfl 1 rfl ?_
                refine mg29 C q1503 dX4_dearest_106 (v := ((gonS (kpsS S d) nn d).2).2.1 29) rfl ?_
                refine j_callV C (mX4_told G M sz o ((gonS (kpsS S d) nn d).2) y (nI (((gonS (kpsS S d) nn d).2).2.1 29)) hR28 (fun b hb q => key_cases (Or.inl rfl) hy hb q) P t1 t2 t3 t4 t5) pM.ret mset_o rfl 2 q1771 q1773 qs54 q73 q1774 (by decide +kernel) rfl (by decide) (by decide) (Nat.le_of_ble_eq_true rfl) rfl dX4_dearest_109 (by omega) (by omega) (pM.k (fun r S1 hP => ?_))
                exact j_iret C (by omega) (by omega) (pM.mk hP) dX4_dearest_112
              · exfalso; omega
            · refine j_iconst (v := nI 1) C dX4_dearest_94 rfl ?_
              refine j_goto C 99 dX4_dearest_95 (by decide) ?_
              refine j_istore_n (lv' := [(3, .int (nI 1)), (0, .ref o), (1, .int (nI nn)), (2, .int y)]) C dX4_dearest_99 rfl (by decide) rfl ?_
              refine j_goto C 46 dX4_dearest_100 (by decide) ?_
              have hj : jdD nn (a, S) d = (a, (kpsS S d)) := by unfold jdD; rw [if_pos ⟨c55, Int32.not_le.mp c71⟩]
              have hb := c91
              obtain ⟨d', hO'⟩ := gonS_ok hm (show dOK (kpsS S d) d from hO) hb
              rw [rowsL_t hm0 hj hb hO'] at hR
              refine j_lv [1, 2, 3, 0] (lv' := [(0, .ref o), (1, .int (nI nn)), (2, .int y), (3, .int (nI 1))]) rfl ?_
              exact ih a _ d' hO' (gonS_28 _ _ _ hd8) hR
set_option maxHeartbeats 1000000 in
theorem mX4_dearest (G : gl_T) (M : Nat → Option (Nat × va_E)) (sz o : Nat) (S : ms_T) (x y : Int32) (ht : smT (S.2.2.2 6)) (h3 : S.2.2.2 6 3 ≤ 999) (h28 : S.2.1 28 ≤ 8) (P : Int32 → ms_T → Prop) (h0 : S.2.2.2 6 0 = 0 → P kSTATE S) (h1 : 0 < S.2.2.2 6 0 → inB x (nI 0) (nI 8) = false ∨ inB y (-2) (nI 7) = false → P kBAD S) (hF : ∀ j, x = nI j → j ≤ 8 → 0 < S.2.2.2 6 0 → inB y (-2) (nI 7) = true → ∃ (n : Nat) (R : Nat × ms_T), rowsL j (jdD j) n (0, sF (bgnS S) 27 kNONE) 0 = some R ∧ R.2.2.1 28 ≤ 8 ∧ (R.2.1 27 = kNONE → P kNONE R.2) ∧ (¬ R.2.1 27 = kNONE → y = -1 → P (R.2.1 27) R.2) ∧ (¬ R.2.1 27 = kNONE → y = -2 → P (nI (R.2.2.1 29)) R.2) ∧ (∀ j, ¬ R.2.1 27 = kNONE → y = nI j → j < R.2.2.1 28 → P (nI (R.2.2.2.2 17 j)) R.2) ∧ (¬ R.2.1 27 = kNONE → ¬ y = -1 → ¬ y = -2 → nI (R.2.2.1 28) ≤ y → P kNONE R.2)) : Mt G yX4_dearest cX4_dearest 4 (some .int) 4 [.ref o, .int x, .int y] (mset G M o S, sz) (pM G M o sz P) 0 0 := by
  refine Mt.start (by decide) (Nat.le_of_ble_eq_true rfl) (fun k C => ?_)
  have C : Cx G k cX4_dearest "MoodFareModel" "dearest" 4 (some .int) 4 0 0 _ := C
  have ht0 := ht
  obtain ⟨r0, r1, r2, r3, r4, r5, r6, r7, r25, r26⟩ := ht
  refine j_aload_n C dX4_dearest_0 rfl 0 rfl ?_
  refine j_callV C (mX4_isTown G M sz o S (by first | omega | assumption | (intro x hx; have := r26 x hx; omega))) pI.ret mset_o rfl 0 q1715 q1717 qs47 q73 q1718 (by decide +kernel) rfl (by decide) (by decide) (Nat.le_of_ble_eq_true rfl) rfl dX4_dearest_1 (by omega) (by omega) (qI.k ?_)
  refine j_if_neB C 10 dX4_dearest_4 (by decide) (fun c4 => ?_) (fun c4 => ?_)
  · refine j_iload_n C dX4_dearest_10 rfl 1 rfl ?_
    refine j_iconst (v := nI 0) C dX4_dearest_11 rfl ?_
    refine j_bipush (v := nI 8) C dX4_dearest_12 rfl ?_
    refine j_callS C (mX4_in G (mset G M o S, sz) x (nI 0) (nI 8)) pI.ret 3 q1579 q1580 q73 q1581 (by decide +kernel) rfl (by decide) (by decide) (Nat.le_of_ble_eq_true rfl) rfl dX4_dearest_14 (by omega) (by omega) (qI.k ?_)
    refine j_if_eqB C 31 dX4_dearest_17 (by decide) (fun c17 => ?_) (fun c17 => ?_)
    · refine j_ldc C q1582 dX4_dearest_31 ?_
      exact j_iret C (by omega) (by omega) (pM.mk (h1 (of_decide_eq_true c4) (Or.inl c17))) dX4_dearest_33
    · obtain ⟨j, rfl, -, hj⟩ := inB_n (by decide) c17 (by decide)
      refine j_iload_n C dX4_dearest_20 rfl 2 rfl ?_
      refine j_bipush (v := -2) C dX4_dearest_21 rfl ?_
      refine j_bipush (v := nI 7) C dX4_dearest_23 rfl ?_
      refine j_callS C (mX4_in G (mset G M o S, sz) y ((-2)) (nI 7)) pI.ret 3 q1579 q1580 q73 q1581 (by decide +kernel) rfl (by decide) (by decide) (Nat.le_of_ble_eq_true rfl) rfl dX4_dearest_25 (by omega) (by omega) (qI.k ?_)
      refine j_if_neB C 34 dX4_dearest_28 (by decide) (fun c28 => ?_) (fun c28 => ?_)
      · refine j_aload_n C dX4_dearest_34 rfl 0 rfl ?_
        refine j_callV C (mX4_begins G M sz o S) pV.ret mset_o rfl 0 q1755 q1757 qs50 q73 q1758 (by decide +kernel) rfl (by decide) (by decide) (Nat.le_of_ble_eq_true rfl) rfl dX4_dearest_35 (by omega) (by omega) (qV.k ?_)
        refine j_aload_n C dX4_dearest_38 rfl 0 rfl ?_
        refine j_ldc C q1473 dX4_dearest_39 ?_
        refine mp27 C q1501 dX4_dearest_41 ?_
        refine j_iconst (v := nI 1) C dX4_dearest_44 rfl ?_
        refine j_istore_n (lv' := [(3, .int (nI 1)), (0, .ref o), (1, .int (nI j)), (2, .int y)]) C dX4_dearest_45 rfl (by decide) rfl ?_
        refine j_lv [1, 2, 3, 0] (lv' := [(0, .ref o), (1, .int (nI j)), (2, .int y), (3, .int (nI 1))]) rfl ?_
        obtain ⟨n, R, hR, hR28, t1, t2, t3, t4, t5⟩ := hF j rfl hj (of_decide_eq_true c4) c28
        exact mX4_dearest_lo G M sz o k j y P R C hj c28 hR28 t1 t2 t3 t4 t5 n 0 _ 0 (dOK_bst ht0 h3) h28 hR
      · refine j_ldc C q1582 dX4_dearest_31 ?_
        exact j_iret C (by omega) (by omega) (pM.mk (h1 (of_decide_eq_true c4) (Or.inr c28))) dX4_dearest_33
  · refine j_ldc C q1689 dX4_dearest_7 ?_
    exact j_iret C (by omega) (by omega) (pM.mk (h0 (by have := of_decide_eq_false c4; omega))) dX4_dearest_9
set_option maxHeartbeats 4000000 in
theorem mX4_moods_lo (G : gl_T) (M : Nat → Option (Nat × va_E)) (sz o : Nat) (k : KX) (c nn : Nat) (P : Int32 → ms_T → Prop) (R : Nat × ms_T) (C : Cx G k cX4_moods "MoodFareModel" "moods" 5 (some .int) 4 0 0 (pM G M o sz P)) (hm : nn ≤ 8) (hc : c < 2 ^ 31) (hP : P (nI R.1) R.2) : ∀ (n a : Nat) (S : ms_T) (d : Nat), dOK S d → S.2.1 28 ≤ 8 → rowsL nn (jdM c nn) n (a, S) d = some R → J G k (mset G M o S, sz) [(0, .ref o), (1, .int (nI c)), (2, .int (nI nn)), (3, .int (nI a)), (4, .int (nI 1))] 30 [] 0 0 := by
  intro n
  induction n with
  | zero => intro a S d hO h28 hR; cases hR
  | succ n ih =>
    intro a S d hO h28 hR
    have hd8 := hO.2.1
    have ho := hO.2.2.2.2.2
    have hod := ho d (Nat.le_refl _)
    refine j_iload C dX4_moods_30 4 rfl ?_
    refine j_if_eqN C 96 dX4_moods_32 (by decide) (by first | omega | (have q1 := ho d (Nat.le_refl _); omega) | exact Nat.le_refl _) (fun c32 => ?_) (fun c32 => ?_)
    · exfalso; omega
    · refine j_iload_n C dX4_moods_35 rfl 3 rfl ?_
      refine j_aload_n C dX4_moods_36 rfl 0 rfl ?_
      refine mg20 C q1494 dX4_moods_37 (v := nI d) hO.1 ?_
      refine j_iload_n C dX4_moods_40 rfl 2 rfl ?_
      refine j_icmp_neN C 71 dX4_moods_41 (by decide) (by first | omega | (have q1 := ho d (Nat.le_refl _); omega) | exact Nat.le_refl _) (by first | omega | (have q1 := ho d (Nat.le_refl _); omega) | exact Nat.le_refl _) (fun c41 => ?_) (fun c41 => ?_)
      · refine j_iconst (v := nI 0) C dX4_moods_71 rfl ?_
        refine j_iorN C dX4_moods_72 ?_
        refine j_istore_n (lv' := [(3, .int (nI (a ||| 0))), (0, .ref o), (1, .int (nI c)), (2, .int (nI nn)), (4, .int (nI 1))]) C dX4_moods_73 rfl (by decide) rfl ?_
        refine j_iload_n C dX4_moods_74 rfl 3 rfl ?_
        refine j_if_leN C 90 dX4_moods_75 (by decide) (by first | omega | (have q1 := ho d (Nat.le_refl _); omega) | exact Nat.le_refl _) (fun c75 => ?_) (fun c75 => ?_)
        · subst c75
          refine j_iconst (v := nI 0) C dX4_moods_90 rfl ?_
          refine j_istore (lv' := [(4, .int (nI 0)), (3, .int (nI (a ||| 0))), (0, .ref o), (1, .int (nI c)), (2, .int (nI 0))]) C dX4_moods_91 (by decide) rfl ?_
          refine j_goto C 30 dX4_moods_93 (by decide) ?_
          have hj : jdM c 0 (a, S) d = (a ||| 0, S) := by unfold jdM; rw [if_neg (fun z => c41 z.1)]
          rw [rowsL_0 hj] at hR
          cases hR
          refine j_iload C dX4_moods_30 0 rfl ?_
          refine j_if_eqN C 96 dX4_moods_32 (by decide) (by first | omega | (have q1 := ho d (Nat.le_refl _); omega) | exact Nat.le_refl _) (fun c32 => ?_) (fun c32 => ?_)
          · refine j_iload_n C dX4_moods_96 rfl 1 rfl ?_
            exact j_iret C (by omega) (by omega) (pM.mk hP) dX4_moods_97
          · exfalso; omega
        · have hm0 : nn ≠ 0 := c75
          refine j_aload_n C dX4_moods_78 rfl 1 rfl ?_
          refine j_iload_n C dX4_moods_79 rfl 3 rfl ?_
          refine j_callV C (mX4_goesOn G M sz o S nn d (by first | omega | (have q1 := ho d (Nat.le_refl _); omega) | exact Nat.le_refl _) hO) pI.ret mset_o rfl 1 q1763 q1765 qs52 q73 q1766 (by decide +kernel) rfl (by decide) (by decide) (Nat.le_of_ble_eq_true rfl) rfl dX4_moods_80 (by omega) (by omega) (qI.k ?_)
          refine j_if_eqB C 90 dX4_moods_83 (by decide) (fun c83 => ?_) (fun c83 => ?_)
          · refine j_iconst (v := nI 0) C dX4_moods_90 rfl ?_
            refine j_istore (lv' := [(4, .int (nI 0)), (3, .int (nI (a ||| 0))), (0, .ref o), (1, .int (nI c)), (2, .int (nI nn))]) C dX4_moods_91 (by decide) rfl ?_
            refine j_goto C 30 dX4_moods_93 (by decide) ?_
            have hj : jdM c nn (a, S) d = (a ||| 0, S) := by unfold jdM; rw [if_neg (fun z => c41 z.1)]
            have hb := c83
            rw [rowsL_f hm0 hj hb] at hR
            cases hR
            refine j_iload C dX4_moods_30 0 rfl ?_
            refine j_if_eqN C 96 dX4_moods_32 (by decide) (by first | omega | (have q1 := ho d (Nat.le_refl _); omega) | exact Nat.le_refl _) (fun c32 => ?_) (fun c32 => ?_)
            · refine j_iload_n C dX4_moods_96 rfl 1 rfl ?_
              exact j_iret C (by omega) (by omega) (pM.mk hP) dX4_moods_97
            · exfalso; omega
          · refine j_iconst (v := nI 1) C dX4_moods_86 rfl ?_
            refine j_goto C 91 dX4_moods_87 (by decide) ?_
            refine j_istore (lv' := [(4, .int (nI 1)), (3, .int (nI (a ||| 0))), (0, .ref o), (1, .int (nI c)), (2, .int (nI nn))]) C dX4_moods_91 (by decide) rfl ?_
            refine j_goto C 30 dX4_moods_93 (by decide) ?_
            have hj : jdM c nn (a, S) d = (a ||| 0, S) := by unfold jdM; rw [if_neg (fun z => c41 z.1)]
            have hb := c83
            obtain ⟨d', hO'⟩ := gonS_ok hm (show dOK S d from hO) hb
            rw [rowsL_t hm0 hj hb hO'] at hR
            refine j_lv [2, 3, 4, 1, 0] (lv' := [(0, .ref o), (1, .int (nI c)), (2, .int (nI nn)), (3, .int (nI (a ||| 0))), (4, .int (nI 1))]) rfl ?_
            exact ih (a ||| 0) _ d' hO' (gonS_28 _ _ _ h28) hR
      · refine j_aload_n C dX4_moods_44 rfl 0 rfl ?_
        refine mg23 C q1497 dX4_moods_45 ?_
        refine j_aload_n C dX4_moods_48 rfl 0 rfl ?_
        refine mg20 C q1494 dX4_moods_49 (v := nI d) hO.1 ?_
        refine ml14 C (d) rfl (by first | omega | (have q1 := ho d (Nat.le_refl _); omega) | exact Nat.le_refl _) dX4_moods_52 (v := S.2.2.2 14 d) rfl ?_
        refine j_iload_n C dX4_moods_53 rfl 1 rfl ?_
        refine j_icmp_neN C 71 dX4_moods_54 (by decide) (by first | omega | (have q1 := ho d (Nat.le_refl _); omega) | exact Nat.le_refl _) (by first | omega | (have q1 := ho d (Nat.le_refl _); omega) | exact Nat.le_refl _) (fun c54 => ?_) (fun c54 => ?_)
        · refine j_iconst (v := nI 0) C dX4_moods_71 rfl ?_
          refine j_iorN C dX4_moods_72 ?_
          refine j_istore_n (lv' := [(3, .int (nI (a ||| 0))), (0, .ref o), (1, .int (nI c)), (2, .int (nI nn)), (4, .int (nI 1))]) C dX4_moods_73 rfl (by decide) rfl ?_
          refine j_iload_n C dX4_moods_74 rfl 3 rfl ?_
          refine j_if_leN C 90 dX4_moods_75 (by decide) (by first | omega | (have q1 := ho d (Nat.le_refl _); omega) | exact Nat.le_refl _) (fun c75 => ?_) (fun c75 => ?_)
          · subst c75
            refine j_iconst (v := nI 0) C dX4_moods_90 rfl ?_
            refine j_istore (lv' := [(4, .int (nI 0)), (3, .int (nI (a ||| 0))), (0, .ref o), (1, .int (nI c)), (2, .int (nI 0))]) C dX4_moods_91 (by decide) rfl ?_
            refine j_goto C 30 dX4_moods_93 (by decide) ?_
            have hj : jdM c 0 (a, S) d = (a ||| 0, S) := by unfold jdM; rw [if_neg (fun z => c54 z.2)]
            rw [rowsL_0 hj] at hR
            cases hR
            refine j_iload C dX4_moods_30 0 rfl ?_
            refine j_if_eqN C 96 dX4_moods_32 (by decide) (by first | omega | (have q1 := ho d (Nat.le_refl _); omega) | exact Nat.le_refl _) (fun c32 => ?_) (fun c32 => ?_)
            · refine j_iload_n C dX4_moods_96 rfl 1 rfl ?_
              exact j_iret C (by omega) (by omega) (pM.mk hP) dX4_moods_97
            · exfalso; omega
          · have hm0 : nn ≠ 0 := c75
            refine j_aload_n C dX4_moods_78 rfl 1 rfl ?_
            refine j_iload_n C dX4_moods_79 rfl 3 rfl ?_
            refine j_callV C (mX4_goesOn G M sz o S nn d (by first | omega | (have q1 := ho d (Nat.le_refl _); omega) | exact Nat.le_refl _) hO) pI.ret mset_o rfl 1 q1763 q1765 qs52 q73 q1766 (by decide +kernel) rfl (by decide) (by decide) (Nat.le_of_ble_eq_true rfl) rfl dX4_moods_80 (by omega) (by omega) (qI.k ?_)
            refine j_if_eqB C 90 dX4_moods_83 (by decide) (fun c83 => ?_) (fun c83 => ?_)
            · refine j_iconst (v := nI 0) C dX4_moods_90 rfl ?_
              refine j_istore (lv' := [(4, .int (nI 0)), (3, .int (nI (a ||| 0))), (0, .ref o), (1, .int (nI c)), (2, .int (nI nn))]) C dX4_moods_91 (by decide) rfl ?_
              refine j_goto C 30 dX4_moods_93 (by decide) ?_
              have hj : jdM c nn (a, S) d = (a ||| 0, S) := by unfold jdM; rw [if_neg (fun z => c54 z.2)]
              have hb := c83
              rw [rowsL_f hm0 hj hb] at hR
              cases hR
              refine j_iload C dX4_moods_30 0 rfl ?_
              refine j_if_eqN C 96 dX4_moods_32 (by decide) (by first | omega | (have q1 := ho d (Nat.le_refl _); omega) | exact Nat.le_refl _) (fun c32 => ?_) (fun c32 => ?_)
              · refine j_iload_n C dX4_moods_96 rfl 1 rfl ?_
                exact j_iret C (by omega) (by omega) (pM.mk hP) dX4_moods_97
              · exfalso; omega
            · refine j_iconst (v := nI 1) C dX4_moods_86 rfl ?_
              refine j_goto C 91 dX4_moods_87 (by decide) ?_
              refine j_istore (lv' := [(4, .int (nI 1)), (3, .int (nI (a ||| 0))), (0, .ref o), (1, .int (nI c)), (2, .int (nI nn))]) C dX4_moods_91 (by decide) rfl ?_
              refine j_goto C 30 dX4_moods_93 (by decide) ?_
              have hj : jdM c nn (a, S) d = (a ||| 0, S) := by unfold jdM; rw [if_neg (fun z => c54 z.2)]
              have hb := c83
              obtain ⟨d', hO'⟩ := gonS_ok hm (show dOK S d from hO) hb
              rw [rowsL_t hm0 hj hb hO'] at hR
              refine j_lv [2, 3, 4, 1, 0] (lv' := [(0, .ref o), (1, .int (nI c)), (2, .int (nI nn)), (3, .int (nI (a ||| 0))), (4, .int (nI 1))]) rfl ?_
              exact ih (a ||| 0) _ d' hO' (gonS_28 _ _ _ h28) hR
        · refine j_iconst (v := nI 1) C dX4_moods_57 rfl ?_
          refine j_aload_n C dX4_moods_58 rfl 0 rfl ?_
          refine mg24 C q1498 dX4_moods_59 ?_
          refine j_aload_n C dX4_moods_62 rfl 0 rfl ?_
          refine mg20 C q1494 dX4_moods_63 (v := nI d) hO.1 ?_
          refine ml15 C (d) rfl (by first | omega | (have q1 := ho d (Nat.le_refl _); omega) | exact Nat.le_refl _) dX4_moods_66 (v := S.2.2.2 15 d) rfl ?_
          refine j_shl1 C dX4_moods_67 (by first | omega | (have q1 := ho d (Nat.le_refl _); omega) | exact Nat.le_refl _) ?_
          refine j_goto C 72 dX4_moods_68 (by decide) ?_
          refine j_iorN C dX4_moods_72 ?_
          refine j_istore_n (lv' := [(3, .int (nI (a ||| (2 ^ (S.2.2.2 15 d))))), (0, .ref o), (1, .int (nI c)), (2, .int (nI nn)), (4, .int (nI 1))]) C dX4_moods_73 rfl (by decide) rfl ?_
          refine j_iload_n C dX4_moods_74 rfl 3 rfl ?_
          refine j_if_leN C 90 dX4_moods_75 (by decide) (by first | omega | (have q1 := ho d (Nat.le_refl _); omega) | exact Nat.le_refl _) (fun c75 => ?_) (fun c75 => ?_)
          · subst c75
            refine j_iconst (v := nI 0) C dX4_moods_90 rfl ?_
            refine j_istore (lv' := [(4, .int (nI 0)), (3, .int (nI (a ||| (2 ^ (S.2.2.2 15 d))))), (0, .ref o), (1, .int (nI c)), (2, .int (nI 0))]) C dX4_moods_91 (by decide) rfl ?_
            refine j_goto C 30 dX4_moods_93 (by decide) ?_
            have hj : jdM c 0 (a, S) d = (a ||| (2 ^ (S.2.2.2 15 d)), S) := by unfold jdM; rw [if_pos ⟨c41, c54⟩]
            rw [rowsL_0 hj] at hR
            cases hR
            refine j_iload C dX4_moods_30 0 rfl ?_
            refine j_if_eqN C 96 dX4_moods_32 (by decide) (by first | omega | (have q1 := ho d (Nat.le_refl _); omega) | exact Nat.le_refl _) (fun c32 => ?_) (fun c32 => ?_)
            · refine j_iload_n C dX4_moods_96 rfl 1 rfl ?_
              exact j_iret C (by omega) (by omega) (pM.mk hP) dX4_moods_97
            · exfalso; omega
          · have hm0 : nn ≠ 0 := c75
            refine j_aload_n C dX4_moods_78 rfl 1 rfl ?_
            refine j_iload_n C dX4_moods_79 rfl 3 rfl ?_
            refine j_callV C (mX4_goesOn G M sz o S nn d (by first | omega | (have q1 := ho d (Nat.le_refl _); omega) | exact Nat.le_refl _) hO) pI.ret mset_o rfl 1 q1763 q1765 qs52 q73 q1766 (by decide +kernel) rfl (by decide) (by decide) (Nat.le_of_ble_eq_true rfl) rfl dX4_moods_80 (by omega) (by omega) (qI.k ?_)
            refine j_if_eqB C 90 dX4_moods_83 (by decide) (fun c83 => ?_) (fun c83 => ?_)
            · refine j_iconst (v := nI 0) C dX4_moods_90 rfl ?_
              refine j_istore (lv' := [(4, .int (nI 0)), (3, .int (nI (a ||| (2 ^ (S.2.2.2 15 d))))), (0, .ref o), (1, .int (nI c)), (2, .int (nI nn))]) C dX4_moods_91 (by decide) rfl ?_
              refine j_goto C 30 dX4_moods_93 (by decide) ?_
              have hj : jdM c nn (a, S) d = (a ||| (2 ^ (S.2.2.2 15 d)), S) := by unfold jdM; rw [if_pos ⟨c41, c54⟩]
              have hb := c83
              rw [rowsL_f hm0 hj hb] at hR
              cases hR
              refine j_iload C dX4_moods_30 0 rfl ?_
              refine j_if_eqN C 96 dX4_moods_32 (by decide) (by first | omega | (have q1 := ho d (Nat.le_refl _); omega) | exact Nat.le_refl _) (fun c32 => ?_) (fun c32 => ?_)
              · refine j_iload_n C dX4_moods_96 rfl 1 rfl ?_
                exact j_iret C (by omega) (by omega) (pM.mk hP) dX4_moods_97
              · exfalso; omega
            · refine j_iconst (v := nI 1) C dX4_moods_86 rfl ?_
              refine j_goto C 91 dX4_moods_87 (by decide) ?_
              refine j_istore (lv' := [(4, .int (nI 1)), (3, .int (nI (a ||| (2 ^ (S.2.2.2 15 d))))), (0, .ref o), (1, .int (nI c)), (2, .int (nI nn))]) C dX4_moods_91 (by decide) rfl ?_
              refine j_goto C 30 dX4_moods_93 (by decide) ?_
              have hj : jdM c nn (a, S) d = (a ||| (2 ^ (S.2.2.2 15 d)), S) := by unfold jdM; rw [if_pos ⟨c41, c54⟩]
              have hb := c83
              obtain ⟨d', hO'⟩ := gonS_ok hm (show dOK S d from hO) hb
              rw [rowsL_t hm0 hj hb hO'] at hR
              refine j_lv [2, 3, 4, 1, 0] (lv' := [(0, .ref o), (1, .int (nI c)), (2, .int (nI nn)), (3, .int (nI (a ||| (2 ^ (S.2.2.2 15 d))))), (4, .int (nI 1))]) rfl ?_
              exact ih (a ||| (2 ^ (S.2.2.2 15 d))) _ d' hO' (gonS_28 _ _ _ h28) hR
set_option maxHeartbeats 1000000 in
theorem mX4_moods (G : gl_T) (M : Nat → Option (Nat × va_E)) (sz o : Nat) (S : ms_T) (x y : Int32) (ht : smT (S.2.2.2 6)) (h3 : S.2.2.2 6 3 ≤ 999) (h28 : S.2.1 28 ≤ 8) (P : Int32 → ms_T → Prop) (h1 : inB x (nI 0) (nI (S.2.2.2 6 6) - nI 1) = false ∨ inB y (nI 0) (nI 8) = false → P kBAD S) (hF : ∀ j u, x = nI j → j < S.2.2.2 6 6 → y = nI u → u ≤ 8 → ∃ (n : Nat) (R : Nat × ms_T), rowsL u (jdM j u) n (0, bgnS S) 0 = some R ∧ P (nI R.1) R.2) : Mt G yX4_moods cX4_moods 5 (some .int) 4 [.ref o, .int x, .int y] (mset G M o S, sz) (pM G M o sz P) 0 0 := by
  refine Mt.start (by decide) (Nat.le_of_ble_eq_true rfl) (fun k C => ?_)
  have C : Cx G k cX4_moods "MoodFareModel" "moods" 5 (some .int) 4 0 0 _ := C
  have ht0 := ht
  obtain ⟨r0, r1, r2, r3, r4, r5, r6, r7, r25, r26⟩ := ht
  refine j_aload_n C dX4_moods_0 rfl 0 rfl ?_
  refine j_iload_n C dX4_moods_1 rfl 1 rfl ?_
  refine j_callV C (mX4_isCorner G M sz o S x) pI.ret mset_o rfl 1 q1707 q1709 qs46 q73 q1710 (by decide +kernel) rfl (by decide) (by decide) (Nat.le_of_ble_eq_true rfl) rfl dX4_moods_2 (by omega) (by omega) (qI.k ?_)
  refine j_if_eqB C 18 dX4_moods_5 (by decide) (fun c5 => ?_) (fun c5 => ?_)
  · refine j_ldc C q1582 dX4_moods_18 ?_
    exact j_iret C (by omega) (by omega) (pM.mk (h1 (Or.inl c5))) dX4_moods_20
  · obtain ⟨j, rfl, hj⟩ := inB_p (by first | omega | assumption | (intro x hx; have := r26 x hx; omega)) c5
    refine j_iload_n C dX4_moods_8 rfl 2 rfl ?_
    refine j_iconst (v := nI 0) C dX4_moods_9 rfl ?_
    refine j_bipush (v := nI 8) C dX4_moods_10 rfl ?_
    refine j_callS C (mX4_in G (mset G M o S, sz) y (nI 0) (nI 8)) pI.ret 3 q1579 q1580 q73 q1581 (by decide +kernel) rfl (by decide) (by decide) (Nat.le_of_ble_eq_true rfl) rfl dX4_moods_12 (by omega) (by omega) (qI.k ?_)
    refine j_if_neB C 21 dX4_moods_15 (by decide) (fun c15 => ?_) (fun c15 => ?_)
    · obtain ⟨u, rfl, -, hu⟩ := inB_n (by decide) c15 (by decide)
      refine j_aload_n C dX4_moods_21 rfl 0 rfl ?_
      refine j_callV C (mX4_begins G M sz o S) pV.ret mset_o rfl 0 q1755 q1757 qs50 q73 q1758 (by decide +kernel) rfl (by decide) (by decide) (Nat.le_of_ble_eq_true rfl) rfl dX4_moods_22 (by omega) (by omega) (qV.k ?_)
      refine j_iconst (v := nI 0) C dX4_moods_25 rfl ?_
      refine j_istore_n (lv' := [(3, .int (nI 0)), (0, .ref o), (1, .int (nI j)), (2, .int (nI u))]) C dX4_moods_26 rfl (by decide) rfl ?_
      refine j_iconst (v := nI 1) C dX4_moods_27 rfl ?_
      refine j_istore (lv' := [(4, .int (nI 1)), (3, .int (nI 0)), (0, .ref o), (1, .int (nI j)), (2, .int (nI u))]) C dX4_moods_28 (by decide) rfl ?_
      refine j_lv [2, 3, 4, 1, 0] (lv' := [(0, .ref o), (1, .int (nI j)), (2, .int (nI u)), (3, .int (nI 0)), (4, .int (nI 1))]) rfl ?_
      obtain ⟨n, R, hR, hP⟩ := hF j u rfl hj rfl hu
      exact mX4_moods_lo G M sz o k j u P R C hu (by omega) hP n 0 _ 0 (dOK_bgn ht0 h3) h28 hR
    · refine j_ldc C q1582 dX4_moods_18 ?_
      exact j_iret C (by omega) (by omega) (pM.mk (h1 (Or.inr c15))) dX4_moods_20
set_option maxHeartbeats 4000000 in
theorem mX4_gets_lo (G : gl_T) (M : Nat → Option (Nat × va_E)) (sz o : Nat) (k : KX) (mm : Nat) (y : Int32) (P : Int32 → ms_T → Prop) (R : Nat × ms_T) (C : Cx G k cX4_gets "MoodFareModel" "gets" 4 (some .int) 4 0 0 (pM G M o sz P)) (hc : mm < 2 ^ 31) (hy : inB y (-1) (nI 7) = true) (hR28 : R.2.2.1 28 ≤ 8) (t1 : R.2.1 27 = kNONE → P kNONE R.2) (t2 : ¬ R.2.1 27 = kNONE → y = -1 → P (nI (R.2.2.1 28)) R.2) (t4 : ∀ j, ¬ R.2.1 27 = kNONE → y = nI j → j < R.2.2.1 28 → P (nI (R.2.2.2.2 17 j)) R.2) (t5 : ¬ R.2.1 27 = kNONE → ¬ y = -1 → nI (R.2.2.1 28) ≤ y → P kNONE R.2) : ∀ (n a : Nat) (S : ms_T) (d : Nat), dOK S d → S.2.1 28 ≤ 8 → rowsL 8 (jdG mm) n (a, S) d = some R → J G k (mset G M o S, sz) [(0, .ref o), (1, .int (nI mm)), (2, .int y), (3, .int (nI 1))] 45 [] 0 0 := by
  intro n
  induction n with
  | zero => intro a S d hO h28 hR; cases hR
  | succ n ih =>
    intro a S d hO h28 hR
    have hd8 := hO.2.1
    have ho := hO.2.2.2.2.2
    have hod := ho d (Nat.le_refl _)
    refine j_iload_n C dX4_gets_45 rfl 3 rfl ?_
    refine j_if_eqN C 100 dX4_gets_46 (by decide) (by first | omega | (have q1 := ho d (Nat.le_refl _); omega) | exact Nat.le_refl _ | (have := hR28; omega)) (fun c46 => ?_) (fun c46 => ?_)
    · exfalso; omega
    · refine j_aload_n C dX4_gets_49 rfl 0 rfl ?_
      refine mg24 C q1498 dX4_gets_50 ?_
      refine j_aload_n C dX4_gets_53 rfl 0 rfl ?_
      refine mg20 C q1494 dX4_gets_54 (v := nI d) hO.1 ?_
      refine ml15 C (d) rfl (by first | omega | (have q1 := ho d (Nat.le_refl _); omega) | exact Nat.le_refl _ | (have := hR28; omega)) dX4_gets_57 (v := S.2.2.2 15 d) rfl ?_
      refine j_iload_n C dX4_gets_58 rfl 1 rfl ?_
      refine j_icmp_neN C 90 dX4_gets_59 (by decide) (by first | omega | (have q1 := ho d (Nat.le_refl _); omega) | exact Nat.le_refl _ | (have := hR28; omega)) (by first | omega | (have q1 := ho d (Nat.le_refl _); omega) | exact Nat.le_refl _ | (have := hR28; omega)) (fun c59 => ?_) (fun c59 => ?_)
      · refine j_aload_n C dX4_gets_90 rfl 0 rfl ?_
        refine j_bipush (v := nI 8) C dX4_gets_91 rfl ?_
        refine j_callV C (mX4_goesOn G M sz o S 8 d (by first | omega | (have q1 := ho d (Nat.le_refl _); omega) | exact Nat.le_refl _ | (have := hR28; omega)) hO) pI.ret mset_o rfl 1 q1763 q1765 qs52 q73 q1766 (by decide +kernel) rfl (by decide) (by decide) (Nat.le_of_ble_eq_true rfl) rfl dX4_gets_93 (by omega) (by omega) (qI.k ?_)
        refine j_istore_n (lv' := [(3, .int (bZ ((gonS S 8 d).1))), (0, .ref o), (1, .int (nI mm)), (2, .int y)]) C dX4_gets_96 rfl (by decide) rfl ?_
        refine j_goto C 45 dX4_gets_97 (by decide) ?_
        have hj : jdG mm (a, S) d = (a, S) := by simp [jdG, c59] <;> omega
        cases hb : (gonS S 8 d).1
        case' true =>
          refine j_lvI (lv' := [(3, .int (nI 1)), (0, .ref o), (1, .int (nI mm)), (2, .int y)]) 0 rfl (show bZ true = nI 1 from rfl) rfl ?_
          obtain ⟨d', hO'⟩ := gonS_ok (by decide) (show dOK S d from hO) hb
          rw [rowsL_t (by decide) hj hb hO'] at hR
          refine j_lv [1, 2, 3, 0] (lv' := [(0, .ref o), (1, .int (nI mm)), (2, .int y), (3, .int (nI 1))]) rfl ?_
          exact ih a _ d' hO' (gonS_28 _ _ _ h28) hR
        case' false =>
          refine j_lvI (lv' := [(3, .int (nI 0)), (0, .ref o), (1, .int (nI mm)), (2, .int y)]) 0 rfl (show bZ false = nI 0 from rfl) rfl ?_
          rw [rowsL_f (by decide) hj hb] at hR
          cases hR
          refine j_iload_n C dX4_gets_45 rfl 0 rfl ?_
          refine j_if_eqN C 100 dX4_gets_46 (by decide) (by first | omega | (have q1 := ho d (Nat.le_refl _); omega) | exact Nat.le_refl _ | (have := hR28; omega)) (fun c46 => ?_) (fun c46 => ?_)
          · refine j_aload_n C dX4_gets_100 rfl 1 rfl ?_
            refine mg27 C q1501 dX4_gets_101 (v := ((gonS S 8 d).2).1 27) rfl ?_
            refine j_ldc C q1473 dX4_gets_104 ?_
            refine j_icmp_ne C 114 dX4_gets_106 (by decide) (fun c106 => ?_) (fun c106 => ?_)
            · refine j_iload_n C dX4_gets_114 rfl 3 rfl ?_
              refine j_iconst (v := -1) C dX4_gets_115 rfl ?_
              refine j_icmp_ne C 126 dX4_gets_116 (by decide) (fun c116 => ?_) (fun c116 => ?_)
              · refine j_iload_n C dX4_gets_126 rfl 3 rfl ?_
                refine j_aload_n C dX4_gets_127 rfl 1 rfl ?_
                refine mg28 C q1502 dX4_gets_128 (v := ((gonS S 8 d).2).2.1 28) rfl ?_
                refine j_icmp_ge C 143 dX4_gets_131 (by decide) (fun c131 => ?_) (fun c131 => ?_)
                · refine j_ldc C q1473 dX4_gets_143 ?_
                  exact j_iret C (by omega) (by omega) (pM.mk (t5 c106 c116 c131)) dX4_gets_145
                · rcases key_cases (Or.inr rfl) hy hR28 c131 with hq | hq | ⟨j, rfl, hj⟩
                  · exact absurd hq c116
                  · subst hq; exact absurd hy (by decide +kernel)
                  refine j_aload_n C dX4_gets_134 rfl 1 rfl ?_
                  refine mg26 C q1500 dX4_gets_135 ?_
                  refine j_iload_n C dX4_gets_138 rfl 3 rfl ?_
                  refine ml17 C (j) rfl (by first | omega | (have q1 := ho d (Nat.le_refl _); omega) | exact Nat.le_refl _ | (have := hR28; omega)) dX4_gets_139 (v := (((gonS S 8 d).2).2.2.2 17) j) rfl ?_
                  refine j_goto C 145 dX4_gets_140 (by decide) ?_
                  exact j_iret C (by omega) (by omega) (pM.mk (t4 j c106 rfl hj)) dX4_gets_145
              · refine j_aload_n C dX4_gets_119 rfl 1 rfl ?_
                refine mg28 C q1502 dX4_gets_120 (v := ((gonS S 8 d).2).2.1 28) rfl ?_
                refine j_goto C 145 dX4_gets_123 (by decide) ?_
                exact j_iret C (by omega) (by omega) (pM.mk (t2 c106 c116)) dX4_gets_145
            · refine j_ldc C q1473 dX4_gets_109 ?_
              refine j_goto C 145 dX4_gets_111 (by decide) ?_
              exact j_iret C (by omega) (by omega) (pM.mk (t1 c106)) dX4_gets_145
          · exfalso; omega
      · refine j_aload_n C dX4_gets_62 rfl 0 rfl ?_
        refine mg27 C q1501 dX4_gets_63 (v := S.1 27) rfl ?_
        refine j_ldc C q1473 dX4_gets_66 ?_
        refine j_icmp_eq C 82 dX4_gets_68 (by decide) (fun c68 => ?_) (fun c68 => ?_)
        · refine j_aload_n C dX4_gets_82 rfl 0 rfl ?_
          refine j_aload_n C dX4_gets_83 rfl 0 rfl ?_
          refine mg20 C q1494 dX4_gets_84 (v := nI d) hO.1 ?_
          refine j_callV C (mX4_keeps G M sz o S d (by first | omega | (have q1 := ho d (Nat.le_refl _); omega) | exact Nat.le_refl _ | (have := hR28; omega))) pV.ret mset_o rfl 1 q1759 q1761 qs51 q73 q1762 (by decide +kernel) rfl (by decide) (by decide) (Nat.le_of_ble_eq_true rfl) rfl dX4_gets_87 (by omega) (by omega) (qV.k ?_)
          refine j_aload_n C dX4_gets_90 rfl 0 rfl ?_
          refine j_bipush (v := nI 8) C dX4_gets_91 rfl ?_
          refine j_callV C (mX4_goesOn G M sz o (kpsS S d) 8 d (by first | omega | (have q1 := ho d (Nat.le_refl _); omega) | exact Nat.le_refl _ | (have := hR28; omega)) hO) pI.ret mset_o rfl 1 q1763 q1765 qs52 q73 q1766 (by decide +kernel) rfl (by decide) (by decide) (Nat.le_of_ble_eq_true rfl) rfl dX4_gets_93 (by omega) (by omega) (qI.k ?_)
          refine j_istore_n (lv' := [(3, .int (bZ ((gonS (kpsS S d) 8 d).1))), (0, .ref o), (1, .int (nI mm)), (2, .int y)]) C dX4_gets_96 rfl (by decide) rfl ?_
          refine j_goto C 45 dX4_gets_97 (by decide) ?_
          have hj : jdG mm (a, S) d = (a, (kpsS S d)) := by simp [jdG, c59, c68] <;> omega
          cases hb : (gonS (kpsS S d) 8 d).1
          case' true =>
            refine j_lvI (lv' := [(3, .int (nI 1)), (0, .ref o), (1, .int (nI mm)), (2, .int y)]) 0 rfl (show bZ true = nI 1 from rfl) rfl ?_
            obtain ⟨d', hO'⟩ := gonS_ok (by decide) (show dOK (kpsS S d) d from hO) hb
            rw [rowsL_t (by decide) hj hb hO'] at hR
            refine j_lv [1, 2, 3, 0] (lv' := [(0, .ref o), (1, .int (nI mm)), (2, .int y), (3, .int (nI 1))]) rfl ?_
            exact ih a _ d' hO' (gonS_28 _ _ _ hd8) hR
          case' false =>
            refine j_lvI (lv' := [(3, .int (nI 0)), (0, .ref o), (1, .int (nI mm)), (2, .int y)]) 0 rfl (show bZ false = nI 0 from rfl) rfl ?_
            rw [rowsL_f (by decide) hj hb] at hR
            cases hR
            refine j_iload_n C dX4_gets_45 rfl 0 rfl ?_
            refine j_if_eqN C 100 dX4_gets_46 (by decide) (by first | omega | (have q1 := ho d (Nat.le_refl _); omega) | exact Nat.le_refl _ | (have := hR28; omega)) (fun c46 => ?_) (fun c46 => ?_)
            · refine j_aload_n C dX4_gets_100 rfl 1 rfl ?_
              refine mg27 C q1501 dX4_gets_101 (v := ((gonS (kpsS S d) 8 d).2).1 27) rfl ?_
              refine j_ldc C q1473 dX4_gets_104 ?_
              refine j_icmp_ne C 114 dX4_gets_106 (by decide) (fun c106 => ?_) (fun c106 => ?_)
              · refine j_iload_n C dX4_gets_114 rfl 3 rfl ?_
                refine j_iconst (v := -1) C dX4_gets_115 rfl ?_
                refine j_icmp_ne C 126 dX4_gets_116 (by decide) (fun c116 => ?_) (fun c116 => ?_)
                · refine j_iload_n C dX4_gets_126 rfl 3 rfl ?_
                  refine j_aload_n C dX4_gets_127 rfl 1 rfl ?_
                  refine mg28 C q1502 dX4_gets_128 (v := ((gonS (kpsS S d) 8 d).2).2.1 28) rfl ?_
                  refine j_icmp_ge C 143 dX4_gets_131 (by decide) (fun c131 => ?_) (fun c131 => ?_)
                  · refine j_ldc C q1473 dX4_gets_143 ?_
                    exact j_iret C (by omega) (by omega) (pM.mk (t5 c106 c116 c131)) dX4_gets_145
                  · rcases key_cases (Or.inr rfl) hy hR28 c131 with hq | hq | ⟨j, rfl, hj⟩
                    · exact absurd hq c116
                    · subst hq; exact absurd hy (by decide +kernel)
                    refine j_aload_n C dX4_gets_134 rfl 1 rfl ?_
                    refine mg26 C q1500 dX4_gets_135 ?_
                    refine j_iload_n C dX4_gets_138 rfl 3 rfl ?_
                    refine ml17 C (j) rfl (by first | omega | (have q1 := ho d (Nat.le_refl _); omega) | exact Nat.le_refl _ | (have := hR28; omega)) dX4_gets_139 (v := (((gonS (kpsS S d) 8 d).2).2.2.2 17) j) rfl ?_
                    refine j_goto C 145 dX4_gets_140 (by decide) ?_
                    exact j_iret C (by omega) (by omega) (pM.mk (t4 j c106 rfl hj)) dX4_gets_145
                · refine j_aload_n C dX4_gets_119 rfl 1 rfl ?_
                  refine mg28 C q1502 dX4_gets_120 (v := ((gonS (kpsS S d) 8 d).2).2.1 28) rfl ?_
                  refine j_goto C 145 dX4_gets_123 (by decide) ?_
                  exact j_iret C (by omega) (by omega) (pM.mk (t2 c106 c116)) dX4_gets_145
              · refine j_ldc C q1473 dX4_gets_109 ?_
                refine j_goto C 145 dX4_gets_111 (by decide) ?_
                exact j_iret C (by omega) (by omega) (pM.mk (t1 c106)) dX4_gets_145
            · exfalso; omega
        · refine j_aload_n C dX4_gets_71 rfl 0 rfl ?_
          refine mg20 C q1494 dX4_gets_72 (v := nI d) hO.1 ?_
          refine j_aload_n C dX4_gets_75 rfl 0 rfl ?_
          refine mg28 C q1502 dX4_gets_76 (v := S.2.1 28) rfl ?_
          refine j_icmp_geN C 90 dX4_gets_79 (by decide) (by first | omega | (have q1 := ho d (Nat.le_refl _); omega) | exact Nat.le_refl _ | (have := hR28; omega)) (by first | omega | (have q1 := ho d (Nat.le_refl _); omega) | exact Nat.le_refl _ | (have := hR28; omega)) (fun c79 => ?_) (fun c79 => ?_)
          · refine j_aload_n C dX4_gets_90 rfl 0 rfl ?_
            refine j_bipush (v := nI 8) C dX4_gets_91 rfl ?_
            refine j_callV C (mX4_goesOn G M sz o S 8 d (by first | omega | (have q1 := ho d (Nat.le_refl _); omega) | exact Nat.le_refl _ | (have := hR28; omega)) hO) pI.ret mset_o rfl 1 q1763 q1765 qs52 q73 q1766 (by decide +kernel) rfl (by decide) (by decide) (Nat.le_of_ble_eq_true rfl) rfl dX4_gets_93 (by omega) (by omega) (qI.k ?_)
            refine j_istore_n (lv' := [(3, .int (bZ ((gonS S 8 d).1))), (0, .ref o), (1, .int (nI mm)), (2, .int y)]) C dX4_gets_96 rfl (by decide) rfl ?_
            refine j_goto C 45 dX4_gets_97 (by decide) ?_
            have hj : jdG mm (a, S) d = (a, S) := by simp [jdG, c59, c68, c79] <;> omega
            cases hb : (gonS S 8 d).1
            case' true =>
              refine j_lvI (lv' := [(3, .int (nI 1)), (0, .ref o), (1, .int (nI mm)), (2, .int y)]) 0 rfl (show bZ true = nI 1 from rfl) rfl ?_
              obtain ⟨d', hO'⟩ := gonS_ok (by decide) (show dOK S d from hO) hb
              rw [rowsL_t (by decide) hj hb hO'] at hR
              refine j_lv [1, 2, 3, 0] (lv' := [(0, .ref o), (1, .int (nI mm)), (2, .int y), (3, .int (nI 1))]) rfl ?_
              exact ih a _ d' hO' (gonS_28 _ _ _ h28) hR
            case' false =>
              refine j_lvI (lv' := [(3, .int (nI 0)), (0, .ref o), (1, .int (nI mm)), (2, .int y)]) 0 rfl (show bZ false = nI 0 from rfl) rfl ?_
              rw [rowsL_f (by decide) hj hb] at hR
              cases hR
              refine j_iload_n C dX4_gets_45 rfl 0 rfl ?_
              refine j_if_eqN C 100 dX4_gets_46 (by decide) (by first | omega | (have q1 := ho d (Nat.le_refl _); omega) | exact Nat.le_refl _ | (have := hR28; omega)) (fun c46 => ?_) (fun c46 => ?_)
              · refine j_aload_n C dX4_gets_100 rfl 1 rfl ?_
                refine mg27 C q1501 dX4_gets_101 (v := ((gonS S 8 d).2).1 27) rfl ?_
                refine j_ldc C q1473 dX4_gets_104 ?_
                refine j_icmp_ne C 114 dX4_gets_106 (by decide) (fun c106 => ?_) (fun c106 => ?_)
                · refine j_iload_n C dX4_gets_114 rfl 3 rfl ?_
                  refine j_iconst (v := -1) C dX4_gets_115 rfl ?_
                  refine j_icmp_ne C 126 dX4_gets_116 (by decide) (fun c116 => ?_) (fun c116 => ?_)
                  · refine j_iload_n C dX4_gets_126 rfl 3 rfl ?_
                    refine j_aload_n C dX4_gets_127 rfl 1 rfl ?_
                    refine mg28 C q1502 dX4_gets_128 (v := ((gonS S 8 d).2).2.1 28) rfl ?_
                    refine j_icmp_ge C 143 dX4_gets_131 (by decide) (fun c131 => ?_) (fun c131 => ?_)
                    · refine j_ldc C q1473 dX4_gets_143 ?_
                      exact j_iret C (by omega) (by omega) (pM.mk (t5 c106 c116 c131)) dX4_gets_145
                    · rcases key_cases (Or.inr rfl) hy hR28 c131 with hq | hq | ⟨j, rfl, hj⟩
                      · exact absurd hq c116
                      · subst hq; exact absurd hy (by decide +kernel)
                      refine j_aload_n C dX4_gets_134 rfl 1 rfl ?_
                      refine mg26 C q1500 dX4_gets_135 ?_
                      refine j_iload_n C dX4_gets_138 rfl 3 rfl ?_
                      refine ml17 C (j) rfl (by first | omega | (have q1 := ho d (Nat.le_refl _); omega) | exact Nat.le_refl _ | (have := hR28; omega)) dX4_gets_139 (v := (((gonS S 8 d).2).2.2.2 17) j) rfl ?_
                      refine j_goto C 145 dX4_gets_140 (by decide) ?_
                      exact j_iret C (by omega) (by omega) (pM.mk (t4 j c106 rfl hj)) dX4_gets_145
                  · refine j_aload_n C dX4_gets_119 rfl 1 rfl ?_
                    refine mg28 C q1502 dX4_gets_120 (v := ((gonS S 8 d).2).2.1 28) rfl ?_
                    refine j_goto C 145 dX4_gets_123 (by decide) ?_
                    exact j_iret C (by omega) (by omega) (pM.mk (t2 c106 c116)) dX4_gets_145
                · refine j_ldc C q1473 dX4_gets_109 ?_
                  refine j_goto C 145 dX4_gets_111 (by decide) ?_
                  exact j_iret C (by omega) (by omega) (pM.mk (t1 c106)) dX4_gets_145
              · exfalso; omega
          · refine j_aload_n C dX4_gets_82 rfl 0 rfl ?_
            refine j_aload_n C dX4_gets_83 rfl 0 rfl ?_
            refine mg20 C q1494 dX4_gets_84 (v := nI d) hO.1 ?_
            refine j_callV C (mX4_keeps G M sz o S d (by first | omega | (have q1 := ho d (Nat.le_refl _); omega) | exact Nat.le_refl _ | (have := hR28; omega))) pV.ret mset_o rfl 1 q1759 q1761 qs51 q73 q1762 (by decide +kernel) rfl (by decide) (by decide) (Nat.le_of_ble_eq_true rfl) rfl dX4_gets_87 (by omega) (by omega) (qV.k ?_)
            refine j_aload_n C dX4_gets_90 rfl 0 rfl ?_
            refine j_bipush (v := nI 8) C dX4_gets_91 rfl ?_
            refine j_callV C (mX4_goesOn G M sz o (kpsS S d) 8 d (by first | omega | (have q1 := ho d (Nat.le_refl _); omega) | exact Nat.le_refl _ | (have := hR28; omega)) hO) pI.ret mset_o rfl 1 q1763 q1765 qs52 q73 q1766 (by decide +kernel) rfl (by decide) (by decide) (Nat.le_of_ble_eq_true rfl) rfl dX4_gets_93 (by omega) (by omega) (qI.k ?_)
            refine j_istore_n (lv' := [(3, .int (bZ ((gonS (kpsS S d) 8 d).1))), (0, .ref o), (1, .int (nI mm)), (2, .int y)]) C dX4_gets_96 rfl (by decide) rfl ?_
            refine j_goto C 45 dX4_gets_97 (by decide) ?_
            have hj : jdG mm (a, S) d = (a, (kpsS S d)) := by simp [jdG, c59, c68, c79] <;> omega
            cases hb : (gonS (kpsS S d) 8 d).1
            case' true =>
              refine j_lvI (lv' := [(3, .int (nI 1)), (0, .ref o), (1, .int (nI mm)), (2, .int y)]) 0 rfl (show bZ true = nI 1 from rfl) rfl ?_
              obtain ⟨d', hO'⟩ := gonS_ok (by decide) (show dOK (kpsS S d) d from hO) hb
              rw [rowsL_t (by decide) hj hb hO'] at hR
              refine j_lv [1, 2, 3, 0] (lv' := [(0, .ref o), (1, .int (nI mm)), (2, .int y), (3, .int (nI 1))]) rfl ?_
              exact ih a _ d' hO' (gonS_28 _ _ _ hd8) hR
            case' false =>
              refine j_lvI (lv' := [(3, .int (nI 0)), (0, .ref o), (1, .int (nI mm)), (2, .int y)]) 0 rfl (show bZ false = nI 0 from rfl) rfl ?_
              rw [rowsL_f (by decide) hj hb] at hR
              cases hR
              refine j_iload_n C dX4_gets_45 rfl 0 rfl ?_
              refine j_if_eqN C 100 dX4_gets_46 (by decide) (by first | omega | (have q1 := ho d (Nat.le_refl _); omega) | exact Nat.le_refl _ | (have := hR28; omega)) (fun c46 => ?_) (fun c46 => ?_)
              · refine j_aload_n C dX4_gets_100 rfl 1 rfl ?_
                refine mg27 C q1501 dX4_gets_101 (v := ((gonS (kpsS S d) 8 d).2).1 27) rfl ?_
                refine j_ldc C q1473 dX4_gets_104 ?_
                refine j_icmp_ne C 114 dX4_gets_106 (by decide) (fun c106 => ?_) (fun c106 => ?_)
                · refine j_iload_n C dX4_gets_114 rfl 3 rfl ?_
                  refine j_iconst (v := -1) C dX4_gets_115 rfl ?_
                  refine j_icmp_ne C 126 dX4_gets_116 (by decide) (fun c116 => ?_) (fun c116 => ?_)
                  · refine j_iload_n C dX4_gets_126 rfl 3 rfl ?_
                    refine j_aload_n C dX4_gets_127 rfl 1 rfl ?_
                    refine mg28 C q1502 dX4_gets_128 (v := ((gonS (kpsS S d) 8 d).2).2.1 28) rfl ?_
                    refine j_icmp_ge C 143 dX4_gets_131 (by decide) (fun c131 => ?_) (fun c131 => ?_)
                    · refine j_ldc C q1473 dX4_gets_143 ?_
                      exact j_iret C (by omega) (by omega) (pM.mk (t5 c106 c116 c131)) dX4_gets_145
                    · rcases key_cases (Or.inr rfl) hy hR28 c131 with hq | hq | ⟨j, rfl, hj⟩
                      · exact absurd hq c116
                      · subst hq; exact absurd hy (by decide +kernel)
                      refine j_aload_n C dX4_gets_134 rfl 1 rfl ?_
                      refine mg26 C q1500 dX4_gets_135 ?_
                      refine j_iload_n C dX4_gets_138 rfl 3 rfl ?_
                      refine ml17 C (j) rfl (by first | omega | (have q1 := ho d (Nat.le_refl _); omega) | exact Nat.le_refl _ | (have := hR28; omega)) dX4_gets_139 (v := (((gonS (kpsS S d) 8 d).2).2.2.2 17) j) rfl ?_
                      refine j_goto C 145 dX4_gets_140 (by decide) ?_
                      exact j_iret C (by omega) (by omega) (pM.mk (t4 j c106 rfl hj)) dX4_gets_145
                  · refine j_aload_n C dX4_gets_119 rfl 1 rfl ?_
                    refine mg28 C q1502 dX4_gets_120 (v := ((gonS (kpsS S d) 8 d).2).2.1 28) rfl ?_
                    refine j_goto C 145 dX4_gets_123 (by decide) ?_
                    exact j_iret C (by omega) (by omega) (pM.mk (t2 c106 c116)) dX4_gets_145
                · refine j_ldc C q1473 dX4_gets_109 ?_
                  refine j_goto C 145 dX4_gets_111 (by decide) ?_
                  exact j_iret C (by omega) (by omega) (pM.mk (t1 c106)) dX4_gets_145
              · exfalso; omega
set_option maxHeartbeats 1000000 in
theorem mX4_gets (G : gl_T) (M : Nat → Option (Nat × va_E)) (sz o : Nat) (S : ms_T) (x y : Int32) (ht : smT (S.2.2.2 6)) (h3 : S.2.2.2 6 3 ≤ 999) (h28 : S.2.1 28 ≤ 8) (P : Int32 → ms_T → Prop) (h0 : S.2.2.2 6 0 = 0 → P kSTATE S) (h1 : 0 < S.2.2.2 6 0 → inB x (nI 0) (nI 9) = false ∨ inB y (-1) (nI 7) = false → P kBAD S) (hF : ∀ j, x = nI j → j ≤ 9 → 0 < S.2.2.2 6 0 → inB y (-1) (nI 7) = true → ∃ (n : Nat) (R : Nat × ms_T), rowsL 8 (jdG j) n (0, sF (bgnS S) 27 kNONE) 0 = some R ∧ R.2.2.1 28 ≤ 8 ∧ (R.2.1 27 = kNONE → P kNONE R.2) ∧ (¬ R.2.1 27 = kNONE → y = -1 → P (nI (R.2.2.1 28)) R.2) ∧ (∀ j, ¬ R.2.1 27 = kNONE → y = nI j → j < R.2.2.1 28 → P (nI (R.2.2.2.2 17 j)) R.2) ∧ (¬ R.2.1 27 = kNONE → ¬ y = -1 → nI (R.2.2.1 28) ≤ y → P kNONE R.2)) : Mt G yX4_gets cX4_gets 4 (some .int) 4 [.ref o, .int x, .int y] (mset G M o S, sz) (pM G M o sz P) 0 0 := by
  refine Mt.start (by decide) (Nat.le_of_ble_eq_true rfl) (fun k C => ?_)
  have C : Cx G k cX4_gets "MoodFareModel" "gets" 4 (some .int) 4 0 0 _ := C
  have ht0 := ht
  obtain ⟨r0, r1, r2, r3, r4, r5, r6, r7, r25, r26⟩ := ht
  refine j_aload_n C dX4_gets_0 rfl 0 rfl ?_
  refine j_callV C (mX4_isTown G M sz o S (by first | omega | assumption | (intro x hx; have := r26 x hx; omega))) pI.ret mset_o rfl 0 q1715 q1717 qs47 q73 q1718 (by decide +kernel) rfl (by decide) (by decide) (Nat.le_of_ble_eq_true rfl) rfl dX4_gets_1 (by omega) (by omega) (qI.k ?_)
  refine j_if_neB C 10 dX4_gets_4 (by decide) (fun c4 => ?_) (fun c4 => ?_)
  · refine j_iload_n C dX4_gets_10 rfl 1 rfl ?_
    refine j_iconst (v := nI 0) C dX4_gets_11 rfl ?_
    refine j_bipush (v := nI 9) C dX4_gets_12 rfl ?_
    refine j_callS C (mX4_in G (mset G M o S, sz) x (nI 0) (nI 9)) pI.ret 3 q1579 q1580 q73 q1581 (by decide +kernel) rfl (by decide) (by decide) (Nat.le_of_ble_eq_true rfl) rfl dX4_gets_14 (by omega) (by omega) (qI.k ?_)
    refine j_if_eqB C 30 dX4_gets_17 (by decide) (fun c17 => ?_) (fun c17 => ?_)
    · refine j_ldc C q1582 dX4_gets_30 ?_
      exact j_iret C (by omega) (by omega) (pM.mk (h1 (of_decide_eq_true c4) (Or.inl c17))) dX4_gets_32
    · obtain ⟨j, rfl, -, hj⟩ := inB_n (by decide) c17 (by decide)
      refine j_iload_n C dX4_gets_20 rfl 2 rfl ?_
      refine j_iconst (v := -1) C dX4_gets_21 rfl ?_
      refine j_bipush (v := nI 7) C dX4_gets_22 rfl ?_
      refine j_callS C (mX4_in G (mset G M o S, sz) y ((-1)) (nI 7)) pI.ret 3 q1579 q1580 q73 q1581 (by decide +kernel) rfl (by decide) (by decide) (Nat.le_of_ble_eq_true rfl) rfl dX4_gets_24 (by omega) (by omega) (qI.k ?_)
      refine j_if_neB C 33 dX4_gets_27 (by decide) (fun c27 => ?_) (fun c27 => ?_)
      · refine j_aload_n C dX4_gets_33 rfl 0 rfl ?_
        refine j_callV C (mX4_begins G M sz o S) pV.ret mset_o rfl 0 q1755 q1757 qs50 q73 q1758 (by decide +kernel) rfl (by decide) (by decide) (Nat.le_of_ble_eq_true rfl) rfl dX4_gets_34 (by omega) (by omega) (qV.k ?_)
        refine j_aload_n C dX4_gets_37 rfl 0 rfl ?_
        refine j_ldc C q1473 dX4_gets_38 ?_
        refine mp27 C q1501 dX4_gets_40 ?_
        refine j_iconst (v := nI 1) C dX4_gets_43 rfl ?_
        refine j_istore_n (lv' := [(3, .int (nI 1)), (0, .ref o), (1, .int (nI j)), (2, .int y)]) C dX4_gets_44 rfl (by decide) rfl ?_
        refine j_lv [1, 2, 3, 0] (lv' := [(0, .ref o), (1, .int (nI j)), (2, .int y), (3, .int (nI 1))]) rfl ?_
        obtain ⟨n, R, hR, hR28, t1, t2, t4, t5⟩ := hF j rfl hj (of_decide_eq_true c4) c27
        exact mX4_gets_lo G M sz o k j y P R C (by omega) c27 hR28 t1 t2 t4 t5 n 0 _ 0 (dOK_bst ht0 h3) h28 hR
      · refine j_ldc C q1582 dX4_gets_30 ?_
        exact j_iret C (by omega) (by omega) (pM.mk (h1 (of_decide_eq_true c4) (Or.inr c27))) dX4_gets_32
  · refine j_ldc C q1689 dX4_gets_7 ?_
    exact j_iret C (by omega) (by omega) (pM.mk (h0 (by have := of_decide_eq_false c4; omega))) dX4_gets_9
