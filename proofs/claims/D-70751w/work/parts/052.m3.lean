/-! ===== the reference: any town ===== -/
set_option maxRecDepth 100000
set_option maxHeartbeats 1000000 in
theorem mX4_passed (G : gl_T) (w : wd_T) (a τ : Nat) (t : Nat → Nat) (c mood step : Nat) (ha : w.1 a = some (τ, ai (gl_A G 0) 42 (fun i => nI (t i)))) (hc : c < 6) (hm : mood ≤ 9) (hs : step < 2 ^ 31) (hk : t (7 + 3 * c) < 2 ^ 31) (hu : t (7 + 3 * c + 1) ≤ 9) : Mt G yX4_passed cX4_passed 7 (some .int) 0 [.ref a, .int (nI c), .int (nI mood), .int (nI step)] w (qI (nI (psd t c mood step)) w) 0 0 := by
  refine Mt.start (by decide) (Nat.le_of_ble_eq_true rfl) (fun k C => ?_)
  have C : Cx G k cX4_passed "MoodFareModel" "passed" 7 (some .int) 0 0 0 _ := C
  refine j_aload_n C dX4_passed_0 rfl 0 rfl ?_
  refine j_bipush (v := nI 7) C dX4_passed_1 rfl ?_
  refine j_iconst (v := nI 3) C dX4_passed_3 rfl ?_
  refine j_iload_n C dX4_passed_4 rfl 1 rfl ?_
  refine j_imulN C dX4_passed_5 ?_
  refine j_iaddN C dX4_passed_6 ?_
  refine j_iconst (v := nI 1) C dX4_passed_7 rfl ?_
  refine j_iaddN C dX4_passed_8 ?_
  refine j_ialdN C ha ((7 + (3 * c)) + 1) rfl (by omega) (by omega) dX4_passed_9 ?_
  refine j_istore (lv' := [(4, .int (nI (t ((7 + (3 * c)) + 1)))), (0, .ref a), (1, .int (nI c)), (2, .int (nI mood)), (3, .int (nI step))]) C dX4_passed_10 (by decide) rfl ?_
  refine j_iconst (v := nI 0) C dX4_passed_12 rfl ?_
  refine j_istore (lv' := [(5, .int (nI 0)), (4, .int (nI (t ((7 + (3 * c)) + 1)))), (0, .ref a), (1, .int (nI c)), (2, .int (nI mood)), (3, .int (nI step))]) C dX4_passed_13 (by decide) rfl ?_
  refine j_aload_n C dX4_passed_15 rfl 2 rfl ?_
  refine j_bipush (v := nI 7) C dX4_passed_16 rfl ?_
  refine j_iconst (v := nI 3) C dX4_passed_18 rfl ?_
  refine j_iload_n C dX4_passed_19 rfl 3 rfl ?_
  refine j_imulN C dX4_passed_20 ?_
  refine j_iaddN C dX4_passed_21 ?_
  refine j_ialdN C ha (7 + (3 * c)) rfl (by omega) (by omega) dX4_passed_22 ?_
  rcases (show t (7 + (3 * c)) = 1 ∨ t (7 + (3 * c)) = 2 ∨ t (7 + (3 * c)) = 3 ∨ ¬ (1 ≤ t (7 + (3 * c)) ∧ t (7 + (3 * c)) ≤ 3) by omega) with c23 | c23 | c23 | c23
  · refine j_as (y := nI 1) (by rw [c23]) ?_
    refine j_tableIn (off := 25) C 48 dX4_passed_23 (by decide +kernel) (by decide +kernel) (by decide +kernel) (by decide) ?_
    refine j_iload C dX4_passed_48 1 rfl ?_
    refine j_istore (lv' := [(5, .int (nI (t ((7 + (3 * c)) + 1)))), (4, .int (nI (t ((7 + (3 * c)) + 1)))), (0, .ref a), (1, .int (nI c)), (2, .int (nI mood)), (3, .int (nI step))]) C dX4_passed_50 (by decide) rfl ?_
    refine j_goto C 97 dX4_passed_52 (by decide) ?_
    refine j_iload_n C dX4_passed_97 rfl 4 rfl ?_
    refine j_iload C dX4_passed_98 0 rfl ?_
    refine j_iaddN C dX4_passed_100 ?_
    refine j_istore (lv' := [(6, .int (nI (mood + (t ((7 + (3 * c)) + 1))))), (5, .int (nI (t ((7 + (3 * c)) + 1)))), (4, .int (nI (t ((7 + (3 * c)) + 1)))), (0, .ref a), (1, .int (nI c)), (2, .int (nI mood)), (3, .int (nI step))]) C dX4_passed_101 (by decide) rfl ?_
    refine j_iload C dX4_passed_103 0 rfl ?_
    refine j_if_geN C dX4_passed_105 112 (by decide) (by omega) ?_
    refine j_iload C dX4_passed_112 0 rfl ?_
    refine j_bipush (v := nI 9) C dX4_passed_114 rfl ?_
    refine j_icmp_leN C 124 dX4_passed_116 (by decide) (by omega) (by omega) (fun c116 => ?_) (fun c116 => ?_)
    · refine j_iload C dX4_passed_124 0 rfl ?_
      refine j_istore (lv' := [(6, .int (nI (mood + (t ((7 + (3 * c)) + 1))))), (5, .int (nI (t ((7 + (3 * c)) + 1)))), (4, .int (nI (t ((7 + (3 * c)) + 1)))), (0, .ref a), (1, .int (nI c)), (2, .int (nI mood)), (3, .int (nI step))]) C dX4_passed_126 (by decide) rfl ?_
      refine j_aload_n C dX4_passed_128 rfl 3 rfl ?_
      refine j_bipush (v := nI 7) C dX4_passed_129 rfl ?_
      refine j_iconst (v := nI 3) C dX4_passed_131 rfl ?_
      refine j_iload_n C dX4_passed_132 rfl 4 rfl ?_
      refine j_imulN C dX4_passed_133 ?_
      refine j_iaddN C dX4_passed_134 ?_
      refine j_ialdN C ha (7 + (3 * c)) rfl (by omega) (by omega) dX4_passed_135 ?_
      refine j_iconst (v := nI 5) C dX4_passed_136 rfl ?_
      refine j_icmp_neN C 147 dX4_passed_137 (by decide) (by omega) (by omega) (fun c137 => ?_) (fun c137 => ?_)
      · refine j_iload C dX4_passed_147 0 rfl ?_
        exact j_iret C (by omega) (by omega) (pI.mk ⟨congrArg nI (by unfold psd; (repeat' split) <;> omega), rfl⟩) dX4_passed_149
      · refine j_iload C dX4_passed_140 0 rfl ?_
        refine j_iconst (v := nI 2) C dX4_passed_142 rfl ?_
        refine j_idivN C dX4_passed_143 (by omega) (by omega) (by omega) ?_
        refine j_goto C 149 dX4_passed_144 (by decide) ?_
        exact j_iret C (by omega) (by omega) (pI.mk ⟨congrArg nI (by unfold psd; (repeat' split) <;> omega), rfl⟩) dX4_passed_149
    · refine j_bipush (v := nI 9) C dX4_passed_119 rfl ?_
      refine j_goto C 126 dX4_passed_121 (by decide) ?_
      refine j_istore (lv' := [(6, .int (nI 9)), (5, .int (nI (t ((7 + (3 * c)) + 1)))), (4, .int (nI (t ((7 + (3 * c)) + 1)))), (0, .ref a), (1, .int (nI c)), (2, .int (nI mood)), (3, .int (nI step))]) C dX4_passed_126 (by decide) rfl ?_
      refine j_aload_n C dX4_passed_128 rfl 3 rfl ?_
      refine j_bipush (v := nI 7) C dX4_passed_129 rfl ?_
      refine j_iconst (v := nI 3) C dX4_passed_131 rfl ?_
      refine j_iload_n C dX4_passed_132 rfl 4 rfl ?_
      refine j_imulN C dX4_passed_133 ?_
      refine j_iaddN C dX4_passed_134 ?_
      refine j_ialdN C ha (7 + (3 * c)) rfl (by omega) (by omega) dX4_passed_135 ?_
      refine j_iconst (v := nI 5) C dX4_passed_136 rfl ?_
      refine j_icmp_neN C 147 dX4_passed_137 (by decide) (by omega) (by omega) (fun c137 => ?_) (fun c137 => ?_)
      · refine j_iload C dX4_passed_147 0 rfl ?_
        exact j_iret C (by omega) (by omega) (pI.mk ⟨congrArg nI (by unfold psd; (repeat' split) <;> omega), rfl⟩) dX4_passed_149
      · refine j_iload C dX4_passed_140 0 rfl ?_
        refine j_iconst (v := nI 2) C dX4_passed_142 rfl ?_
        refine j_idivN C dX4_passed_143 (by omega) (by omega) (by omega) ?_
        refine j_goto C 149 dX4_passed_144 (by decide) ?_
        exact j_iret C (by omega) (by omega) (pI.mk ⟨congrArg nI (by unfold psd; (repeat' split) <;> omega), rfl⟩) dX4_passed_149
  · refine j_as (y := nI 2) (by rw [c23]) ?_
    refine j_tableIn (off := 32) C 55 dX4_passed_23 (by decide +kernel) (by decide +kernel) (by decide +kernel) (by decide) ?_
    refine j_iload_n C dX4_passed_55 rfl 4 rfl ?_
    refine j_iconst (v := nI 4) C dX4_passed_56 rfl ?_
    refine j_icmp_leN C 67 dX4_passed_57 (by decide) (by omega) (by omega) (fun c57 => ?_) (fun c57 => ?_)
    · refine j_iload C dX4_passed_67 1 rfl ?_
      refine j_istore (lv' := [(5, .int (nI (t ((7 + (3 * c)) + 1)))), (4, .int (nI (t ((7 + (3 * c)) + 1)))), (0, .ref a), (1, .int (nI c)), (2, .int (nI mood)), (3, .int (nI step))]) C dX4_passed_69 (by decide) rfl ?_
      refine j_goto C 97 dX4_passed_71 (by decide) ?_
      refine j_iload_n C dX4_passed_97 rfl 4 rfl ?_
      refine j_iload C dX4_passed_98 0 rfl ?_
      refine j_iaddN C dX4_passed_100 ?_
      refine j_istore (lv' := [(6, .int (nI (mood + (t ((7 + (3 * c)) + 1))))), (5, .int (nI (t ((7 + (3 * c)) + 1)))), (4, .int (nI (t ((7 + (3 * c)) + 1)))), (0, .ref a), (1, .int (nI c)), (2, .int (nI mood)), (3, .int (nI step))]) C dX4_passed_101 (by decide) rfl ?_
      refine j_iload C dX4_passed_103 0 rfl ?_
      refine j_if_geN C dX4_passed_105 112 (by decide) (by omega) ?_
      refine j_iload C dX4_passed_112 0 rfl ?_
      refine j_bipush (v := nI 9) C dX4_passed_114 rfl ?_
      refine j_icmp_leN C 124 dX4_passed_116 (by decide) (by omega) (by omega) (fun c116 => ?_) (fun c116 => ?_)
      · refine j_iload C dX4_passed_124 0 rfl ?_
        refine j_istore (lv' := [(6, .int (nI (mood + (t ((7 + (3 * c)) + 1))))), (5, .int (nI (t ((7 + (3 * c)) + 1)))), (4, .int (nI (t ((7 + (3 * c)) + 1)))), (0, .ref a), (1, .int (nI c)), (2, .int (nI mood)), (3, .int (nI step))]) C dX4_passed_126 (by decide) rfl ?_
        refine j_aload_n C dX4_passed_128 rfl 3 rfl ?_
        refine j_bipush (v := nI 7) C dX4_passed_129 rfl ?_
        refine j_iconst (v := nI 3) C dX4_passed_131 rfl ?_
        refine j_iload_n C dX4_passed_132 rfl 4 rfl ?_
        refine j_imulN C dX4_passed_133 ?_
        refine j_iaddN C dX4_passed_134 ?_
        refine j_ialdN C ha (7 + (3 * c)) rfl (by omega) (by omega) dX4_passed_135 ?_
        refine j_iconst (v := nI 5) C dX4_passed_136 rfl ?_
        refine j_icmp_neN C 147 dX4_passed_137 (by decide) (by omega) (by omega) (fun c137 => ?_) (fun c137 => ?_)
        · refine j_iload C dX4_passed_147 0 rfl ?_
          exact j_iret C (by omega) (by omega) (pI.mk ⟨congrArg nI (by unfold psd; (repeat' split) <;> omega), rfl⟩) dX4_passed_149
        · refine j_iload C dX4_passed_140 0 rfl ?_
          refine j_iconst (v := nI 2) C dX4_passed_142 rfl ?_
          refine j_idivN C dX4_passed_143 (by omega) (by omega) (by omega) ?_
          refine j_goto C 149 dX4_passed_144 (by decide) ?_
          exact j_iret C (by omega) (by omega) (pI.mk ⟨congrArg nI (by unfold psd; (repeat' split) <;> omega), rfl⟩) dX4_passed_149
      · refine j_bipush (v := nI 9) C dX4_passed_119 rfl ?_
        refine j_goto C 126 dX4_passed_121 (by decide) ?_
        refine j_istore (lv' := [(6, .int (nI 9)), (5, .int (nI (t ((7 + (3 * c)) + 1)))), (4, .int (nI (t ((7 + (3 * c)) + 1)))), (0, .ref a), (1, .int (nI c)), (2, .int (nI mood)), (3, .int (nI step))]) C dX4_passed_126 (by decide) rfl ?_
        refine j_aload_n C dX4_passed_128 rfl 3 rfl ?_
        refine j_bipush (v := nI 7) C dX4_passed_129 rfl ?_
        refine j_iconst (v := nI 3) C dX4_passed_131 rfl ?_
        refine j_iload_n C dX4_passed_132 rfl 4 rfl ?_
        refine j_imulN C dX4_passed_133 ?_
        refine j_iaddN C dX4_passed_134 ?_
        refine j_ialdN C ha (7 + (3 * c)) rfl (by omega) (by omega) dX4_passed_135 ?_
        refine j_iconst (v := nI 5) C dX4_passed_136 rfl ?_
        refine j_icmp_neN C 147 dX4_passed_137 (by decide) (by omega) (by omega) (fun c137 => ?_) (fun c137 => ?_)
        · refine j_iload C dX4_passed_147 0 rfl ?_
          exact j_iret C (by omega) (by omega) (pI.mk ⟨congrArg nI (by unfold psd; (repeat' split) <;> omega), rfl⟩) dX4_passed_149
        · refine j_iload C dX4_passed_140 0 rfl ?_
          refine j_iconst (v := nI 2) C dX4_passed_142 rfl ?_
          refine j_idivN C dX4_passed_143 (by omega) (by omega) (by omega) ?_
          refine j_goto C 149 dX4_passed_144 (by decide) ?_
          exact j_iret C (by omega) (by omega) (pI.mk ⟨congrArg nI (by unfold psd; (repeat' split) <;> omega), rfl⟩) dX4_passed_149
    · refine j_iconst (v := nI 2) C dX4_passed_60 rfl ?_
      refine j_iload C dX4_passed_61 1 rfl ?_
      refine j_imulN C dX4_passed_63 ?_
      refine j_goto C 69 dX4_passed_64 (by decide) ?_
      refine j_istore (lv' := [(5, .int (nI (2 * (t ((7 + (3 * c)) + 1))))), (4, .int (nI (t ((7 + (3 * c)) + 1)))), (0, .ref a), (1, .int (nI c)), (2, .int (nI mood)), (3, .int (nI step))]) C dX4_passed_69 (by decide) rfl ?_
      refine j_goto C 97 dX4_passed_71 (by decide) ?_
      refine j_iload_n C dX4_passed_97 rfl 4 rfl ?_
      refine j_iload C dX4_passed_98 0 rfl ?_
      refine j_iaddN C dX4_passed_100 ?_
      refine j_istore (lv' := [(6, .int (nI (mood + (2 * (t ((7 + (3 * c)) + 1)))))), (5, .int (nI (2 * (t ((7 + (3 * c)) + 1))))), (4, .int (nI (t ((7 + (3 * c)) + 1)))), (0, .ref a), (1, .int (nI c)), (2, .int (nI mood)), (3, .int (nI step))]) C dX4_passed_101 (by decide) rfl ?_
      refine j_iload C dX4_passed_103 0 rfl ?_
      refine j_if_geN C dX4_passed_105 112 (by decide) (by omega) ?_
      refine j_iload C dX4_passed_112 0 rfl ?_
      refine j_bipush (v := nI 9) C dX4_passed_114 rfl ?_
      refine j_icmp_leN C 124 dX4_passed_116 (by decide) (by omega) (by omega) (fun c116 => ?_) (fun c116 => ?_)
      · refine j_iload C dX4_passed_124 0 rfl ?_
        refine j_istore (lv' := [(6, .int (nI (mood + (2 * (t ((7 + (3 * c)) + 1)))))), (5, .int (nI (2 * (t ((7 + (3 * c)) + 1))))), (4, .int (nI (t ((7 + (3 * c)) + 1)))), (0, .ref a), (1, .int (nI c)), (2, .int (nI mood)), (3, .int (nI step))]) C dX4_passed_126 (by decide) rfl ?_
        refine j_aload_n C dX4_passed_128 rfl 3 rfl ?_
        refine j_bipush (v := nI 7) C dX4_passed_129 rfl ?_
        refine j_iconst (v := nI 3) C dX4_passed_131 rfl ?_
        refine j_iload_n C dX4_passed_132 rfl 4 rfl ?_
        refine j_imulN C dX4_passed_133 ?_
        refine j_iaddN C dX4_passed_134 ?_
        refine j_ialdN C ha (7 + (3 * c)) rfl (by omega) (by omega) dX4_passed_135 ?_
        refine j_iconst (v := nI 5) C dX4_passed_136 rfl ?_
        refine j_icmp_neN C 147 dX4_passed_137 (by decide) (by omega) (by omega) (fun c137 => ?_) (fun c137 => ?_)
        · refine j_iload C dX4_passed_147 0 rfl ?_
          exact j_iret C (by omega) (by omega) (pI.mk ⟨congrArg nI (by unfold psd; (repeat' split) <;> omega), rfl⟩) dX4_passed_149
        · refine j_iload C dX4_passed_140 0 rfl ?_
          refine j_iconst (v := nI 2) C dX4_passed_142 rfl ?_
          refine j_idivN C dX4_passed_143 (by omega) (by omega) (by omega) ?_
          refine j_goto C 149 dX4_passed_144 (by decide) ?_
          exact j_iret C (by omega) (by omega) (pI.mk ⟨congrArg nI (by unfold psd; (repeat' split) <;> omega), rfl⟩) dX4_passed_149
      · refine j_bipush (v := nI 9) C dX4_passed_119 rfl ?_
        refine j_goto C 126 dX4_passed_121 (by decide) ?_
        refine j_istore (lv' := [(6, .int (nI 9)), (5, .int (nI (2 * (t ((7 + (3 * c)) + 1))))), (4, .int (nI (t ((7 + (3 * c)) + 1)))), (0, .ref a), (1, .int (nI c)), (2, .int (nI mood)), (3, .int (nI step))]) C dX4_passed_126 (by decide) rfl ?_
        refine j_aload_n C dX4_passed_128 rfl 3 rfl ?_
        refine j_bipush (v := nI 7) C dX4_passed_129 rfl ?_
        refine j_iconst (v := nI 3) C dX4_passed_131 rfl ?_
        refine j_iload_n C dX4_passed_132 rfl 4 rfl ?_
        refine j_imulN C dX4_passed_133 ?_
        refine j_iaddN C dX4_passed_134 ?_
        refine j_ialdN C ha (7 + (3 * c)) rfl (by omega) (by omega) dX4_passed_135 ?_
        refine j_iconst (v := nI 5) C dX4_passed_136 rfl ?_
        refine j_icmp_neN C 147 dX4_passed_137 (by decide) (by omega) (by omega) (fun c137 => ?_) (fun c137 => ?_)
        · refine j_iload C dX4_passed_147 0 rfl ?_
          exact j_iret C (by omega) (by omega) (pI.mk ⟨congrArg nI (by unfold psd; (repeat' split) <;> omega), rfl⟩) dX4_passed_149
        · refine j_iload C dX4_passed_140 0 rfl ?_
          refine j_iconst (v := nI 2) C dX4_passed_142 rfl ?_
          refine j_idivN C dX4_passed_143 (by omega) (by omega) (by omega) ?_
          refine j_goto C 149 dX4_passed_144 (by decide) ?_
          exact j_iret C (by omega) (by omega) (pI.mk ⟨congrArg nI (by unfold psd; (repeat' split) <;> omega), rfl⟩) dX4_passed_149
  · refine j_as (y := nI 3) (by rw [c23]) ?_
    refine j_tableIn (off := 51) C 74 dX4_passed_23 (by decide +kernel) (by decide +kernel) (by decide +kernel) (by decide) ?_
    refine j_iload_n C dX4_passed_74 rfl 5 rfl ?_
    refine j_iconst (v := nI 2) C dX4_passed_75 rfl ?_
    refine j_iremN C dX4_passed_76 (by omega) (by omega) (by omega) ?_
    refine j_iconst (v := nI 1) C dX4_passed_77 rfl ?_
    refine j_icmp_neN C 86 dX4_passed_78 (by decide) (by omega) (by omega) (fun c78 => ?_) (fun c78 => ?_)
    · refine j_iconst (v := nI 0) C dX4_passed_86 rfl ?_
      refine j_istore (lv' := [(5, .int (nI 0)), (4, .int (nI (t ((7 + (3 * c)) + 1)))), (0, .ref a), (1, .int (nI c)), (2, .int (nI mood)), (3, .int (nI step))]) C dX4_passed_87 (by decide) rfl ?_
      refine j_goto C 97 dX4_passed_89 (by decide) ?_
      refine j_iload_n C dX4_passed_97 rfl 4 rfl ?_
      refine j_iload C dX4_passed_98 0 rfl ?_
      refine j_iaddN C dX4_passed_100 ?_
      refine j_istore (lv' := [(6, .int (nI (mood + 0))), (5, .int (nI 0)), (4, .int (nI (t ((7 + (3 * c)) + 1)))), (0, .ref a), (1, .int (nI c)), (2, .int (nI mood)), (3, .int (nI step))]) C dX4_passed_101 (by decide) rfl ?_
      refine j_iload C dX4_passed_103 0 rfl ?_
      refine j_if_geN C dX4_passed_105 112 (by decide) (by omega) ?_
      refine j_iload C dX4_passed_112 0 rfl ?_
      refine j_bipush (v := nI 9) C dX4_passed_114 rfl ?_
      refine j_icmp_leN C 124 dX4_passed_116 (by decide) (by omega) (by omega) (fun c116 => ?_) (fun c116 => ?_)
      · refine j_iload C dX4_passed_124 0 rfl ?_
        refine j_istore (lv' := [(6, .int (nI (mood + 0))), (5, .int (nI 0)), (4, .int (nI (t ((7 + (3 * c)) + 1)))), (0, .ref a), (1, .int (nI c)), (2, .int (nI mood)), (3, .int (nI step))]) C dX4_passed_126 (by decide) rfl ?_
        refine j_aload_n C dX4_passed_128 rfl 3 rfl ?_
        refine j_bipush (v := nI 7) C dX4_passed_129 rfl ?_
        refine j_iconst (v := nI 3) C dX4_passed_131 rfl ?_
        refine j_iload_n C dX4_passed_132 rfl 4 rfl ?_
        refine j_imulN C dX4_passed_133 ?_
        refine j_iaddN C dX4_passed_134 ?_
        refine j_ialdN C ha (7 + (3 * c)) rfl (by omega) (by omega) dX4_passed_135 ?_
        refine j_iconst (v := nI 5) C dX4_passed_136 rfl ?_
        refine j_icmp_neN C 147 dX4_passed_137 (by decide) (by omega) (by omega) (fun c137 => ?_) (fun c137 => ?_)
        · refine j_iload C dX4_passed_147 0 rfl ?_
          exact j_iret C (by omega) (by omega) (pI.mk ⟨congrArg nI (by unfold psd; (repeat' split) <;> omega), rfl⟩) dX4_passed_149
        · refine j_iload C dX4_passed_140 0 rfl ?_
          refine j_iconst (v := nI 2) C dX4_passed_142 rfl ?_
          refine j_idivN C dX4_passed_143 (by omega) (by omega) (by omega) ?_
          refine j_goto C 149 dX4_passed_144 (by decide) ?_
          exact j_iret C (by omega) (by omega) (pI.mk ⟨congrArg nI (by unfold psd; (repeat' split) <;> omega), rfl⟩) dX4_passed_149
      · refine j_bipush (v := nI 9) C dX4_passed_119 rfl ?_
        refine j_goto C 126 dX4_passed_121 (by decide) ?_
        refine j_istore (lv' := [(6, .int (nI 9)), (5, .int (nI 0)), (4, .int (nI (t ((7 + (3 * c)) + 1)))), (0, .ref a), (1, .int (nI c)), (2, .int (nI mood)), (3, .int (nI step))]) C dX4_passed_126 (by decide) rfl ?_
        refine j_aload_n C dX4_passed_128 rfl 3 rfl ?_
        refine j_bipush (v := nI 7) C dX4_passed_129 rfl ?_
        refine j_iconst (v := nI 3) C dX4_passed_131 rfl ?_
        refine j_iload_n C dX4_passed_132 rfl 4 rfl ?_
        refine j_imulN C dX4_passed_133 ?_
        refine j_iaddN C dX4_passed_134 ?_
        refine j_ialdN C ha (7 + (3 * c)) rfl (by omega) (by omega) dX4_passed_135 ?_
        refine j_iconst (v := nI 5) C dX4_passed_136 rfl ?_
        refine j_icmp_neN C 147 dX4_passed_137 (by decide) (by omega) (by omega) (fun c137 => ?_) (fun c137 => ?_)
        · refine j_iload C dX4_passed_147 0 rfl ?_
          exact j_iret C (by omega) (by omega) (pI.mk ⟨congrArg nI (by unfold psd; (repeat' split) <;> omega), rfl⟩) dX4_passed_149
        · refine j_iload C dX4_passed_140 0 rfl ?_
          refine j_iconst (v := nI 2) C dX4_passed_142 rfl ?_
          refine j_idivN C dX4_passed_143 (by omega) (by omega) (by omega) ?_
          refine j_goto C 149 dX4_passed_144 (by decide) ?_
          exact j_iret C (by omega) (by omega) (pI.mk ⟨congrArg nI (by unfold psd; (repeat' split) <;> omega), rfl⟩) dX4_passed_149
    · refine j_iload C dX4_passed_81 1 rfl ?_
      refine j_goto C 87 dX4_passed_83 (by decide) ?_
      refine j_istore (lv' := [(5, .int (nI (t ((7 + (3 * c)) + 1)))), (4, .int (nI (t ((7 + (3 * c)) + 1)))), (0, .ref a), (1, .int (nI c)), (2, .int (nI mood)), (3, .int (nI step))]) C dX4_passed_87 (by decide) rfl ?_
      refine j_goto C 97 dX4_passed_89 (by decide) ?_
      refine j_iload_n C dX4_passed_97 rfl 4 rfl ?_
      refine j_iload C dX4_passed_98 0 rfl ?_
      refine j_iaddN C dX4_passed_100 ?_
      refine j_istore (lv' := [(6, .int (nI (mood + (t ((7 + (3 * c)) + 1))))), (5, .int (nI (t ((7 + (3 * c)) + 1)))), (4, .int (nI (t ((7 + (3 * c)) + 1)))), (0, .ref a), (1, .int (nI c)), (2, .int (nI mood)), (3, .int (nI step))]) C dX4_passed_101 (by decide) rfl ?_
      refine j_iload C dX4_passed_103 0 rfl ?_
      refine j_if_geN C dX4_passed_105 112 (by decide) (by omega) ?_
      refine j_iload C dX4_passed_112 0 rfl ?_
      refine j_bipush (v := nI 9) C dX4_passed_114 rfl ?_
      refine j_icmp_leN C 124 dX4_passed_116 (by decide) (by omega) (by omega) (fun c116 => ?_) (fun c116 => ?_)
      · refine j_iload C dX4_passed_124 0 rfl ?_
        refine j_istore (lv' := [(6, .int (nI (mood + (t ((7 + (3 * c)) + 1))))), (5, .int (nI (t ((7 + (3 * c)) + 1)))), (4, .int (nI (t ((7 + (3 * c)) + 1)))), (0, .ref a), (1, .int (nI c)), (2, .int (nI mood)), (3, .int (nI step))]) C dX4_passed_126 (by decide) rfl ?_
        refine j_aload_n C dX4_passed_128 rfl 3 rfl ?_
        refine j_bipush (v := nI 7) C dX4_passed_129 rfl ?_
        refine j_iconst (v := nI 3) C dX4_passed_131 rfl ?_
        refine j_iload_n C dX4_passed_132 rfl 4 rfl ?_
        refine j_imulN C dX4_passed_133 ?_
        refine j_iaddN C dX4_passed_134 ?_
        refine j_ialdN C ha (7 + (3 * c)) rfl (by omega) (by omega) dX4_passed_135 ?_
        refine j_iconst (v := nI 5) C dX4_passed_136 rfl ?_
        refine j_icmp_neN C 147 dX4_passed_137 (by decide) (by omega) (by omega) (fun c137 => ?_) (fun c137 => ?_)
        · refine j_iload C dX4_passed_147 0 rfl ?_
          exact j_iret C (by omega) (by omega) (pI.mk ⟨congrArg nI (by unfold psd; (repeat' split) <;> omega), rfl⟩) dX4_passed_149
        · refine j_iload C dX4_passed_140 0 rfl ?_
          refine j_iconst (v := nI 2) C dX4_passed_142 rfl ?_
          refine j_idivN C dX4_passed_143 (by omega) (by omega) (by omega) ?_
          refine j_goto C 149 dX4_passed_144 (by decide) ?_
          exact j_iret C (by omega) (by omega) (pI.mk ⟨congrArg nI (by unfold psd; (repeat' split) <;> omega), rfl⟩) dX4_passed_149
      · refine j_bipush (v := nI 9) C dX4_passed_119 rfl ?_
        refine j_goto C 126 dX4_passed_121 (by decide) ?_
        refine j_istore (lv' := [(6, .int (nI 9)), (5, .int (nI (t ((7 + (3 * c)) + 1)))), (4, .int (nI (t ((7 + (3 * c)) + 1)))), (0, .ref a), (1, .int (nI c)), (2, .int (nI mood)), (3, .int (nI step))]) C dX4_passed_126 (by decide) rfl ?_
        refine j_aload_n C dX4_passed_128 rfl 3 rfl ?_
        refine j_bipush (v := nI 7) C dX4_passed_129 rfl ?_
        refine j_iconst (v := nI 3) C dX4_passed_131 rfl ?_
        refine j_iload_n C dX4_passed_132 rfl 4 rfl ?_
        refine j_imulN C dX4_passed_133 ?_
        refine j_iaddN C dX4_passed_134 ?_
        refine j_ialdN C ha (7 + (3 * c)) rfl (by omega) (by omega) dX4_passed_135 ?_
        refine j_iconst (v := nI 5) C dX4_passed_136 rfl ?_
        refine j_icmp_neN C 147 dX4_passed_137 (by decide) (by omega) (by omega) (fun c137 => ?_) (fun c137 => ?_)
        · refine j_iload C dX4_passed_147 0 rfl ?_
          exact j_iret C (by omega) (by omega) (pI.mk ⟨congrArg nI (by unfold psd; (repeat' split) <;> omega), rfl⟩) dX4_passed_149
        · refine j_iload C dX4_passed_140 0 rfl ?_
          refine j_iconst (v := nI 2) C dX4_passed_142 rfl ?_
          refine j_idivN C dX4_passed_143 (by omega) (by omega) (by omega) ?_
          refine j_goto C 149 dX4_passed_144 (by decide) ?_
          exact j_iret C (by omega) (by omega) (pI.mk ⟨congrArg nI (by unfold psd; (repeat' split) <;> omega), rfl⟩) dX4_passed_149
  · refine j_tableOut C 92 dX4_passed_23 (by rw [nI_toInt (by omega)]; omega) (by decide) ?_
    refine j_iload C dX4_passed_92 1 rfl ?_
    refine j_ineg C dX4_passed_94 ?_
    refine j_istore (lv' := [(5, .int (-(nI (t ((7 + (3 * c)) + 1))))), (4, .int (nI (t ((7 + (3 * c)) + 1)))), (0, .ref a), (1, .int (nI c)), (2, .int (nI mood)), (3, .int (nI step))]) C dX4_passed_95 (by decide) rfl ?_
    refine j_iload_n C dX4_passed_97 rfl 4 rfl ?_
    refine j_iload C dX4_passed_98 0 rfl ?_
    refine j_iadd C dX4_passed_100 ?_
    by_cases g : t (7 + 3 * c + 1) ≤ mood
    · refine j_as (y := nI (mood - t (7 + 3 * c + 1))) (nI_addneg g) ?_
      refine j_istore (lv' := [(6, .int (nI (mood - t (7 + 3 * c + 1)))), (5, .int (-(nI (t ((7 + (3 * c)) + 1))))), (4, .int (nI (t ((7 + (3 * c)) + 1)))), (0, .ref a), (1, .int (nI c)), (2, .int (nI mood)), (3, .int (nI step))]) C dX4_passed_101 (by decide) rfl ?_
      refine j_iload C dX4_passed_103 0 rfl ?_
      refine j_if_geN C dX4_passed_105 112 (by decide) (by omega) ?_
      refine j_iload C dX4_passed_112 0 rfl ?_
      refine j_bipush (v := nI 9) C dX4_passed_114 rfl ?_
      refine j_icmp_leN C 124 dX4_passed_116 (by decide) (by omega) (by omega) (fun c116 => ?_) (fun c116 => ?_)
      · refine j_iload C dX4_passed_124 0 rfl ?_
        refine j_istore (lv' := [(6, .int (nI (mood - t (7 + 3 * c + 1)))), (5, .int (-(nI (t ((7 + (3 * c)) + 1))))), (4, .int (nI (t ((7 + (3 * c)) + 1)))), (0, .ref a), (1, .int (nI c)), (2, .int (nI mood)), (3, .int (nI step))]) C dX4_passed_126 (by decide) rfl ?_
        refine j_aload_n C dX4_passed_128 rfl 3 rfl ?_
        refine j_bipush (v := nI 7) C dX4_passed_129 rfl ?_
        refine j_iconst (v := nI 3) C dX4_passed_131 rfl ?_
        refine j_iload_n C dX4_passed_132 rfl 4 rfl ?_
        refine j_imulN C dX4_passed_133 ?_
        refine j_iaddN C dX4_passed_134 ?_
        refine j_ialdN C ha (7 + (3 * c)) rfl (by omega) (by omega) dX4_passed_135 ?_
        refine j_iconst (v := nI 5) C dX4_passed_136 rfl ?_
        refine j_icmp_neN C 147 dX4_passed_137 (by decide) (by omega) (by omega) (fun c137 => ?_) (fun c137 => ?_)
        · refine j_iload C dX4_passed_147 0 rfl ?_
          exact j_iret C (by omega) (by omega) (pI.mk ⟨congrArg nI (by unfold psd; (repeat' split) <;> omega), rfl⟩) dX4_passed_149
        · refine j_iload C dX4_passed_140 0 rfl ?_
          refine j_iconst (v := nI 2) C dX4_passed_142 rfl ?_
          refine j_idivN C dX4_passed_143 (by omega) (by omega) (by omega) ?_
          refine j_goto C 149 dX4_passed_144 (by decide) ?_
          exact j_iret C (by omega) (by omega) (pI.mk ⟨congrArg nI (by unfold psd; (repeat' split) <;> omega), rfl⟩) dX4_passed_149
      · refine j_bipush (v := nI 9) C dX4_passed_119 rfl ?_
        refine j_goto C 126 dX4_passed_121 (by decide) ?_
        refine j_istore (lv' := [(6, .int (nI 9)), (5, .int (-(nI (t ((7 + (3 * c)) + 1))))), (4, .int (nI (t ((7 + (3 * c)) + 1)))), (0, .ref a), (1, .int (nI c)), (2, .int (nI mood)), (3, .int (nI step))]) C dX4_passed_126 (by decide) rfl ?_
        refine j_aload_n C dX4_passed_128 rfl 3 rfl ?_
        refine j_bipush (v := nI 7) C dX4_passed_129 rfl ?_
        refine j_iconst (v := nI 3) C dX4_passed_131 rfl ?_
        refine j_iload_n C dX4_passed_132 rfl 4 rfl ?_
        refine j_imulN C dX4_passed_133 ?_
        refine j_iaddN C dX4_passed_134 ?_
        refine j_ialdN C ha (7 + (3 * c)) rfl (by omega) (by omega) dX4_passed_135 ?_
        refine j_iconst (v := nI 5) C dX4_passed_136 rfl ?_
        refine j_icmp_neN C 147 dX4_passed_137 (by decide) (by omega) (by omega) (fun c137 => ?_) (fun c137 => ?_)
        · refine j_iload C dX4_passed_147 0 rfl ?_
          exact j_iret C (by omega) (by omega) (pI.mk ⟨congrArg nI (by unfold psd; (repeat' split) <;> omega), rfl⟩) dX4_passed_149
        · refine j_iload C dX4_passed_140 0 rfl ?_
          refine j_iconst (v := nI 2) C dX4_passed_142 rfl ?_
          refine j_idivN C dX4_passed_143 (by omega) (by omega) (by omega) ?_
          refine j_goto C 149 dX4_passed_144 (by decide) ?_
          exact j_iret C (by omega) (by omega) (pI.mk ⟨congrArg nI (by unfold psd; (repeat' split) <;> omega), rfl⟩) dX4_passed_149
    · refine j_istore (lv' := [(6, .int ((nI mood) + (-(nI (t ((7 + (3 * c)) + 1)))))), (5, .int (-(nI (t ((7 + (3 * c)) + 1))))), (4, .int (nI (t ((7 + (3 * c)) + 1)))), (0, .ref a), (1, .int (nI c)), (2, .int (nI mood)), (3, .int (nI step))]) C dX4_passed_101 (by decide) rfl ?_
      refine j_iload C dX4_passed_103 0 rfl ?_
      refine j_if_ge C 112 dX4_passed_105 (by decide) (fun c105 => ?_) (fun c105 => ?_)
      · exact absurd c105 (nI_addneg_lt (by omega) (by omega))
      · refine j_iconst (v := nI 0) C dX4_passed_108 rfl ?_
        refine j_goto C 126 dX4_passed_109 (by decide) ?_
        refine j_istore (lv' := [(6, .int (nI 0)), (5, .int (-(nI (t ((7 + (3 * c)) + 1))))), (4, .int (nI (t ((7 + (3 * c)) + 1)))), (0, .ref a), (1, .int (nI c)), (2, .int (nI mood)), (3, .int (nI step))]) C dX4_passed_126 (by decide) rfl ?_
        refine j_aload_n C dX4_passed_128 rfl 3 rfl ?_
        refine j_bipush (v := nI 7) C dX4_passed_129 rfl ?_
        refine j_iconst (v := nI 3) C dX4_passed_131 rfl ?_
        refine j_iload_n C dX4_passed_132 rfl 4 rfl ?_
        refine j_imulN C dX4_passed_133 ?_
        refine j_iaddN C dX4_passed_134 ?_
        refine j_ialdN C ha (7 + (3 * c)) rfl (by omega) (by omega) dX4_passed_135 ?_
        refine j_iconst (v := nI 5) C dX4_passed_136 rfl ?_
        refine j_icmp_neN C 147 dX4_passed_137 (by decide) (by omega) (by omega) (fun c137 => ?_) (fun c137 => ?_)
        · refine j_iload C dX4_passed_147 0 rfl ?_
          exact j_iret C (by omega) (by omega) (pI.mk ⟨congrArg nI (by unfold psd; (repeat' split) <;> omega), rfl⟩) dX4_passed_149
        · refine j_iload C dX4_passed_140 0 rfl ?_
          refine j_iconst (v := nI 2) C dX4_passed_142 rfl ?_
          refine j_idivN C dX4_passed_143 (by omega) (by omega) (by omega) ?_
          refine j_goto C 149 dX4_passed_144 (by decide) ?_
          exact j_iret C (by omega) (by omega) (pI.mk ⟨congrArg nI (by unfold psd; (repeat' split) <;> omega), rfl⟩) dX4_passed_149
set_option maxHeartbeats 1000000 in
theorem mX4_cost (G : gl_T) (w : wd_T) (a τ : Nat) (t : Nat → Nat) (c mood step : Nat) (ha : w.1 a = some (τ, ai (gl_A G 0) 42 (fun i => nI (t i)))) (hc : c < 6) (hm : mood ≤ 9) (hs : step < 2 ^ 31) (hk : t (7 + 3 * c) < 2 ^ 31) (hu : t (7 + 3 * c + 1) ≤ 9) : Mt G yX4_cost cX4_cost 5 (some .int) 1 [.ref a, .int (nI c), .int (nI mood), .int (nI step)] w (qI (nI (csd t c mood step)) w) 0 0 := by
  refine Mt.start (by decide) (Nat.le_of_ble_eq_true rfl) (fun k C => ?_)
  have C : Cx G k cX4_cost "MoodFareModel" "cost" 5 (some .int) 1 0 0 _ := C
  refine j_aload_n C dX4_cost_0 rfl 0 rfl ?_
  refine j_iload_n C dX4_cost_1 rfl 1 rfl ?_
  refine j_iload_n C dX4_cost_2 rfl 2 rfl ?_
  refine j_iload_n C dX4_cost_3 rfl 3 rfl ?_
  refine j_callS C (mX4_passed G w a τ t c mood step ha (by first | omega | (have := psd_le (t := t) (c := c) (step := step) hm; omega)) (by first | omega | (have := psd_le (t := t) (c := c) (step := step) hm; omega)) (by first | omega | (have := psd_le (t := t) (c := c) (step := step) hm; omega)) (by first | omega | (have := psd_le (t := t) (c := c) (step := step) hm; omega)) (by first | omega | (have := psd_le (t := t) (c := c) (step := step) hm; omega))) pI.ret 4 q1700 q1701 q73 q1702 (by decide +kernel) rfl (by decide) (by decide) (Nat.le_of_ble_eq_true rfl) rfl dX4_cost_4 (by omega) (by omega) (qI.k ?_)
  refine j_istore (lv' := [(4, .int (nI (psd t c mood step))), (0, .ref a), (1, .int (nI c)), (2, .int (nI mood)), (3, .int (nI step))]) C dX4_cost_7 (by decide) rfl ?_
  refine j_iload C dX4_cost_9 0 rfl ?_
  refine j_iload_n C dX4_cost_11 rfl 3 rfl ?_
  refine j_icmp_leN C 22 dX4_cost_12 (by decide) (by first | omega | (have := psd_le (t := t) (c := c) (step := step) hm; omega)) (by first | omega | (have := psd_le (t := t) (c := c) (step := step) hm; omega)) (fun c12 => ?_) (fun c12 => ?_)
  · refine j_iload_n C dX4_cost_22 rfl 3 rfl ?_
    refine j_iload C dX4_cost_23 0 rfl ?_
    refine j_isubN C dX4_cost_25 (by first | omega | (have := psd_le (t := t) (c := c) (step := step) hm; omega)) ?_
    refine j_aload_n C dX4_cost_26 rfl 1 rfl ?_
    refine j_iconst (v := nI 0) C dX4_cost_27 rfl ?_
    refine j_ialdN C ha (0) rfl (by first | omega | (have := psd_le (t := t) (c := c) (step := step) hm; omega)) (by omega) dX4_cost_28 ?_
    refine j_imulN C dX4_cost_29 ?_
    refine j_aload_n C dX4_cost_30 rfl 1 rfl ?_
    refine j_bipush (v := nI 7) C dX4_cost_31 rfl ?_
    refine j_iconst (v := nI 3) C dX4_cost_33 rfl ?_
    refine j_iload_n C dX4_cost_34 rfl 2 rfl ?_
    refine j_imulN C dX4_cost_35 ?_
    refine j_iaddN C dX4_cost_36 ?_
    refine j_iconst (v := nI 2) C dX4_cost_37 rfl ?_
    refine j_iaddN C dX4_cost_38 ?_
    refine j_ialdN C ha ((7 + (3 * c)) + 2) rfl (by first | omega | (have := psd_le (t := t) (c := c) (step := step) hm; omega)) (by omega) dX4_cost_39 ?_
    refine j_iaddN C dX4_cost_40 ?_
    exact j_iret C (by omega) (by omega) (pI.mk ⟨congrArg nI (by unfold csd; split <;> first | rfl | omega), rfl⟩) dX4_cost_41
  · refine j_iload C dX4_cost_15 0 rfl ?_
    refine j_iload_n C dX4_cost_17 rfl 3 rfl ?_
    refine j_isubN C dX4_cost_18 (by first | omega | (have := psd_le (t := t) (c := c) (step := step) hm; omega)) ?_
    refine j_goto C 26 dX4_cost_19 (by decide) ?_
    refine j_aload_n C dX4_cost_26 rfl 1 rfl ?_
    refine j_iconst (v := nI 0) C dX4_cost_27 rfl ?_
    refine j_ialdN C ha (0) rfl (by first | omega | (have := psd_le (t := t) (c := c) (step := step) hm; omega)) (by omega) dX4_cost_28 ?_
    refine j_imulN C dX4_cost_29 ?_
    refine j_aload_n C dX4_cost_30 rfl 1 rfl ?_
    refine j_bipush (v := nI 7) C dX4_cost_31 rfl ?_
    refine j_iconst (v := nI 3) C dX4_cost_33 rfl ?_
    refine j_iload_n C dX4_cost_34 rfl 2 rfl ?_
    refine j_imulN C dX4_cost_35 ?_
    refine j_iaddN C dX4_cost_36 ?_
    refine j_iconst (v := nI 2) C dX4_cost_37 rfl ?_
    refine j_iaddN C dX4_cost_38 ?_
    refine j_ialdN C ha ((7 + (3 * c)) + 2) rfl (by first | omega | (have := psd_le (t := t) (c := c) (step := step) hm; omega)) (by omega) dX4_cost_39 ?_
    refine j_iaddN C dX4_cost_40 ?_
    exact j_iret C (by omega) (by omega) (pI.mk ⟨congrArg nI (by unfold csd; split <;> first | rfl | omega), rfl⟩) dX4_cost_41
set_option maxHeartbeats 1000000 in
theorem mX4_goes (G : gl_T) (w : wd_T) (a τ : Nat) (t : Nat → Nat) (x : Int32) (f : Nat) (ha : w.1 a = some (τ, ai (gl_A G 0) 42 (fun i => nI (t i)))) (h25 : t 25 ≤ 8) (h5 : t 5 < 2 ^ 31) (hx : ∀ x, x < 8 → t (26 + 2 * x) < 2 ^ 31) (hf : f < 2 ^ 31) : Mt G yX4_goes cX4_goes 3 (some .boolean) 1 [.ref a, .int x, .int (nI f)] w (qI (bZ (goB t x f)) w) 0 0 := by
  refine Mt.start (by decide) (Nat.le_of_ble_eq_true rfl) (fun k C => ?_)
  have C : Cx G k cX4_goes "MoodFareModel" "goes" 3 (some .boolean) 1 0 0 _ := C
  refine j_iload_n C dX4_goes_0 rfl 1 rfl ?_
  refine j_iconst (v := nI 0) C dX4_goes_1 rfl ?_
  refine j_aload_n C dX4_goes_2 rfl 0 rfl ?_
  refine j_bipush (v := nI 25) C dX4_goes_3 rfl ?_
  refine j_ialdN C ha (25) rfl (by omega) (by omega) dX4_goes_5 ?_
  refine j_iconst (v := nI 1) C dX4_goes_6 rfl ?_
  refine j_isub C dX4_goes_7 ?_
  refine j_callS C (mX4_in G w x (nI 0) (nI (t 25) - nI 1)) pI.ret 3 q1579 q1580 q73 q1581 (by decide +kernel) rfl (by decide) (by decide) (Nat.le_of_ble_eq_true rfl) rfl dX4_goes_8 (by omega) (by omega) (qI.k ?_)
  refine j_if_eqB C 40 dX4_goes_11 (by decide) (fun c11 => ?_) (fun c11 => ?_)
  · refine j_iconst (v := nI 0) C dX4_goes_40 rfl ?_
    exact j_zret C (by decide +kernel) (by omega) (by omega) (pI.mk ⟨by simp [bZ, goB, c11], rfl⟩) dX4_goes_41
  · obtain ⟨j, rfl, hj⟩ := inB_p (by omega) c11
    have hxj := hx j (by omega)
    refine j_aload_n C dX4_goes_14 rfl 0 rfl ?_
    refine j_iconst (v := nI 5) C dX4_goes_15 rfl ?_
    refine j_ialdN C ha (5) rfl (by omega) (by omega) dX4_goes_16 ?_
    refine j_iload_n C dX4_goes_17 rfl 1 rfl ?_
    refine j_callS C (mX4_has G w (t 5) j (by omega) (by omega)) pI.ret 2 q1686 q1687 q73 q1688 (by decide +kernel) rfl (by decide) (by decide) (Nat.le_of_ble_eq_true rfl) rfl dX4_goes_18 (by omega) (by omega) (qI.k ?_)
    refine j_if_eqB C 40 dX4_goes_21 (by decide) (fun c21 => ?_) (fun c21 => ?_)
    · refine j_iconst (v := nI 0) C dX4_goes_40 rfl ?_
      exact j_zret C (by decide +kernel) (by omega) (by omega) (pI.mk ⟨by rw [goB_i (by omega) (by omega)]; simp [bZ, goN, c21], rfl⟩) dX4_goes_41
    · refine j_aload_n C dX4_goes_24 rfl 0 rfl ?_
      refine j_bipush (v := nI 26) C dX4_goes_25 rfl ?_
      refine j_iconst (v := nI 2) C dX4_goes_27 rfl ?_
      refine j_iload_n C dX4_goes_28 rfl 1 rfl ?_
      refine j_imulN C dX4_goes_29 ?_
      refine j_iaddN C dX4_goes_30 ?_
      refine j_ialdN C ha (26 + (2 * j)) rfl (by omega) (by omega) dX4_goes_31 ?_
      refine j_iload_n C dX4_goes_32 rfl 2 rfl ?_
      refine j_icmp_neN C 40 dX4_goes_33 (by decide) (by omega) (by omega) (fun c33 => ?_) (fun c33 => ?_)
      · refine j_iconst (v := nI 0) C dX4_goes_40 rfl ?_
        exact j_zret C (by decide +kernel) (by omega) (by omega) (pI.mk ⟨by rw [goB_i (by omega) (by omega)]; simp [bZ, goN, c33], rfl⟩) dX4_goes_41
      · refine j_iconst (v := nI 1) C dX4_goes_36 rfl ?_
        refine j_goto C 41 dX4_goes_37 (by decide) ?_
        exact j_zret C (by decide +kernel) (by omega) (by omega) (pI.mk ⟨by rw [goB_i (by omega) (by omega)]; simp [bZ, goN, hj, c21, c33], rfl⟩) dX4_goes_41
set_option maxHeartbeats 1000000 in
theorem mX4_rides (G : gl_T) (w : wd_T) (a τ : Nat) (t : Nat → Nat) (x : Nat) (ha : w.1 a = some (τ, ai (gl_A G 0) 42 (fun i => nI (t i)))) (ht : smT t) (hx : x < 8) : Mt G yX4_rides cX4_rides 4 none 2 [.ref a, .int (nI x)] w (qV (mu w.1 a τ (ai (gl_A G 0) 42 (fun i => nI (rdT t x i))), w.2)) 0 0 := by
  refine Mt.start (by decide) (Nat.le_of_ble_eq_true rfl) (fun k C => ?_)
  have C : Cx G k cX4_rides "MoodFareModel" "rides" 4 none 2 0 0 _ := C
  have q1 := csd_le (step := t 3) ht (ht.2.2.2.2.2.2.2.2.2 x hx).2 ht.2.1
  obtain ⟨r0, r1, r2, r3, r4, r5, r6, r7, r25, r26⟩ := ht
  have rx := r26 x hx
  have rc := r7 _ rx.2
  refine j_aload_n C dX4_rides_0 rfl 0 rfl ?_
  refine j_bipush (v := nI 26) C dX4_rides_1 rfl ?_
  refine j_iconst (v := nI 2) C dX4_rides_3 rfl ?_
  refine j_iload_n C dX4_rides_4 rfl 1 rfl ?_
  refine j_imulN C dX4_rides_5 ?_
  refine j_iaddN C dX4_rides_6 ?_
  refine j_iconst (v := nI 1) C dX4_rides_7 rfl ?_
  refine j_iaddN C dX4_rides_8 ?_
  refine j_ialdN C ha ((26 + (2 * x)) + 1) rfl (by first | omega | (rw [uN_n (by omega)]; omega)) (by omega) dX4_rides_9 ?_
  refine j_istore_n (lv' := [(2, .int (nI (t ((26 + (2 * x)) + 1)))), (0, .ref a), (1, .int (nI x))]) C dX4_rides_10 rfl (by decide) rfl ?_
  refine j_aload_n C dX4_rides_11 rfl 1 rfl ?_
  refine j_iconst (v := nI 2) C dX4_rides_12 rfl ?_
  refine j_ialdN C ha (2) rfl (by first | omega | (rw [uN_n (by omega)]; omega)) (by omega) dX4_rides_13 ?_
  refine j_aload_n C dX4_rides_14 rfl 1 rfl ?_
  refine j_iload_n C dX4_rides_15 rfl 0 rfl ?_
  refine j_aload_n C dX4_rides_16 rfl 1 rfl ?_
  refine j_iconst (v := nI 1) C dX4_rides_17 rfl ?_
  refine j_ialdN C ha (1) rfl (by first | omega | (rw [uN_n (by omega)]; omega)) (by omega) dX4_rides_18 ?_
  refine j_aload_n C dX4_rides_19 rfl 1 rfl ?_
  refine j_iconst (v := nI 3) C dX4_rides_20 rfl ?_
  refine j_ialdN C ha (3) rfl (by first | omega | (rw [uN_n (by omega)]; omega)) (by omega) dX4_rides_21 ?_
  refine j_callS C (mX4_cost G w a τ t (t ((26 + (2 * x)) + 1)) (t 1) (t 3) ha (by first | omega | (rw [uN_n (by omega)]; omega)) (by first | omega | (rw [uN_n (by omega)]; omega)) (by first | omega | (rw [uN_n (by omega)]; omega)) (by first | omega | (rw [uN_n (by omega)]; omega)) (by first | omega | (rw [uN_n (by omega)]; omega))) pI.ret 4 q1697 q1698 q73 q1699 (by decide +kernel) rfl (by decide) (by decide) (Nat.le_of_ble_eq_true rfl) rfl dX4_rides_22 (by omega) (by omega) (qI.k ?_)
  refine j_iaddN C dX4_rides_25 ?_
  refine j_istore_n (lv' := [(3, .int (nI ((t 2) + (csd t (t ((26 + (2 * x)) + 1)) (t 1) (t 3))))), (2, .int (nI (t ((26 + (2 * x)) + 1)))), (0, .ref a), (1, .int (nI x))]) C dX4_rides_26 rfl (by decide) rfl ?_
  refine j_aload_n C dX4_rides_27 rfl 2 rfl ?_
  refine j_iconst (v := nI 2) C dX4_rides_28 rfl ?_
  refine j_iload_n C dX4_rides_29 rfl 0 rfl ?_
  refine j_sipush (v := nI 9999) C dX4_rides_30 rfl ?_
  refine j_icmp_leN C 42 dX4_rides_33 (by decide) (by first | omega | (rw [uN_n (by omega)]; omega)) (by first | omega | (rw [uN_n (by omega)]; omega)) (fun c33 => ?_) (fun c33 => ?_)
  · refine j_iload_n C dX4_rides_42 rfl 0 rfl ?_
    refine j_nst C ha (2) rfl (by first | omega | (rw [uN_n (by omega)]; omega)) (by omega) dX4_rides_43 ?_
    refine j_aload_n C dX4_rides_44 rfl 2 rfl ?_
    refine j_iconst (v := nI 1) C dX4_rides_45 rfl ?_
    refine j_aload_n C dX4_rides_46 rfl 2 rfl ?_
    refine j_iload_n C dX4_rides_47 rfl 1 rfl ?_
    refine j_aload_n C dX4_rides_48 rfl 2 rfl ?_
    refine j_iconst (v := nI 1) C dX4_rides_49 rfl ?_
    refine j_ialdN C mu_s (1) rfl (by first | omega | (rw [uN_n (by omega)]; omega)) (by omega) dX4_rides_50 ?_
    refine j_as (y := nI (t 1)) (congrArg nI (by rw [uN_n (by omega)])) ?_
    refine j_aload_n C dX4_rides_51 rfl 2 rfl ?_
    refine j_iconst (v := nI 3) C dX4_rides_52 rfl ?_
    refine j_ialdN C mu_s (3) rfl (by first | omega | (rw [uN_n (by omega)]; omega)) (by omega) dX4_rides_53 ?_
    refine j_as (y := nI (t 3)) (congrArg nI (by rw [uN_n (by omega)])) ?_
    refine j_callS C (mX4_passed G (mu w.1 a τ (ai (gl_A G 0) 42 (fun i => nI ((uN t 2 ((t 2) + (csd t (t ((26 + (2 * x)) + 1)) (t 1) (t 3)))) i))), w.2) a τ (uN t 2 ((t 2) + (csd t (t ((26 + (2 * x)) + 1)) (t 1) (t 3)))) (t ((26 + (2 * x)) + 1)) (t 1) (t 3) mu_s (by first | omega | (rw [uN_n (by omega)]; omega)) (by first | omega | (rw [uN_n (by omega)]; omega)) (by first | omega | (rw [uN_n (by omega)]; omega)) (by first | omega | (rw [uN_n (by omega)]; omega)) (by first | omega | (rw [uN_n (by omega)]; omega))) pI.ret 4 q1700 q1701 q73 q1702 (by decide +kernel) rfl (by decide) (by decide) (Nat.le_of_ble_eq_true rfl) rfl dX4_rides_54 (by omega) (by omega) (qI.k ?_)
    refine j_as (y := nI (psd t (t (26 + 2 * x + 1)) (t 1) (t 3))) (congrArg nI (psd_uN (by omega))) ?_
    refine j_nst2 C (1) rfl (by first | omega | (rw [uN_n (by omega)]; omega)) (by omega) dX4_rides_57 ?_
    refine j_aload_n C dX4_rides_58 rfl 2 rfl ?_
    refine j_iconst (v := nI 4) C dX4_rides_59 rfl ?_
    refine j_iload_n C dX4_rides_60 rfl 1 rfl ?_
    refine j_nst2 C (4) rfl (by first | omega | (rw [uN_n (by omega)]; omega)) (by omega) dX4_rides_61 ?_
    refine j_aload_n C dX4_rides_62 rfl 2 rfl ?_
    refine j_iconst (v := nI 3) C dX4_rides_63 rfl ?_
    refine j_dup2 C dX4_rides_64 rfl rfl ?_
    refine j_ialdN C mu_s (3) rfl (by first | omega | (rw [uN_n (by omega)]; omega)) (by omega) dX4_rides_65 ?_
    refine j_as (y := nI (t 3)) (congrArg nI (by rw [uN_n (by omega), uN_n (by omega), uN_n (by omega)])) ?_
    refine j_iconst (v := nI 1) C dX4_rides_66 rfl ?_
    refine j_iaddN C dX4_rides_67 ?_
    refine j_nst2 C (3) rfl (by first | omega | (rw [uN_n (by omega)]; omega)) (by omega) dX4_rides_68 ?_
    exact j_vret C (by omega) (by omega) (pV.mk (by unfold rdT; rw [Nat.min_eq_right (by omega)])) dX4_rides_69
  · refine j_sipush (v := nI 9999) C dX4_rides_36 rfl ?_
    refine j_goto C 43 dX4_rides_39 (by decide) ?_
    refine j_nst C ha (2) rfl (by first | omega | (rw [uN_n (by omega)]; omega)) (by omega) dX4_rides_43 ?_
    refine j_aload_n C dX4_rides_44 rfl 2 rfl ?_
    refine j_iconst (v := nI 1) C dX4_rides_45 rfl ?_
    refine j_aload_n C dX4_rides_46 rfl 2 rfl ?_
    refine j_iload_n C dX4_rides_47 rfl 1 rfl ?_
    refine j_aload_n C dX4_rides_48 rfl 2 rfl ?_
    refine j_iconst (v := nI 1) C dX4_rides_49 rfl ?_
    refine j_ialdN C mu_s (1) rfl (by first | omega | (rw [uN_n (by omega)]; omega)) (by omega) dX4_rides_50 ?_
    refine j_as (y := nI (t 1)) (congrArg nI (by rw [uN_n (by omega)])) ?_
    refine j_aload_n C dX4_rides_51 rfl 2 rfl ?_
    refine j_iconst (v := nI 3) C dX4_rides_52 rfl ?_
    refine j_ialdN C mu_s (3) rfl (by first | omega | (rw [uN_n (by omega)]; omega)) (by omega) dX4_rides_53 ?_
    refine j_as (y := nI (t 3)) (congrArg nI (by rw [uN_n (by omega)])) ?_
    refine j_callS C (mX4_passed G (mu w.1 a τ (ai (gl_A G 0) 42 (fun i => nI ((uN t 2 9999) i))), w.2) a τ (uN t 2 9999) (t ((26 + (2 * x)) + 1)) (t 1) (t 3) mu_s (by first | omega | (rw [uN_n (by omega)]; omega)) (by first | omega | (rw [uN_n (by omega)]; omega)) (by first | omega | (rw [uN_n (by omega)]; omega)) (by first | omega | (rw [uN_n (by omega)]; omega)) (by first | omega | (rw [uN_n (by omega)]; omega))) pI.ret 4 q1700 q1701 q73 q1702 (by decide +kernel) rfl (by decide) (by decide) (Nat.le_of_ble_eq_true rfl) rfl dX4_rides_54 (by omega) (by omega) (qI.k ?_)
    refine j_as (y := nI (psd t (t (26 + 2 * x + 1)) (t 1) (t 3))) (congrArg nI (psd_uN (by omega))) ?_
    refine j_nst2 C (1) rfl (by first | omega | (rw [uN_n (by omega)]; omega)) (by omega) dX4_rides_57 ?_
    refine j_aload_n C dX4_rides_58 rfl 2 rfl ?_
    refine j_iconst (v := nI 4) C dX4_rides_59 rfl ?_
    refine j_iload_n C dX4_rides_60 rfl 1 rfl ?_
    refine j_nst2 C (4) rfl (by first | omega | (rw [uN_n (by omega)]; omega)) (by omega) dX4_rides_61 ?_
    refine j_aload_n C dX4_rides_62 rfl 2 rfl ?_
    refine j_iconst (v := nI 3) C dX4_rides_63 rfl ?_
    refine j_dup2 C dX4_rides_64 rfl rfl ?_
    refine j_ialdN C mu_s (3) rfl (by first | omega | (rw [uN_n (by omega)]; omega)) (by omega) dX4_rides_65 ?_
    refine j_as (y := nI (t 3)) (congrArg nI (by rw [uN_n (by omega), uN_n (by omega), uN_n (by omega)])) ?_
    refine j_iconst (v := nI 1) C dX4_rides_66 rfl ?_
    refine j_iaddN C dX4_rides_67 ?_
    refine j_nst2 C (3) rfl (by first | omega | (rw [uN_n (by omega)]; omega)) (by omega) dX4_rides_68 ?_
    exact j_vret C (by omega) (by omega) (pV.mk (by unfold rdT; rw [Nat.min_eq_left (by omega)])) dX4_rides_69
set_option maxHeartbeats 1000000 in
theorem mX4_copies (G : gl_T) (w : wd_T) (a τ b σ na nb p q : Nat) (f g : Nat → Nat) (ha : w.1 a = some (τ, ai (gl_A G 0) na (fun i => nI (f i)))) (hb : w.1 b = some (σ, ai (gl_A G 0) nb (fun i => nI (g i)))) (hab : a ≠ b) (hp : p + 42 ≤ na) (hq : q + 42 ≤ nb) (hna : na < 2 ^ 31) (hnb : nb < 2 ^ 31) : Mt G yX4_copies cX4_copies 5 none 0 [.ref a, .int (nI p), .ref b, .int (nI q)] w (qV (mu w.1 b σ (ai (gl_A G 0) nb (fun i => nI (va_cpy f g p q 42 i))), w.2)) 0 0 := by
  refine Mt.start (by decide) (Nat.le_of_ble_eq_true rfl) (fun k C => ?_)
  have C : Cx G k cX4_copies "MoodFareModel" "copies" 5 none 0 0 0 _ := C
  refine j_iconst (v := nI 0) C dX4_copies_0 rfl ?_
  refine j_istore (lv' := [(4, .int (nI 0)), (0, .ref a), (1, .int (nI p)), (2, .ref b), (3, .int (nI q))]) C dX4_copies_1 (by decide) rfl ?_
  have lp : ∀ (n_lp e : Nat), 0 ≤ e → e ≤ 42 → 42 < e + n_lp → J G k (mu w.1 b σ (ai (gl_A G 0) nb (fun i => nI (va_cpy f g p q e i))), w.2) [(4, .int (nI e)), (0, .ref a), (1, .int (nI p)), (2, .ref b), (3, .int (nI q))] 3 [] 0 0 := by
    intro n_lp
    induction n_lp with
    | zero => intro e h0_lp h1_lp h2_lp; omega
    | succ n_lp ih_lp =>
      intro e h0_lp h1_lp h2_lp
      refine j_iload C dX4_copies_3 0 rfl ?_
      refine j_bipush (v := nI 42) C dX4_copies_5 rfl ?_
      refine j_icmp_geN C 28 dX4_copies_7 (by decide) (by omega) (by omega) (fun c7 => ?_) (fun c7 => ?_)
      · obtain rfl : 42 = e := by omega
        exact j_vret C (by omega) (by omega) (pV.mk rfl) dX4_copies_28
      · refine j_aload_n C dX4_copies_10 rfl 3 rfl ?_
        refine j_iload_n C dX4_copies_11 rfl 4 rfl ?_
        refine j_iload C dX4_copies_12 0 rfl ?_
        refine j_iaddN C dX4_copies_14 ?_
        refine j_aload_n C dX4_copies_15 rfl 1 rfl ?_
        refine j_iload_n C dX4_copies_16 rfl 2 rfl ?_
        refine j_iload C dX4_copies_17 0 rfl ?_
        refine j_iaddN C dX4_copies_19 ?_
        refine j_ialdN C ((mu_n hab).trans ha) (p + e) rfl (by omega) (by omega) dX4_copies_20 ?_
        refine j_nst2 C (q + e) rfl (by omega) (by omega) dX4_copies_21 ?_
        refine j_iincN (lv' := [(4, .int (nI (e + 1))), (0, .ref a), (1, .int (nI p)), (2, .ref b), (3, .int (nI q))]) C dX4_copies_22 0 rfl (by decide) rfl ?_
        refine j_goto C 3 dX4_copies_25 (by decide) ?_
        refine j_lv [0, 1, 2, 3, 4] (lv' := [(4, .int (nI (e + 1))), (0, .ref a), (1, .int (nI p)), (2, .ref b), (3, .int (nI q))]) rfl ?_
        refine J.eq (w' := (mu w.1 b σ (ai (gl_A G 0) nb (fun i => nI (va_cpy f g p q (e + 1) i))), w.2)) ?_ (by rw [cpyN_s]) rfl rfl
        exact ih_lp (e + 1) (by omega) (by omega) (by omega)
  refine j_lv [0, 1, 2, 3, 4] (lv' := [(4, .int (nI 0)), (0, .ref a), (1, .int (nI p)), (2, .ref b), (3, .int (nI q))]) rfl ?_
  refine J.eq (w' := (mu w.1 b σ (ai (gl_A G 0) nb (fun i => nI (va_cpy f g p q 0 i))), w.2)) ?_ (by rw [cpy_0, mu_self hb]) rfl rfl
  exact lp (42 + 1 - 0) (0) (by omega) (by omega) (by omega)
