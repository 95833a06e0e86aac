/-! ===== the reference: a text is read ===== -/
set_option maxRecDepth 100000
set_option maxHeartbeats 400000 in
theorem mX4_byteAt (G : gl_T) (M : Nat → Option (Nat × va_E)) (sz o : Nat) (S : ms_T) (k0 : Nat) (hk : k0 ≤ 120) (h6 : S.2.1 6 ≤ 120) : Mt G yX4_byteAt cX4_byteAt 2 (some .int) 0 [.ref o, .int (nI k0)] (mset G M o S, sz) (qI (byt (S.2.2.2 5) (S.2.1 6) k0) (mset G M o S, sz)) 0 0 := by
  refine Mt.start (by decide) (Nat.le_of_ble_eq_true rfl) (fun k C => ?_)
  have C : Cx G k cX4_byteAt "MoodFareModel" "byteAt" 2 (some .int) 0 0 0 _ := C
  refine j_iload_n C dX4_byteAt_0 rfl 1 rfl ?_
  refine j_aload_n C dX4_byteAt_1 rfl 0 rfl ?_
  refine mg6 C q1480 dX4_byteAt_2 (v := S.2.1 6) rfl ?_
  refine j_icmp_geN C 17 dX4_byteAt_5 (by decide) (by omega) (by omega) (fun c5 => ?_) (fun c5 => ?_)
  · refine j_iconst (v := -1) C dX4_byteAt_17 rfl ?_
    exact j_iret C (by omega) (by omega) (pI.mk ⟨(byt_ge (by omega)).symm, rfl⟩) dX4_byteAt_18
  · refine j_aload_n C dX4_byteAt_8 rfl 0 rfl ?_
    refine mg5 C q1479 dX4_byteAt_9 ?_
    refine j_iload_n C dX4_byteAt_12 rfl 1 rfl ?_
    refine ml5 C (k0) rfl (by omega) dX4_byteAt_13 (v := S.2.2.2 5 k0) rfl ?_
    refine j_goto C 18 dX4_byteAt_14 (by decide) ?_
    exact j_iret C (by omega) (by omega) (pI.mk ⟨(byt_lt (by omega)).symm, rfl⟩) dX4_byteAt_18
set_option maxHeartbeats 2000000 in
theorem mX4_advances (G : gl_T) (M : Nat → Option (Nat × va_E)) (sz o : Nat) (S : ms_T) (hp : pOK S) : Mt G yX4_advances cX4_advances 2 none 1 [.ref o] (mset G M o S, sz) (qV (mset G M o (advS S), sz)) 0 0 := by
  refine Mt.start (by decide) (Nat.le_of_ble_eq_true rfl) (fun k C => ?_)
  have C : Cx G k cX4_advances "MoodFareModel" "advances" 2 none 1 0 0 _ := C
  obtain ⟨p6, p9, p10, p11, p5, pc6, px, po⟩ := hp
  refine j_aload_n C dX4_advances_0 rfl 0 rfl ?_
  refine j_aload_n C dX4_advances_1 rfl 0 rfl ?_
  refine mg9 C q1483 dX4_advances_2 (v := S.2.1 9) rfl ?_
  refine mp10 C q1484 dX4_advances_5 ?_
  refine j_aload_n C dX4_advances_8 rfl 0 rfl ?_
  refine j_aload_n C dX4_advances_9 rfl 0 rfl ?_
  refine mg9 C q1483 dX4_advances_10 (v := S.2.1 9) rfl ?_
  refine j_callV C (mX4_byteAt G M sz o (sN S 10 (S.2.1 9)) (S.2.1 9) (by first | omega | exact p6) (by first | omega | exact p6)) pI.ret mset_o rfl 1 q1628 q1630 qs35 q73 q1631 (by decide +kernel) rfl (by decide) (by decide) (Nat.le_of_ble_eq_true rfl) rfl dX4_advances_13 (by omega) (by omega) (qI.k ?_)
  refine j_as (y := byt (S.2.2.2 5) (S.2.1 6) (S.2.1 9)) rfl ?_
  refine j_istore_n (lv' := [(1, .int (byt (S.2.2.2 5) (S.2.1 6) (S.2.1 9))), (0, .ref o)]) C dX4_advances_16 rfl (by decide) rfl ?_
  refine j_aload_n C dX4_advances_17 rfl 1 rfl ?_
  refine j_iload_n C dX4_advances_18 rfl 0 rfl ?_
  refine mp12 C q1486 dX4_advances_19 ?_
  refine j_iload_n C dX4_advances_22 rfl 0 rfl ?_
  refine j_bipush (v := nI 48) C dX4_advances_23 rfl ?_
  refine j_bipush (v := nI 57) C dX4_advances_25 rfl ?_
  refine j_callS C (mX4_in G (mset G M o (sF (sN S 10 (S.2.1 9)) 12 (byt (S.2.2.2 5) (S.2.1 6) (S.2.1 9))), sz) (byt (S.2.2.2 5) (S.2.1 6) (S.2.1 9)) (nI 48) (nI 57)) pI.ret 3 q1579 q1580 q73 q1581 (by decide +kernel) rfl (by decide) (by decide) (Nat.le_of_ble_eq_true rfl) rfl dX4_advances_27 (by omega) (by omega) (qI.k ?_)
  refine j_as (y := bZ (inB (byt (S.2.2.2 5) (S.2.1 6) (S.2.1 9)) (nI 48) (nI 57))) rfl ?_
  refine j_if_eqB C 135 dX4_advances_30 (by decide) (fun c30 => ?_) (fun c30 => ?_)
  · refine j_aload_n C dX4_advances_135 rfl 1 rfl ?_
    refine j_iload_n C dX4_advances_136 rfl 0 rfl ?_
    refine j_if_ge C 144 dX4_advances_137 (by decide) (fun c137 => ?_) (fun c137 => ?_)
    · refine j_iload_n C dX4_advances_144 rfl 0 rfl ?_
      refine j_bipush (v := nI 97) C dX4_advances_145 rfl ?_
      refine j_bipush (v := nI 122) C dX4_advances_147 rfl ?_
      refine j_callS C (mX4_in G (mset G M o (sF (sN S 10 (S.2.1 9)) 12 (byt (S.2.2.2 5) (S.2.1 6) (S.2.1 9))), sz) (byt (S.2.2.2 5) (S.2.1 6) (S.2.1 9)) (nI 97) (nI 122)) pI.ret 3 q1579 q1580 q73 q1581 (by decide +kernel) rfl (by decide) (by decide) (Nat.le_of_ble_eq_true rfl) rfl dX4_advances_149 (by omega) (by omega) (qI.k ?_)
      refine j_as (y := bZ (inB (byt (S.2.2.2 5) (S.2.1 6) (S.2.1 9)) (nI 97) (nI 122))) rfl ?_
      refine j_if_eqB C 159 dX4_advances_152 (by decide) (fun c152 => ?_) (fun c152 => ?_)
      · refine j_iload_n C dX4_advances_159 rfl 0 rfl ?_
        refine j_bipush (v := nI 44) C dX4_advances_160 rfl ?_
        refine j_icmp_ne C 169 dX4_advances_162 (by decide) (fun c162 => ?_) (fun c162 => ?_)
        · refine j_iload_n C dX4_advances_169 rfl 0 rfl ?_
          refine j_bipush (v := nI 59) C dX4_advances_170 rfl ?_
          refine j_icmp_ne C 179 dX4_advances_172 (by decide) (fun c172 => ?_) (fun c172 => ?_)
          · refine j_iconst (v := nI 5) C dX4_advances_179 rfl ?_
            refine mp11 C q1485 dX4_advances_180 ?_
            refine j_aload_n C dX4_advances_183 rfl 1 rfl ?_
            refine j_dup C dX4_advances_184 rfl ?_
            refine mg9 C q1483 dX4_advances_185 (v := S.2.1 9) rfl ?_
            refine j_aload_n C dX4_advances_188 rfl 1 rfl ?_
            refine mg11 C q1485 dX4_advances_189 (v := 5) rfl ?_
            refine j_if_neN C 199 dX4_advances_192 (by decide) (by first | omega | exact p6) (fun c192 => ?_) (fun c192 => ?_)
            · refine j_iconst (v := nI 1) C dX4_advances_199 rfl ?_
              refine j_iaddN C dX4_advances_200 ?_
              refine mp9 C q1483 dX4_advances_201 ?_
              exact j_vret C (by omega) (by omega) (pV.mk (congrArg (fun z => (mset G M o z, sz)) (by unfold advS; rw [if_neg (show ¬ dgt (S.2.2.2 5) (S.2.1 6) (S.2.1 9) = true from fun z => by rw [show dgt (S.2.2.2 5) (S.2.1 6) (S.2.1 9) = false from c30] at z; cases z), show tokN (byt (S.2.2.2 5) (S.2.1 6) (S.2.1 9)) = 5 from by unfold tokN; rw [if_neg (Int32.not_lt.mpr c137), if_neg (by rw [c152]; decide), if_neg c162, if_neg c172]]; rfl))) dX4_advances_204
            · exfalso; omega
          · refine j_iconst (v := nI 4) C dX4_advances_175 rfl ?_
            refine j_goto C 180 dX4_advances_176 (by decide) ?_
            refine mp11 C q1485 dX4_advances_180 ?_
            refine j_aload_n C dX4_advances_183 rfl 1 rfl ?_
            refine j_dup C dX4_advances_184 rfl ?_
            refine mg9 C q1483 dX4_advances_185 (v := S.2.1 9) rfl ?_
            refine j_aload_n C dX4_advances_188 rfl 1 rfl ?_
            refine mg11 C q1485 dX4_advances_189 (v := 4) rfl ?_
            refine j_if_neN C 199 dX4_advances_192 (by decide) (by first | omega | exact p6) (fun c192 => ?_) (fun c192 => ?_)
            · refine j_iconst (v := nI 1) C dX4_advances_199 rfl ?_
              refine j_iaddN C dX4_advances_200 ?_
              refine mp9 C q1483 dX4_advances_201 ?_
              exact j_vret C (by omega) (by omega) (pV.mk (congrArg (fun z => (mset G M o z, sz)) (by unfold advS; rw [if_neg (show ¬ dgt (S.2.2.2 5) (S.2.1 6) (S.2.1 9) = true from fun z => by rw [show dgt (S.2.2.2 5) (S.2.1 6) (S.2.1 9) = false from c30] at z; cases z), show tokN (byt (S.2.2.2 5) (S.2.1 6) (S.2.1 9)) = 4 from by unfold tokN; rw [if_neg (Int32.not_lt.mpr c137), if_neg (by rw [c152]; decide), if_neg c162, if_pos c172]]; rfl))) dX4_advances_204
            · exfalso; omega
        · refine j_iconst (v := nI 3) C dX4_advances_165 rfl ?_
          refine j_goto C 180 dX4_advances_166 (by decide) ?_
          refine mp11 C q1485 dX4_advances_180 ?_
          refine j_aload_n C dX4_advances_183 rfl 1 rfl ?_
          refine j_dup C dX4_advances_184 rfl ?_
          refine mg9 C q1483 dX4_advances_185 (v := S.2.1 9) rfl ?_
          refine j_aload_n C dX4_advances_188 rfl 1 rfl ?_
          refine mg11 C q1485 dX4_advances_189 (v := 3) rfl ?_
          refine j_if_neN C 199 dX4_advances_192 (by decide) (by first | omega | exact p6) (fun c192 => ?_) (fun c192 => ?_)
          · refine j_iconst (v := nI 1) C dX4_advances_199 rfl ?_
            refine j_iaddN C dX4_advances_200 ?_
            refine mp9 C q1483 dX4_advances_201 ?_
            exact j_vret C (by omega) (by omega) (pV.mk (congrArg (fun z => (mset G M o z, sz)) (by unfold advS; rw [if_neg (show ¬ dgt (S.2.2.2 5) (S.2.1 6) (S.2.1 9) = true from fun z => by rw [show dgt (S.2.2.2 5) (S.2.1 6) (S.2.1 9) = false from c30] at z; cases z), show tokN (byt (S.2.2.2 5) (S.2.1 6) (S.2.1 9)) = 3 from by unfold tokN; rw [if_neg (Int32.not_lt.mpr c137), if_neg (by rw [c152]; decide), if_pos c162]]; rfl))) dX4_advances_204
          · exfalso; omega
      · refine j_iconst (v := nI 1) C dX4_advances_155 rfl ?_
        refine j_goto C 180 dX4_advances_156 (by decide) ?_
        refine mp11 C q1485 dX4_advances_180 ?_
        refine j_aload_n C dX4_advances_183 rfl 1 rfl ?_
        refine j_dup C dX4_advances_184 rfl ?_
        refine mg9 C q1483 dX4_advances_185 (v := S.2.1 9) rfl ?_
        refine j_aload_n C dX4_advances_188 rfl 1 rfl ?_
        refine mg11 C q1485 dX4_advances_189 (v := 1) rfl ?_
        refine j_if_neN C 199 dX4_advances_192 (by decide) (by first | omega | exact p6) (fun c192 => ?_) (fun c192 => ?_)
        · refine j_iconst (v := nI 1) C dX4_advances_199 rfl ?_
          refine j_iaddN C dX4_advances_200 ?_
          refine mp9 C q1483 dX4_advances_201 ?_
          exact j_vret C (by omega) (by omega) (pV.mk (congrArg (fun z => (mset G M o z, sz)) (by unfold advS; rw [if_neg (show ¬ dgt (S.2.2.2 5) (S.2.1 6) (S.2.1 9) = true from fun z => by rw [show dgt (S.2.2.2 5) (S.2.1 6) (S.2.1 9) = false from c30] at z; cases z), show tokN (byt (S.2.2.2 5) (S.2.1 6) (S.2.1 9)) = 1 from by unfold tokN; rw [if_neg (Int32.not_lt.mpr c137), if_pos c152]]; rfl))) dX4_advances_204
        · exfalso; omega
    · refine j_iconst (v := nI 0) C dX4_advances_140 rfl ?_
      refine j_goto C 180 dX4_advances_141 (by decide) ?_
      refine mp11 C q1485 dX4_advances_180 ?_
      refine j_aload_n C dX4_advances_183 rfl 1 rfl ?_
      refine j_dup C dX4_advances_184 rfl ?_
      refine mg9 C q1483 dX4_advances_185 (v := S.2.1 9) rfl ?_
      refine j_aload_n C dX4_advances_188 rfl 1 rfl ?_
      refine mg11 C q1485 dX4_advances_189 (v := 0) rfl ?_
      refine j_if_neN C 199 dX4_advances_192 (by decide) (by first | omega | exact p6) (fun c192 => ?_) (fun c192 => ?_)
      · exfalso; omega
      · refine j_iconst (v := nI 0) C dX4_advances_195 rfl ?_
        refine j_goto C 200 dX4_advances_196 (by decide) ?_
        refine j_iaddN C dX4_advances_200 ?_
        refine mp9 C q1483 dX4_advances_201 ?_
        exact j_vret C (by omega) (by omega) (pV.mk (congrArg (fun z => (mset G M o z, sz)) (by unfold advS; rw [if_neg (show ¬ dgt (S.2.2.2 5) (S.2.1 6) (S.2.1 9) = true from fun z => by rw [show dgt (S.2.2.2 5) (S.2.1 6) (S.2.1 9) = false from c30] at z; cases z), show tokN (byt (S.2.2.2 5) (S.2.1 6) (S.2.1 9)) = 0 from by unfold tokN; rw [if_pos (Int32.not_le.mp c137)]]; rfl))) dX4_advances_204
  · refine j_aload_n C dX4_advances_33 rfl 1 rfl ?_
    refine j_iconst (v := nI 0) C dX4_advances_34 rfl ?_
    refine mp12 C q1486 dX4_advances_35 ?_
    have lp : ∀ (f i : Nat), i + f = 121 → (S.2.1 9) + i ≤ (S.2.1 6) → dgC (S.2.2.2 5) (S.2.1 6) (S.2.1 9) f i = dgC (S.2.2.2 5) (S.2.1 6) (S.2.1 9) 121 0 → J G k (mset G M o (sN (sF (sN S 10 (S.2.1 9)) 12 (nI (dgV (S.2.2.2 5) (S.2.1 9) i))) 9 ((S.2.1 9) + i)), sz) [(0, .ref o)] 38 [] 0 0 := by
      intro f
      induction f with
      | zero => intro i h1 h2; omega
      | succ f ih =>
        intro i h1 h2 h3
        refine j_aload_n C dX4_advances_38 rfl 0 rfl ?_
        refine j_aload_n C dX4_advances_39 rfl 0 rfl ?_
        refine mg9 C q1483 dX4_advances_40 (v := (S.2.1 9) + i) rfl ?_
        refine j_callV C (mX4_byteAt G M sz o (sN (sF (sN S 10 (S.2.1 9)) 12 (nI (dgV (S.2.2.2 5) (S.2.1 9) i))) 9 ((S.2.1 9) + i)) ((S.2.1 9) + i) (by first | omega | exact p6) (by first | omega | exact p6)) pI.ret mset_o rfl 1 q1628 q1630 qs35 q73 q1631 (by decide +kernel) rfl (by decide) (by decide) (Nat.le_of_ble_eq_true rfl) rfl dX4_advances_43 (by omega) (by omega) (qI.k ?_)
        refine j_as (y := byt (S.2.2.2 5) (S.2.1 6) ((S.2.1 9) + i)) rfl ?_
        refine j_bipush (v := nI 48) C dX4_advances_46 rfl ?_
        refine j_bipush (v := nI 57) C dX4_advances_48 rfl ?_
        refine j_callS C (mX4_in G (mset G M o (sN (sF (sN S 10 (S.2.1 9)) 12 (nI (dgV (S.2.2.2 5) (S.2.1 9) i))) 9 ((S.2.1 9) + i)), sz) (byt (S.2.2.2 5) (S.2.1 6) ((S.2.1 9) + i)) (nI 48) (nI 57)) pI.ret 3 q1579 q1580 q73 q1581 (by decide +kernel) rfl (by decide) (by decide) (Nat.le_of_ble_eq_true rfl) rfl dX4_advances_50 (by omega) (by omega) (qI.k ?_)
        refine j_as (y := bZ (inB (byt (S.2.2.2 5) (S.2.1 6) ((S.2.1 9) + i)) (nI 48) (nI 57))) rfl ?_
        refine j_if_eqB C 112 dX4_advances_53 (by decide) (fun c53 => ?_) (fun c53 => ?_)
        · rw [dgC, if_neg (by rw [show dgt (S.2.2.2 5) (S.2.1 6) ((S.2.1 9) + i) = false from c53]; decide)] at h3
          have hmm := dgV_le (s := (S.2.1 9)) p5 i
          refine j_aload_n C dX4_advances_112 rfl 0 rfl ?_
          refine j_aload_n C dX4_advances_113 rfl 0 rfl ?_
          refine mg9 C q1483 dX4_advances_114 (v := (S.2.1 9) + i) rfl ?_
          refine j_aload_n C dX4_advances_117 rfl 0 rfl ?_
          refine mg10 C q1484 dX4_advances_118 (v := S.2.1 9) rfl ?_
          refine j_isubN C dX4_advances_121 (by first | omega | exact p6) ?_
          refine j_iconst (v := nI 3) C dX4_advances_122 rfl ?_
          refine j_icmp_geN C 130 dX4_advances_123 (by decide) (by first | omega | exact p6) (by first | omega | exact p6) (fun c123 => ?_) (fun c123 => ?_)
          · refine j_iconst (v := nI 5) C dX4_advances_130 rfl ?_
            refine mp11 C q1485 dX4_advances_131 ?_
            exact j_vret C (by omega) (by omega) (pV.mk (congrArg (fun z => (mset G M o z, sz)) (by unfold advS; rw [if_pos (show dgt (S.2.2.2 5) (S.2.1 6) (S.2.1 9) = true from c30), ← h3, if_neg (by omega)]))) dX4_advances_134
          · refine j_iconst (v := nI 2) C dX4_advances_126 rfl ?_
            refine j_goto C 131 dX4_advances_127 (by decide) ?_
            refine mp11 C q1485 dX4_advances_131 ?_
            exact j_vret C (by omega) (by omega) (pV.mk (congrArg (fun z => (mset G M o z, sz)) (by unfold advS; rw [if_pos (show dgt (S.2.2.2 5) (S.2.1 6) (S.2.1 9) = true from c30), ← h3, if_pos (by omega)]))) dX4_advances_134
        · obtain ⟨q1, q2, q3⟩ := dgt_n p5 (show dgt (S.2.2.2 5) (S.2.1 6) ((S.2.1 9) + i) = true from c53)
          rw [dgC, if_pos (show dgt (S.2.2.2 5) (S.2.1 6) ((S.2.1 9) + i) = true from c53)] at h3
          have hmm := dgV_le (s := (S.2.1 9)) p5 i
          refine j_aload_n C dX4_advances_56 rfl 0 rfl ?_
          refine j_aload_n C dX4_advances_57 rfl 0 rfl ?_
          refine mg9 C q1483 dX4_advances_58 (v := (S.2.1 9) + i) rfl ?_
          refine j_aload_n C dX4_advances_61 rfl 0 rfl ?_
          refine mg10 C q1484 dX4_advances_62 (v := S.2.1 9) rfl ?_
          refine j_isubN C dX4_advances_65 (by first | omega | exact p6) ?_
          refine j_iconst (v := nI 2) C dX4_advances_66 rfl ?_
          refine j_icmp_geN C 92 dX4_advances_67 (by decide) (by first | omega | exact p6) (by first | omega | exact p6) (fun c67 => ?_) (fun c67 => ?_)
          · refine j_aload_n C dX4_advances_92 rfl 0 rfl ?_
            refine mg12 C q1486 dX4_advances_93 (v := nI (dgV (S.2.2.2 5) (S.2.1 9) i)) rfl ?_
            refine mp12 C q1486 dX4_advances_96 ?_
            refine j_aload_n C dX4_advances_99 rfl 0 rfl ?_
            refine j_dup C dX4_advances_100 rfl ?_
            refine mg9 C q1483 dX4_advances_101 (v := (S.2.1 9) + i) rfl ?_
            refine j_iconst (v := nI 1) C dX4_advances_104 rfl ?_
            refine j_iaddN C dX4_advances_105 ?_
            refine mp9 C q1483 dX4_advances_106 ?_
            refine j_goto C 38 dX4_advances_109 (by decide) ?_
            refine J.eq (w' := (mset G M o (sN (sF (sN S 10 (S.2.1 9)) 12 (nI (dgV (S.2.2.2 5) (S.2.1 9) (i + 1)))) 9 ((S.2.1 9) + (i + 1))), sz)) ?_ (by rw [show dgV (S.2.2.2 5) (S.2.1 9) (i + 1) = (if i < 2 then 10 * dgV (S.2.2.2 5) (S.2.1 9) i + (S.2.2.2 5) ((S.2.1 9) + i) - 48 else dgV (S.2.2.2 5) (S.2.1 9) i) from rfl, if_neg (by omega), sNF]; rfl) rfl rfl
            exact ih (i + 1) (by omega) (by omega) h3
          · refine j_bipush (v := nI 10) C dX4_advances_70 rfl ?_
            refine j_aload_n C dX4_advances_72 rfl 0 rfl ?_
            refine mg12 C q1486 dX4_advances_73 (v := nI (dgV (S.2.2.2 5) (S.2.1 9) i)) rfl ?_
            refine j_imulN C dX4_advances_76 ?_
            refine j_aload_n C dX4_advances_77 rfl 0 rfl ?_
            refine j_aload_n C dX4_advances_78 rfl 0 rfl ?_
            refine mg9 C q1483 dX4_advances_79 (v := (S.2.1 9) + i) rfl ?_
            refine j_callV C (mX4_byteAt G M sz o (sN (sF (sN S 10 (S.2.1 9)) 12 (nI (dgV (S.2.2.2 5) (S.2.1 9) i))) 9 ((S.2.1 9) + i)) ((S.2.1 9) + i) (by first | omega | exact p6) (by first | omega | exact p6)) pI.ret mset_o rfl 1 q1628 q1630 qs35 q73 q1631 (by decide +kernel) rfl (by decide) (by decide) (Nat.le_of_ble_eq_true rfl) rfl dX4_advances_82 (by omega) (by omega) (qI.k ?_)
            refine j_as (y := byt (S.2.2.2 5) (S.2.1 6) ((S.2.1 9) + i)) rfl ?_
            refine j_as (y := nI ((S.2.2.2 5) ((S.2.1 9) + i))) (byt_lt q1) ?_
            refine j_iaddN C dX4_advances_85 ?_
            refine j_bipush (v := nI 48) C dX4_advances_86 rfl ?_
            refine j_isubN C dX4_advances_88 (by first | omega | exact p6) ?_
            refine j_goto C 96 dX4_advances_89 (by decide) ?_
            refine mp12 C q1486 dX4_advances_96 ?_
            refine j_aload_n C dX4_advances_99 rfl 0 rfl ?_
            refine j_dup C dX4_advances_100 rfl ?_
            refine mg9 C q1483 dX4_advances_101 (v := (S.2.1 9) + i) rfl ?_
            refine j_iconst (v := nI 1) C dX4_advances_104 rfl ?_
            refine j_iaddN C dX4_advances_105 ?_
            refine mp9 C q1483 dX4_advances_106 ?_
            refine j_goto C 38 dX4_advances_109 (by decide) ?_
            refine J.eq (w' := (mset G M o (sN (sF (sN S 10 (S.2.1 9)) 12 (nI (dgV (S.2.2.2 5) (S.2.1 9) (i + 1)))) 9 ((S.2.1 9) + (i + 1))), sz)) ?_ (by rw [show dgV (S.2.2.2 5) (S.2.1 9) (i + 1) = (if i < 2 then 10 * dgV (S.2.2.2 5) (S.2.1 9) i + (S.2.2.2 5) ((S.2.1 9) + i) - 48 else dgV (S.2.2.2 5) (S.2.1 9) i) from rfl, if_pos (by omega), sNF]; rfl) rfl rfl
            exact ih (i + 1) (by omega) (by omega) h3
    refine j_lv [1] (lv' := [(0, .ref o)]) rfl ?_
    refine J.eq (w' := (mset G M o (sN (sF (sN S 10 (S.2.1 9)) 12 (nI (dgV (S.2.2.2 5) (S.2.1 9) 0))) 9 ((S.2.1 9) + 0)), sz)) ?_ (congrArg (fun z => (mset G M o z, sz)) (by rw [sF_sF]; exact (sN_self _ 9).symm)) rfl rfl
    exact lp 121 0 rfl p9 rfl
set_option maxHeartbeats 1000000 in
theorem mX4_takes (G : gl_T) (M : Nat → Option (Nat × va_E)) (sz o : Nat) (S : ms_T) (b : Bool) (kd : Nat) (hp : pOK S) : Mt G yX4_takes cX4_takes 4 (some .int) 2 [.ref o, .int (bZ b), .int (nI kd)] (mset G M o S, sz) (qI (takV S b) (mset G M o (takS S b kd), sz)) 0 0 := by
  refine Mt.start (by decide) (Nat.le_of_ble_eq_true rfl) (fun k C => ?_)
  have C : Cx G k cX4_takes "MoodFareModel" "takes" 4 (some .int) 2 0 0 _ := C
  refine j_aload_n C dX4_takes_0 rfl 0 rfl ?_
  refine j_callV C (mX4_isWell G M sz o S) pI.ret mset_o rfl 0 q1636 q1638 qs37 q73 q1639 (by decide +kernel) rfl (by decide) (by decide) (Nat.le_of_ble_eq_true rfl) rfl dX4_takes_1 (by omega) (by omega) (qI.k ?_)
  refine j_if_neB C 9 dX4_takes_4 (by decide) (fun c4 => ?_) (fun c4 => ?_)
  · refine j_iload_n C dX4_takes_9 rfl 1 rfl ?_
    refine j_if_neB C 28 dX4_takes_10 (by decide) (fun c10 => ?_) (fun c10 => ?_)
    · refine j_aload_n C dX4_takes_28 rfl 0 rfl ?_
      refine mg12 C q1486 dX4_takes_29 (v := S.1 12) rfl ?_
      refine j_istore_n (lv' := [(3, .int (S.1 12)), (0, .ref o), (1, .int (bZ b)), (2, .int (nI kd))]) C dX4_takes_32 rfl (by decide) rfl ?_
      refine j_aload_n C dX4_takes_33 rfl 1 rfl ?_
      refine j_callV C (mX4_advances G M sz o S hp) pV.ret mset_o rfl 0 q1624 q1626 qs34 q73 q1627 (by decide +kernel) rfl (by decide) (by decide) (Nat.le_of_ble_eq_true rfl) rfl dX4_takes_34 (by omega) (by omega) (qV.k ?_)
      refine j_iload_n C dX4_takes_37 rfl 0 rfl ?_
      exact j_iret C (by omega) (by omega) (pI.mk ⟨by unfold takV; rw [if_pos ⟨of_decide_eq_true c4, c10⟩], congrArg (fun z => (mset G M o z, sz)) (by unfold takS; rw [if_pos (of_decide_eq_true c4), if_pos c10])⟩) dX4_takes_38
    · refine j_aload_n C dX4_takes_13 rfl 0 rfl ?_
      refine j_aload_n C dX4_takes_14 rfl 0 rfl ?_
      refine mg10 C q1484 dX4_takes_15 (v := S.2.1 10) rfl ?_
      refine mp8 C q1482 dX4_takes_18 ?_
      refine j_aload_n C dX4_takes_21 rfl 0 rfl ?_
      refine j_iload_n C dX4_takes_22 rfl 2 rfl ?_
      refine mp7 C q1481 dX4_takes_23 ?_
      refine j_iconst (v := nI 0) C dX4_takes_26 rfl ?_
      exact j_iret C (by omega) (by omega) (pI.mk ⟨by unfold takV; rw [if_neg (fun z => by rw [c10] at z; exact absurd z.2 (by decide))], congrArg (fun z => (mset G M o z, sz)) (by unfold takS; rw [if_pos (of_decide_eq_true c4), if_neg (by rw [c10]; decide)])⟩) dX4_takes_27
  · refine j_iconst (v := nI 0) C dX4_takes_7 rfl ?_
    exact j_iret C (by omega) (by omega) (pI.mk ⟨by unfold takV; rw [if_neg (fun z => absurd z.1 (of_decide_eq_false c4))], congrArg (fun z => (mset G M o z, sz)) (by unfold takS; rw [if_neg (of_decide_eq_false c4)])⟩) dX4_takes_8
set_option maxHeartbeats 400000 in
theorem mX4_figure (G : gl_T) (M : Nat → Option (Nat × va_E)) (sz o : Nat) (S : ms_T) (lo hi : Int32) (h0 : 0 ≤ lo) (hp : pOK S) : Mt G yX4_figure cX4_figure 3 (some .int) 3 [.ref o, .int lo, .int hi] (mset G M o S, sz) (qI (nI (figV S lo hi)) (mset G M o (figS S lo hi), sz)) 0 0 := by
  refine Mt.start (by decide) (Nat.le_of_ble_eq_true rfl) (fun k C => ?_)
  have C : Cx G k cX4_figure "MoodFareModel" "figure" 3 (some .int) 3 0 0 _ := C
  refine j_aload_n C dX4_figure_0 rfl 0 rfl ?_
  refine j_callV C (mX4_isWell G M sz o S) pI.ret mset_o rfl 0 q1636 q1638 qs37 q73 q1639 (by decide +kernel) rfl (by decide) (by decide) (Nat.le_of_ble_eq_true rfl) rfl dX4_figure_1 (by omega) (by omega) (qI.k ?_)
  refine j_if_eqB C 22 dX4_figure_4 (by decide) (fun c4 => ?_) (fun c4 => ?_)
  · refine j_aload_n C dX4_figure_22 rfl 0 rfl ?_
    refine j_aload_n C dX4_figure_23 rfl 0 rfl ?_
    refine mg12 C q1486 dX4_figure_24 (v := S.1 12) rfl ?_
    refine j_iload_n C dX4_figure_27 rfl 1 rfl ?_
    refine j_iload_n C dX4_figure_28 rfl 2 rfl ?_
    refine j_callS C (mX4_in G (mset G M o S, sz) (S.1 12) lo hi) pI.ret 3 q1579 q1580 q73 q1581 (by decide +kernel) rfl (by decide) (by decide) (Nat.le_of_ble_eq_true rfl) rfl dX4_figure_29 (by omega) (by omega) (qI.k ?_)
    refine j_iconst (v := nI 2) C dX4_figure_32 rfl ?_
    refine j_callV C (mX4_takes G M sz o S (inB (S.1 12) lo hi) 2 (by repeat' (first | exact hp | apply takS_ok | apply figS_ok | apply tofS_ok | apply advS_ok))) pI.ret mset_o rfl 2 q1632 q1634 qs36 q73 q1635 (by decide +kernel) rfl (by decide) (by decide) (Nat.le_of_ble_eq_true rfl) rfl dX4_figure_33 (by omega) (by omega) (qI.k ?_)
    exact j_iret C (by omega) (by omega) (pI.mk ⟨(figE (S := S) (hi := hi) h0 (fun z => absurd z.1 (of_decide_eq_false c4))).1, congrArg (fun z => (mset G M o z, sz)) (figE (S := S) (hi := hi) h0 (fun z => absurd z.1 (of_decide_eq_false c4))).2⟩) dX4_figure_36
  · refine j_aload_n C dX4_figure_7 rfl 0 rfl ?_
    refine mg11 C q1485 dX4_figure_8 (v := S.2.1 11) rfl ?_
    refine j_iconst (v := nI 2) C dX4_figure_11 rfl ?_
    refine j_icmp_eqN C 22 dX4_figure_12 (by decide) (by first | omega | (have := hp.2.2.2.1; omega)) (by first | omega | (have := hp.2.2.2.1; omega)) (fun c12 => ?_) (fun c12 => ?_)
    · refine j_aload_n C dX4_figure_22 rfl 0 rfl ?_
      refine j_aload_n C dX4_figure_23 rfl 0 rfl ?_
      refine mg12 C q1486 dX4_figure_24 (v := S.1 12) rfl ?_
      refine j_iload_n C dX4_figure_27 rfl 1 rfl ?_
      refine j_iload_n C dX4_figure_28 rfl 2 rfl ?_
      refine j_callS C (mX4_in G (mset G M o S, sz) (S.1 12) lo hi) pI.ret 3 q1579 q1580 q73 q1581 (by decide +kernel) rfl (by decide) (by decide) (Nat.le_of_ble_eq_true rfl) rfl dX4_figure_29 (by omega) (by omega) (qI.k ?_)
      refine j_iconst (v := nI 2) C dX4_figure_32 rfl ?_
      refine j_callV C (mX4_takes G M sz o S (inB (S.1 12) lo hi) 2 (by repeat' (first | exact hp | apply takS_ok | apply figS_ok | apply tofS_ok | apply advS_ok))) pI.ret mset_o rfl 2 q1632 q1634 qs36 q73 q1635 (by decide +kernel) rfl (by decide) (by decide) (Nat.le_of_ble_eq_true rfl) rfl dX4_figure_33 (by omega) (by omega) (qI.k ?_)
      exact j_iret C (by omega) (by omega) (pI.mk ⟨(figE (S := S) (hi := hi) h0 (fun z => z.2 c12)).1, congrArg (fun z => (mset G M o z, sz)) (figE (S := S) (hi := hi) h0 (fun z => z.2 c12)).2⟩) dX4_figure_36
    · refine j_aload_n C dX4_figure_15 rfl 0 rfl ?_
      refine j_iconst (v := nI 0) C dX4_figure_16 rfl ?_
      refine j_iconst (v := nI 1) C dX4_figure_17 rfl ?_
      refine j_callV C (mX4_takes G M sz o S false 1 (by repeat' (first | exact hp | apply takS_ok | apply figS_ok | apply tofS_ok | apply advS_ok))) pI.ret mset_o rfl 2 q1632 q1634 qs36 q73 q1635 (by decide +kernel) rfl (by decide) (by decide) (Nat.le_of_ble_eq_true rfl) rfl dX4_figure_18 (by omega) (by omega) (qI.k ?_)
      exact j_iret C (by omega) (by omega) (pI.mk ⟨(figA (S := S) (lo := lo) (hi := hi) ⟨of_decide_eq_true c4, c12⟩).1, congrArg (fun z => (mset G M o z, sz)) (figA (S := S) (lo := lo) (hi := hi) ⟨of_decide_eq_true c4, c12⟩).2⟩) dX4_figure_21
set_option maxHeartbeats 400000 in
theorem mX4_kindOf (G : gl_T) (w : wd_T) (c : Int32)  : Mt G yX4_kindOf cX4_kindOf 1 (some .int) 0 [.int c] w (qI (nI (kndN c)) w) 0 0 := by
  refine Mt.start (by decide) (Nat.le_of_ble_eq_true rfl) (fun k C => ?_)
  have C : Cx G k cX4_kindOf "MoodFareModel" "kindOf" 1 (some .int) 0 0 0 _ := C
  refine j_iload_n C dX4_kindOf_0 rfl 0 rfl ?_
  refine j_bipush (v := nI 106) C dX4_kindOf_1 rfl ?_
  refine j_icmp_ne C 10 dX4_kindOf_3 (by decide) (fun c3 => ?_) (fun c3 => ?_)
  · refine j_iload_n C dX4_kindOf_10 rfl 0 rfl ?_
    refine j_bipush (v := nI 108) C dX4_kindOf_11 rfl ?_
    refine j_icmp_ne C 20 dX4_kindOf_13 (by decide) (fun c13 => ?_) (fun c13 => ?_)
    · refine j_iload_n C dX4_kindOf_20 rfl 0 rfl ?_
      refine j_bipush (v := nI 104) C dX4_kindOf_21 rfl ?_
      refine j_icmp_ne C 30 dX4_kindOf_23 (by decide) (fun c23 => ?_) (fun c23 => ?_)
      · refine j_iload_n C dX4_kindOf_30 rfl 0 rfl ?_
        refine j_bipush (v := nI 103) C dX4_kindOf_31 rfl ?_
        refine j_icmp_ne C 40 dX4_kindOf_33 (by decide) (fun c33 => ?_) (fun c33 => ?_)
        · refine j_iload_n C dX4_kindOf_40 rfl 0 rfl ?_
          refine j_bipush (v := nI 114) C dX4_kindOf_41 rfl ?_
          refine j_icmp_ne C 50 dX4_kindOf_43 (by decide) (fun c43 => ?_) (fun c43 => ?_)
          · refine j_iconst (v := nI 0) C dX4_kindOf_50 rfl ?_
            exact j_iret C (by omega) (by omega) (pI.mk ⟨by unfold kndN; rw [if_neg c3, if_neg c13, if_neg c23, if_neg c33, if_neg c43], rfl⟩) dX4_kindOf_51
          · refine j_iconst (v := nI 5) C dX4_kindOf_46 rfl ?_
            refine j_goto C 51 dX4_kindOf_47 (by decide) ?_
            exact j_iret C (by omega) (by omega) (pI.mk ⟨by unfold kndN; rw [if_neg c3, if_neg c13, if_neg c23, if_neg c33, if_pos c43], rfl⟩) dX4_kindOf_51
        · refine j_iconst (v := nI 4) C dX4_kindOf_36 rfl ?_
          refine j_goto C 51 dX4_kindOf_37 (by decide) ?_
          exact j_iret C (by omega) (by omega) (pI.mk ⟨by unfold kndN; rw [if_neg c3, if_neg c13, if_neg c23, if_pos c33], rfl⟩) dX4_kindOf_51
      · refine j_iconst (v := nI 3) C dX4_kindOf_26 rfl ?_
        refine j_goto C 51 dX4_kindOf_27 (by decide) ?_
        exact j_iret C (by omega) (by omega) (pI.mk ⟨by unfold kndN; rw [if_neg c3, if_neg c13, if_pos c23], rfl⟩) dX4_kindOf_51
    · refine j_iconst (v := nI 2) C dX4_kindOf_16 rfl ?_
      refine j_goto C 51 dX4_kindOf_17 (by decide) ?_
      exact j_iret C (by omega) (by omega) (pI.mk ⟨by unfold kndN; rw [if_neg c3, if_pos c13], rfl⟩) dX4_kindOf_51
  · refine j_iconst (v := nI 1) C dX4_kindOf_6 rfl ?_
    refine j_goto C 51 dX4_kindOf_7 (by decide) ?_
    exact j_iret C (by omega) (by omega) (pI.mk ⟨by unfold kndN; rw [if_pos c3], rfl⟩) dX4_kindOf_51
set_option maxHeartbeats 400000 in
theorem mX4_follows (G : gl_T) (M : Nat → Option (Nat × va_E)) (sz o : Nat) (S : ms_T) (lo hi : Int32) (h0 : 0 ≤ lo) (hp : pOK S) : Mt G yX4_follows cX4_follows 3 (some .int) 4 [.ref o, .int lo, .int hi] (mset G M o S, sz) (qI (nI (figV (takS S (decide (S.2.1 11 = 3)) 1) lo hi)) (mset G M o (figS (takS S (decide (S.2.1 11 = 3)) 1) lo hi), sz)) 0 0 := by
  refine Mt.start (by decide) (Nat.le_of_ble_eq_true rfl) (fun k C => ?_)
  have C : Cx G k cX4_follows "MoodFareModel" "follows" 3 (some .int) 4 0 0 _ := C
  refine j_aload_n C dX4_follows_0 rfl 0 rfl ?_
  have jn14 : J G k (mset G M o S, sz) [(0, .ref o), (1, .int lo), (2, .int hi)] 14 [.int (bZ (decide (S.2.1 11 = 3))), .ref o] 0 0 := by
    refine j_iconst (v := nI 1) C dX4_follows_14 rfl ?_
    refine j_callV C (mX4_takes G M sz o S (decide (S.2.1 11 = 3)) 1 (by repeat' (first | exact hp | apply takS_ok | apply figS_ok | apply tofS_ok | apply advS_ok))) pI.ret mset_o rfl 2 q1632 q1634 qs36 q73 q1635 (by decide +kernel) rfl (by decide) (by decide) (Nat.le_of_ble_eq_true rfl) rfl dX4_follows_15 (by omega) (by omega) (qI.k ?_)
    refine j_pop C dX4_follows_18 rfl ?_
    refine j_aload_n C dX4_follows_19 rfl 0 rfl ?_
    refine j_iload_n C dX4_follows_20 rfl 1 rfl ?_
    refine j_iload_n C dX4_follows_21 rfl 2 rfl ?_
    refine j_callV C (mX4_figure G M sz o (takS S (decide (S.2.1 11 = 3)) 1) lo hi (by first | exact h0 | decide +kernel) (by repeat' (first | exact hp | apply takS_ok | apply figS_ok | apply tofS_ok | apply advS_ok))) pI.ret mset_o rfl 2 q1640 q1642 qs38 q73 q1643 (by decide +kernel) rfl (by decide) (by decide) (Nat.le_of_ble_eq_true rfl) rfl dX4_follows_22 (by omega) (by omega) (qI.k ?_)
    exact j_iret C (by omega) (by omega) (pI.mk ⟨rfl, rfl⟩) dX4_follows_25
  refine j_aload_n C dX4_follows_1 rfl 0 rfl ?_
  refine mg11 C q1485 dX4_follows_2 (v := S.2.1 11) rfl ?_
  refine j_iconst (v := nI 3) C dX4_follows_5 rfl ?_
  refine j_icmp_neN C 13 dX4_follows_6 (by decide) (by first | omega | (have := hp.2.2.2.1; omega)) (by first | omega | (have := hp.2.2.2.1; omega)) (fun c6 => ?_) (fun c6 => ?_)
  · refine j_iconst (v := nI 0) C dX4_follows_13 rfl ?_
    refine j_as (y := bZ (decide (S.2.1 11 = 3))) (by simp [bZ, c6]) ?_
    exact jn14
  · refine j_iconst (v := nI 1) C dX4_follows_9 rfl ?_
    refine j_goto C 14 dX4_follows_10 (by decide) ?_
    refine j_as (y := bZ (decide (S.2.1 11 = 3))) (by simp [bZ, c6]) ?_
    exact jn14
