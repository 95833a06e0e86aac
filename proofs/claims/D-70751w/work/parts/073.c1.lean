/-! ===== the class: small methods, lists ===== -/
set_option maxRecDepth 100000
set_option maxHeartbeats 400000 in
theorem kX0_isIn (G : gl_T) (w : wd_T) (x lo hi : Int32) : Mt G yX0_isIn cX0_isIn 6 (some .boolean) 0 [.long x.toInt64, .long lo.toInt64, .long hi.toInt64] w (qI (bZ (inB x lo hi)) w) 0 0 := by
  refine Mt.start (by decide) (Nat.le_of_ble_eq_true rfl) (fun k C => ?_)
  have C : Cx G k cX0_isIn "MoodFare" "isIn" 6 (some .boolean) 0 0 0 _ := C
  refine j_lload_n C dX0_isIn_0 rfl 0 rfl ?_
  refine j_lload_n C dX0_isIn_1 rfl 1 rfl ?_
  refine j_lcmp C dX0_isIn_2 ?_
  refine j_if_lt C 17 dX0_isIn_3 (by decide) (fun c3 => ?_) (fun c3 => ?_)
  · refine j_iconst (v := nI 0) C dX0_isIn_17 rfl ?_
    exact j_zret C (by decide +kernel) (by omega) (by omega) (pI.mk ⟨inB_01 (i64_lt.mp ((lg_cmp_lt _ _).mp c3)), rfl⟩) dX0_isIn_18
  · refine j_lload_n C dX0_isIn_6 rfl 0 rfl ?_
    refine j_lload C dX0_isIn_7 2 rfl ?_
    refine j_lcmp C dX0_isIn_9 ?_
    refine j_if_gt C 17 dX0_isIn_10 (by decide) (fun c10 => ?_) (fun c10 => ?_)
    · refine j_iconst (v := nI 0) C dX0_isIn_17 rfl ?_
      exact j_zret C (by decide +kernel) (by omega) (by omega) (pI.mk ⟨inB_02 (i64_lt.mp ((lg_cmp_gt _ _).mp c10)), rfl⟩) dX0_isIn_18
    · refine j_iconst (v := nI 1) C dX0_isIn_13 rfl ?_
      refine j_goto C 18 dX0_isIn_14 (by decide) ?_
      exact j_zret C (by decide +kernel) (by omega) (by omega) (pI.mk ⟨inB_11 (fun z => c3 ((lg_cmp_lt _ _).mpr (i64_lt.mpr z))) (fun z => c10 ((lg_cmp_gt _ _).mpr (i64_lt.mpr z))), rfl⟩) dX0_isIn_18
set_option maxHeartbeats 400000 in
theorem kX0_has (G : gl_T) (w : wd_T) (n j : Nat) (hn : n < 2 ^ 31) (hj : j ≤ 30) : Mt G yX0_has cX0_has 2 (some .boolean) 0 [.int (nI n), .int (nI j)] w (qI (bZ (hasN n j)) w) 0 0 := by
  refine Mt.start (by decide) (Nat.le_of_ble_eq_true rfl) (fun k C => ?_)
  have C : Cx G k cX0_has "MoodFare" "has" 2 (some .boolean) 0 0 0 _ := C
  refine j_iload_n C dX0_has_0 rfl 0 rfl ?_
  refine j_iload_n C dX0_has_1 rfl 1 rfl ?_
  refine j_ishrN C dX0_has_2 (by first | omega | exact and1_lt _) (by first | omega | exact and1_lt _) ?_
  refine j_iconst (v := nI 1) C dX0_has_3 rfl ?_
  refine j_iandN C dX0_has_4 ?_
  refine j_iconst (v := nI 1) C dX0_has_5 rfl ?_
  refine j_icmp_neN C 13 dX0_has_6 (by decide) (by first | omega | exact and1_lt _) (by first | omega | exact and1_lt _) (fun c6 => ?_) (fun c6 => ?_)
  · refine j_iconst (v := nI 0) C dX0_has_13 rfl ?_
    exact j_zret C (by decide +kernel) (by omega) (by omega) (pI.mk ⟨by simp only [Nat.and_one_is_mod] at c6; simp [bZ, hasN, c6], rfl⟩) dX0_has_14
  · refine j_iconst (v := nI 1) C dX0_has_9 rfl ?_
    refine j_goto C 14 dX0_has_10 (by decide) ?_
    exact j_zret C (by decide +kernel) (by omega) (by omega) (pI.mk ⟨by simp only [Nat.and_one_is_mod] at c6; simp [bZ, hasN, c6], rfl⟩) dX0_has_14
set_option maxHeartbeats 400000 in
theorem kX0_isRow (G : gl_T) (w : wd_T) (x : Int32) : Mt G yX0_isRow cX0_isRow 1 (some .boolean) 1 [.int x] w (qI (bZ (inB x (nI 0) (nI 7))) w) 0 0 := by
  refine Mt.start (by decide) (Nat.le_of_ble_eq_true rfl) (fun k C => ?_)
  have C : Cx G k cX0_isRow "MoodFare" "isRow" 1 (some .boolean) 1 0 0 _ := C
  refine j_iload_n C dX0_isRow_0 rfl 0 rfl ?_
  refine j_i2l C dX0_isRow_1 ?_
  refine j_lconst (v := (nI 0).toInt64) C dX0_isRow_2 (by decide +kernel) ?_
  refine j_ldc2 C q386 dX0_isRow_3 ?_
  refine j_asl (y := (nI 7).toInt64) (by decide +kernel) ?_
  refine j_callS (w := w) C (kX0_isIn G w x ((nI 0)) ((nI 7))) pI.ret 3 q387 q388 q66 q389 (by decide +kernel) rfl (by decide) (by decide) (Nat.le_of_ble_eq_true rfl) rfl dX0_isRow_6 (by omega) (by omega) (qI.k ?_)
  exact j_zret C (bZ_n _) (by omega) (by omega) (pI.mk ⟨rfl, rfl⟩) dX0_isRow_9
set_option maxHeartbeats 400000 in
theorem kX0_isHalf (G : gl_T) (w : wd_T) (x : Int32) : Mt G yX0_isHalf cX0_isHalf 1 (some .boolean) 1 [.int x] w (qI (bZ (inB x (nI 0) (nI 1))) w) 0 0 := by
  refine Mt.start (by decide) (Nat.le_of_ble_eq_true rfl) (fun k C => ?_)
  have C : Cx G k cX0_isHalf "MoodFare" "isHalf" 1 (some .boolean) 1 0 0 _ := C
  refine j_iload_n C dX0_isHalf_0 rfl 0 rfl ?_
  refine j_i2l C dX0_isHalf_1 ?_
  refine j_lconst (v := (nI 0).toInt64) C dX0_isHalf_2 (by decide +kernel) ?_
  refine j_lconst (v := (nI 1).toInt64) C dX0_isHalf_3 (by decide +kernel) ?_
  refine j_callS (w := w) C (kX0_isIn G w x ((nI 0)) ((nI 1))) pI.ret 3 q387 q388 q66 q389 (by decide +kernel) rfl (by decide) (by decide) (Nat.le_of_ble_eq_true rfl) rfl dX0_isHalf_4 (by omega) (by omega) (qI.k ?_)
  exact j_zret C (bZ_n _) (by omega) (by omega) (pI.mk ⟨rfl, rfl⟩) dX0_isHalf_7
set_option maxHeartbeats 400000 in
theorem kX0_isMany (G : gl_T) (w : wd_T) (x n : Int32) : Mt G yX0_isMany cX0_isMany 2 (some .boolean) 2 [.int x, .int n] w (qI (bZ (inB x (nI 0) (nI 7) && inB n (nI 1) (nI 8))) w) 0 0 := by
  refine Mt.start (by decide) (Nat.le_of_ble_eq_true rfl) (fun k C => ?_)
  have C : Cx G k cX0_isMany "MoodFare" "isMany" 2 (some .boolean) 2 0 0 _ := C
  refine j_iload_n C dX0_isMany_0 rfl 0 rfl ?_
  refine j_callS (w := w) C (kX0_isRow G w x) pI.ret 1 q383 q384 q66 q385 (by decide +kernel) rfl (by decide) (by decide) (Nat.le_of_ble_eq_true rfl) rfl dX0_isMany_1 (by omega) (by omega) (qI.k ?_)
  refine j_if_eqB C 23 dX0_isMany_4 (by decide) (fun c4 => ?_) (fun c4 => ?_)
  · refine j_iconst (v := nI 0) C dX0_isMany_23 rfl ?_
    exact j_zret C (by decide +kernel) (by omega) (by omega) (pI.mk ⟨by simp [bZ, c4], rfl⟩) dX0_isMany_24
  · refine j_iload_n C dX0_isMany_7 rfl 1 rfl ?_
    refine j_i2l C dX0_isMany_8 ?_
    refine j_lconst (v := (nI 1).toInt64) C dX0_isMany_9 (by decide +kernel) ?_
    refine j_ldc2 C q1083 dX0_isMany_10 ?_
    refine j_asl (y := (nI 8).toInt64) (by decide +kernel) ?_
    refine j_callS (w := w) C (kX0_isIn G w n ((nI 1)) ((nI 8))) pI.ret 3 q387 q388 q66 q389 (by decide +kernel) rfl (by decide) (by decide) (Nat.le_of_ble_eq_true rfl) rfl dX0_isMany_13 (by omega) (by omega) (qI.k ?_)
    refine j_if_eqB C 23 dX0_isMany_16 (by decide) (fun c16 => ?_) (fun c16 => ?_)
    · refine j_iconst (v := nI 0) C dX0_isMany_23 rfl ?_
      exact j_zret C (by decide +kernel) (by omega) (by omega) (pI.mk ⟨by simp [bZ, c4, c16], rfl⟩) dX0_isMany_24
    · refine j_iconst (v := nI 1) C dX0_isMany_19 rfl ?_
      refine j_goto C 24 dX0_isMany_20 (by decide) ?_
      exact j_zret C (by decide +kernel) (by omega) (by omega) (pI.mk ⟨by simp [bZ, c4, c16], rfl⟩) dX0_isMany_24
set_option maxHeartbeats 400000 in
theorem kJ15_checkIndex (G : gl_T) (w : wd_T) (i n : Nat) (hi : i < n) (hn : n < 2 ^ 31) : Mt G yJ15_checkIndex cJ15_checkIndex 3 (some .int) 0 [.int (nI i), .int (nI n), .null] w (qI (nI i) w) 0 0 := by
  refine Mt.start (by decide) (Nat.le_of_ble_eq_true rfl) (fun k C => ?_)
  have C : Cx G k cJ15_checkIndex "jdk/internal/util/Preconditions" "checkIndex" 3 (some .int) 0 0 0 _ := C
  refine j_iload_n C dJ15_checkIndex_0 rfl 0 rfl ?_
  refine j_if_ltN C dJ15_checkIndex_1 9 (by decide) (by omega) ?_
  refine j_iload_n C dJ15_checkIndex_4 rfl 0 rfl ?_
  refine j_iload_n C dJ15_checkIndex_5 rfl 1 rfl ?_
  refine j_icmp_ltN C 16 dJ15_checkIndex_6 (by decide) (by omega) (by omega) (fun c6 => ?_) (fun c6 => ?_)
  · refine j_iload_n C dJ15_checkIndex_16 rfl 0 rfl ?_
    exact j_iret C (by omega) (by omega) (pI.mk ⟨rfl, rfl⟩) dJ15_checkIndex_17
  · exfalso; omega
set_option maxHeartbeats 400000 in
theorem kJ19_checkIndex (G : gl_T) (w : wd_T) (i n : Nat) (hi : i < n) (hn : n < 2 ^ 31) : Mt G yJ19_checkIndex cJ19_checkIndex 2 (some .int) 1 [.int (nI i), .int (nI n)] w (qI (nI i) w) 0 0 := by
  refine Mt.start (by decide) (Nat.le_of_ble_eq_true rfl) (fun k C => ?_)
  have C : Cx G k cJ19_checkIndex "java/util/Objects" "checkIndex" 2 (some .int) 1 0 0 _ := C
  refine j_iload_n C dJ19_checkIndex_0 rfl 0 rfl ?_
  refine j_iload_n C dJ19_checkIndex_1 rfl 1 rfl ?_
  refine j_null C dJ19_checkIndex_2 ?_
  refine j_callS (w := w) C (kJ15_checkIndex G w i n (by omega) (by omega)) pI.ret 3 q865 q866 q89 q867 (by decide +kernel) rfl (by decide) (by decide) (Nat.le_of_ble_eq_true rfl) rfl dJ19_checkIndex_3 (by omega) (by omega) (qI.k ?_)
  exact j_iret C (by omega) (by omega) (pI.mk ⟨rfl, rfl⟩) dJ19_checkIndex_6
set_option maxHeartbeats 400000 in
theorem kJ2_size (G : gl_T) (w : wd_T) (b τ e n : Nat) (md : Int32) (hb : w.1 b = some (τ, .inr (20, [.int md, .ref e, .int (nI n)]))) : Mt G yJ2_size cJ2_size 1 (some .int) 0 [.ref b] w (qI (nI n) w) 0 0 := by
  refine Mt.start (by decide) (Nat.le_of_ble_eq_true rfl) (fun k C => ?_)
  have C : Cx G k cJ2_size "java/util/ArrayList" "size" 1 (some .int) 0 0 0 _ := C
  refine j_aload_n C dJ2_size_0 rfl 0 rfl ?_
  refine j_get (w := w) C in_J2 (ci := 20) (T := TJ2) rfl hb 2 (by decide) q153 (fun _ z => z) (v := .int (nI n)) rfl dJ2_size_1 ?_
  exact j_iret C (by omega) (by omega) (pI.mk ⟨rfl, rfl⟩) dJ2_size_4
set_option maxHeartbeats 400000 in
theorem kJ2_elementData (G : gl_T) (w : wd_T) (b τ e n : Nat) (md : Int32) (f : Nat → Option Nat) (hb : w.1 b = some (τ, .inr (20, [.int md, .ref e, .int (nI n)]))) (he : w.1 e = some (τ, aq (gl_A G 4) 10 f)) (hbe : b ≠ e) (i q : Nat) (hi : i < 10) (hq : f i = some q) : Mt G yJ2_elementData cJ2_elementData 2 (some (.object "java/lang/Object")) 0 [.ref b, .int (nI i)] w (qA (.ref q) w) 0 0 := by
  refine Mt.start (by decide) (Nat.le_of_ble_eq_true rfl) (fun k C => ?_)
  have C : Cx G k cJ2_elementData "java/util/ArrayList" "elementData" 2 (some (.object "java/lang/Object")) 0 0 0 _ := C
  refine j_aload_n C dJ2_elementData_0 rfl 0 rfl ?_
  refine j_get (w := w) C in_J2 (ci := 20) (T := TJ2) rfl hb 1 (by decide) q152 (fun _ z => z) (v := .ref e) rfl dJ2_elementData_1 ?_
  refine j_iload_n C dJ2_elementData_4 rfl 1 rfl ?_
  refine j_aald (w := w) C 4 he rfl (i) rfl (by omega) (by decide) dJ2_elementData_5 ?_
  refine j_asv (y := .ref q) (by rw [hq]; rfl) ?_
  exact j_aret C (by first | exact Or.inl ⟨_, rfl⟩ | exact Or.inr ⟨_, rfl⟩) (by first | exact Or.inl rfl | exact Or.inr ⟨_, rfl⟩) (by omega) (by omega) (pA.mk ⟨rfl, rfl⟩) dJ2_elementData_6
set_option maxHeartbeats 400000 in
theorem kJ2_get (G : gl_T) (w : wd_T) (b τ e n : Nat) (md : Int32) (f : Nat → Option Nat) (hb : w.1 b = some (τ, .inr (20, [.int md, .ref e, .int (nI n)]))) (he : w.1 e = some (τ, aq (gl_A G 4) 10 f)) (hbe : b ≠ e) (i q : Nat) (hi : i < n) (hn : n ≤ 10) (hq : f i = some q) : Mt G yJ2_get cJ2_get 2 (some (.object "java/lang/Object")) 2 [.ref b, .int (nI i)] w (qA (.ref q) w) 0 0 := by
  refine Mt.start (by decide) (Nat.le_of_ble_eq_true rfl) (fun k C => ?_)
  have C : Cx G k cJ2_get "java/util/ArrayList" "get" 2 (some (.object "java/lang/Object")) 2 0 0 _ := C
  refine j_iload_n C dJ2_get_0 rfl 1 rfl ?_
  refine j_aload_n C dJ2_get_1 rfl 0 rfl ?_
  refine j_get (w := w) C in_J2 (ci := 20) (T := TJ2) rfl hb 2 (by decide) q153 (fun _ z => z) (v := .int (nI n)) rfl dJ2_get_2 ?_
  refine j_callS (w := w) C (kJ19_checkIndex G w i n (by omega) (by omega)) pI.ret 2 q862 q863 q99 q864 (by decide +kernel) rfl (by decide) (by decide) (Nat.le_of_ble_eq_true rfl) rfl dJ2_get_5 (by omega) (by omega) (qI.k ?_)
  refine j_pop C dJ2_get_8 rfl ?_
  refine j_aload_n C dJ2_get_9 rfl 0 rfl ?_
  refine j_iload_n C dJ2_get_10 rfl 1 rfl ?_
  refine j_callV (w := w) C (kJ2_elementData G w b τ e n md f hb he hbe i q (by omega) hq) pA.ret (ci := 20) (T := TJ2) hb rfl 1 q868 q869 q870 q71 q871 (by decide +kernel) rfl (by decide) (by decide) (Nat.le_of_ble_eq_true rfl) rfl dJ2_get_11 (by omega) (by omega) (qA.k ?_)
  exact j_aret C (by first | exact Or.inl ⟨_, rfl⟩ | exact Or.inr ⟨_, rfl⟩) (by first | exact Or.inl rfl | exact Or.inr ⟨_, rfl⟩) (by omega) (by omega) (pA.mk ⟨rfl, rfl⟩) dJ2_get_14
set_option maxHeartbeats 400000 in
theorem kJ2_set (G : gl_T) (w : wd_T) (b τ e n : Nat) (md : Int32) (f : Nat → Option Nat) (hb : w.1 b = some (τ, .inr (20, [.int md, .ref e, .int (nI n)]))) (he : w.1 e = some (τ, aq (gl_A G 4) 10 f)) (hbe : b ≠ e) (v σ ci : Nat) (r : vw_C) (vs : List Value) (hv : w.1 v = some (σ, .inr (ci, vs))) (hcc : jcl[ci]? = some r) (hca : ∀ U, KK G U → va_Nw (.castable r.1 "java/lang/Object") U) (hve : v ≠ e) (hvb : v ≠ b) (i q : Nat) (hi : i < n) (hn : n ≤ 10) (hq : f i = some q) : Mt G yJ2_set cJ2_set 4 (some (.object "java/lang/Object")) 2 [.ref b, .int (nI i), .ref v] w (qA (.ref q) (mu w.1 e τ (aq (gl_A G 4) 10 (va_up f i (some v))), w.2)) 0 0 := by
  refine Mt.start (by decide) (Nat.le_of_ble_eq_true rfl) (fun k C => ?_)
  have C : Cx G k cJ2_set "java/util/ArrayList" "set" 4 (some (.object "java/lang/Object")) 2 0 0 _ := C
  refine j_iload_n C dJ2_set_0 rfl 1 rfl ?_
  refine j_aload_n C dJ2_set_1 rfl 0 rfl ?_
  refine j_get (w := w) C in_J2 (ci := 20) (T := TJ2) rfl hb 2 (by decide) q153 (fun _ z => z) (v := .int (nI n)) rfl dJ2_set_2 ?_
  refine j_callS (w := w) C (kJ19_checkIndex G w i n (by omega) (by omega)) pI.ret 2 q862 q863 q99 q864 (by decide +kernel) rfl (by decide) (by decide) (Nat.le_of_ble_eq_true rfl) rfl dJ2_set_5 (by omega) (by omega) (qI.k ?_)
  refine j_pop C dJ2_set_8 rfl ?_
  refine j_aload_n C dJ2_set_9 rfl 0 rfl ?_
  refine j_iload_n C dJ2_set_10 rfl 1 rfl ?_
  refine j_callV (w := w) C (kJ2_elementData G w b τ e n md f hb he hbe i q (by omega) hq) pA.ret (ci := 20) (T := TJ2) hb rfl 1 q868 q869 q870 q71 q871 (by decide +kernel) rfl (by decide) (by decide) (Nat.le_of_ble_eq_true rfl) rfl dJ2_set_11 (by omega) (by omega) (qA.k ?_)
  refine j_astore_n (lv' := [(3, .ref q), (0, .ref b), (1, .int (nI i)), (2, .ref v)]) C dJ2_set_14 rfl (by decide) rfl ?_
  refine j_aload_n C dJ2_set_15 rfl 1 rfl ?_
  refine j_get (w := w) C in_J2 (ci := 20) (T := TJ2) rfl hb 1 (by decide) q152 (fun _ z => z) (v := .ref e) rfl dJ2_set_16 ?_
  refine j_iload_n C dJ2_set_19 rfl 2 rfl ?_
  refine j_aload_n C dJ2_set_20 rfl 3 rfl ?_
  refine j_aastO (w := w) C 4 he rfl (hca _ C.hK) hv hcc (i) rfl (by omega) (by decide) dJ2_set_21 ?_
  refine j_aload_n C dJ2_set_22 rfl 0 rfl ?_
  exact j_aret C (by first | exact Or.inl ⟨_, rfl⟩ | exact Or.inr ⟨_, rfl⟩) (by first | exact Or.inl rfl | exact Or.inr ⟨_, rfl⟩) (by omega) (by omega) (pA.mk ⟨rfl, rfl⟩) dJ2_set_23
set_option maxHeartbeats 400000 in
theorem kJ2_grow_2 (G : gl_T) (w : wd_T) (hG : GH G) (b τ : Nat) (md : Int32) (hb : w.1 b = some (τ, .inr (20, [.int md, .ref (gl_z G 0), .int (nI 0)]))) (hbs : b < w.2) : Mt G yJ2_grow_2 cJ2_grow_2 4 (some (.array (.object "java/lang/Object"))) 0 [.ref b, .int (nI 1)] w (qA (.ref w.2) (mu (mu w.1 w.2 τ (aq (gl_A G 4) 10 (fun _ => none))) b τ (.inr (20, [.int md, .ref w.2, .int (nI 0)])), w.2 + 1)) 1 10 := by
  refine Mt.start (by decide) (Nat.le_of_ble_eq_true rfl) (fun k C => ?_)
  have C : Cx G k cJ2_grow_2 "java/util/ArrayList" "grow" 4 (some (.array (.object "java/lang/Object"))) 0 1 10 _ := C
  refine j_aload_n C dJ2_grow_2_0 rfl 0 rfl ?_
  refine j_get (w := w) C in_J2 (ci := 20) (T := TJ2) rfl hb 1 (by decide) q152 (fun _ z => z) (v := .ref (gl_z G 0)) rfl dJ2_grow_2_1 ?_
  refine j_alenE C hG dJ2_grow_2_4 ?_
  refine j_istore_n (lv' := [(2, .int (nI 0)), (0, .ref b), (1, .int (nI 1))]) C dJ2_grow_2_5 rfl (by decide) rfl ?_
  refine j_iload_n C dJ2_grow_2_6 rfl 0 rfl ?_
  refine j_if_gtN C 20 dJ2_grow_2_7 (by decide) (by omega) (fun c7 => ?_) (fun c7 => ?_)
  · exfalso; omega
  · refine j_aload_n C dJ2_grow_2_10 rfl 1 rfl ?_
    refine j_get (w := w) C in_J2 (ci := 20) (T := TJ2) rfl hb 1 (by decide) q152 (fun _ z => z) (v := .ref (gl_z G 0)) rfl dJ2_grow_2_11 ?_
    refine j_getsE C hG q150 dJ2_grow_2_14 ?_
    refine j_acmp_eq C 45 dJ2_grow_2_17 (by decide) (fun c17 => ?_) (fun c17 => ?_)
    · refine j_aload_n C dJ2_grow_2_45 rfl 1 rfl ?_
      refine j_bipush (v := nI 10) C dJ2_grow_2_46 rfl ?_
      refine j_iload_n C dJ2_grow_2_48 rfl 2 rfl ?_
      refine j_mmax C q828 q628 q87 q629 (Nat.le_of_ble_eq_true rfl) (by omega) (by omega) dJ2_grow_2_49 ?_
      refine j_as (y := nI 10) rfl ?_
      refine j_newq (w := w) C τ 4 (10) q829 (C.nw hG q824 rfl) rfl rfl (by omega) (by omega) (by omega) dJ2_grow_2_52 ?_
      refine j_dup_x1 C dJ2_grow_2_55 rfl rfl ?_
      refine j_put (w := ((mu w.1 w.2 τ (aq (gl_A G 4) 10 (fun _ => none))), w.2 + 1)) C (ty0 := tyJ2) in_J2 tyJ2_ok nmJ2 (ci := 20) (T := TJ2) rfl ((mu_n (Nat.ne_of_lt hbs)).trans hb) 1 (by decide) q152 (fun _ z => z) rfl rfl rfl (fs' := [.int md, .ref w.2, .int (nI 0)]) (Nat.le_of_ble_eq_true rfl) rfl dJ2_grow_2_56 ?_
      exact j_aret C (by first | exact Or.inl ⟨_, rfl⟩ | exact Or.inr ⟨_, rfl⟩) (by first | exact Or.inl rfl | exact Or.inr ⟨_, rfl⟩) (by omega) (by omega) (pA.mk ⟨rfl, rfl⟩) dJ2_grow_2_59
    · exact absurd rfl c17
set_option maxHeartbeats 400000 in
theorem kJ2_grow (G : gl_T) (w : wd_T) (hG : GH G) (b τ : Nat) (md : Int32) (hb : w.1 b = some (τ, .inr (20, [.int md, .ref (gl_z G 0), .int (nI 0)]))) (hbs : b < w.2) : Mt G yJ2_grow cJ2_grow 1 (some (.array (.object "java/lang/Object"))) 1 [.ref b] w (qA (.ref w.2) (mu (mu w.1 w.2 τ (aq (gl_A G 4) 10 (fun _ => none))) b τ (.inr (20, [.int md, .ref w.2, .int (nI 0)])), w.2 + 1)) 1 10 := by
  refine Mt.start (by decide) (Nat.le_of_ble_eq_true rfl) (fun k C => ?_)
  have C : Cx G k cJ2_grow "java/util/ArrayList" "grow" 1 (some (.array (.object "java/lang/Object"))) 1 1 10 _ := C
  refine j_aload_n C dJ2_grow_0 rfl 0 rfl ?_
  refine j_aload_n C dJ2_grow_1 rfl 0 rfl ?_
  refine j_get (w := w) C in_J2 (ci := 20) (T := TJ2) rfl hb 2 (by decide) q153 (fun _ z => z) (v := .int (nI 0)) rfl dJ2_grow_2 ?_
  refine j_iconst (v := nI 1) C dJ2_grow_5 rfl ?_
  refine j_iaddN C dJ2_grow_6 ?_
  refine j_callV (w := w) C (kJ2_grow_2 G w hG b τ md hb hbs) pA.ret (ci := 20) (T := TJ2) hb rfl 1 q775 q777 qs16 q71 q778 (by decide +kernel) rfl (by decide) (by decide) (Nat.le_of_ble_eq_true rfl) rfl dJ2_grow_7 (by omega) (by omega) (qA.k ?_)
  exact j_aret C (by first | exact Or.inl ⟨_, rfl⟩ | exact Or.inr ⟨_, rfl⟩) (by first | exact Or.inl rfl | exact Or.inr ⟨_, rfl⟩) (by omega) (by omega) (pA.mk ⟨rfl, rfl⟩) dJ2_grow_10
set_option maxHeartbeats 400000 in
theorem kJ2_add_2 (G : gl_T) (w : wd_T) (b τ e n : Nat) (md : Int32) (f : Nat → Option Nat) (hb : w.1 b = some (τ, .inr (20, [.int md, .ref e, .int (nI n)]))) (he : w.1 e = some (τ, aq (gl_A G 4) 10 f)) (hbe : b ≠ e) (v σ ci : Nat) (r : vw_C) (vs : List Value) (hv : w.1 v = some (σ, .inr (ci, vs))) (hcc : jcl[ci]? = some r) (hca : ∀ U, KK G U → va_Nw (.castable r.1 "java/lang/Object") U) (hve : v ≠ e) (hvb : v ≠ b) (hn : n < 10) : Mt G yJ2_add_2 cJ2_add_2 4 none 2 [.ref b, .ref v, .ref e, .int (nI n)] w (qV (mu (mu w.1 e τ (aq (gl_A G 4) 10 (va_up f n (some v)))) b τ (.inr (20, [.int md, .ref e, .int (nI (n + 1))])), w.2)) 0 0 := by
  refine Mt.start (by decide) (Nat.le_of_ble_eq_true rfl) (fun k C => ?_)
  have C : Cx G k cJ2_add_2 "java/util/ArrayList" "add" 4 none 2 0 0 _ := C
  refine j_iload_n C dJ2_add_2_0 rfl 3 rfl ?_
  refine j_aload_n C dJ2_add_2_1 rfl 2 rfl ?_
  refine j_alen (w := w) C 4 he rfl dJ2_add_2_2 ?_
  refine j_icmp_neN C 11 dJ2_add_2_3 (by decide) (by omega) (by omega) (fun c3 => ?_) (fun c3 => ?_)
  · refine j_aload_n C dJ2_add_2_11 rfl 2 rfl ?_
    refine j_iload_n C dJ2_add_2_12 rfl 3 rfl ?_
    refine j_aload_n C dJ2_add_2_13 rfl 1 rfl ?_
    refine j_aastO (w := w) C 4 he rfl (hca _ C.hK) hv hcc (n) rfl (by omega) (by decide) dJ2_add_2_14 ?_
    refine j_aload_n C dJ2_add_2_15 rfl 0 rfl ?_
    refine j_iload_n C dJ2_add_2_16 rfl 3 rfl ?_
    refine j_iconst (v := nI 1) C dJ2_add_2_17 rfl ?_
    refine j_iaddN C dJ2_add_2_18 ?_
    refine j_put (w := ((mu w.1 e τ (aq (gl_A G 4) 10 (va_up f n (some v)))), w.2)) C (ty0 := tyJ2) in_J2 tyJ2_ok nmJ2 (ci := 20) (T := TJ2) rfl ((mu_n hbe).trans hb) 2 (by decide) q153 (fun _ z => z) rfl rfl rfl (fs' := [.int md, .ref e, .int (nI (n + 1))]) (Nat.le_of_ble_eq_true rfl) rfl dJ2_add_2_19 ?_
    exact j_vret C (by omega) (by omega) (pV.mk rfl) dJ2_add_2_22
  · exfalso; omega
set_option maxHeartbeats 400000 in
theorem kJ2_add (G : gl_T) (w : wd_T) (b τ e n : Nat) (md : Int32) (f : Nat → Option Nat) (hb : w.1 b = some (τ, .inr (20, [.int md, .ref e, .int (nI n)]))) (he : w.1 e = some (τ, aq (gl_A G 4) 10 f)) (hbe : b ≠ e) (v σ ci : Nat) (r : vw_C) (vs : List Value) (hv : w.1 v = some (σ, .inr (ci, vs))) (hcc : jcl[ci]? = some r) (hca : ∀ U, KK G U → va_Nw (.castable r.1 "java/lang/Object") U) (hve : v ≠ e) (hvb : v ≠ b) (hn : n < 10) : Mt G yJ2_add cJ2_add 2 (some .boolean) 4 [.ref b, .ref v] w (qI (nI 1) (mu (mu w.1 e τ (aq (gl_A G 4) 10 (va_up f n (some v)))) b τ (.inr (20, [.int (md + 1), .ref e, .int (nI (n + 1))])), w.2)) 1 10 := by
  refine Mt.start (by decide) (Nat.le_of_ble_eq_true rfl) (fun k C => ?_)
  have C : Cx G k cJ2_add "java/util/ArrayList" "add" 2 (some .boolean) 4 1 10 _ := C
  refine j_aload_n C dJ2_add_0 rfl 0 rfl ?_
  refine j_dup C dJ2_add_1 rfl ?_
  refine j_get (w := w) C in_J2 (ci := 20) (T := TJ2) rfl hb 0 (by decide) q155 (fun x z => u_same (C.hts _ q156) x z) (v := .int md) rfl dJ2_add_2 ?_
  refine j_iconst (v := nI 1) C dJ2_add_5 rfl ?_
  refine j_iadd C dJ2_add_6 ?_
  refine j_put (w := w) C (ty0 := tyJ2) in_J2 tyJ2_ok nmJ2 (ci := 20) (T := TJ2) rfl hb 0 (by decide) q155 (fun x z => u_same (C.hts _ q156) x z) rfl rfl rfl (fs' := [.int (md + (nI 1)), .ref e, .int (nI n)]) (Nat.le_of_ble_eq_true rfl) rfl dJ2_add_7 ?_
  refine j_aload_n C dJ2_add_10 rfl 0 rfl ?_
  refine j_aload_n C dJ2_add_11 rfl 1 rfl ?_
  refine j_aload_n C dJ2_add_12 rfl 0 rfl ?_
  refine j_get (w := ((mu w.1 b τ (.inr (20, [.int (md + (nI 1)), .ref e, .int (nI n)]))), w.2)) C in_J2 (ci := 20) (T := TJ2) rfl mu_s 1 (by decide) q152 (fun _ z => z) (v := .ref e) rfl dJ2_add_13 ?_
  refine j_aload_n C dJ2_add_16 rfl 0 rfl ?_
  refine j_get (w := ((mu w.1 b τ (.inr (20, [.int (md + (nI 1)), .ref e, .int (nI n)]))), w.2)) C in_J2 (ci := 20) (T := TJ2) rfl mu_s 2 (by decide) q153 (fun _ z => z) (v := .int (nI n)) rfl dJ2_add_17 ?_
  refine j_callV (w := ((mu w.1 b τ (.inr (20, [.int (md + (nI 1)), .ref e, .int (nI n)]))), w.2)) C (kJ2_add_2 G ((mu w.1 b τ (.inr (20, [.int (md + (nI 1)), .ref e, .int (nI n)]))), w.2) b τ e n (md + (nI 1)) f mu_s ((mu_n (Ne.symm hbe)).trans he) hbe v σ ci r vs ((mu_n hvb).trans hv) hcc hca hve hvb (by omega)) pV.ret (ci := 20) (T := TJ2) mu_s rfl 3 q767 q769 qs14 q71 q770 (by decide +kernel) rfl (by decide) (by decide) (Nat.le_of_ble_eq_true rfl) rfl dJ2_add_20 (by omega) (by omega) (qV.k ?_)
  refine j_iconst (v := nI 1) C dJ2_add_23 rfl ?_
  exact j_zret C (by decide +kernel) (by omega) (by omega) (pI.mk ⟨rfl, congrArg (fun z => (z, w.2)) mu_d1⟩) dJ2_add_24
set_option maxHeartbeats 400000 in
theorem kJ2_add_o (G : gl_T) (w : wd_T) (b τ e n : Nat) (md : Int32) (f : Nat → Option Nat) (hb : w.1 b = some (τ, .inr (20, [.int md, .ref e, .int (nI n)]))) (he : w.1 e = some (τ, aq (gl_A G 4) 10 f)) (hbe : b ≠ e) (v σ ci : Nat) (r : vw_C) (vs : List Value) (hv : w.1 v = some (σ, .inr (ci, vs))) (hcc : jcl[ci]? = some r) (hca : ∀ U, KK G U → va_Nw (.castable r.1 "java/lang/Object") U) (hve : v ≠ e) (hvb : v ≠ b) (hn : n < 10) : Mt G yJ2_add cJ2_add 2 (some .boolean) 4 [.ref b, .ref v] w (qI (nI 1) (mu (mu w.1 e τ (aq (gl_A G 4) 10 (va_up f n (some v)))) b τ (.inr (20, [.int (md + 1), .ref e, .int (nI (n + 1))])), w.2)) 0 0 := by
  refine Mt.start (by decide) (Nat.le_of_ble_eq_true rfl) (fun k C => ?_)
  have C : Cx G k cJ2_add "java/util/ArrayList" "add" 2 (some .boolean) 4 0 0 _ := C
  refine j_aload_n C dJ2_add_0 rfl 0 rfl ?_
  refine j_dup C dJ2_add_1 rfl ?_
  refine j_get (w := w) C in_J2 (ci := 20) (T := TJ2) rfl hb 0 (by decide) q155 (fun x z => u_same (C.hts _ q156) x z) (v := .int md) rfl dJ2_add_2 ?_
  refine j_iconst (v := nI 1) C dJ2_add_5 rfl ?_
  refine j_iadd C dJ2_add_6 ?_
  refine j_put (w := w) C (ty0 := tyJ2) in_J2 tyJ2_ok nmJ2 (ci := 20) (T := TJ2) rfl hb 0 (by decide) q155 (fun x z => u_same (C.hts _ q156) x z) rfl rfl rfl (fs' := [.int (md + (nI 1)), .ref e, .int (nI n)]) (Nat.le_of_ble_eq_true rfl) rfl dJ2_add_7 ?_
  refine j_aload_n C dJ2_add_10 rfl 0 rfl ?_
  refine j_aload_n C dJ2_add_11 rfl 1 rfl ?_
  refine j_aload_n C dJ2_add_12 rfl 0 rfl ?_
  refine j_get (w := ((mu w.1 b τ (.inr (20, [.int (md + (nI 1)), .ref e, .int (nI n)]))), w.2)) C in_J2 (ci := 20) (T := TJ2) rfl mu_s 1 (by decide) q152 (fun _ z => z) (v := .ref e) rfl dJ2_add_13 ?_
  refine j_aload_n C dJ2_add_16 rfl 0 rfl ?_
  refine j_get (w := ((mu w.1 b τ (.inr (20, [.int (md + (nI 1)), .ref e, .int (nI n)]))), w.2)) C in_J2 (ci := 20) (T := TJ2) rfl mu_s 2 (by decide) q153 (fun _ z => z) (v := .int (nI n)) rfl dJ2_add_17 ?_
  refine j_callV (w := ((mu w.1 b τ (.inr (20, [.int (md + (nI 1)), .ref e, .int (nI n)]))), w.2)) C (kJ2_add_2 G ((mu w.1 b τ (.inr (20, [.int (md + (nI 1)), .ref e, .int (nI n)]))), w.2) b τ e n (md + (nI 1)) f mu_s ((mu_n (Ne.symm hbe)).trans he) hbe v σ ci r vs ((mu_n hvb).trans hv) hcc hca hve hvb (by omega)) pV.ret (ci := 20) (T := TJ2) mu_s rfl 3 q767 q769 qs14 q71 q770 (by decide +kernel) rfl (by decide) (by decide) (Nat.le_of_ble_eq_true rfl) rfl dJ2_add_20 (by omega) (by omega) (qV.k ?_)
  refine j_iconst (v := nI 1) C dJ2_add_23 rfl ?_
  exact j_zret C (by decide +kernel) (by omega) (by omega) (pI.mk ⟨rfl, congrArg (fun z => (z, w.2)) mu_d1⟩) dJ2_add_24
set_option maxHeartbeats 400000 in
theorem kJ2_add_2_z (G : gl_T) (w : wd_T) (hG : GH G) (b τ : Nat) (md : Int32) (hb : w.1 b = some (τ, .inr (20, [.int md, .ref (gl_z G 0), .int (nI 0)]))) (hbs : b < w.2) (v σ ci : Nat) (r : vw_C) (vs : List Value) (hv : w.1 v = some (σ, .inr (ci, vs))) (hcc : jcl[ci]? = some r) (hca : ∀ U, KK G U → va_Nw (.castable r.1 "java/lang/Object") U) (hvs : v < w.2) (hvb : v ≠ b) : Mt G yJ2_add_2 cJ2_add_2 4 none 3 [.ref b, .ref v, .ref (gl_z G 0), .int (nI 0)] w (qV (mu (mu w.1 w.2 τ (aq (gl_A G 4) 10 (va_up (fun _ => none) 0 (some v)))) b τ (.inr (20, [.int md, .ref w.2, .int (nI 1)])), w.2 + 1)) 1 10 := by
  refine Mt.start (by decide) (Nat.le_of_ble_eq_true rfl) (fun k C => ?_)
  have C : Cx G k cJ2_add_2 "java/util/ArrayList" "add" 4 none 3 1 10 _ := C
  refine j_iload_n C dJ2_add_2_0 rfl 3 rfl ?_
  refine j_aload_n C dJ2_add_2_1 rfl 2 rfl ?_
  refine j_alenE C hG dJ2_add_2_2 ?_
  refine j_icmp_neN C 11 dJ2_add_2_3 (by decide) (by omega) (by omega) (fun c3 => ?_) (fun c3 => ?_)
  · exfalso; omega
  · refine j_aload_n C dJ2_add_2_6 rfl 0 rfl ?_
    refine j_callV (w := w) C (kJ2_grow G w hG b τ md hb hbs) pA.ret (ci := 20) (T := TJ2) hb rfl 0 q771 q773 qs15 q71 q774 (by decide +kernel) rfl (by decide) (by decide) (Nat.le_of_ble_eq_true rfl) rfl dJ2_add_2_7 (by omega) (by omega) (qA.k ?_)
    refine j_astore_n (lv' := [(2, .ref w.2), (0, .ref b), (1, .ref v), (3, .int (nI 0))]) C dJ2_add_2_10 rfl (by decide) rfl ?_
    refine j_aload_n C dJ2_add_2_11 rfl 0 rfl ?_
    refine j_iload_n C dJ2_add_2_12 rfl 3 rfl ?_
    refine j_aload_n C dJ2_add_2_13 rfl 2 rfl ?_
    refine j_aastO (w := ((mu (mu w.1 w.2 τ (aq (gl_A G 4) 10 (fun _ => none))) b τ (.inr (20, [.int md, .ref w.2, .int (nI 0)]))), w.2 + 1)) C 4 ((mu_n (Ne.symm (Nat.ne_of_lt hbs))).trans mu_s) rfl (hca _ C.hK) ((mu_n hvb).trans ((mu_n (Nat.ne_of_lt hvs)).trans hv)) hcc (0) rfl (by omega) (by decide) dJ2_add_2_14 ?_
    refine J.eq (w' := ((mu (mu w.1 b τ (.inr (20, [.int md, .ref w.2, .int (nI 0)]))) w.2 τ (aq (gl_A G 4) 10 (va_up (fun _ => none) 0 (some v)))), w.2 + 1)) ?_ (congrArg (fun z => (z, w.2 + 1)) mu_d1) rfl rfl
    refine j_aload_n C dJ2_add_2_15 rfl 1 rfl ?_
    refine j_iload_n C dJ2_add_2_16 rfl 3 rfl ?_
    refine j_iconst (v := nI 1) C dJ2_add_2_17 rfl ?_
    refine j_iaddN C dJ2_add_2_18 ?_
    refine j_put (w := ((mu (mu w.1 b τ (.inr (20, [.int md, .ref w.2, .int (nI 0)]))) w.2 τ (aq (gl_A G 4) 10 (va_up (fun _ => none) 0 (some v)))), w.2 + 1)) C (ty0 := tyJ2) in_J2 tyJ2_ok nmJ2 (ci := 20) (T := TJ2) rfl ((mu_n (Nat.ne_of_lt hbs)).trans mu_s) 2 (by decide) q153 (fun _ z => z) rfl rfl rfl (fs' := [.int md, .ref w.2, .int (nI (0 + 1))]) (Nat.le_of_ble_eq_true rfl) rfl dJ2_add_2_19 ?_
    refine J.eq (w' := ((mu (mu w.1 w.2 τ (aq (gl_A G 4) 10 (va_up (fun _ => none) 0 (some v)))) b τ (.inr (20, [.int md, .ref w.2, .int (nI (0 + 1))]))), w.2 + 1)) ?_ (congrArg (fun z => (z, w.2 + 1)) mu_d1) rfl rfl
    exact j_vret C (by omega) (by omega) (pV.mk rfl) dJ2_add_2_22
set_option maxHeartbeats 400000 in
theorem kJ2_add_z (G : gl_T) (w : wd_T) (hG : GH G) (b τ : Nat) (md : Int32) (hb : w.1 b = some (τ, .inr (20, [.int md, .ref (gl_z G 0), .int (nI 0)]))) (hbs : b < w.2) (v σ ci : Nat) (r : vw_C) (vs : List Value) (hv : w.1 v = some (σ, .inr (ci, vs))) (hcc : jcl[ci]? = some r) (hca : ∀ U, KK G U → va_Nw (.castable r.1 "java/lang/Object") U) (hvs : v < w.2) (hvb : v ≠ b) : Mt G yJ2_add cJ2_add 2 (some .boolean) 4 [.ref b, .ref v] w (qI (nI 1) (mu (mu w.1 w.2 τ (aq (gl_A G 4) 10 (va_up (fun _ => none) 0 (some v)))) b τ (.inr (20, [(.int (md + 1)), .ref w.2, .int (nI 1)])), w.2 + 1)) 1 10 := by
  refine Mt.start (by decide) (Nat.le_of_ble_eq_true rfl) (fun k C => ?_)
  have C : Cx G k cJ2_add "java/util/ArrayList" "add" 2 (some .boolean) 4 1 10 _ := C
  refine j_aload_n C dJ2_add_0 rfl 0 rfl ?_
  refine j_dup C dJ2_add_1 rfl ?_
  refine j_get (w := w) C in_J2 (ci := 20) (T := TJ2) rfl hb 0 (by decide) q155 (fun x z => u_same (C.hts _ q156) x z) (v := .int md) rfl dJ2_add_2 ?_
  refine j_iconst (v := nI 1) C dJ2_add_5 rfl ?_
  refine j_iadd C dJ2_add_6 ?_
  refine j_put (w := w) C (ty0 := tyJ2) in_J2 tyJ2_ok nmJ2 (ci := 20) (T := TJ2) rfl hb 0 (by decide) q155 (fun x z => u_same (C.hts _ q156) x z) rfl rfl rfl (fs' := [.int (md + (nI 1)), .ref (gl_z G 0), .int (nI 0)]) (Nat.le_of_ble_eq_true rfl) rfl dJ2_add_7 ?_
  refine j_aload_n C dJ2_add_10 rfl 0 rfl ?_
  refine j_aload_n C dJ2_add_11 rfl 1 rfl ?_
  refine j_aload_n C dJ2_add_12 rfl 0 rfl ?_
  refine j_get (w := ((mu w.1 b τ (.inr (20, [.int (md + (nI 1)), .ref (gl_z G 0), .int (nI 0)]))), w.2)) C in_J2 (ci := 20) (T := TJ2) rfl mu_s 1 (by decide) q152 (fun _ z => z) (v := .ref (gl_z G 0)) rfl dJ2_add_13 ?_
  refine j_aload_n C dJ2_add_16 rfl 0 rfl ?_
  refine j_get (w := ((mu w.1 b τ (.inr (20, [.int (md + (nI 1)), .ref (gl_z G 0), .int (nI 0)]))), w.2)) C in_J2 (ci := 20) (T := TJ2) rfl mu_s 2 (by decide) q153 (fun _ z => z) (v := .int (nI 0)) rfl dJ2_add_17 ?_
  refine j_callV (w := ((mu w.1 b τ (.inr (20, [.int (md + (nI 1)), .ref (gl_z G 0), .int (nI 0)]))), w.2)) C (kJ2_add_2_z G ((mu w.1 b τ (.inr (20, [.int (md + (nI 1)), .ref (gl_z G 0), .int (nI 0)]))), w.2) hG b τ (md + (nI 1)) mu_s hbs v σ ci r vs ((mu_n hvb).trans hv) hcc hca hvs hvb) pV.ret (ci := 20) (T := TJ2) mu_s rfl 3 q767 q769 qs14 q71 q770 (by decide +kernel) rfl (by decide) (by decide) (Nat.le_of_ble_eq_true rfl) rfl dJ2_add_20 (by omega) (by omega) (qV.k ?_)
  refine j_iconst (v := nI 1) C dJ2_add_23 rfl ?_
  exact j_zret C (by decide +kernel) (by omega) (by omega) (pI.mk ⟨rfl, congrArg (fun z => (z, w.2 + 1)) mu_d1⟩) dJ2_add_24
set_option maxHeartbeats 400000 in
theorem kJ2_clear (G : gl_T) (w : wd_T) (b τ e n : Nat) (md : Int32) (f : Nat → Option Nat) (hb : w.1 b = some (τ, .inr (20, [.int md, .ref e, .int (nI n)]))) (he : w.1 e = some (τ, aq (gl_A G 4) 10 f)) (hbe : b ≠ e) (hn : n ≤ 10) : Mt G yJ2_clear cJ2_clear 4 none 0 [.ref b] w (qV (mu (mu w.1 b τ (.inr (20, [.int (md + 1), .ref e, .int (nI 0)]))) e τ (aq (gl_A G 4) 10 (clF f n)), w.2)) 0 0 := by
  refine Mt.start (by decide) (Nat.le_of_ble_eq_true rfl) (fun k C => ?_)
  have C : Cx G k cJ2_clear "java/util/ArrayList" "clear" 4 none 0 0 0 _ := C
  refine j_aload_n C dJ2_clear_0 rfl 0 rfl ?_
  refine j_dup C dJ2_clear_1 rfl ?_
  refine j_get (w := w) C in_J2 (ci := 20) (T := TJ2) rfl hb 0 (by decide) q155 (fun x z => u_same (C.hts _ q156) x z) (v := .int md) rfl dJ2_clear_2 ?_
  refine j_iconst (v := nI 1) C dJ2_clear_5 rfl ?_
  refine j_iadd C dJ2_clear_6 ?_
  refine j_put (w := w) C (ty0 := tyJ2) in_J2 tyJ2_ok nmJ2 (ci := 20) (T := TJ2) rfl hb 0 (by decide) q155 (fun x z => u_same (C.hts _ q156) x z) rfl rfl rfl (fs' := [.int (md + (nI 1)), .ref e, .int (nI n)]) (Nat.le_of_ble_eq_true rfl) rfl dJ2_clear_7 ?_
  refine j_aload_n C dJ2_clear_10 rfl 0 rfl ?_
  refine j_get (w := ((mu w.1 b τ (.inr (20, [.int (md + (nI 1)), .ref e, .int (nI n)]))), w.2)) C in_J2 (ci := 20) (T := TJ2) rfl mu_s 1 (by decide) q152 (fun _ z => z) (v := .ref e) rfl dJ2_clear_11 ?_
  refine j_astore_n (lv' := [(1, .ref e), (0, .ref b)]) C dJ2_clear_14 rfl (by decide) rfl ?_
  refine j_aload_n C dJ2_clear_15 rfl 1 rfl ?_
  refine j_get (w := ((mu w.1 b τ (.inr (20, [.int (md + (nI 1)), .ref e, .int (nI n)]))), w.2)) C in_J2 (ci := 20) (T := TJ2) rfl mu_s 2 (by decide) q153 (fun _ z => z) (v := .int (nI n)) rfl dJ2_clear_16 ?_
  refine j_istore_n (lv' := [(2, .int (nI n)), (1, .ref e), (0, .ref b)]) C dJ2_clear_19 rfl (by decide) rfl ?_
  refine j_aload_n C dJ2_clear_20 rfl 2 rfl ?_
  refine j_iconst (v := nI 0) C dJ2_clear_21 rfl ?_
  refine j_dup_x1 C dJ2_clear_22 rfl rfl ?_
  refine j_put (w := ((mu w.1 b τ (.inr (20, [.int (md + (nI 1)), .ref e, .int (nI n)]))), w.2)) C (ty0 := tyJ2) in_J2 tyJ2_ok nmJ2 (ci := 20) (T := TJ2) rfl mu_s 2 (by decide) q153 (fun _ z => z) rfl rfl rfl (fs' := [.int (md + (nI 1)), .ref e, .int (nI 0)]) (Nat.le_of_ble_eq_true rfl) rfl dJ2_clear_23 ?_
  refine J.eq (w' := ((mu w.1 b τ (.inr (20, [.int (md + (nI 1)), .ref e, .int (nI 0)]))), w.2)) ?_ (congrArg (fun z => (z, w.2)) mu_mu) rfl rfl
  refine j_istore_n (lv' := [(3, .int (nI 0)), (2, .int (nI n)), (1, .ref e), (0, .ref b)]) C dJ2_clear_26 rfl (by decide) rfl ?_
  have lp : ∀ (n_lp i : Nat), 0 ≤ i → i ≤ n → n < i + n_lp → J G k ((mu (mu w.1 b τ (.inr (20, [.int (md + (nI 1)), .ref e, .int (nI 0)]))) e τ (aq (gl_A G 4) 10 (clF f i))), w.2) [(3, .int (nI i)), (2, .int (nI n)), (1, .ref e), (0, .ref b)] 27 [] 0 0 := by
    intro n_lp
    induction n_lp with
    | zero => intro i h0_lp h1_lp h2_lp; omega
    | succ n_lp ih_lp =>
      intro i h0_lp h1_lp h2_lp
      refine j_iload_n C dJ2_clear_27 rfl 0 rfl ?_
      refine j_iload_n C dJ2_clear_28 rfl 1 rfl ?_
      refine j_icmp_geN C 42 dJ2_clear_29 (by decide) (by omega) (by omega) (fun c29 => ?_) (fun c29 => ?_)
      · obtain rfl : n = i := by omega
        exact j_vret C (by omega) (by omega) (pV.mk rfl) dJ2_clear_42
      · refine j_aload_n C dJ2_clear_32 rfl 2 rfl ?_
        refine j_iload_n C dJ2_clear_33 rfl 0 rfl ?_
        refine j_null C dJ2_clear_34 ?_
        refine j_aastN (w := ((mu (mu w.1 b τ (.inr (20, [.int (md + (nI 1)), .ref e, .int (nI 0)]))) e τ (aq (gl_A G 4) 10 (clF f i))), w.2)) C 4 mu_s rfl (i) rfl (by omega) (by decide) dJ2_clear_35 ?_
        refine J.eq (w' := ((mu (mu w.1 b τ (.inr (20, [.int (md + (nI 1)), .ref e, .int (nI 0)]))) e τ (aq (gl_A G 4) 10 (va_up (clF f i) i none))), w.2)) ?_ (congrArg (fun z => (z, w.2)) mu_mu) rfl rfl
        refine j_iincN (lv' := [(3, .int (nI (i + 1))), (2, .int (nI n)), (1, .ref e), (0, .ref b)]) C dJ2_clear_36 0 rfl (by decide) rfl ?_
        refine j_goto C 27 dJ2_clear_39 (by decide) ?_
        refine j_lv [0, 1, 2, 3] (lv' := [(3, .int (nI (i + 1))), (2, .int (nI n)), (1, .ref e), (0, .ref b)]) rfl ?_
        refine J.eq (w' := ((mu (mu w.1 b τ (.inr (20, [.int (md + (nI 1)), .ref e, .int (nI 0)]))) e τ (aq (gl_A G 4) 10 (clF f (i + 1)))), w.2)) ?_ (by (rw [clF_s])) rfl rfl
        exact ih_lp (i + 1) (by omega) (by omega) (by omega)
  refine j_lv [0, 1, 2, 3] (lv' := [(3, .int (nI 0)), (2, .int (nI n)), (1, .ref e), (0, .ref b)]) rfl ?_
  refine J.eq (w' := ((mu (mu w.1 b τ (.inr (20, [.int (md + (nI 1)), .ref e, .int (nI 0)]))) e τ (aq (gl_A G 4) 10 (clF f 0))), w.2)) ?_ (by (exact congrArg (fun z => (z, w.2)) (by rw [clF_0]; exact (mu_self (by first | exact he | exact (mu_n (Ne.symm hbe)).trans he)).symm))) rfl rfl
  exact lp (n + 1 - 0) (0) (by omega) (by omega) (by omega)
set_option maxHeartbeats 400000 in
theorem kJ2_clear_z (G : gl_T) (w : wd_T) (b τ : Nat) (md : Int32) (hb : w.1 b = some (τ, .inr (20, [.int md, .ref (gl_z G 0), .int (nI 0)]))) : Mt G yJ2_clear cJ2_clear 4 none 0 [.ref b] w (qV (mu w.1 b τ (.inr (20, [.int (md + 1), .ref (gl_z G 0), .int (nI 0)])), w.2)) 0 0 := by
  refine Mt.start (by decide) (Nat.le_of_ble_eq_true rfl) (fun k C => ?_)
  have C : Cx G k cJ2_clear "java/util/ArrayList" "clear" 4 none 0 0 0 _ := C
  refine j_aload_n C dJ2_clear_0 rfl 0 rfl ?_
  refine j_dup C dJ2_clear_1 rfl ?_
  refine j_get (w := w) C in_J2 (ci := 20) (T := TJ2) rfl hb 0 (by decide) q155 (fun x z => u_same (C.hts _ q156) x z) (v := .int md) rfl dJ2_clear_2 ?_
  refine j_iconst (v := nI 1) C dJ2_clear_5 rfl ?_
  refine j_iadd C dJ2_clear_6 ?_
  refine j_put (w := w) C (ty0 := tyJ2) in_J2 tyJ2_ok nmJ2 (ci := 20) (T := TJ2) rfl hb 0 (by decide) q155 (fun x z => u_same (C.hts _ q156) x z) rfl rfl rfl (fs' := [.int (md + (nI 1)), .ref (gl_z G 0), .int (nI 0)]) (Nat.le_of_ble_eq_true rfl) rfl dJ2_clear_7 ?_
  refine j_aload_n C dJ2_clear_10 rfl 0 rfl ?_
  refine j_get (w := ((mu w.1 b τ (.inr (20, [.int (md + (nI 1)), .ref (gl_z G 0), .int (nI 0)]))), w.2)) C in_J2 (ci := 20) (T := TJ2) rfl mu_s 1 (by decide) q152 (fun _ z => z) (v := .ref (gl_z G 0)) rfl dJ2_clear_11 ?_
  refine j_astore_n (lv' := [(1, .ref (gl_z G 0)), (0, .ref b)]) C dJ2_clear_14 rfl (by decide) rfl ?_
  refine j_aload_n C dJ2_clear_15 rfl 1 rfl ?_
  refine j_get (w := ((mu w.1 b τ (.inr (20, [.int (md + (nI 1)), .ref (gl_z G 0), .int (nI 0)]))), w.2)) C in_J2 (ci := 20) (T := TJ2) rfl mu_s 2 (by decide) q153 (fun _ z => z) (v := .int (nI 0)) rfl dJ2_clear_16 ?_
  refine j_istore_n (lv' := [(2, .int (nI 0)), (1, .ref (gl_z G 0)), (0, .ref b)]) C dJ2_clear_19 rfl (by decide) rfl ?_
  refine j_aload_n C dJ2_clear_20 rfl 2 rfl ?_
  refine j_iconst (v := nI 0) C dJ2_clear_21 rfl ?_
  refine j_dup_x1 C dJ2_clear_22 rfl rfl ?_
  refine j_put (w := ((mu w.1 b τ (.inr (20, [.int (md + (nI 1)), .ref (gl_z G 0), .int (nI 0)]))), w.2)) C (ty0 := tyJ2) in_J2 tyJ2_ok nmJ2 (ci := 20) (T := TJ2) rfl mu_s 2 (by decide) q153 (fun _ z => z) rfl rfl rfl (fs' := [.int (md + (nI 1)), .ref (gl_z G 0), .int (nI 0)]) (Nat.le_of_ble_eq_true rfl) rfl dJ2_clear_23 ?_
  refine J.eq (w' := ((mu w.1 b τ (.inr (20, [.int (md + (nI 1)), .ref (gl_z G 0), .int (nI 0)]))), w.2)) ?_ (congrArg (fun z => (z, w.2)) mu_mu) rfl rfl
  refine j_istore_n (lv' := [(3, .int (nI 0)), (2, .int (nI 0)), (1, .ref (gl_z G 0)), (0, .ref b)]) C dJ2_clear_26 rfl (by decide) rfl ?_
  refine j_iload_n C dJ2_clear_27 rfl 0 rfl ?_
  refine j_iload_n C dJ2_clear_28 rfl 1 rfl ?_
  refine j_icmp_geN C 42 dJ2_clear_29 (by decide) (by omega) (by omega) (fun c29 => ?_) (fun c29 => ?_)
  · exact j_vret C (by omega) (by omega) (pV.mk rfl) dJ2_clear_42
  · exfalso; omega
set_option maxHeartbeats 400000 in
theorem kJ0_init (G : gl_T) (w : wd_T) (b : Nat) : Mt G yJ0_init cJ0_init 1 none 0 [.ref b] w (qV w) 0 0 := by
  refine Mt.start (by decide) (Nat.le_of_ble_eq_true rfl) (fun k C => ?_)
  have C : Cx G k cJ0_init "java/util/AbstractCollection" "<init>" 1 none 0 0 0 _ := C
  refine j_aload_n C dJ0_init_0 rfl 0 rfl ?_
  refine j_objInit (w := w) C q149 q115 q116 (Nat.le_of_ble_eq_true rfl) dJ0_init_1 ?_
  exact j_vret C (by omega) (by omega) (pV.mk rfl) dJ0_init_4
set_option maxHeartbeats 400000 in
theorem kJ1_init (G : gl_T) (w : wd_T) (b τ : Nat) (md : Int32) (x : Value) (n : Nat) (hb : w.1 b = some (τ, .inr (20, [.int md, x, .int (nI n)]))) : Mt G yJ1_init cJ1_init 1 none 1 [.ref b] w (qV (mu w.1 b τ (.inr (20, [.int (nI 0), x, .int (nI n)])), w.2)) 0 0 := by
  refine Mt.start (by decide) (Nat.le_of_ble_eq_true rfl) (fun k C => ?_)
  have C : Cx G k cJ1_init "java/util/AbstractList" "<init>" 1 none 1 0 0 _ := C
  refine j_aload_n C dJ1_init_0 rfl 0 rfl ?_
  refine j_callI (w := w) C (kJ0_init G w b) pV.ret 0 q146 q147 q69 q148 rfl (by decide +kernel) rfl (by decide) (by decide) (Nat.le_of_ble_eq_true rfl) rfl dJ1_init_1 (by omega) (by omega) (qV.k ?_)
  refine j_aload_n C dJ1_init_4 rfl 0 rfl ?_
  refine j_iconst (v := nI 0) C dJ1_init_5 rfl ?_
  refine j_put (w := w) C (ty0 := tyJ2) in_J2 tyJ2_ok nmJ2 (ci := 20) (T := TJ2) rfl hb 0 (by decide) q154 (fun _ z => z) rfl rfl rfl (fs' := [.int (nI 0), x, .int (nI n)]) (Nat.le_of_ble_eq_true rfl) rfl dJ1_init_6 ?_
  exact j_vret C (by omega) (by omega) (pV.mk rfl) dJ1_init_9
set_option maxHeartbeats 400000 in
theorem kJ2_init (G : gl_T) (w : wd_T) (hG : GH G) (b τ : Nat) (md : Int32) (x : Value) (n : Nat) (hb : w.1 b = some (τ, .inr (20, [.int md, x, .int (nI n)]))) : Mt G yJ2_init cJ2_init 1 none 2 [.ref b] w (qV (mu w.1 b τ (.inr (20, [.int (nI 0), .ref (gl_z G 0), .int (nI n)])), w.2)) 0 0 := by
  refine Mt.start (by decide) (Nat.le_of_ble_eq_true rfl) (fun k C => ?_)
  have C : Cx G k cJ2_init "java/util/ArrayList" "<init>" 1 none 2 0 0 _ := C
  refine j_aload_n C dJ2_init_0 rfl 0 rfl ?_
  refine j_callI (w := w) C (kJ1_init G w b τ md x n hb) pV.ret 0 q143 q144 q70 q145 rfl (by decide +kernel) rfl (by decide) (by decide) (Nat.le_of_ble_eq_true rfl) rfl dJ2_init_1 (by omega) (by omega) (qV.k ?_)
  refine j_aload_n C dJ2_init_4 rfl 0 rfl ?_
  refine j_getsE C hG q150 dJ2_init_5 ?_
  refine j_put (w := ((mu w.1 b τ (.inr (20, [.int (nI 0), x, .int (nI n)]))), w.2)) C (ty0 := tyJ2) in_J2 tyJ2_ok nmJ2 (ci := 20) (T := TJ2) rfl mu_s 1 (by decide) q152 (fun _ z => z) rfl rfl rfl (fs' := [.int (nI 0), .ref (gl_z G 0), .int (nI n)]) (Nat.le_of_ble_eq_true rfl) rfl dJ2_init_8 ?_
  refine J.eq (w' := ((mu w.1 b τ (.inr (20, [.int (nI 0), .ref (gl_z G 0), .int (nI n)]))), w.2)) ?_ (congrArg (fun z => (z, w.2)) mu_mu) rfl rfl
  exact j_vret C (by omega) (by omega) (pV.mk rfl) dJ2_init_11
