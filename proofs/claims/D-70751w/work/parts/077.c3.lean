/-! ===== the class: towns ===== -/
set_option maxRecDepth 100000
set_option maxHeartbeats 400000 in
theorem kX2_many (G : gl_T) (w : wd_T) (hG : GH G) (a : Nat) (t : Nat → Nat) (hT : TN G w a t) : Mt G yX2_many cX2_many 1 (some .int) 1 [.ref a] w (qI (nI (t 6)) w) 0 0 := by
  refine Mt.start (by decide) (Nat.le_of_ble_eq_true rfl) (fun k C => ?_)
  have C : Cx G k cX2_many "MoodFare$Town" "many" 1 (some .int) 1 0 0 _ := C
  obtain ⟨h0, ⟨e, md, h1, h2⟩, ⟨fm, hm, vm⟩, ⟨ff, hf, vf⟩, ⟨ft, ho, vo⟩, h6, hk⟩ := id hT
  refine j_aload_n C dX2_many_0 rfl 0 rfl ?_
  refine j_get (w := w) C in_X2 (ci := 2) (T := TX2) rfl h0 5 (by decide) q184 (fun _ z => z) (v := .ref (a + 1)) rfl dX2_many_1 ?_
  refine j_callF (w := w) C (tn_size hT) pI.ret (ci := 20) (T := TJ2) h1 rfl 0 (C.fw hG ⟨q696, q695, q701, q699, q697, by decide⟩) q694 q698 q700 q71 q702 (by decide +kernel) rfl (by decide) (by decide) (Nat.le_of_ble_eq_true rfl) rfl dX2_many_4 (by omega) (by omega) (qI.k ?_)
  exact j_iret C (by omega) (by omega) (pI.mk ⟨rfl, rfl⟩) dX2_many_9
set_option maxHeartbeats 400000 in
theorem kX2_isWay (G : gl_T) (w : wd_T) (hG : GH G) (a : Nat) (t : Nat → Nat) (hT : TN G w a t) (ht : smT t) (x : Int32) : Mt G yX2_isWay cX2_isWay 2 (some .boolean) 1 [.ref a, .int x] w (qI (bZ (goB t x (t 4))) w) 0 0 := by
  refine Mt.start (by decide) (Nat.le_of_ble_eq_true rfl) (fun k C => ?_)
  have C : Cx G k cX2_isWay "MoodFare$Town" "isWay" 2 (some .boolean) 1 0 0 _ := C
  obtain ⟨h0, ⟨e, md, h1, h2⟩, ⟨fm, hm, vm⟩, ⟨ff, hf, vf⟩, ⟨ft, ho, vo⟩, h6, hk⟩ := id hT
  obtain ⟨r0, r1, r2, r3, r4, r5, r6, r7, r25, r26⟩ := id ht
  refine j_iload_n C dX2_isWay_0 rfl 1 rfl ?_
  refine j_i2l C dX2_isWay_1 ?_
  refine j_lconst (v := (nI 0).toInt64) C dX2_isWay_2 (by decide +kernel) ?_
  refine j_aload_n C dX2_isWay_3 rfl 0 rfl ?_
  refine j_get (w := w) C in_X2 (ci := 2) (T := TX2) rfl h0 7 (by decide) q193 (fun _ z => z) (v := .int (nI (t 25))) rfl dX2_isWay_4 ?_
  refine j_iconst (v := nI 1) C dX2_isWay_7 rfl ?_
  refine j_isub C dX2_isWay_8 ?_
  refine j_i2l C dX2_isWay_9 ?_
  refine j_callSN (w := w) C (kX0_isIn G w x ((nI 0)) ((nI (t 25) - nI 1))) pI.ret 3 (C.nw hG q895 rfl) q388 q66 q389 (by decide +kernel) rfl (by decide) (by decide) (Nat.le_of_ble_eq_true rfl) rfl dX2_isWay_10 (by omega) (by omega) (qI.k ?_)
  refine j_if_eqB C 44 dX2_isWay_13 (by decide) (fun c13 => ?_) (fun c13 => ?_)
  · refine j_iconst (v := nI 0) C dX2_isWay_44 rfl ?_
    exact j_zret C (by decide +kernel) (by omega) (by omega) (pI.mk ⟨by simp [bZ, goB, c13], rfl⟩) dX2_isWay_45
  · obtain ⟨j, rfl, hj⟩ := inB_p (by omega) c13
    refine j_aload_n C dX2_isWay_16 rfl 0 rfl ?_
    refine j_get (w := w) C in_X2 (ci := 2) (T := TX2) rfl h0 10 (by decide) q202 (fun _ z => z) (v := .int (nI (t 5))) rfl dX2_isWay_17 ?_
    refine j_iload_n C dX2_isWay_20 rfl 1 rfl ?_
    refine j_callSN (w := w) C (kX0_has G w (t 5) j (by first | omega | (have := r26 j (by omega); omega)) (by first | omega | (have := r26 j (by omega); omega))) pI.ret 2 (C.nw hG q896 rfl) q897 q66 q898 (by decide +kernel) rfl (by decide) (by decide) (Nat.le_of_ble_eq_true rfl) rfl dX2_isWay_21 (by omega) (by omega) (qI.k ?_)
    refine j_if_eqB C 44 dX2_isWay_24 (by decide) (fun c24 => ?_) (fun c24 => ?_)
    · refine j_iconst (v := nI 0) C dX2_isWay_44 rfl ?_
      exact j_zret C (by decide +kernel) (by omega) (by omega) (pI.mk ⟨by rw [goB_i (by omega) (by omega)]; simp [bZ, goN, hj, c24], rfl⟩) dX2_isWay_45
    · refine j_aload_n C dX2_isWay_27 rfl 0 rfl ?_
      refine j_get (w := w) C in_X2 (ci := 2) (T := TX2) rfl h0 8 (by decide) q196 (fun _ z => z) (v := .ref (a + 3)) rfl dX2_isWay_28 ?_
      refine j_iload_n C dX2_isWay_31 rfl 1 rfl ?_
      refine j_ialdN (w := w) C hf (j) rfl (by first | omega | (have := r26 j (by omega); omega)) (by decide) dX2_isWay_32 ?_
      refine j_as (y := nI (t (26 + 2 * j))) (vf j (by omega)) ?_
      refine j_aload_n C dX2_isWay_33 rfl 0 rfl ?_
      refine j_get (w := w) C in_X2 (ci := 2) (T := TX2) rfl h0 2 (by decide) q178 (fun _ z => z) (v := .int (nI (t 4))) rfl dX2_isWay_34 ?_
      refine j_icmp_neN C 44 dX2_isWay_37 (by decide) (by first | omega | (have := r26 j (by omega); omega)) (by first | omega | (have := r26 j (by omega); omega)) (fun c37 => ?_) (fun c37 => ?_)
      · refine j_iconst (v := nI 0) C dX2_isWay_44 rfl ?_
        exact j_zret C (by decide +kernel) (by omega) (by omega) (pI.mk ⟨by rw [goB_i (by omega) (by omega)]; simp [bZ, goN, hj, c24, c37], rfl⟩) dX2_isWay_45
      · refine j_iconst (v := nI 1) C dX2_isWay_40 rfl ?_
        refine j_goto C 45 dX2_isWay_41 (by decide) ?_
        exact j_zret C (by decide +kernel) (by omega) (by omega) (pI.mk ⟨by rw [goB_i (by omega) (by omega)]; simp [bZ, goN, hj, c24, c37], rfl⟩) dX2_isWay_45
set_option maxHeartbeats 400000 in
theorem kX2_passed (G : gl_T) (w : wd_T) (hG : GH G) (a : Nat) (t : Nat → Nat) (hT : TN G w a t) (ht : smT t) (c : Nat) (hc : c < t 6) : Mt G yX2_passed cX2_passed 2 (some .int) 3 [.ref a, .int (nI c)] w (qI (nI (psd t c (t 1) (t 3))) w) 0 0 := by
  refine Mt.start (by decide) (Nat.le_of_ble_eq_true rfl) (fun k C => ?_)
  have C : Cx G k cX2_passed "MoodFare$Town" "passed" 2 (some .int) 3 0 0 _ := C
  obtain ⟨h0, ⟨e, md, h1, h2⟩, ⟨fm, hm, vm⟩, ⟨ff, hf, vf⟩, ⟨ft, ho, vo⟩, h6, hk⟩ := id hT
  obtain ⟨r0, r1, r2, r3, r4, r5, r6, r7, r25, r26⟩ := id ht
  have rc := (r7 c (by omega)).2.1
  refine j_aload_n C dX2_passed_0 rfl 0 rfl ?_
  refine j_get (w := w) C in_X2 (ci := 2) (T := TX2) rfl h0 5 (by decide) q184 (fun _ z => z) (v := .ref (a + 1)) rfl dX2_passed_1 ?_
  refine j_iload_n C dX2_passed_4 rfl 1 rfl ?_
  obtain ⟨q1, hq1, gq1⟩ := tn_get hT c (by omega)
  refine j_callF (w := w) C (gq1) pA.ret (ci := 20) (T := TJ2) h1 rfl 1 (C.fw hG ⟨q856, q855, q860, q858, q697, by decide⟩) q854 q857 q859 q71 q861 (by decide +kernel) rfl (by decide) (by decide) (Nat.le_of_ble_eq_true rfl) rfl dX2_passed_5 (by omega) (by omega) (qA.k ?_)
  rcases (show t (7 + 3 * c) = 1 ∨ t (7 + 3 * c) = 2 ∨ t (7 + 3 * c) = 3 ∨ t (7 + 3 * c) = 4 ∨ t (7 + 3 * c) = 5 by have := hk c (by omega); omega) with kq1 | kq1 | kq1 | kq1 | kq1
  · have hq1k : w.1 q1 = some (q1, .inr (7, [.int (nI c), .int (nI (t (7 + 3 * c + 2)))])) := by have z := hq1; unfold CE at z; rw [kq1] at z; exact z
    refine j_castY (w := w) C (ci := 7) (T := TX8) hq1k rfl q872 (C.nw hG q1892 rfl) dX2_passed_10 ?_
    refine j_aload_n C dX2_passed_13 rfl 0 rfl ?_
    refine j_get (w := w) C in_X2 (ci := 2) (T := TX2) rfl h0 1 (by decide) q172 (fun _ z => z) (v := .int (nI (t 1))) rfl dX2_passed_14 ?_
    refine j_aload_n C dX2_passed_17 rfl 0 rfl ?_
    refine j_get (w := w) C in_X2 (ci := 2) (T := TX2) rfl h0 6 (by decide) q188 (fun _ z => z) (v := .ref (a + 2)) rfl dX2_passed_18 ?_
    refine j_iload_n C dX2_passed_21 rfl 1 rfl ?_
    refine j_ialdN (w := w) C hm (c) rfl (by omega) (by decide) dX2_passed_22 ?_
    refine j_as (y := nI (t (7 + 3 * c + 1))) (vm c (by omega)) ?_
    refine j_aload_n C dX2_passed_23 rfl 0 rfl ?_
    refine j_get (w := w) C in_X2 (ci := 2) (T := TX2) rfl h0 4 (by decide) q182 (fun _ z => z) (v := .int (nI (t 3))) rfl dX2_passed_24 ?_
    refine j_callA (w := w) C (kX8_passed G w q1 (t 1) (t (7 + 3 * c + 1)) (t 3) (by omega) (by omega) (by omega)) pI.ret (x := (⟨"MoodFare$Corner", "passed", "(III)I"⟩ : MethodName)) (owner := "MoodFare$Corner") (ci := 7) (T := TX8) hq1k rfl 3 (va_Decl.abs (C.nw hG q917 rfl)) q916 q918 q930 q927 q92 q928 (by decide +kernel) rfl (by decide) (by decide) (Nat.le_of_ble_eq_true rfl) rfl dX2_passed_27 (by omega) (by omega) (qI.k ?_)
    exact j_iret C (by omega) (by omega) (pI.mk ⟨by unfold psd; simp [kq1], rfl⟩) dX2_passed_30
  · have hq1k : w.1 q1 = some (q1, .inr (8, [.int (nI c), .int (nI (t (7 + 3 * c + 2)))])) := by have z := hq1; unfold CE at z; rw [kq1] at z; exact z
    refine j_castY (w := w) C (ci := 8) (T := TX9) hq1k rfl q872 (C.nw hG q1893 rfl) dX2_passed_10 ?_
    refine j_aload_n C dX2_passed_13 rfl 0 rfl ?_
    refine j_get (w := w) C in_X2 (ci := 2) (T := TX2) rfl h0 1 (by decide) q172 (fun _ z => z) (v := .int (nI (t 1))) rfl dX2_passed_14 ?_
    refine j_aload_n C dX2_passed_17 rfl 0 rfl ?_
    refine j_get (w := w) C in_X2 (ci := 2) (T := TX2) rfl h0 6 (by decide) q188 (fun _ z => z) (v := .ref (a + 2)) rfl dX2_passed_18 ?_
    refine j_iload_n C dX2_passed_21 rfl 1 rfl ?_
    refine j_ialdN (w := w) C hm (c) rfl (by omega) (by decide) dX2_passed_22 ?_
    refine j_as (y := nI (t (7 + 3 * c + 1))) (vm c (by omega)) ?_
    refine j_aload_n C dX2_passed_23 rfl 0 rfl ?_
    refine j_get (w := w) C in_X2 (ci := 2) (T := TX2) rfl h0 4 (by decide) q182 (fun _ z => z) (v := .int (nI (t 3))) rfl dX2_passed_24 ?_
    refine j_callA (w := w) C (kX9_passed G w q1 q1 [.int (nI c), .int (nI (t (7 + 3 * c + 2)))] (t 1) (t (7 + 3 * c + 1)) (t 3) (by omega) (by omega) (by omega) hq1k) pI.ret (x := (⟨"MoodFare$Corner", "passed", "(III)I"⟩ : MethodName)) (owner := "MoodFare$Corner") (ci := 8) (T := TX9) hq1k rfl 3 (va_Decl.abs (C.nw hG q917 rfl)) q916 q918 q931 q932 q93 q933 (by decide +kernel) rfl (by decide) (by decide) (Nat.le_of_ble_eq_true rfl) rfl dX2_passed_27 (by omega) (by omega) (qI.k ?_)
    exact j_iret C (by omega) (by omega) (pI.mk ⟨by unfold psd; simp [kq1], rfl⟩) dX2_passed_30
  · have hq1k : w.1 q1 = some (q1, .inr (9, [.int (nI c), .int (nI (t (7 + 3 * c + 2)))])) := by have z := hq1; unfold CE at z; rw [kq1] at z; exact z
    refine j_castY (w := w) C (ci := 9) (T := TX10) hq1k rfl q872 (C.nw hG q1891 rfl) dX2_passed_10 ?_
    refine j_aload_n C dX2_passed_13 rfl 0 rfl ?_
    refine j_get (w := w) C in_X2 (ci := 2) (T := TX2) rfl h0 1 (by decide) q172 (fun _ z => z) (v := .int (nI (t 1))) rfl dX2_passed_14 ?_
    refine j_aload_n C dX2_passed_17 rfl 0 rfl ?_
    refine j_get (w := w) C in_X2 (ci := 2) (T := TX2) rfl h0 6 (by decide) q188 (fun _ z => z) (v := .ref (a + 2)) rfl dX2_passed_18 ?_
    refine j_iload_n C dX2_passed_21 rfl 1 rfl ?_
    refine j_ialdN (w := w) C hm (c) rfl (by omega) (by decide) dX2_passed_22 ?_
    refine j_as (y := nI (t (7 + 3 * c + 1))) (vm c (by omega)) ?_
    refine j_aload_n C dX2_passed_23 rfl 0 rfl ?_
    refine j_get (w := w) C in_X2 (ci := 2) (T := TX2) rfl h0 4 (by decide) q182 (fun _ z => z) (v := .int (nI (t 3))) rfl dX2_passed_24 ?_
    refine j_callA (w := w) C (kX10_passed G w q1 q1 [.int (nI c), .int (nI (t (7 + 3 * c + 2)))] (t 1) (t (7 + 3 * c + 1)) (t 3) (by omega) (by omega) (by omega) hq1k) pI.ret (x := (⟨"MoodFare$Corner", "passed", "(III)I"⟩ : MethodName)) (owner := "MoodFare$Corner") (ci := 9) (T := TX10) hq1k rfl 3 (va_Decl.abs (C.nw hG q917 rfl)) q916 q918 q923 q924 q94 q925 (by decide +kernel) rfl (by decide) (by decide) (Nat.le_of_ble_eq_true rfl) rfl dX2_passed_27 (by omega) (by omega) (qI.k ?_)
    exact j_iret C (by omega) (by omega) (pI.mk ⟨by unfold psd; simp [kq1], rfl⟩) dX2_passed_30
  · have hq1k : w.1 q1 = some (q1, .inr (10, [.int (nI c), .int (nI (t (7 + 3 * c + 2)))])) := by have z := hq1; unfold CE at z; rw [kq1] at z; exact z
    refine j_castY (w := w) C (ci := 10) (T := TX11) hq1k rfl q872 (C.nw hG q1890 rfl) dX2_passed_10 ?_
    refine j_aload_n C dX2_passed_13 rfl 0 rfl ?_
    refine j_get (w := w) C in_X2 (ci := 2) (T := TX2) rfl h0 1 (by decide) q172 (fun _ z => z) (v := .int (nI (t 1))) rfl dX2_passed_14 ?_
    refine j_aload_n C dX2_passed_17 rfl 0 rfl ?_
    refine j_get (w := w) C in_X2 (ci := 2) (T := TX2) rfl h0 6 (by decide) q188 (fun _ z => z) (v := .ref (a + 2)) rfl dX2_passed_18 ?_
    refine j_iload_n C dX2_passed_21 rfl 1 rfl ?_
    refine j_ialdN (w := w) C hm (c) rfl (by omega) (by decide) dX2_passed_22 ?_
    refine j_as (y := nI (t (7 + 3 * c + 1))) (vm c (by omega)) ?_
    refine j_aload_n C dX2_passed_23 rfl 0 rfl ?_
    refine j_get (w := w) C in_X2 (ci := 2) (T := TX2) rfl h0 4 (by decide) q182 (fun _ z => z) (v := .int (nI (t 3))) rfl dX2_passed_24 ?_
    refine j_callA (w := w) C (kX11_passed G w q1 (t 1) (t (7 + 3 * c + 1)) (t 3) (by omega) (by omega) (by omega)) pI.ret (x := (⟨"MoodFare$Corner", "passed", "(III)I"⟩ : MethodName)) (owner := "MoodFare$Corner") (ci := 10) (T := TX11) hq1k rfl 3 (va_Decl.abs (C.nw hG q917 rfl)) q916 q918 q919 q920 q95 q921 (by decide +kernel) rfl (by decide) (by decide) (Nat.le_of_ble_eq_true rfl) rfl dX2_passed_27 (by omega) (by omega) (qI.k ?_)
    exact j_iret C (by omega) (by omega) (pI.mk ⟨by unfold psd; simp [kq1], rfl⟩) dX2_passed_30
  · have hq1k : w.1 q1 = some (q1, .inr (11, [.int (nI c), .int (nI (t (7 + 3 * c + 2)))])) := by have z := hq1; unfold CE at z; rw [kq1] at z; exact z
    refine j_castY (w := w) C (ci := 11) (T := TX12) hq1k rfl q872 (C.nw hG q1894 rfl) dX2_passed_10 ?_
    refine j_aload_n C dX2_passed_13 rfl 0 rfl ?_
    refine j_get (w := w) C in_X2 (ci := 2) (T := TX2) rfl h0 1 (by decide) q172 (fun _ z => z) (v := .int (nI (t 1))) rfl dX2_passed_14 ?_
    refine j_aload_n C dX2_passed_17 rfl 0 rfl ?_
    refine j_get (w := w) C in_X2 (ci := 2) (T := TX2) rfl h0 6 (by decide) q188 (fun _ z => z) (v := .ref (a + 2)) rfl dX2_passed_18 ?_
    refine j_iload_n C dX2_passed_21 rfl 1 rfl ?_
    refine j_ialdN (w := w) C hm (c) rfl (by omega) (by decide) dX2_passed_22 ?_
    refine j_as (y := nI (t (7 + 3 * c + 1))) (vm c (by omega)) ?_
    refine j_aload_n C dX2_passed_23 rfl 0 rfl ?_
    refine j_get (w := w) C in_X2 (ci := 2) (T := TX2) rfl h0 4 (by decide) q182 (fun _ z => z) (v := .int (nI (t 3))) rfl dX2_passed_24 ?_
    refine j_callA (w := w) C (kX12_passed G w q1 q1 [.int (nI c), .int (nI (t (7 + 3 * c + 2)))] (t 1) (t (7 + 3 * c + 1)) (t 3) (by omega) (by omega) (by omega) hq1k) pI.ret (x := (⟨"MoodFare$Corner", "passed", "(III)I"⟩ : MethodName)) (owner := "MoodFare$Corner") (ci := 11) (T := TX12) hq1k rfl 3 (va_Decl.abs (C.nw hG q917 rfl)) q916 q918 q935 q936 q96 q937 (by decide +kernel) rfl (by decide) (by decide) (Nat.le_of_ble_eq_true rfl) rfl dX2_passed_27 (by omega) (by omega) (qI.k ?_)
    exact j_iret C (by omega) (by omega) (pI.mk ⟨by unfold psd; simp [kq1], rfl⟩) dX2_passed_30
set_option maxHeartbeats 400000 in
theorem kX2_cost (G : gl_T) (w : wd_T) (hG : GH G) (a : Nat) (t : Nat → Nat) (hT : TN G w a t) (ht : smT t) (j : Nat) (hj : j < t 25) (hto : t (26 + 2 * j + 1) < t 6) : Mt G yX2_cost cX2_cost 2 (some .int) 4 [.ref a, .int (nI j)] w (qI (nI (csd t (t (26 + 2 * j + 1)) (t 1) (t 3))) w) 0 0 := by
  refine Mt.start (by decide) (Nat.le_of_ble_eq_true rfl) (fun k C => ?_)
  have C : Cx G k cX2_cost "MoodFare$Town" "cost" 2 (some .int) 4 0 0 _ := C
  obtain ⟨h0, ⟨e, md, h1, h2⟩, ⟨fm, hm, vm⟩, ⟨ff, hf, vf⟩, ⟨ft, ho, vo⟩, h6, hk⟩ := id hT
  obtain ⟨r0, r1, r2, r3, r4, r5, r6, r7, r25, r26⟩ := id ht
  have rp := psd_le (t := t) (c := t (26 + 2 * j + 1)) (step := t 3) r1
  have rc := csd_le (t := t) (c := t (26 + 2 * j + 1)) (step := t 3) ht (by omega) r1
  refine j_aload_n C dX2_cost_0 rfl 0 rfl ?_
  refine j_get (w := w) C in_X2 (ci := 2) (T := TX2) rfl h0 0 (by decide) q165 (fun _ z => z) (v := .int (nI (t 0))) rfl dX2_cost_1 ?_
  refine j_aload_n C dX2_cost_4 rfl 0 rfl ?_
  refine j_aload_n C dX2_cost_5 rfl 0 rfl ?_
  refine j_get (w := w) C in_X2 (ci := 2) (T := TX2) rfl h0 9 (by decide) q199 (fun _ z => z) (v := .ref (a + 4)) rfl dX2_cost_6 ?_
  refine j_iload_n C dX2_cost_9 rfl 1 rfl ?_
  refine j_ialdN (w := w) C ho (j) rfl (by omega) (by decide) dX2_cost_10 ?_
  refine j_as (y := nI (t (26 + 2 * j + 1))) (vo j (by omega)) ?_
  refine j_callV (w := w) C (kX2_passed G w hG a t hT ht (t (26 + 2 * j + 1)) (by omega)) pI.ret (ci := 2) (T := TX2) h0 rfl 1 q912 q913 q914 q68 q915 (by decide +kernel) rfl (by decide) (by decide) (Nat.le_of_ble_eq_true rfl) rfl dX2_cost_11 (by omega) (by omega) (qI.k ?_)
  refine j_aload_n C dX2_cost_14 rfl 0 rfl ?_
  refine j_get (w := w) C in_X2 (ci := 2) (T := TX2) rfl h0 1 (by decide) q172 (fun _ z => z) (v := .int (nI (t 1))) rfl dX2_cost_15 ?_
  refine j_isub C dX2_cost_18 ?_
  refine j_mabs C q939 q940 q87 q941 (Nat.le_of_ble_eq_true rfl) (by omega) (by omega) dX2_cost_19 ?_
  refine j_as (y := nI (if (t 1) < (psd t (t (26 + 2 * j + 1)) (t 1) (t 3)) then (psd t (t (26 + 2 * j + 1)) (t 1) (t 3)) - (t 1) else (t 1) - (psd t (t (26 + 2 * j + 1)) (t 1) (t 3)))) (nI_absd (by omega) (by omega)) ?_
  refine j_imulN C dX2_cost_22 ?_
  refine j_aload_n C dX2_cost_23 rfl 0 rfl ?_
  refine j_get (w := w) C in_X2 (ci := 2) (T := TX2) rfl h0 5 (by decide) q184 (fun _ z => z) (v := .ref (a + 1)) rfl dX2_cost_24 ?_
  refine j_aload_n C dX2_cost_27 rfl 0 rfl ?_
  refine j_get (w := w) C in_X2 (ci := 2) (T := TX2) rfl h0 9 (by decide) q199 (fun _ z => z) (v := .ref (a + 4)) rfl dX2_cost_28 ?_
  refine j_iload_n C dX2_cost_31 rfl 1 rfl ?_
  refine j_ialdN (w := w) C ho (j) rfl (by omega) (by decide) dX2_cost_32 ?_
  refine j_as (y := nI (t (26 + 2 * j + 1))) (vo j (by omega)) ?_
  obtain ⟨q1, hq1, gq1⟩ := tn_get hT (t (26 + 2 * j + 1)) (by omega)
  refine j_callF (w := w) C (gq1) pA.ret (ci := 20) (T := TJ2) h1 rfl 1 (C.fw hG ⟨q856, q855, q860, q858, q697, by decide⟩) q854 q857 q859 q71 q861 (by decide +kernel) rfl (by decide) (by decide) (Nat.le_of_ble_eq_true rfl) rfl dX2_cost_33 (by omega) (by omega) (qA.k ?_)
  rcases (show t (7 + 3 * (t (26 + 2 * j + 1))) = 1 ∨ t (7 + 3 * (t (26 + 2 * j + 1))) = 2 ∨ t (7 + 3 * (t (26 + 2 * j + 1))) = 3 ∨ t (7 + 3 * (t (26 + 2 * j + 1))) = 4 ∨ t (7 + 3 * (t (26 + 2 * j + 1))) = 5 by have := hk (t (26 + 2 * j + 1)) (by omega); omega) with kq1 | kq1 | kq1 | kq1 | kq1
  · have hq1k : w.1 q1 = some (q1, .inr (7, [.int (nI (t (26 + 2 * j + 1))), .int (nI (t (7 + 3 * (t (26 + 2 * j + 1)) + 2)))])) := by have z := hq1; unfold CE at z; rw [kq1] at z; exact z
    refine j_castY (w := w) C (ci := 7) (T := TX8) hq1k rfl q872 (C.nw hG q1892 rfl) dX2_cost_38 ?_
    refine j_callA (w := w) C (kX7_fee_7 G w q1 q1 (nI (t (26 + 2 * j + 1))) (nI (t (7 + 3 * (t (26 + 2 * j + 1)) + 2))) hq1k) pI.ret (x := (⟨"MoodFare$Corner", "fee", "()I"⟩ : MethodName)) (owner := "MoodFare$Corner") (ci := 7) (T := TX8) hq1k rfl 0 (va_Decl.of (C.hts _ q943) (C.hts _ q950)) q942 q944 q947 q943 q91 q950 (by decide +kernel) rfl (by decide) (by decide) (Nat.le_of_ble_eq_true rfl) rfl dX2_cost_41 (by omega) (by omega) (qI.k ?_)
    refine j_iaddN C dX2_cost_44 ?_
    exact j_iret C (by omega) (by omega) (pI.mk ⟨by unfold csd; rw [Nat.mul_comm], rfl⟩) dX2_cost_45
  · have hq1k : w.1 q1 = some (q1, .inr (8, [.int (nI (t (26 + 2 * j + 1))), .int (nI (t (7 + 3 * (t (26 + 2 * j + 1)) + 2)))])) := by have z := hq1; unfold CE at z; rw [kq1] at z; exact z
    refine j_castY (w := w) C (ci := 8) (T := TX9) hq1k rfl q872 (C.nw hG q1893 rfl) dX2_cost_38 ?_
    refine j_callA (w := w) C (kX7_fee_8 G w q1 q1 (nI (t (26 + 2 * j + 1))) (nI (t (7 + 3 * (t (26 + 2 * j + 1)) + 2))) hq1k) pI.ret (x := (⟨"MoodFare$Corner", "fee", "()I"⟩ : MethodName)) (owner := "MoodFare$Corner") (ci := 8) (T := TX9) hq1k rfl 0 (va_Decl.of (C.hts _ q943) (C.hts _ q950)) q942 q944 q948 q943 q91 q950 (by decide +kernel) rfl (by decide) (by decide) (Nat.le_of_ble_eq_true rfl) rfl dX2_cost_41 (by omega) (by omega) (qI.k ?_)
    refine j_iaddN C dX2_cost_44 ?_
    exact j_iret C (by omega) (by omega) (pI.mk ⟨by unfold csd; rw [Nat.mul_comm], rfl⟩) dX2_cost_45
  · have hq1k : w.1 q1 = some (q1, .inr (9, [.int (nI (t (26 + 2 * j + 1))), .int (nI (t (7 + 3 * (t (26 + 2 * j + 1)) + 2)))])) := by have z := hq1; unfold CE at z; rw [kq1] at z; exact z
    refine j_castY (w := w) C (ci := 9) (T := TX10) hq1k rfl q872 (C.nw hG q1891 rfl) dX2_cost_38 ?_
    refine j_callA (w := w) C (kX7_fee_9 G w q1 q1 (nI (t (26 + 2 * j + 1))) (nI (t (7 + 3 * (t (26 + 2 * j + 1)) + 2))) hq1k) pI.ret (x := (⟨"MoodFare$Corner", "fee", "()I"⟩ : MethodName)) (owner := "MoodFare$Corner") (ci := 9) (T := TX10) hq1k rfl 0 (va_Decl.of (C.hts _ q943) (C.hts _ q950)) q942 q944 q946 q943 q91 q950 (by decide +kernel) rfl (by decide) (by decide) (Nat.le_of_ble_eq_true rfl) rfl dX2_cost_41 (by omega) (by omega) (qI.k ?_)
    refine j_iaddN C dX2_cost_44 ?_
    exact j_iret C (by omega) (by omega) (pI.mk ⟨by unfold csd; rw [Nat.mul_comm], rfl⟩) dX2_cost_45
  · have hq1k : w.1 q1 = some (q1, .inr (10, [.int (nI (t (26 + 2 * j + 1))), .int (nI (t (7 + 3 * (t (26 + 2 * j + 1)) + 2)))])) := by have z := hq1; unfold CE at z; rw [kq1] at z; exact z
    refine j_castY (w := w) C (ci := 10) (T := TX11) hq1k rfl q872 (C.nw hG q1890 rfl) dX2_cost_38 ?_
    refine j_callA (w := w) C (kX7_fee_10 G w q1 q1 (nI (t (26 + 2 * j + 1))) (nI (t (7 + 3 * (t (26 + 2 * j + 1)) + 2))) hq1k) pI.ret (x := (⟨"MoodFare$Corner", "fee", "()I"⟩ : MethodName)) (owner := "MoodFare$Corner") (ci := 10) (T := TX11) hq1k rfl 0 (va_Decl.of (C.hts _ q943) (C.hts _ q950)) q942 q944 q945 q943 q91 q950 (by decide +kernel) rfl (by decide) (by decide) (Nat.le_of_ble_eq_true rfl) rfl dX2_cost_41 (by omega) (by omega) (qI.k ?_)
    refine j_iaddN C dX2_cost_44 ?_
    exact j_iret C (by omega) (by omega) (pI.mk ⟨by unfold csd; rw [Nat.mul_comm], rfl⟩) dX2_cost_45
  · have hq1k : w.1 q1 = some (q1, .inr (11, [.int (nI (t (26 + 2 * j + 1))), .int (nI (t (7 + 3 * (t (26 + 2 * j + 1)) + 2)))])) := by have z := hq1; unfold CE at z; rw [kq1] at z; exact z
    refine j_castY (w := w) C (ci := 11) (T := TX12) hq1k rfl q872 (C.nw hG q1894 rfl) dX2_cost_38 ?_
    refine j_callA (w := w) C (kX7_fee_11 G w q1 q1 (nI (t (26 + 2 * j + 1))) (nI (t (7 + 3 * (t (26 + 2 * j + 1)) + 2))) hq1k) pI.ret (x := (⟨"MoodFare$Corner", "fee", "()I"⟩ : MethodName)) (owner := "MoodFare$Corner") (ci := 11) (T := TX12) hq1k rfl 0 (va_Decl.of (C.hts _ q943) (C.hts _ q950)) q942 q944 q949 q943 q91 q950 (by decide +kernel) rfl (by decide) (by decide) (Nat.le_of_ble_eq_true rfl) rfl dX2_cost_41 (by omega) (by omega) (qI.k ?_)
    refine j_iaddN C dX2_cost_44 ?_
    exact j_iret C (by omega) (by omega) (pI.mk ⟨by unfold csd; rw [Nat.mul_comm], rfl⟩) dX2_cost_45
set_option maxHeartbeats 400000 in
theorem kX2_ride (G : gl_T) (w : wd_T) (hG : GH G) (a : Nat) (t : Nat → Nat) (hT : TN G w a t) (ht : smT t) (j : Nat) (hj : j < t 25) (hto : t (26 + 2 * j + 1) < t 6) : Mt G yX2_ride cX2_ride 3 (some .int) 5 [.ref a, .int (nI j)] w (qI (nI (csd t (t (26 + 2 * j + 1)) (t 1) (t 3))) (mu w.1 a a (TE a (rdT t j)), w.2)) 0 0 := by
  refine Mt.start (by decide) (Nat.le_of_ble_eq_true rfl) (fun k C => ?_)
  have C : Cx G k cX2_ride "MoodFare$Town" "ride" 3 (some .int) 5 0 0 _ := C
  obtain ⟨h0, ⟨e, md, h1, h2⟩, ⟨fm, hm, vm⟩, ⟨ff, hf, vf⟩, ⟨ft, ho, vo⟩, h6, hk⟩ := id hT
  obtain ⟨r0, r1, r2, r3, r4, r5, r6, r7, r25, r26⟩ := id ht
  have rp := psd_le (t := t) (c := t (26 + 2 * j + 1)) (step := t 3) r1
  have rc := csd_le (t := t) (c := t (26 + 2 * j + 1)) (step := t 3) ht (by omega) r1
  refine j_aload_n C dX2_ride_0 rfl 0 rfl ?_
  refine j_iload_n C dX2_ride_1 rfl 1 rfl ?_
  refine j_callV (w := w) C (kX2_cost G w hG a t hT ht j (by omega) (by omega)) pI.ret (ci := 2) (T := TX2) h0 rfl 1 q908 q909 q910 q68 q911 (by decide +kernel) rfl (by decide) (by decide) (Nat.le_of_ble_eq_true rfl) rfl dX2_ride_2 (by omega) (by omega) (qI.k ?_)
  refine j_istore_n (lv' := [(2, .int (nI (csd t (t (26 + 2 * j + 1)) (t 1) (t 3)))), (0, .ref a), (1, .int (nI j))]) C dX2_ride_5 rfl (by decide) rfl ?_
  refine j_aload_n C dX2_ride_6 rfl 1 rfl ?_
  refine j_aload_n C dX2_ride_7 rfl 1 rfl ?_
  refine j_aload_n C dX2_ride_8 rfl 1 rfl ?_
  refine j_get (w := w) C in_X2 (ci := 2) (T := TX2) rfl h0 9 (by decide) q199 (fun _ z => z) (v := .ref (a + 4)) rfl dX2_ride_9 ?_
  refine j_iload_n C dX2_ride_12 rfl 2 rfl ?_
  refine j_ialdN (w := w) C ho (j) rfl (by omega) (by decide) dX2_ride_13 ?_
  refine j_as (y := nI (t (26 + 2 * j + 1))) (vo j (by omega)) ?_
  refine j_callV (w := w) C (kX2_passed G w hG a t hT ht (t (26 + 2 * j + 1)) (by omega)) pI.ret (ci := 2) (T := TX2) h0 rfl 1 q912 q913 q914 q68 q915 (by decide +kernel) rfl (by decide) (by decide) (Nat.le_of_ble_eq_true rfl) rfl dX2_ride_14 (by omega) (by omega) (qI.k ?_)
  refine j_put (w := w) C (ty0 := tyX2) in_X2 tyX2_ok nmX2 (ci := 2) (T := TX2) rfl h0 1 (by decide) q172 (fun _ z => z) rfl rfl rfl (fs' := [.int (nI (t 0)), .int (nI (psd t (t (26 + 2 * j + 1)) (t 1) (t 3))), .int (nI (t 4)), .int (nI (t 2)), .int (nI (t 3)), .ref (a + 1), .ref (a + 2), .int (nI (t 25)), .ref (a + 3), .ref (a + 4), .int (nI (t 5))]) (Nat.le_of_ble_eq_true rfl) rfl dX2_ride_17 ?_
  refine j_aload_n C dX2_ride_20 rfl 1 rfl ?_
  refine j_sipush (v := nI 9999) C dX2_ride_21 rfl ?_
  refine j_aload_n C dX2_ride_24 rfl 1 rfl ?_
  refine j_get (w := ((mu w.1 a a (.inr (2, [.int (nI (t 0)), .int (nI (psd t (t (26 + 2 * j + 1)) (t 1) (t 3))), .int (nI (t 4)), .int (nI (t 2)), .int (nI (t 3)), .ref (a + 1), .ref (a + 2), .int (nI (t 25)), .ref (a + 3), .ref (a + 4), .int (nI (t 5))]))), w.2)) C in_X2 (ci := 2) (T := TX2) rfl mu_s 3 (by decide) q180 (fun _ z => z) (v := .int (nI (t 2))) rfl dX2_ride_25 ?_
  refine j_iload_n C dX2_ride_28 rfl 0 rfl ?_
  refine j_iaddN C dX2_ride_29 ?_
  refine j_mmin C q951 q631 q87 q632 (Nat.le_of_ble_eq_true rfl) (by omega) (by omega) dX2_ride_30 ?_
  refine j_as (y := nI (min 9999 ((t 2) + (csd t (t (26 + 2 * j + 1)) (t 1) (t 3))))) (nI_min (by omega) (by omega)) ?_
  refine j_put (w := ((mu w.1 a a (.inr (2, [.int (nI (t 0)), .int (nI (psd t (t (26 + 2 * j + 1)) (t 1) (t 3))), .int (nI (t 4)), .int (nI (t 2)), .int (nI (t 3)), .ref (a + 1), .ref (a + 2), .int (nI (t 25)), .ref (a + 3), .ref (a + 4), .int (nI (t 5))]))), w.2)) C (ty0 := tyX2) in_X2 tyX2_ok nmX2 (ci := 2) (T := TX2) rfl mu_s 3 (by decide) q180 (fun _ z => z) rfl rfl rfl (fs' := [.int (nI (t 0)), .int (nI (psd t (t (26 + 2 * j + 1)) (t 1) (t 3))), .int (nI (t 4)), .int (nI (min 9999 ((t 2) + (csd t (t (26 + 2 * j + 1)) (t 1) (t 3))))), .int (nI (t 3)), .ref (a + 1), .ref (a + 2), .int (nI (t 25)), .ref (a + 3), .ref (a + 4), .int (nI (t 5))]) (Nat.le_of_ble_eq_true rfl) rfl dX2_ride_33 ?_
  refine J.eq (w' := ((mu w.1 a a (.inr (2, [.int (nI (t 0)), .int (nI (psd t (t (26 + 2 * j + 1)) (t 1) (t 3))), .int (nI (t 4)), .int (nI (min 9999 ((t 2) + (csd t (t (26 + 2 * j + 1)) (t 1) (t 3))))), .int (nI (t 3)), .ref (a + 1), .ref (a + 2), .int (nI (t 25)), .ref (a + 3), .ref (a + 4), .int (nI (t 5))]))), w.2)) ?_ (congrArg (fun z => (z, w.2)) mu_mu) rfl rfl
  refine j_aload_n C dX2_ride_36 rfl 1 rfl ?_
  refine j_aload_n C dX2_ride_37 rfl 1 rfl ?_
  refine j_get (w := ((mu w.1 a a (.inr (2, [.int (nI (t 0)), .int (nI (psd t (t (26 + 2 * j + 1)) (t 1) (t 3))), .int (nI (t 4)), .int (nI (min 9999 ((t 2) + (csd t (t (26 + 2 * j + 1)) (t 1) (t 3))))), .int (nI (t 3)), .ref (a + 1), .ref (a + 2), .int (nI (t 25)), .ref (a + 3), .ref (a + 4), .int (nI (t 5))]))), w.2)) C in_X2 (ci := 2) (T := TX2) rfl mu_s 9 (by decide) q199 (fun _ z => z) (v := .ref (a + 4)) rfl dX2_ride_38 ?_
  refine j_iload_n C dX2_ride_41 rfl 2 rfl ?_
  refine j_ialdN (w := ((mu w.1 a a (.inr (2, [.int (nI (t 0)), .int (nI (psd t (t (26 + 2 * j + 1)) (t 1) (t 3))), .int (nI (t 4)), .int (nI (min 9999 ((t 2) + (csd t (t (26 + 2 * j + 1)) (t 1) (t 3))))), .int (nI (t 3)), .ref (a + 1), .ref (a + 2), .int (nI (t 25)), .ref (a + 3), .ref (a + 4), .int (nI (t 5))]))), w.2)) C ((mu_n (by omega)).trans ho) (j) rfl (by omega) (by decide) dX2_ride_42 ?_
  refine j_as (y := nI (t (26 + 2 * j + 1))) (vo j (by omega)) ?_
  refine j_put (w := ((mu w.1 a a (.inr (2, [.int (nI (t 0)), .int (nI (psd t (t (26 + 2 * j + 1)) (t 1) (t 3))), .int (nI (t 4)), .int (nI (min 9999 ((t 2) + (csd t (t (26 + 2 * j + 1)) (t 1) (t 3))))), .int (nI (t 3)), .ref (a + 1), .ref (a + 2), .int (nI (t 25)), .ref (a + 3), .ref (a + 4), .int (nI (t 5))]))), w.2)) C (ty0 := tyX2) in_X2 tyX2_ok nmX2 (ci := 2) (T := TX2) rfl mu_s 2 (by decide) q178 (fun _ z => z) rfl rfl rfl (fs' := [.int (nI (t 0)), .int (nI (psd t (t (26 + 2 * j + 1)) (t 1) (t 3))), .int (nI (t (26 + 2 * j + 1))), .int (nI (min 9999 ((t 2) + (csd t (t (26 + 2 * j + 1)) (t 1) (t 3))))), .int (nI (t 3)), .ref (a + 1), .ref (a + 2), .int (nI (t 25)), .ref (a + 3), .ref (a + 4), .int (nI (t 5))]) (Nat.le_of_ble_eq_true rfl) rfl dX2_ride_43 ?_
  refine J.eq (w' := ((mu w.1 a a (.inr (2, [.int (nI (t 0)), .int (nI (psd t (t (26 + 2 * j + 1)) (t 1) (t 3))), .int (nI (t (26 + 2 * j + 1))), .int (nI (min 9999 ((t 2) + (csd t (t (26 + 2 * j + 1)) (t 1) (t 3))))), .int (nI (t 3)), .ref (a + 1), .ref (a + 2), .int (nI (t 25)), .ref (a + 3), .ref (a + 4), .int (nI (t 5))]))), w.2)) ?_ (congrArg (fun z => (z, w.2)) mu_mu) rfl rfl
  refine j_aload_n C dX2_ride_46 rfl 1 rfl ?_
  refine j_dup C dX2_ride_47 rfl ?_
  refine j_get (w := ((mu w.1 a a (.inr (2, [.int (nI (t 0)), .int (nI (psd t (t (26 + 2 * j + 1)) (t 1) (t 3))), .int (nI (t (26 + 2 * j + 1))), .int (nI (min 9999 ((t 2) + (csd t (t (26 + 2 * j + 1)) (t 1) (t 3))))), .int (nI (t 3)), .ref (a + 1), .ref (a + 2), .int (nI (t 25)), .ref (a + 3), .ref (a + 4), .int (nI (t 5))]))), w.2)) C in_X2 (ci := 2) (T := TX2) rfl mu_s 4 (by decide) q182 (fun _ z => z) (v := .int (nI (t 3))) rfl dX2_ride_48 ?_
  refine j_iconst (v := nI 1) C dX2_ride_51 rfl ?_
  refine j_iaddN C dX2_ride_52 ?_
  refine j_put (w := ((mu w.1 a a (.inr (2, [.int (nI (t 0)), .int (nI (psd t (t (26 + 2 * j + 1)) (t 1) (t 3))), .int (nI (t (26 + 2 * j + 1))), .int (nI (min 9999 ((t 2) + (csd t (t (26 + 2 * j + 1)) (t 1) (t 3))))), .int (nI (t 3)), .ref (a + 1), .ref (a + 2), .int (nI (t 25)), .ref (a + 3), .ref (a + 4), .int (nI (t 5))]))), w.2)) C (ty0 := tyX2) in_X2 tyX2_ok nmX2 (ci := 2) (T := TX2) rfl mu_s 4 (by decide) q182 (fun _ z => z) rfl rfl rfl (fs' := [.int (nI (t 0)), .int (nI (psd t (t (26 + 2 * j + 1)) (t 1) (t 3))), .int (nI (t (26 + 2 * j + 1))), .int (nI (min 9999 ((t 2) + (csd t (t (26 + 2 * j + 1)) (t 1) (t 3))))), .int (nI ((t 3) + 1)), .ref (a + 1), .ref (a + 2), .int (nI (t 25)), .ref (a + 3), .ref (a + 4), .int (nI (t 5))]) (Nat.le_of_ble_eq_true rfl) rfl dX2_ride_53 ?_
  refine J.eq (w' := ((mu w.1 a a (.inr (2, [.int (nI (t 0)), .int (nI (psd t (t (26 + 2 * j + 1)) (t 1) (t 3))), .int (nI (t (26 + 2 * j + 1))), .int (nI (min 9999 ((t 2) + (csd t (t (26 + 2 * j + 1)) (t 1) (t 3))))), .int (nI ((t 3) + 1)), .ref (a + 1), .ref (a + 2), .int (nI (t 25)), .ref (a + 3), .ref (a + 4), .int (nI (t 5))]))), w.2)) ?_ (congrArg (fun z => (z, w.2)) mu_mu) rfl rfl
  refine j_iload_n C dX2_ride_56 rfl 0 rfl ?_
  exact j_iret C (by omega) (by omega) (pI.mk ⟨rfl, rfl⟩) dX2_ride_57
set_option maxHeartbeats 400000 in
theorem kX2_rideAs (G : gl_T) (w : wd_T) (a o : Nat) (t u : Nat → Nat) (ha : w.1 a = some (a, TE a t)) (ho : w.1 o = some (o, TE o u)) (hoa : o ≠ a) : Mt G yX2_rideAs cX2_rideAs 2 none 0 [.ref a, .ref o] w (qV (mu w.1 a a (TE a (rAs t u)), w.2)) 0 0 := by
  refine Mt.start (by decide) (Nat.le_of_ble_eq_true rfl) (fun k C => ?_)
  have C : Cx G k cX2_rideAs "MoodFare$Town" "rideAs" 2 none 0 0 0 _ := C
  refine j_aload_n C dX2_rideAs_0 rfl 0 rfl ?_
  refine j_aload_n C dX2_rideAs_1 rfl 1 rfl ?_
  refine j_get (w := w) C in_X2 (ci := 2) (T := TX2) rfl ho 1 (by decide) q172 (fun _ z => z) (v := .int (nI (u 1))) rfl dX2_rideAs_2 ?_
  refine j_put (w := w) C (ty0 := tyX2) in_X2 tyX2_ok nmX2 (ci := 2) (T := TX2) rfl ha 1 (by decide) q172 (fun _ z => z) rfl rfl rfl (fs' := [.int (nI (t 0)), .int (nI (u 1)), .int (nI (t 4)), .int (nI (t 2)), .int (nI (t 3)), .ref (a + 1), .ref (a + 2), .int (nI (t 25)), .ref (a + 3), .ref (a + 4), .int (nI (t 5))]) (Nat.le_of_ble_eq_true rfl) rfl dX2_rideAs_5 ?_
  refine j_aload_n C dX2_rideAs_8 rfl 0 rfl ?_
  refine j_aload_n C dX2_rideAs_9 rfl 1 rfl ?_
  refine j_get (w := ((mu w.1 a a (.inr (2, [.int (nI (t 0)), .int (nI (u 1)), .int (nI (t 4)), .int (nI (t 2)), .int (nI (t 3)), .ref (a + 1), .ref (a + 2), .int (nI (t 25)), .ref (a + 3), .ref (a + 4), .int (nI (t 5))]))), w.2)) C in_X2 (ci := 2) (T := TX2) rfl ((mu_n hoa).trans ho) 2 (by decide) q178 (fun _ z => z) (v := .int (nI (u 4))) rfl dX2_rideAs_10 ?_
  refine j_put (w := ((mu w.1 a a (.inr (2, [.int (nI (t 0)), .int (nI (u 1)), .int (nI (t 4)), .int (nI (t 2)), .int (nI (t 3)), .ref (a + 1), .ref (a + 2), .int (nI (t 25)), .ref (a + 3), .ref (a + 4), .int (nI (t 5))]))), w.2)) C (ty0 := tyX2) in_X2 tyX2_ok nmX2 (ci := 2) (T := TX2) rfl mu_s 2 (by decide) q178 (fun _ z => z) rfl rfl rfl (fs' := [.int (nI (t 0)), .int (nI (u 1)), .int (nI (u 4)), .int (nI (t 2)), .int (nI (t 3)), .ref (a + 1), .ref (a + 2), .int (nI (t 25)), .ref (a + 3), .ref (a + 4), .int (nI (t 5))]) (Nat.le_of_ble_eq_true rfl) rfl dX2_rideAs_13 ?_
  refine J.eq (w' := ((mu w.1 a a (.inr (2, [.int (nI (t 0)), .int (nI (u 1)), .int (nI (u 4)), .int (nI (t 2)), .int (nI (t 3)), .ref (a + 1), .ref (a + 2), .int (nI (t 25)), .ref (a + 3), .ref (a + 4), .int (nI (t 5))]))), w.2)) ?_ (congrArg (fun z => (z, w.2)) mu_mu) rfl rfl
  refine j_aload_n C dX2_rideAs_16 rfl 0 rfl ?_
  refine j_aload_n C dX2_rideAs_17 rfl 1 rfl ?_
  refine j_get (w := ((mu w.1 a a (.inr (2, [.int (nI (t 0)), .int (nI (u 1)), .int (nI (u 4)), .int (nI (t 2)), .int (nI (t 3)), .ref (a + 1), .ref (a + 2), .int (nI (t 25)), .ref (a + 3), .ref (a + 4), .int (nI (t 5))]))), w.2)) C in_X2 (ci := 2) (T := TX2) rfl ((mu_n hoa).trans ho) 3 (by decide) q180 (fun _ z => z) (v := .int (nI (u 2))) rfl dX2_rideAs_18 ?_
  refine j_put (w := ((mu w.1 a a (.inr (2, [.int (nI (t 0)), .int (nI (u 1)), .int (nI (u 4)), .int (nI (t 2)), .int (nI (t 3)), .ref (a + 1), .ref (a + 2), .int (nI (t 25)), .ref (a + 3), .ref (a + 4), .int (nI (t 5))]))), w.2)) C (ty0 := tyX2) in_X2 tyX2_ok nmX2 (ci := 2) (T := TX2) rfl mu_s 3 (by decide) q180 (fun _ z => z) rfl rfl rfl (fs' := [.int (nI (t 0)), .int (nI (u 1)), .int (nI (u 4)), .int (nI (u 2)), .int (nI (t 3)), .ref (a + 1), .ref (a + 2), .int (nI (t 25)), .ref (a + 3), .ref (a + 4), .int (nI (t 5))]) (Nat.le_of_ble_eq_true rfl) rfl dX2_rideAs_21 ?_
  refine J.eq (w' := ((mu w.1 a a (.inr (2, [.int (nI (t 0)), .int (nI (u 1)), .int (nI (u 4)), .int (nI (u 2)), .int (nI (t 3)), .ref (a + 1), .ref (a + 2), .int (nI (t 25)), .ref (a + 3), .ref (a + 4), .int (nI (t 5))]))), w.2)) ?_ (congrArg (fun z => (z, w.2)) mu_mu) rfl rfl
  refine j_aload_n C dX2_rideAs_24 rfl 0 rfl ?_
  refine j_aload_n C dX2_rideAs_25 rfl 1 rfl ?_
  refine j_get (w := ((mu w.1 a a (.inr (2, [.int (nI (t 0)), .int (nI (u 1)), .int (nI (u 4)), .int (nI (u 2)), .int (nI (t 3)), .ref (a + 1), .ref (a + 2), .int (nI (t 25)), .ref (a + 3), .ref (a + 4), .int (nI (t 5))]))), w.2)) C in_X2 (ci := 2) (T := TX2) rfl ((mu_n hoa).trans ho) 4 (by decide) q182 (fun _ z => z) (v := .int (nI (u 3))) rfl dX2_rideAs_26 ?_
  refine j_put (w := ((mu w.1 a a (.inr (2, [.int (nI (t 0)), .int (nI (u 1)), .int (nI (u 4)), .int (nI (u 2)), .int (nI (t 3)), .ref (a + 1), .ref (a + 2), .int (nI (t 25)), .ref (a + 3), .ref (a + 4), .int (nI (t 5))]))), w.2)) C (ty0 := tyX2) in_X2 tyX2_ok nmX2 (ci := 2) (T := TX2) rfl mu_s 4 (by decide) q182 (fun _ z => z) rfl rfl rfl (fs' := [.int (nI (t 0)), .int (nI (u 1)), .int (nI (u 4)), .int (nI (u 2)), .int (nI (u 3)), .ref (a + 1), .ref (a + 2), .int (nI (t 25)), .ref (a + 3), .ref (a + 4), .int (nI (t 5))]) (Nat.le_of_ble_eq_true rfl) rfl dX2_rideAs_29 ?_
  refine J.eq (w' := ((mu w.1 a a (.inr (2, [.int (nI (t 0)), .int (nI (u 1)), .int (nI (u 4)), .int (nI (u 2)), .int (nI (u 3)), .ref (a + 1), .ref (a + 2), .int (nI (t 25)), .ref (a + 3), .ref (a + 4), .int (nI (t 5))]))), w.2)) ?_ (congrArg (fun z => (z, w.2)) mu_mu) rfl rfl
  refine j_aload_n C dX2_rideAs_32 rfl 0 rfl ?_
  refine j_aload_n C dX2_rideAs_33 rfl 1 rfl ?_
  refine j_get (w := ((mu w.1 a a (.inr (2, [.int (nI (t 0)), .int (nI (u 1)), .int (nI (u 4)), .int (nI (u 2)), .int (nI (u 3)), .ref (a + 1), .ref (a + 2), .int (nI (t 25)), .ref (a + 3), .ref (a + 4), .int (nI (t 5))]))), w.2)) C in_X2 (ci := 2) (T := TX2) rfl ((mu_n hoa).trans ho) 10 (by decide) q202 (fun _ z => z) (v := .int (nI (u 5))) rfl dX2_rideAs_34 ?_
  refine j_put (w := ((mu w.1 a a (.inr (2, [.int (nI (t 0)), .int (nI (u 1)), .int (nI (u 4)), .int (nI (u 2)), .int (nI (u 3)), .ref (a + 1), .ref (a + 2), .int (nI (t 25)), .ref (a + 3), .ref (a + 4), .int (nI (t 5))]))), w.2)) C (ty0 := tyX2) in_X2 tyX2_ok nmX2 (ci := 2) (T := TX2) rfl mu_s 10 (by decide) q202 (fun _ z => z) rfl rfl rfl (fs' := [.int (nI (t 0)), .int (nI (u 1)), .int (nI (u 4)), .int (nI (u 2)), .int (nI (u 3)), .ref (a + 1), .ref (a + 2), .int (nI (t 25)), .ref (a + 3), .ref (a + 4), .int (nI (u 5))]) (Nat.le_of_ble_eq_true rfl) rfl dX2_rideAs_37 ?_
  refine J.eq (w' := ((mu w.1 a a (.inr (2, [.int (nI (t 0)), .int (nI (u 1)), .int (nI (u 4)), .int (nI (u 2)), .int (nI (u 3)), .ref (a + 1), .ref (a + 2), .int (nI (t 25)), .ref (a + 3), .ref (a + 4), .int (nI (u 5))]))), w.2)) ?_ (congrArg (fun z => (z, w.2)) mu_mu) rfl rfl
  exact j_vret C (by omega) (by omega) (pV.mk rfl) dX2_rideAs_40
set_option maxHeartbeats 400000 in
theorem kX2_hasStreet (G : gl_T) (w : wd_T) (a : Nat) (t : Nat → Nat) (hT : TN G w a t) (ht : smT t) (p q : Nat) (hp : p < 100) (hq : q < 100) : Mt G yX2_hasStreet cX2_hasStreet 4 (some .boolean) 0 [.ref a, .int (nI p), .int (nI q)] w (qI (bZ (hsN t p q (t 25))) w) 0 0 := by
  refine Mt.start (by decide) (Nat.le_of_ble_eq_true rfl) (fun k C => ?_)
  have C : Cx G k cX2_hasStreet "MoodFare$Town" "hasStreet" 4 (some .boolean) 0 0 0 _ := C
  obtain ⟨h0, ⟨e, md, h1, h2⟩, ⟨fm, hm, vm⟩, ⟨ff, hf, vf⟩, ⟨ft, ho, vo⟩, h6, hk⟩ := id hT
  obtain ⟨r0, r1, r2, r3, r4, r5, r6, r7, r25, r26⟩ := id ht
  refine j_iconst (v := nI 0) C dX2_hasStreet_0 rfl ?_
  refine j_istore_n (lv' := [(3, .int (nI 0)), (0, .ref a), (1, .int (nI p)), (2, .int (nI q))]) C dX2_hasStreet_1 rfl (by decide) rfl ?_
  have lp : ∀ (n_lp i : Nat), 0 ≤ i → i ≤ t 25 → t 25 < i + n_lp → (hsN t p q i = false) → J G k w [(3, .int (nI i)), (0, .ref a), (1, .int (nI p)), (2, .int (nI q))] 2 [] 0 0 := by
    intro n_lp
    induction n_lp with
    | zero => intro i h0_lp h1_lp h2_lp; omega
    | succ n_lp ih_lp =>
      intro i h0_lp h1_lp h2_lp hI_lp
      refine j_iload_n C dX2_hasStreet_2 rfl 0 rfl ?_
      refine j_aload_n C dX2_hasStreet_3 rfl 1 rfl ?_
      refine j_get (w := w) C in_X2 (ci := 2) (T := TX2) rfl h0 7 (by decide) q193 (fun _ z => z) (v := .int (nI (t 25))) rfl dX2_hasStreet_4 ?_
      refine j_icmp_geN C 38 dX2_hasStreet_7 (by decide) (by first | omega | (have := r26 i (by omega); omega)) (by first | omega | (have := r26 i (by omega); omega)) (fun c7 => ?_) (fun c7 => ?_)
      · obtain rfl : t 25 = i := by omega
        refine j_iconst (v := nI 0) C dX2_hasStreet_38 rfl ?_
        exact j_zret C (by decide +kernel) (by omega) (by omega) (pI.mk ⟨by rw [hI_lp]; rfl, rfl⟩) dX2_hasStreet_39
      · refine j_aload_n C dX2_hasStreet_10 rfl 1 rfl ?_
        refine j_get (w := w) C in_X2 (ci := 2) (T := TX2) rfl h0 8 (by decide) q196 (fun _ z => z) (v := .ref (a + 3)) rfl dX2_hasStreet_11 ?_
        refine j_iload_n C dX2_hasStreet_14 rfl 0 rfl ?_
        refine j_ialdN (w := w) C hf (i) rfl (by first | omega | (have := r26 i (by omega); omega)) (by decide) dX2_hasStreet_15 ?_
        refine j_as (y := nI (t (26 + 2 * i))) (vf i (by omega)) ?_
        refine j_iload_n C dX2_hasStreet_16 rfl 2 rfl ?_
        refine j_icmp_neN C 32 dX2_hasStreet_17 (by decide) (by first | omega | (have := r26 i (by omega); omega)) (by first | omega | (have := r26 i (by omega); omega)) (fun c17 => ?_) (fun c17 => ?_)
        · refine j_iincN (lv' := [(3, .int (nI (i + 1))), (0, .ref a), (1, .int (nI p)), (2, .int (nI q))]) C dX2_hasStreet_32 0 rfl (by decide) rfl ?_
          refine j_goto C 2 dX2_hasStreet_35 (by decide) ?_
          refine j_lv [0, 1, 2, 3] (lv' := [(3, .int (nI (i + 1))), (0, .ref a), (1, .int (nI p)), (2, .int (nI q))]) rfl ?_
          exact ih_lp (i + 1) (by omega) (by omega) (by omega) (by unfold hsN; simp [hI_lp, c7, c17])
        · refine j_aload_n C dX2_hasStreet_20 rfl 1 rfl ?_
          refine j_get (w := w) C in_X2 (ci := 2) (T := TX2) rfl h0 9 (by decide) q199 (fun _ z => z) (v := .ref (a + 4)) rfl dX2_hasStreet_21 ?_
          refine j_iload_n C dX2_hasStreet_24 rfl 0 rfl ?_
          refine j_ialdN (w := w) C ho (i) rfl (by first | omega | (have := r26 i (by omega); omega)) (by decide) dX2_hasStreet_25 ?_
          refine j_as (y := nI (t (26 + 2 * i + 1))) (vo i (by omega)) ?_
          refine j_iload_n C dX2_hasStreet_26 rfl 3 rfl ?_
          refine j_icmp_neN C 32 dX2_hasStreet_27 (by decide) (by first | omega | (have := r26 i (by omega); omega)) (by first | omega | (have := r26 i (by omega); omega)) (fun c27 => ?_) (fun c27 => ?_)
          · refine j_iincN (lv' := [(3, .int (nI (i + 1))), (0, .ref a), (1, .int (nI p)), (2, .int (nI q))]) C dX2_hasStreet_32 0 rfl (by decide) rfl ?_
            refine j_goto C 2 dX2_hasStreet_35 (by decide) ?_
            refine j_lv [0, 1, 2, 3] (lv' := [(3, .int (nI (i + 1))), (0, .ref a), (1, .int (nI p)), (2, .int (nI q))]) rfl ?_
            exact ih_lp (i + 1) (by omega) (by omega) (by omega) (by unfold hsN; simp [hI_lp, c7, c17, c27])
          · refine j_iconst (v := nI 1) C dX2_hasStreet_30 rfl ?_
            exact j_zret C (by decide +kernel) (by omega) (by omega) (pI.mk ⟨by rw [hsN_in (k := i) (by omega) (by simp [c7, c17, c27])]; rfl, rfl⟩) dX2_hasStreet_31
  refine j_lv [0, 1, 2, 3] (lv' := [(3, .int (nI 0)), (0, .ref a), (1, .int (nI p)), (2, .int (nI q))]) rfl ?_
  exact lp (t 25 + 1 - 0) (0) (by omega) (by omega) (by omega) (by rfl)
set_option maxHeartbeats 400000 in
theorem kX2_init (G : gl_T) (w : wd_T) (hG : GH G) (b : Nat) (hb : w.1 b = some (b, .inr (2, [.int (nI 0), .int (nI 0), .int (nI 0), .int (nI 0), .int (nI 0), .null, .null, .int (nI 0), .null, .null, .int (nI 0)]))) (hsz : w.2 = b + 1) (hw : WF w) : Mt G yX2_init cX2_init 1 none 3 [.ref b] w (pV (fun w' => TN G w' b (fun _ => 0) ∧ w'.2 = b + 5 ∧ (∀ c σ e, c ≠ b → w.1 c = some (σ, e) → w'.1 c = some (σ, e)) ∧ WF w')) 4 25 := by
  refine Mt.start (by decide) (Nat.le_of_ble_eq_true rfl) (fun k C => ?_)
  have C : Cx G k cX2_init "MoodFare$Town" "<init>" 1 none 3 4 25 _ := C
  refine j_aload_n C dX2_init_0 rfl 0 rfl ?_
  refine j_objInit (w := w) C q137 q115 q116 (Nat.le_of_ble_eq_true rfl) dX2_init_1 ?_
  refine j_aload_n C dX2_init_4 rfl 0 rfl ?_
  refine j_new (w := w) C b (fs := [.int (nI 0), .null, .int (nI 0)]) (ty := tyJ2) in_J2 tyJ2_ok (ci := 20) (T := TJ2) rfl q138 q139 q71 (by decide) (by omega) (by omega) dX2_init_5 ?_
  refine j_dup C dX2_init_8 rfl ?_
  refine j_callI (w := ((mu w.1 w.2 b (.inr (20, [.int (nI 0), .null, .int (nI 0)]))), w.2 + 1)) C (kJ2_init G ((mu w.1 w.2 b (.inr (20, [.int (nI 0), .null, .int (nI 0)]))), w.2 + 1) hG w.2 b (nI 0) .null 0 mu_s) pV.ret 0 q140 q141 q71 q142 rfl (by decide +kernel) rfl (by decide) (by decide) (Nat.le_of_ble_eq_true rfl) rfl dX2_init_9 (by omega) (by omega) (qV.k ?_)
  refine J.eq (w' := ((mu w.1 w.2 b (.inr (20, [.int (nI 0), .ref (gl_z G 0), .int (nI 0)]))), w.2 + 1)) ?_ (congrArg (fun z => (z, w.2 + 1)) mu_mu) rfl rfl
  refine j_putF (w := ((mu w.1 w.2 b (.inr (20, [.int (nI 0), .ref (gl_z G 0), .int (nI 0)]))), w.2 + 1)) C (ty0 := tyX2) in_X2 tyX2_ok nmX2 (ci := 2) (T := TX2) rfl ((mu_n (by omega)).trans hb) 5 (by decide) q184 (fun _ z => z) rfl rfl rfl rfl (fs' := [.int (nI 0), .int (nI 0), .int (nI 0), .int (nI 0), .int (nI 0), .ref w.2, .null, .int (nI 0), .null, .null, .int (nI 0)]) (Nat.le_of_ble_eq_true rfl) rfl dX2_init_12 ?_
  refine j_aload_n C dX2_init_15 rfl 0 rfl ?_
  refine j_bipush (v := nI 6) C dX2_init_16 rfl ?_
  refine j_newi (w := ((mu (mu w.1 w.2 b (.inr (20, [.int (nI 0), .ref (gl_z G 0), .int (nI 0)]))) b b (.inr (2, [.int (nI 0), .int (nI 0), .int (nI 0), .int (nI 0), .int (nI 0), .ref w.2, .null, .int (nI 0), .null, .null, .int (nI 0)]))), w.2 + 1)) C b (6) q228 rfl (by omega) (by omega) (by omega) dX2_init_18 ?_
  refine j_putF (w := ((mu (mu (mu w.1 w.2 b (.inr (20, [.int (nI 0), .ref (gl_z G 0), .int (nI 0)]))) b b (.inr (2, [.int (nI 0), .int (nI 0), .int (nI 0), .int (nI 0), .int (nI 0), .ref w.2, .null, .int (nI 0), .null, .null, .int (nI 0)]))) (w.2 + 1) b (ai (gl_A G 0) 6 (fun _ => 0))), w.2 + 2)) C (ty0 := tyX2) in_X2 tyX2_ok nmX2 (ci := 2) (T := TX2) rfl ((mu_n (by omega)).trans mu_s) 6 (by decide) q188 (fun _ z => z) rfl rfl rfl rfl (fs' := [.int (nI 0), .int (nI 0), .int (nI 0), .int (nI 0), .int (nI 0), .ref w.2, .ref (w.2 + 1), .int (nI 0), .null, .null, .int (nI 0)]) (Nat.le_of_ble_eq_true rfl) rfl dX2_init_20 ?_
  refine J.eq (w' := ((mu (mu (mu w.1 w.2 b (.inr (20, [.int (nI 0), .ref (gl_z G 0), .int (nI 0)]))) (w.2 + 1) b (ai (gl_A G 0) 6 (fun _ => 0))) b b (.inr (2, [.int (nI 0), .int (nI 0), .int (nI 0), .int (nI 0), .int (nI 0), .ref w.2, .ref (w.2 + 1), .int (nI 0), .null, .null, .int (nI 0)]))), w.2 + 2)) ?_ (congrArg (fun z => (z, w.2 + 2)) mu_d1) rfl rfl
  refine j_aload_n C dX2_init_23 rfl 0 rfl ?_
  refine j_bipush (v := nI 8) C dX2_init_24 rfl ?_
  refine j_newi (w := ((mu (mu (mu w.1 w.2 b (.inr (20, [.int (nI 0), .ref (gl_z G 0), .int (nI 0)]))) (w.2 + 1) b (ai (gl_A G 0) 6 (fun _ => 0))) b b (.inr (2, [.int (nI 0), .int (nI 0), .int (nI 0), .int (nI 0), .int (nI 0), .ref w.2, .ref (w.2 + 1), .int (nI 0), .null, .null, .int (nI 0)]))), w.2 + 2)) C b (8) q228 rfl (by omega) (by omega) (by omega) dX2_init_26 ?_
  refine j_putF (w := ((mu (mu (mu (mu w.1 w.2 b (.inr (20, [.int (nI 0), .ref (gl_z G 0), .int (nI 0)]))) (w.2 + 1) b (ai (gl_A G 0) 6 (fun _ => 0))) b b (.inr (2, [.int (nI 0), .int (nI 0), .int (nI 0), .int (nI 0), .int (nI 0), .ref w.2, .ref (w.2 + 1), .int (nI 0), .null, .null, .int (nI 0)]))) (w.2 + 2) b (ai (gl_A G 0) 8 (fun _ => 0))), w.2 + 3)) C (ty0 := tyX2) in_X2 tyX2_ok nmX2 (ci := 2) (T := TX2) rfl ((mu_n (by omega)).trans mu_s) 8 (by decide) q196 (fun _ z => z) rfl rfl rfl rfl (fs' := [.int (nI 0), .int (nI 0), .int (nI 0), .int (nI 0), .int (nI 0), .ref w.2, .ref (w.2 + 1), .int (nI 0), .ref (w.2 + 2), .null, .int (nI 0)]) (Nat.le_of_ble_eq_true rfl) rfl dX2_init_28 ?_
  refine J.eq (w' := ((mu (mu (mu (mu w.1 w.2 b (.inr (20, [.int (nI 0), .ref (gl_z G 0), .int (nI 0)]))) (w.2 + 1) b (ai (gl_A G 0) 6 (fun _ => 0))) (w.2 + 2) b (ai (gl_A G 0) 8 (fun _ => 0))) b b (.inr (2, [.int (nI 0), .int (nI 0), .int (nI 0), .int (nI 0), .int (nI 0), .ref w.2, .ref (w.2 + 1), .int (nI 0), .ref (w.2 + 2), .null, .int (nI 0)]))), w.2 + 3)) ?_ (congrArg (fun z => (z, w.2 + 3)) mu_d1) rfl rfl
  refine j_aload_n C dX2_init_31 rfl 0 rfl ?_
  refine j_bipush (v := nI 8) C dX2_init_32 rfl ?_
  refine j_newi (w := ((mu (mu (mu (mu w.1 w.2 b (.inr (20, [.int (nI 0), .ref (gl_z G 0), .int (nI 0)]))) (w.2 + 1) b (ai (gl_A G 0) 6 (fun _ => 0))) (w.2 + 2) b (ai (gl_A G 0) 8 (fun _ => 0))) b b (.inr (2, [.int (nI 0), .int (nI 0), .int (nI 0), .int (nI 0), .int (nI 0), .ref w.2, .ref (w.2 + 1), .int (nI 0), .ref (w.2 + 2), .null, .int (nI 0)]))), w.2 + 3)) C b (8) q228 rfl (by omega) (by omega) (by omega) dX2_init_34 ?_
  refine j_putF (w := ((mu (mu (mu (mu (mu w.1 w.2 b (.inr (20, [.int (nI 0), .ref (gl_z G 0), .int (nI 0)]))) (w.2 + 1) b (ai (gl_A G 0) 6 (fun _ => 0))) (w.2 + 2) b (ai (gl_A G 0) 8 (fun _ => 0))) b b (.inr (2, [.int (nI 0), .int (nI 0), .int (nI 0), .int (nI 0), .int (nI 0), .ref w.2, .ref (w.2 + 1), .int (nI 0), .ref (w.2 + 2), .null, .int (nI 0)]))) (w.2 + 3) b (ai (gl_A G 0) 8 (fun _ => 0))), w.2 + 4)) C (ty0 := tyX2) in_X2 tyX2_ok nmX2 (ci := 2) (T := TX2) rfl ((mu_n (by omega)).trans mu_s) 9 (by decide) q199 (fun _ z => z) rfl rfl rfl rfl (fs' := [.int (nI 0), .int (nI 0), .int (nI 0), .int (nI 0), .int (nI 0), .ref w.2, .ref (w.2 + 1), .int (nI 0), .ref (w.2 + 2), .ref (w.2 + 3), .int (nI 0)]) (Nat.le_of_ble_eq_true rfl) rfl dX2_init_36 ?_
  refine J.eq (w' := ((mu (mu (mu (mu (mu w.1 w.2 b (.inr (20, [.int (nI 0), .ref (gl_z G 0), .int (nI 0)]))) (w.2 + 1) b (ai (gl_A G 0) 6 (fun _ => 0))) (w.2 + 2) b (ai (gl_A G 0) 8 (fun _ => 0))) (w.2 + 3) b (ai (gl_A G 0) 8 (fun _ => 0))) b b (.inr (2, [.int (nI 0), .int (nI 0), .int (nI 0), .int (nI 0), .int (nI 0), .ref w.2, .ref (w.2 + 1), .int (nI 0), .ref (w.2 + 2), .ref (w.2 + 3), .int (nI 0)]))), w.2 + 4)) ?_ (congrArg (fun z => (z, w.2 + 4)) mu_d1) rfl rfl
  exact j_vret C (by omega) (by omega) (pV.mk (tn_new hb hsz hw)) dX2_init_39
