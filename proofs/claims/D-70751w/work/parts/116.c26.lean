/-! ===== the class: a corner taken as another ===== -/
set_option maxRecDepth 100000
set_option maxHeartbeats 400000 in
theorem kX0_taken_10 (G : gl_T) (w : wd_T) (hG : GH G) (hE : GE G) (hM : GM G) (q τ : Nat) (fs : List Value) (hq : w.1 q = some (τ, .inr (7, fs))) : Mt G yX0_taken cX0_taken 2 (some (.object "MoodFare$Corner")) 0 [.ref q, .int (nI 0)] w (qA (.ref q) w) 0 0 := by
  refine Mt.start (by decide) (Nat.le_of_ble_eq_true rfl) (fun k C => ?_)
  have C : Cx G k cX0_taken "MoodFare" "taken" 2 (some (.object "MoodFare$Corner")) 0 0 0 _ := C
  refine j_iload_n C dX0_taken_0 rfl 1 rfl ?_
  refine j_tableIn (off := 35) C 36 dX0_taken_1 (by decide +kernel) (by decide +kernel) (by decide +kernel) (by decide) ?_
  refine j_aload_n C dX0_taken_36 rfl 0 rfl ?_
  refine j_castY (w := w) C (ci := 7) (T := TX8) hq rfl q988 (C.nw hG q1892 rfl) dX0_taken_37 ?_
  exact j_aret C (by first | exact Or.inl ⟨_, rfl⟩ | exact Or.inr ⟨_, rfl⟩) (by first | exact Or.inl rfl | exact Or.inr ⟨_, rfl⟩) (by omega) (by omega) (pA.mk ⟨rfl, rfl⟩) dX0_taken_40
set_option maxHeartbeats 400000 in
theorem kX0_taken_11 (G : gl_T) (w : wd_T) (hG : GH G) (hE : GE G) (hM : GM G) (q τ : Nat) (fs : List Value) (hq : w.1 q = some (τ, .inr (7, fs))) : Mt G yX0_taken cX0_taken 2 (some (.object "MoodFare$Corner")) 0 [.ref q, .int (nI 1)] w (qA (.ref q) w) 0 0 := by
  refine Mt.start (by decide) (Nat.le_of_ble_eq_true rfl) (fun k C => ?_)
  have C : Cx G k cX0_taken "MoodFare" "taken" 2 (some (.object "MoodFare$Corner")) 0 0 0 _ := C
  refine j_iload_n C dX0_taken_0 rfl 1 rfl ?_
  refine j_tableIn (off := 40) C 41 dX0_taken_1 (by decide +kernel) (by decide +kernel) (by decide +kernel) (by decide) ?_
  refine j_aload_n C dX0_taken_41 rfl 0 rfl ?_
  refine j_castS (w := w) C (ci := 7) (T := TX8) hq rfl q706 dX0_taken_42 ?_
  exact j_aret C (by first | exact Or.inl ⟨_, rfl⟩ | exact Or.inr ⟨_, rfl⟩) (by first | exact Or.inl rfl | exact Or.inr ⟨_, rfl⟩) (by omega) (by omega) (pA.mk ⟨rfl, rfl⟩) dX0_taken_45
set_option maxHeartbeats 400000 in
theorem kX0_taken_12 (G : gl_T) (w : wd_T) (hG : GH G) (hE : GE G) (hM : GM G) (q τ : Nat) (fs : List Value) (hq : w.1 q = some (τ, .inr (7, fs))) : Mb G yX0_taken cX0_taken 2 (some (.object "MoodFare$Corner")) [] 0 [.ref q, .int (nI 2)] w (qT (w.2 + 2) (mu w.1 (w.2 + 2) (w.2 + 2) (.inr (25, [])), w.2 + 3)) 3 1210 := by
  refine ⟨Nat.le_of_ble_eq_true rfl, fun k C hx => ?_⟩
  have C : Cx G k cX0_taken "MoodFare" "taken" 2 (some (.object "MoodFare$Corner")) 0 3 1210 _ := C
  refine j_iload_n C dX0_taken_0 rfl 1 rfl ?_
  refine j_tableIn (off := 45) C 46 dX0_taken_1 (by decide +kernel) (by decide +kernel) (by decide +kernel) (by decide) ?_
  refine j_aload_n C dX0_taken_46 rfl 0 rfl ?_
  exact j_castX C hE hM hx (by intro x h; simp at h) (w.2 + 2) (Nat.le_of_ble_eq_true rfl) (ci := 7) (cj := 8) hq rfl rfl ((C.xe hE).nc 7 rfl) (by decide +kernel) (by decide) (by decide +kernel) (by decide) q722 dX0_taken_47 (by omega) (by omega) qT.mk
set_option maxHeartbeats 400000 in
theorem kX0_taken_13 (G : gl_T) (w : wd_T) (hG : GH G) (hE : GE G) (hM : GM G) (q τ : Nat) (fs : List Value) (hq : w.1 q = some (τ, .inr (7, fs))) : Mb G yX0_taken cX0_taken 2 (some (.object "MoodFare$Corner")) [] 0 [.ref q, .int (nI 3)] w (qT (w.2 + 2) (mu w.1 (w.2 + 2) (w.2 + 2) (.inr (25, [])), w.2 + 3)) 3 1210 := by
  refine ⟨Nat.le_of_ble_eq_true rfl, fun k C hx => ?_⟩
  have C : Cx G k cX0_taken "MoodFare" "taken" 2 (some (.object "MoodFare$Corner")) 0 3 1210 _ := C
  refine j_iload_n C dX0_taken_0 rfl 1 rfl ?_
  refine j_tableIn (off := 50) C 51 dX0_taken_1 (by decide +kernel) (by decide +kernel) (by decide +kernel) (by decide) ?_
  refine j_aload_n C dX0_taken_51 rfl 0 rfl ?_
  exact j_castX C hE hM hx (by intro x h; simp at h) (w.2 + 2) (Nat.le_of_ble_eq_true rfl) (ci := 7) (cj := 9) hq rfl rfl ((C.xe hE).nc 8 rfl) (by decide +kernel) (by decide) (by decide +kernel) (by decide) q731 dX0_taken_52 (by omega) (by omega) qT.mk
set_option maxHeartbeats 400000 in
theorem kX0_taken_14 (G : gl_T) (w : wd_T) (hG : GH G) (hE : GE G) (hM : GM G) (q τ : Nat) (fs : List Value) (hq : w.1 q = some (τ, .inr (7, fs))) : Mb G yX0_taken cX0_taken 2 (some (.object "MoodFare$Corner")) [] 0 [.ref q, .int (nI 4)] w (qT (w.2 + 2) (mu w.1 (w.2 + 2) (w.2 + 2) (.inr (25, [])), w.2 + 3)) 3 1210 := by
  refine ⟨Nat.le_of_ble_eq_true rfl, fun k C hx => ?_⟩
  have C : Cx G k cX0_taken "MoodFare" "taken" 2 (some (.object "MoodFare$Corner")) 0 3 1210 _ := C
  refine j_iload_n C dX0_taken_0 rfl 1 rfl ?_
  refine j_tableIn (off := 55) C 56 dX0_taken_1 (by decide +kernel) (by decide +kernel) (by decide +kernel) (by decide) ?_
  refine j_aload_n C dX0_taken_56 rfl 0 rfl ?_
  exact j_castX C hE hM hx (by intro x h; simp at h) (w.2 + 2) (Nat.le_of_ble_eq_true rfl) (ci := 7) (cj := 10) hq rfl rfl ((C.xe hE).nc 9 rfl) (by decide +kernel) (by decide) (by decide +kernel) (by decide) q740 dX0_taken_57 (by omega) (by omega) qT.mk
set_option maxHeartbeats 400000 in
theorem kX0_taken_15 (G : gl_T) (w : wd_T) (hG : GH G) (hE : GE G) (hM : GM G) (q τ : Nat) (fs : List Value) (hq : w.1 q = some (τ, .inr (7, fs))) : Mb G yX0_taken cX0_taken 2 (some (.object "MoodFare$Corner")) [] 0 [.ref q, .int (nI 5)] w (qT (w.2 + 2) (mu w.1 (w.2 + 2) (w.2 + 2) (.inr (25, [])), w.2 + 3)) 3 1210 := by
  refine ⟨Nat.le_of_ble_eq_true rfl, fun k C hx => ?_⟩
  have C : Cx G k cX0_taken "MoodFare" "taken" 2 (some (.object "MoodFare$Corner")) 0 3 1210 _ := C
  refine j_iload_n C dX0_taken_0 rfl 1 rfl ?_
  refine j_tableOut C 61 dX0_taken_1 (by decide +kernel) (by decide) ?_
  refine j_aload_n C dX0_taken_61 rfl 0 rfl ?_
  exact j_castX C hE hM hx (by intro x h; simp at h) (w.2 + 2) (Nat.le_of_ble_eq_true rfl) (ci := 7) (cj := 11) hq rfl rfl ((C.xe hE).nc 10 rfl) (by decide +kernel) (by decide) (by decide +kernel) (by decide) q749 dX0_taken_62 (by omega) (by omega) qT.mk
set_option maxHeartbeats 400000 in
theorem kX0_taken_20 (G : gl_T) (w : wd_T) (hG : GH G) (hE : GE G) (hM : GM G) (q τ : Nat) (fs : List Value) (hq : w.1 q = some (τ, .inr (8, fs))) : Mt G yX0_taken cX0_taken 2 (some (.object "MoodFare$Corner")) 0 [.ref q, .int (nI 0)] w (qA (.ref q) w) 0 0 := by
  refine Mt.start (by decide) (Nat.le_of_ble_eq_true rfl) (fun k C => ?_)
  have C : Cx G k cX0_taken "MoodFare" "taken" 2 (some (.object "MoodFare$Corner")) 0 0 0 _ := C
  refine j_iload_n C dX0_taken_0 rfl 1 rfl ?_
  refine j_tableIn (off := 35) C 36 dX0_taken_1 (by decide +kernel) (by decide +kernel) (by decide +kernel) (by decide) ?_
  refine j_aload_n C dX0_taken_36 rfl 0 rfl ?_
  refine j_castY (w := w) C (ci := 8) (T := TX9) hq rfl q988 (C.nw hG q1893 rfl) dX0_taken_37 ?_
  exact j_aret C (by first | exact Or.inl ⟨_, rfl⟩ | exact Or.inr ⟨_, rfl⟩) (by first | exact Or.inl rfl | exact Or.inr ⟨_, rfl⟩) (by omega) (by omega) (pA.mk ⟨rfl, rfl⟩) dX0_taken_40
set_option maxHeartbeats 400000 in
theorem kX0_taken_21 (G : gl_T) (w : wd_T) (hG : GH G) (hE : GE G) (hM : GM G) (q τ : Nat) (fs : List Value) (hq : w.1 q = some (τ, .inr (8, fs))) : Mt G yX0_taken cX0_taken 2 (some (.object "MoodFare$Corner")) 0 [.ref q, .int (nI 1)] w (qA (.ref q) w) 0 0 := by
  refine Mt.start (by decide) (Nat.le_of_ble_eq_true rfl) (fun k C => ?_)
  have C : Cx G k cX0_taken "MoodFare" "taken" 2 (some (.object "MoodFare$Corner")) 0 0 0 _ := C
  refine j_iload_n C dX0_taken_0 rfl 1 rfl ?_
  refine j_tableIn (off := 40) C 41 dX0_taken_1 (by decide +kernel) (by decide +kernel) (by decide +kernel) (by decide) ?_
  refine j_aload_n C dX0_taken_41 rfl 0 rfl ?_
  refine j_castY (w := w) C (ci := 8) (T := TX9) hq rfl q706 (C.nw hG q1896 rfl) dX0_taken_42 ?_
  exact j_aret C (by first | exact Or.inl ⟨_, rfl⟩ | exact Or.inr ⟨_, rfl⟩) (by first | exact Or.inl rfl | exact Or.inr ⟨_, rfl⟩) (by omega) (by omega) (pA.mk ⟨rfl, rfl⟩) dX0_taken_45
set_option maxHeartbeats 400000 in
theorem kX0_taken_22 (G : gl_T) (w : wd_T) (hG : GH G) (hE : GE G) (hM : GM G) (q τ : Nat) (fs : List Value) (hq : w.1 q = some (τ, .inr (8, fs))) : Mt G yX0_taken cX0_taken 2 (some (.object "MoodFare$Corner")) 0 [.ref q, .int (nI 2)] w (qA (.ref q) w) 0 0 := by
  refine Mt.start (by decide) (Nat.le_of_ble_eq_true rfl) (fun k C => ?_)
  have C : Cx G k cX0_taken "MoodFare" "taken" 2 (some (.object "MoodFare$Corner")) 0 0 0 _ := C
  refine j_iload_n C dX0_taken_0 rfl 1 rfl ?_
  refine j_tableIn (off := 45) C 46 dX0_taken_1 (by decide +kernel) (by decide +kernel) (by decide +kernel) (by decide) ?_
  refine j_aload_n C dX0_taken_46 rfl 0 rfl ?_
  refine j_castS (w := w) C (ci := 8) (T := TX9) hq rfl q722 dX0_taken_47 ?_
  exact j_aret C (by first | exact Or.inl ⟨_, rfl⟩ | exact Or.inr ⟨_, rfl⟩) (by first | exact Or.inl rfl | exact Or.inr ⟨_, rfl⟩) (by omega) (by omega) (pA.mk ⟨rfl, rfl⟩) dX0_taken_50
set_option maxHeartbeats 400000 in
theorem kX0_taken_23 (G : gl_T) (w : wd_T) (hG : GH G) (hE : GE G) (hM : GM G) (q τ : Nat) (fs : List Value) (hq : w.1 q = some (τ, .inr (8, fs))) : Mb G yX0_taken cX0_taken 2 (some (.object "MoodFare$Corner")) [] 0 [.ref q, .int (nI 3)] w (qT (w.2 + 2) (mu w.1 (w.2 + 2) (w.2 + 2) (.inr (25, [])), w.2 + 3)) 3 1210 := by
  refine ⟨Nat.le_of_ble_eq_true rfl, fun k C hx => ?_⟩
  have C : Cx G k cX0_taken "MoodFare" "taken" 2 (some (.object "MoodFare$Corner")) 0 3 1210 _ := C
  refine j_iload_n C dX0_taken_0 rfl 1 rfl ?_
  refine j_tableIn (off := 50) C 51 dX0_taken_1 (by decide +kernel) (by decide +kernel) (by decide +kernel) (by decide) ?_
  refine j_aload_n C dX0_taken_51 rfl 0 rfl ?_
  exact j_castX C hE hM hx (by intro x h; simp at h) (w.2 + 2) (Nat.le_of_ble_eq_true rfl) (ci := 8) (cj := 9) hq rfl rfl ((C.xe hE).nc 11 rfl) (by decide +kernel) (by decide) (by decide +kernel) (by decide) q731 dX0_taken_52 (by omega) (by omega) qT.mk
set_option maxHeartbeats 400000 in
theorem kX0_taken_24 (G : gl_T) (w : wd_T) (hG : GH G) (hE : GE G) (hM : GM G) (q τ : Nat) (fs : List Value) (hq : w.1 q = some (τ, .inr (8, fs))) : Mb G yX0_taken cX0_taken 2 (some (.object "MoodFare$Corner")) [] 0 [.ref q, .int (nI 4)] w (qT (w.2 + 2) (mu w.1 (w.2 + 2) (w.2 + 2) (.inr (25, [])), w.2 + 3)) 3 1210 := by
  refine ⟨Nat.le_of_ble_eq_true rfl, fun k C hx => ?_⟩
  have C : Cx G k cX0_taken "MoodFare" "taken" 2 (some (.object "MoodFare$Corner")) 0 3 1210 _ := C
  refine j_iload_n C dX0_taken_0 rfl 1 rfl ?_
  refine j_tableIn (off := 55) C 56 dX0_taken_1 (by decide +kernel) (by decide +kernel) (by decide +kernel) (by decide) ?_
  refine j_aload_n C dX0_taken_56 rfl 0 rfl ?_
  exact j_castX C hE hM hx (by intro x h; simp at h) (w.2 + 2) (Nat.le_of_ble_eq_true rfl) (ci := 8) (cj := 10) hq rfl rfl ((C.xe hE).nc 12 rfl) (by decide +kernel) (by decide) (by decide +kernel) (by decide) q740 dX0_taken_57 (by omega) (by omega) qT.mk
set_option maxHeartbeats 400000 in
theorem kX0_taken_25 (G : gl_T) (w : wd_T) (hG : GH G) (hE : GE G) (hM : GM G) (q τ : Nat) (fs : List Value) (hq : w.1 q = some (τ, .inr (8, fs))) : Mb G yX0_taken cX0_taken 2 (some (.object "MoodFare$Corner")) [] 0 [.ref q, .int (nI 5)] w (qT (w.2 + 2) (mu w.1 (w.2 + 2) (w.2 + 2) (.inr (25, [])), w.2 + 3)) 3 1210 := by
  refine ⟨Nat.le_of_ble_eq_true rfl, fun k C hx => ?_⟩
  have C : Cx G k cX0_taken "MoodFare" "taken" 2 (some (.object "MoodFare$Corner")) 0 3 1210 _ := C
  refine j_iload_n C dX0_taken_0 rfl 1 rfl ?_
  refine j_tableOut C 61 dX0_taken_1 (by decide +kernel) (by decide) ?_
  refine j_aload_n C dX0_taken_61 rfl 0 rfl ?_
  exact j_castX C hE hM hx (by intro x h; simp at h) (w.2 + 2) (Nat.le_of_ble_eq_true rfl) (ci := 8) (cj := 11) hq rfl rfl ((C.xe hE).nc 13 rfl) (by decide +kernel) (by decide) (by decide +kernel) (by decide) q749 dX0_taken_62 (by omega) (by omega) qT.mk
set_option maxHeartbeats 400000 in
theorem kX0_taken_30 (G : gl_T) (w : wd_T) (hG : GH G) (hE : GE G) (hM : GM G) (q τ : Nat) (fs : List Value) (hq : w.1 q = some (τ, .inr (9, fs))) : Mt G yX0_taken cX0_taken 2 (some (.object "MoodFare$Corner")) 0 [.ref q, .int (nI 0)] w (qA (.ref q) w) 0 0 := by
  refine Mt.start (by decide) (Nat.le_of_ble_eq_true rfl) (fun k C => ?_)
  have C : Cx G k cX0_taken "MoodFare" "taken" 2 (some (.object "MoodFare$Corner")) 0 0 0 _ := C
  refine j_iload_n C dX0_taken_0 rfl 1 rfl ?_
  refine j_tableIn (off := 35) C 36 dX0_taken_1 (by decide +kernel) (by decide +kernel) (by decide +kernel) (by decide) ?_
  refine j_aload_n C dX0_taken_36 rfl 0 rfl ?_
  refine j_castY (w := w) C (ci := 9) (T := TX10) hq rfl q988 (C.nw hG q1891 rfl) dX0_taken_37 ?_
  exact j_aret C (by first | exact Or.inl ⟨_, rfl⟩ | exact Or.inr ⟨_, rfl⟩) (by first | exact Or.inl rfl | exact Or.inr ⟨_, rfl⟩) (by omega) (by omega) (pA.mk ⟨rfl, rfl⟩) dX0_taken_40
set_option maxHeartbeats 400000 in
theorem kX0_taken_31 (G : gl_T) (w : wd_T) (hG : GH G) (hE : GE G) (hM : GM G) (q τ : Nat) (fs : List Value) (hq : w.1 q = some (τ, .inr (9, fs))) : Mt G yX0_taken cX0_taken 2 (some (.object "MoodFare$Corner")) 0 [.ref q, .int (nI 1)] w (qA (.ref q) w) 0 0 := by
  refine Mt.start (by decide) (Nat.le_of_ble_eq_true rfl) (fun k C => ?_)
  have C : Cx G k cX0_taken "MoodFare" "taken" 2 (some (.object "MoodFare$Corner")) 0 0 0 _ := C
  refine j_iload_n C dX0_taken_0 rfl 1 rfl ?_
  refine j_tableIn (off := 40) C 41 dX0_taken_1 (by decide +kernel) (by decide +kernel) (by decide +kernel) (by decide) ?_
  refine j_aload_n C dX0_taken_41 rfl 0 rfl ?_
  refine j_castY (w := w) C (ci := 9) (T := TX10) hq rfl q706 (C.nw hG q1895 rfl) dX0_taken_42 ?_
  exact j_aret C (by first | exact Or.inl ⟨_, rfl⟩ | exact Or.inr ⟨_, rfl⟩) (by first | exact Or.inl rfl | exact Or.inr ⟨_, rfl⟩) (by omega) (by omega) (pA.mk ⟨rfl, rfl⟩) dX0_taken_45
set_option maxHeartbeats 400000 in
theorem kX0_taken_32 (G : gl_T) (w : wd_T) (hG : GH G) (hE : GE G) (hM : GM G) (q τ : Nat) (fs : List Value) (hq : w.1 q = some (τ, .inr (9, fs))) : Mb G yX0_taken cX0_taken 2 (some (.object "MoodFare$Corner")) [] 0 [.ref q, .int (nI 2)] w (qT (w.2 + 2) (mu w.1 (w.2 + 2) (w.2 + 2) (.inr (25, [])), w.2 + 3)) 3 1210 := by
  refine ⟨Nat.le_of_ble_eq_true rfl, fun k C hx => ?_⟩
  have C : Cx G k cX0_taken "MoodFare" "taken" 2 (some (.object "MoodFare$Corner")) 0 3 1210 _ := C
  refine j_iload_n C dX0_taken_0 rfl 1 rfl ?_
  refine j_tableIn (off := 45) C 46 dX0_taken_1 (by decide +kernel) (by decide +kernel) (by decide +kernel) (by decide) ?_
  refine j_aload_n C dX0_taken_46 rfl 0 rfl ?_
  exact j_castX C hE hM hx (by intro x h; simp at h) (w.2 + 2) (Nat.le_of_ble_eq_true rfl) (ci := 9) (cj := 8) hq rfl rfl ((C.xe hE).nc 14 rfl) (by decide +kernel) (by decide) (by decide +kernel) (by decide) q722 dX0_taken_47 (by omega) (by omega) qT.mk
set_option maxHeartbeats 400000 in
theorem kX0_taken_33 (G : gl_T) (w : wd_T) (hG : GH G) (hE : GE G) (hM : GM G) (q τ : Nat) (fs : List Value) (hq : w.1 q = some (τ, .inr (9, fs))) : Mt G yX0_taken cX0_taken 2 (some (.object "MoodFare$Corner")) 0 [.ref q, .int (nI 3)] w (qA (.ref q) w) 0 0 := by
  refine Mt.start (by decide) (Nat.le_of_ble_eq_true rfl) (fun k C => ?_)
  have C : Cx G k cX0_taken "MoodFare" "taken" 2 (some (.object "MoodFare$Corner")) 0 0 0 _ := C
  refine j_iload_n C dX0_taken_0 rfl 1 rfl ?_
  refine j_tableIn (off := 50) C 51 dX0_taken_1 (by decide +kernel) (by decide +kernel) (by decide +kernel) (by decide) ?_
  refine j_aload_n C dX0_taken_51 rfl 0 rfl ?_
  refine j_castS (w := w) C (ci := 9) (T := TX10) hq rfl q731 dX0_taken_52 ?_
  exact j_aret C (by first | exact Or.inl ⟨_, rfl⟩ | exact Or.inr ⟨_, rfl⟩) (by first | exact Or.inl rfl | exact Or.inr ⟨_, rfl⟩) (by omega) (by omega) (pA.mk ⟨rfl, rfl⟩) dX0_taken_55
set_option maxHeartbeats 400000 in
theorem kX0_taken_34 (G : gl_T) (w : wd_T) (hG : GH G) (hE : GE G) (hM : GM G) (q τ : Nat) (fs : List Value) (hq : w.1 q = some (τ, .inr (9, fs))) : Mb G yX0_taken cX0_taken 2 (some (.object "MoodFare$Corner")) [] 0 [.ref q, .int (nI 4)] w (qT (w.2 + 2) (mu w.1 (w.2 + 2) (w.2 + 2) (.inr (25, [])), w.2 + 3)) 3 1210 := by
  refine ⟨Nat.le_of_ble_eq_true rfl, fun k C hx => ?_⟩
  have C : Cx G k cX0_taken "MoodFare" "taken" 2 (some (.object "MoodFare$Corner")) 0 3 1210 _ := C
  refine j_iload_n C dX0_taken_0 rfl 1 rfl ?_
  refine j_tableIn (off := 55) C 56 dX0_taken_1 (by decide +kernel) (by decide +kernel) (by decide +kernel) (by decide) ?_
  refine j_aload_n C dX0_taken_56 rfl 0 rfl ?_
  exact j_castX C hE hM hx (by intro x h; simp at h) (w.2 + 2) (Nat.le_of_ble_eq_true rfl) (ci := 9) (cj := 10) hq rfl rfl ((C.xe hE).nc 15 rfl) (by decide +kernel) (by decide) (by decide +kernel) (by decide) q740 dX0_taken_57 (by omega) (by omega) qT.mk
set_option maxHeartbeats 400000 in
theorem kX0_taken_35 (G : gl_T) (w : wd_T) (hG : GH G) (hE : GE G) (hM : GM G) (q τ : Nat) (fs : List Value) (hq : w.1 q = some (τ, .inr (9, fs))) : Mb G yX0_taken cX0_taken 2 (some (.object "MoodFare$Corner")) [] 0 [.ref q, .int (nI 5)] w (qT (w.2 + 2) (mu w.1 (w.2 + 2) (w.2 + 2) (.inr (25, [])), w.2 + 3)) 3 1210 := by
  refine ⟨Nat.le_of_ble_eq_true rfl, fun k C hx => ?_⟩
  have C : Cx G k cX0_taken "MoodFare" "taken" 2 (some (.object "MoodFare$Corner")) 0 3 1210 _ := C
  refine j_iload_n C dX0_taken_0 rfl 1 rfl ?_
  refine j_tableOut C 61 dX0_taken_1 (by decide +kernel) (by decide) ?_
  refine j_aload_n C dX0_taken_61 rfl 0 rfl ?_
  exact j_castX C hE hM hx (by intro x h; simp at h) (w.2 + 2) (Nat.le_of_ble_eq_true rfl) (ci := 9) (cj := 11) hq rfl rfl ((C.xe hE).nc 16 rfl) (by decide +kernel) (by decide) (by decide +kernel) (by decide) q749 dX0_taken_62 (by omega) (by omega) qT.mk
set_option maxHeartbeats 400000 in
theorem kX0_taken_40 (G : gl_T) (w : wd_T) (hG : GH G) (hE : GE G) (hM : GM G) (q τ : Nat) (fs : List Value) (hq : w.1 q = some (τ, .inr (10, fs))) : Mt G yX0_taken cX0_taken 2 (some (.object "MoodFare$Corner")) 0 [.ref q, .int (nI 0)] w (qA (.ref q) w) 0 0 := by
  refine Mt.start (by decide) (Nat.le_of_ble_eq_true rfl) (fun k C => ?_)
  have C : Cx G k cX0_taken "MoodFare" "taken" 2 (some (.object "MoodFare$Corner")) 0 0 0 _ := C
  refine j_iload_n C dX0_taken_0 rfl 1 rfl ?_
  refine j_tableIn (off := 35) C 36 dX0_taken_1 (by decide +kernel) (by decide +kernel) (by decide +kernel) (by decide) ?_
  refine j_aload_n C dX0_taken_36 rfl 0 rfl ?_
  refine j_castY (w := w) C (ci := 10) (T := TX11) hq rfl q988 (C.nw hG q1890 rfl) dX0_taken_37 ?_
  exact j_aret C (by first | exact Or.inl ⟨_, rfl⟩ | exact Or.inr ⟨_, rfl⟩) (by first | exact Or.inl rfl | exact Or.inr ⟨_, rfl⟩) (by omega) (by omega) (pA.mk ⟨rfl, rfl⟩) dX0_taken_40
set_option maxHeartbeats 400000 in
theorem kX0_taken_41 (G : gl_T) (w : wd_T) (hG : GH G) (hE : GE G) (hM : GM G) (q τ : Nat) (fs : List Value) (hq : w.1 q = some (τ, .inr (10, fs))) : Mb G yX0_taken cX0_taken 2 (some (.object "MoodFare$Corner")) [] 0 [.ref q, .int (nI 1)] w (qT (w.2 + 2) (mu w.1 (w.2 + 2) (w.2 + 2) (.inr (25, [])), w.2 + 3)) 3 1210 := by
  refine ⟨Nat.le_of_ble_eq_true rfl, fun k C hx => ?_⟩
  have C : Cx G k cX0_taken "MoodFare" "taken" 2 (some (.object "MoodFare$Corner")) 0 3 1210 _ := C
  refine j_iload_n C dX0_taken_0 rfl 1 rfl ?_
  refine j_tableIn (off := 40) C 41 dX0_taken_1 (by decide +kernel) (by decide +kernel) (by decide +kernel) (by decide) ?_
  refine j_aload_n C dX0_taken_41 rfl 0 rfl ?_
  exact j_castX C hE hM hx (by intro x h; simp at h) (w.2 + 2) (Nat.le_of_ble_eq_true rfl) (ci := 10) (cj := 7) hq rfl rfl ((C.xe hE).nc 17 rfl) (by decide +kernel) (by decide) (by decide +kernel) (by decide) q706 dX0_taken_42 (by omega) (by omega) qT.mk
set_option maxHeartbeats 400000 in
theorem kX0_taken_42 (G : gl_T) (w : wd_T) (hG : GH G) (hE : GE G) (hM : GM G) (q τ : Nat) (fs : List Value) (hq : w.1 q = some (τ, .inr (10, fs))) : Mb G yX0_taken cX0_taken 2 (some (.object "MoodFare$Corner")) [] 0 [.ref q, .int (nI 2)] w (qT (w.2 + 2) (mu w.1 (w.2 + 2) (w.2 + 2) (.inr (25, [])), w.2 + 3)) 3 1210 := by
  refine ⟨Nat.le_of_ble_eq_true rfl, fun k C hx => ?_⟩
  have C : Cx G k cX0_taken "MoodFare" "taken" 2 (some (.object "MoodFare$Corner")) 0 3 1210 _ := C
  refine j_iload_n C dX0_taken_0 rfl 1 rfl ?_
  refine j_tableIn (off := 45) C 46 dX0_taken_1 (by decide +kernel) (by decide +kernel) (by decide +kernel) (by decide) ?_
  refine j_aload_n C dX0_taken_46 rfl 0 rfl ?_
  exact j_castX C hE hM hx (by intro x h; simp at h) (w.2 + 2) (Nat.le_of_ble_eq_true rfl) (ci := 10) (cj := 8) hq rfl rfl ((C.xe hE).nc 18 rfl) (by decide +kernel) (by decide) (by decide +kernel) (by decide) q722 dX0_taken_47 (by omega) (by omega) qT.mk
set_option maxHeartbeats 400000 in
theorem kX0_taken_43 (G : gl_T) (w : wd_T) (hG : GH G) (hE : GE G) (hM : GM G) (q τ : Nat) (fs : List Value) (hq : w.1 q = some (τ, .inr (10, fs))) : Mb G yX0_taken cX0_taken 2 (some (.object "MoodFare$Corner")) [] 0 [.ref q, .int (nI 3)] w (qT (w.2 + 2) (mu w.1 (w.2 + 2) (w.2 + 2) (.inr (25, [])), w.2 + 3)) 3 1210 := by
  refine ⟨Nat.le_of_ble_eq_true rfl, fun k C hx => ?_⟩
  have C : Cx G k cX0_taken "MoodFare" "taken" 2 (some (.object "MoodFare$Corner")) 0 3 1210 _ := C
  refine j_iload_n C dX0_taken_0 rfl 1 rfl ?_
  refine j_tableIn (off := 50) C 51 dX0_taken_1 (by decide +kernel) (by decide +kernel) (by decide +kernel) (by decide) ?_
  refine j_aload_n C dX0_taken_51 rfl 0 rfl ?_
  exact j_castX C hE hM hx (by intro x h; simp at h) (w.2 + 2) (Nat.le_of_ble_eq_true rfl) (ci := 10) (cj := 9) hq rfl rfl ((C.xe hE).nc 19 rfl) (by decide +kernel) (by decide) (by decide +kernel) (by decide) q731 dX0_taken_52 (by omega) (by omega) qT.mk
set_option maxHeartbeats 400000 in
theorem kX0_taken_44 (G : gl_T) (w : wd_T) (hG : GH G) (hE : GE G) (hM : GM G) (q τ : Nat) (fs : List Value) (hq : w.1 q = some (τ, .inr (10, fs))) : Mt G yX0_taken cX0_taken 2 (some (.object "MoodFare$Corner")) 0 [.ref q, .int (nI 4)] w (qA (.ref q) w) 0 0 := by
  refine Mt.start (by decide) (Nat.le_of_ble_eq_true rfl) (fun k C => ?_)
  have C : Cx G k cX0_taken "MoodFare" "taken" 2 (some (.object "MoodFare$Corner")) 0 0 0 _ := C
  refine j_iload_n C dX0_taken_0 rfl 1 rfl ?_
  refine j_tableIn (off := 55) C 56 dX0_taken_1 (by decide +kernel) (by decide +kernel) (by decide +kernel) (by decide) ?_
  refine j_aload_n C dX0_taken_56 rfl 0 rfl ?_
  refine j_castS (w := w) C (ci := 10) (T := TX11) hq rfl q740 dX0_taken_57 ?_
  exact j_aret C (by first | exact Or.inl ⟨_, rfl⟩ | exact Or.inr ⟨_, rfl⟩) (by first | exact Or.inl rfl | exact Or.inr ⟨_, rfl⟩) (by omega) (by omega) (pA.mk ⟨rfl, rfl⟩) dX0_taken_60
set_option maxHeartbeats 400000 in
theorem kX0_taken_45 (G : gl_T) (w : wd_T) (hG : GH G) (hE : GE G) (hM : GM G) (q τ : Nat) (fs : List Value) (hq : w.1 q = some (τ, .inr (10, fs))) : Mb G yX0_taken cX0_taken 2 (some (.object "MoodFare$Corner")) [] 0 [.ref q, .int (nI 5)] w (qT (w.2 + 2) (mu w.1 (w.2 + 2) (w.2 + 2) (.inr (25, [])), w.2 + 3)) 3 1210 := by
  refine ⟨Nat.le_of_ble_eq_true rfl, fun k C hx => ?_⟩
  have C : Cx G k cX0_taken "MoodFare" "taken" 2 (some (.object "MoodFare$Corner")) 0 3 1210 _ := C
  refine j_iload_n C dX0_taken_0 rfl 1 rfl ?_
  refine j_tableOut C 61 dX0_taken_1 (by decide +kernel) (by decide) ?_
  refine j_aload_n C dX0_taken_61 rfl 0 rfl ?_
  exact j_castX C hE hM hx (by intro x h; simp at h) (w.2 + 2) (Nat.le_of_ble_eq_true rfl) (ci := 10) (cj := 11) hq rfl rfl ((C.xe hE).nc 20 rfl) (by decide +kernel) (by decide) (by decide +kernel) (by decide) q749 dX0_taken_62 (by omega) (by omega) qT.mk
set_option maxHeartbeats 400000 in
theorem kX0_taken_50 (G : gl_T) (w : wd_T) (hG : GH G) (hE : GE G) (hM : GM G) (q τ : Nat) (fs : List Value) (hq : w.1 q = some (τ, .inr (11, fs))) : Mt G yX0_taken cX0_taken 2 (some (.object "MoodFare$Corner")) 0 [.ref q, .int (nI 0)] w (qA (.ref q) w) 0 0 := by
  refine Mt.start (by decide) (Nat.le_of_ble_eq_true rfl) (fun k C => ?_)
  have C : Cx G k cX0_taken "MoodFare" "taken" 2 (some (.object "MoodFare$Corner")) 0 0 0 _ := C
  refine j_iload_n C dX0_taken_0 rfl 1 rfl ?_
  refine j_tableIn (off := 35) C 36 dX0_taken_1 (by decide +kernel) (by decide +kernel) (by decide +kernel) (by decide) ?_
  refine j_aload_n C dX0_taken_36 rfl 0 rfl ?_
  refine j_castY (w := w) C (ci := 11) (T := TX12) hq rfl q988 (C.nw hG q1894 rfl) dX0_taken_37 ?_
  exact j_aret C (by first | exact Or.inl ⟨_, rfl⟩ | exact Or.inr ⟨_, rfl⟩) (by first | exact Or.inl rfl | exact Or.inr ⟨_, rfl⟩) (by omega) (by omega) (pA.mk ⟨rfl, rfl⟩) dX0_taken_40
set_option maxHeartbeats 400000 in
theorem kX0_taken_51 (G : gl_T) (w : wd_T) (hG : GH G) (hE : GE G) (hM : GM G) (q τ : Nat) (fs : List Value) (hq : w.1 q = some (τ, .inr (11, fs))) : Mb G yX0_taken cX0_taken 2 (some (.object "MoodFare$Corner")) [] 0 [.ref q, .int (nI 1)] w (qT (w.2 + 2) (mu w.1 (w.2 + 2) (w.2 + 2) (.inr (25, [])), w.2 + 3)) 3 1210 := by
  refine ⟨Nat.le_of_ble_eq_true rfl, fun k C hx => ?_⟩
  have C : Cx G k cX0_taken "MoodFare" "taken" 2 (some (.object "MoodFare$Corner")) 0 3 1210 _ := C
  refine j_iload_n C dX0_taken_0 rfl 1 rfl ?_
  refine j_tableIn (off := 40) C 41 dX0_taken_1 (by decide +kernel) (by decide +kernel) (by decide +kernel) (by decide) ?_
  refine j_aload_n C dX0_taken_41 rfl 0 rfl ?_
  exact j_castX C hE hM hx (by intro x h; simp at h) (w.2 + 2) (Nat.le_of_ble_eq_true rfl) (ci := 11) (cj := 7) hq rfl rfl ((C.xe hE).nc 21 rfl) (by decide +kernel) (by decide) (by decide +kernel) (by decide) q706 dX0_taken_42 (by omega) (by omega) qT.mk
set_option maxHeartbeats 400000 in
theorem kX0_taken_52 (G : gl_T) (w : wd_T) (hG : GH G) (hE : GE G) (hM : GM G) (q τ : Nat) (fs : List Value) (hq : w.1 q = some (τ, .inr (11, fs))) : Mb G yX0_taken cX0_taken 2 (some (.object "MoodFare$Corner")) [] 0 [.ref q, .int (nI 2)] w (qT (w.2 + 2) (mu w.1 (w.2 + 2) (w.2 + 2) (.inr (25, [])), w.2 + 3)) 3 1210 := by
  refine ⟨Nat.le_of_ble_eq_true rfl, fun k C hx => ?_⟩
  have C : Cx G k cX0_taken "MoodFare" "taken" 2 (some (.object "MoodFare$Corner")) 0 3 1210 _ := C
  refine j_iload_n C dX0_taken_0 rfl 1 rfl ?_
  refine j_tableIn (off := 45) C 46 dX0_taken_1 (by decide +kernel) (by decide +kernel) (by decide +kernel) (by decide) ?_
  refine j_aload_n C dX0_taken_46 rfl 0 rfl ?_
  exact j_castX C hE hM hx (by intro x h; simp at h) (w.2 + 2) (Nat.le_of_ble_eq_true rfl) (ci := 11) (cj := 8) hq rfl rfl ((C.xe hE).nc 22 rfl) (by decide +kernel) (by decide) (by decide +kernel) (by decide) q722 dX0_taken_47 (by omega) (by omega) qT.mk
set_option maxHeartbeats 400000 in
theorem kX0_taken_53 (G : gl_T) (w : wd_T) (hG : GH G) (hE : GE G) (hM : GM G) (q τ : Nat) (fs : List Value) (hq : w.1 q = some (τ, .inr (11, fs))) : Mb G yX0_taken cX0_taken 2 (some (.object "MoodFare$Corner")) [] 0 [.ref q, .int (nI 3)] w (qT (w.2 + 2) (mu w.1 (w.2 + 2) (w.2 + 2) (.inr (25, [])), w.2 + 3)) 3 1210 := by
  refine ⟨Nat.le_of_ble_eq_true rfl, fun k C hx => ?_⟩
  have C : Cx G k cX0_taken "MoodFare" "taken" 2 (some (.object "MoodFare$Corner")) 0 3 1210 _ := C
  refine j_iload_n C dX0_taken_0 rfl 1 rfl ?_
  refine j_tableIn (off := 50) C 51 dX0_taken_1 (by decide +kernel) (by decide +kernel) (by decide +kernel) (by decide) ?_
  refine j_aload_n C dX0_taken_51 rfl 0 rfl ?_
  exact j_castX C hE hM hx (by intro x h; simp at h) (w.2 + 2) (Nat.le_of_ble_eq_true rfl) (ci := 11) (cj := 9) hq rfl rfl ((C.xe hE).nc 23 rfl) (by decide +kernel) (by decide) (by decide +kernel) (by decide) q731 dX0_taken_52 (by omega) (by omega) qT.mk
set_option maxHeartbeats 400000 in
theorem kX0_taken_54 (G : gl_T) (w : wd_T) (hG : GH G) (hE : GE G) (hM : GM G) (q τ : Nat) (fs : List Value) (hq : w.1 q = some (τ, .inr (11, fs))) : Mt G yX0_taken cX0_taken 2 (some (.object "MoodFare$Corner")) 0 [.ref q, .int (nI 4)] w (qA (.ref q) w) 0 0 := by
  refine Mt.start (by decide) (Nat.le_of_ble_eq_true rfl) (fun k C => ?_)
  have C : Cx G k cX0_taken "MoodFare" "taken" 2 (some (.object "MoodFare$Corner")) 0 0 0 _ := C
  refine j_iload_n C dX0_taken_0 rfl 1 rfl ?_
  refine j_tableIn (off := 55) C 56 dX0_taken_1 (by decide +kernel) (by decide +kernel) (by decide +kernel) (by decide) ?_
  refine j_aload_n C dX0_taken_56 rfl 0 rfl ?_
  refine j_castY (w := w) C (ci := 11) (T := TX12) hq rfl q740 (C.nw hG q1897 rfl) dX0_taken_57 ?_
  exact j_aret C (by first | exact Or.inl ⟨_, rfl⟩ | exact Or.inr ⟨_, rfl⟩) (by first | exact Or.inl rfl | exact Or.inr ⟨_, rfl⟩) (by omega) (by omega) (pA.mk ⟨rfl, rfl⟩) dX0_taken_60
set_option maxHeartbeats 400000 in
theorem kX0_taken_55 (G : gl_T) (w : wd_T) (hG : GH G) (hE : GE G) (hM : GM G) (q τ : Nat) (fs : List Value) (hq : w.1 q = some (τ, .inr (11, fs))) : Mt G yX0_taken cX0_taken 2 (some (.object "MoodFare$Corner")) 0 [.ref q, .int (nI 5)] w (qA (.ref q) w) 0 0 := by
  refine Mt.start (by decide) (Nat.le_of_ble_eq_true rfl) (fun k C => ?_)
  have C : Cx G k cX0_taken "MoodFare" "taken" 2 (some (.object "MoodFare$Corner")) 0 0 0 _ := C
  refine j_iload_n C dX0_taken_0 rfl 1 rfl ?_
  refine j_tableOut C 61 dX0_taken_1 (by decide +kernel) (by decide) ?_
  refine j_aload_n C dX0_taken_61 rfl 0 rfl ?_
  refine j_castS (w := w) C (ci := 11) (T := TX12) hq rfl q749 dX0_taken_62 ?_
  exact j_aret C (by first | exact Or.inl ⟨_, rfl⟩ | exact Or.inr ⟨_, rfl⟩) (by first | exact Or.inl rfl | exact Or.inr ⟨_, rfl⟩) (by omega) (by omega) (pA.mk ⟨rfl, rfl⟩) dX0_taken_65
set_option maxHeartbeats 1000000 in
theorem kX0_as (G : gl_T) (hG : GH G) (w0 w : wd_T) (x : Nat) (O : Nat → Prop) (V : fv_T) (Z : fz_T) (hF : FX G w0 w x O V Z) (hE : GE G) (hM : GM G) (y z : Int32) (h6 : V.2.1 6 ≤ 6) (P : Int32 → fv_T → Prop) (h1 : inB y (nI 0) (nI (V.2.1 6) - nI 1) = false ∨ inB z (nI 0) (nI 5) = false → P kBAD V) (h2 : ∀ j u, y = nI j → j < V.2.1 6 → z = nI u → u ≤ 5 → asB u (V.2.1 (7 + 3 * j)) = true → P (nI j) (vN V 3 0)) (h3 : ∀ j u, y = nI j → j < V.2.1 6 → z = nI u → u ≤ 5 → asB u (V.2.1 (7 + 3 * j)) = false → P ((-1000010) - nI 3) (vN V 3 3)) : Mb G yX0_as cX0_as 4 (some .int) [(23, 47, 48, 370)] 4 [.ref x, .int y, .int z] w (fC G w0 x O P) 3 1210 := by
  refine ⟨Nat.le_of_ble_eq_true rfl, fun k C hx => ?_⟩
  have C : Cx G k cX0_as "MoodFare" "as" 4 (some .int) 4 3 1210 _ := C
  obtain ⟨W, hA, hv⟩ := id hF
  refine j_aload_n C dX0_as_0 rfl 0 rfl ?_
  refine j_iload_n C dX0_as_1 rfl 1 rfl ?_
  refine j_callV (w := w) C (kX0_isCorner G hG w0 w x O V Z ⟨W, hA, hv⟩ y) pI.ret (ci := 0) (T := TX0) (hA.d0 hv) rfl 1 q956 q958 qs20 q66 q959 (by decide +kernel) rfl (by decide) (by decide) (Nat.le_of_ble_eq_true rfl) rfl dX0_as_2 (by omega) (by omega) (qI.k ?_)
  refine j_if_eqB C 20 dX0_as_5 (by decide) (fun c5 => ?_) (fun c5 => ?_)
  · refine j_ldc C q391 dX0_as_20 ?_
    exact j_iret C (by omega) (by omega) (fC.mk ⟨W, hA, hv⟩ (h1 (Or.inl c5))) dX0_as_22
  · obtain ⟨j, rfl, hj⟩ := inB_p (by omega) c5
    refine j_iload_n C dX0_as_8 rfl 2 rfl ?_
    refine j_i2l C dX0_as_9 ?_
    refine j_lconst (v := (nI 0).toInt64) C dX0_as_10 (by decide +kernel) ?_
    refine j_ldc2 C q1328 dX0_as_11 ?_
    refine j_asl (y := (nI 5).toInt64) (by decide +kernel) ?_
    refine j_callS (w := w) C (kX0_isIn G w z ((nI 0)) ((nI 5))) pI.ret 3 q387 q388 q66 q389 (by decide +kernel) rfl (by decide) (by decide) (Nat.le_of_ble_eq_true rfl) rfl dX0_as_14 (by omega) (by omega) (qI.k ?_)
    refine j_if_neB C 23 dX0_as_17 (by decide) (fun c17 => ?_) (fun c17 => ?_)
    · obtain ⟨u, rfl, -, hu⟩ := inB_n (by decide) c17 (by decide)
      refine j_aload_n C dX0_as_23 rfl 0 rfl ?_
      refine j_aload_n C dX0_as_24 rfl 0 rfl ?_
      refine j_get (w := w) C in_X0 (ci := 0) (T := TX0) rfl (hA.d0 hv) 4 (by decide) q251 (fun _ z => z) (v := .ref (x + 11)) rfl dX0_as_25 ?_
      refine j_get (w := w) C in_X2 (ci := 2) (T := TX2) rfl (hA.s0 (V := V) hv).1 5 (by decide) q187 (fun _ z => z) (v := .ref (x + 11 + 1)) rfl dX0_as_28 ?_
      refine j_iload_n C dX0_as_31 rfl 1 rfl ?_
      obtain ⟨o0_0h0, ⟨o0_0e, o0_0md, o0_0h1, o0_0h2⟩, ⟨o0_0fm, o0_0hm, o0_0vm⟩, ⟨o0_0ff, o0_0hf, o0_0vf⟩, ⟨o0_0ft, o0_0ho, o0_0vo⟩, o0_0h6, o0_0hk⟩ := id (hA.s0 (V := V) hv)
      obtain ⟨q1, hq1, gq1⟩ := tn_get (hA.s0 (V := V) hv) j (by omega)
      refine j_callF (w := w) C (gq1) pA.ret (ci := 20) (T := TJ2) o0_0h1 rfl 1 (C.fw hG ⟨q856, q855, q860, q858, q697, by decide⟩) q987 q857 q859 q71 q861 (by decide +kernel) rfl (by decide) (by decide) (Nat.le_of_ble_eq_true rfl) rfl dX0_as_32 (by omega) (by omega) (qA.k ?_)
      refine j_iload_n C dX0_as_37 rfl 2 rfl ?_
      rcases (show V.2.1 (7 + 3 * j) = 1 ∨ V.2.1 (7 + 3 * j) = 2 ∨ V.2.1 (7 + 3 * j) = 3 ∨ V.2.1 (7 + 3 * j) = 4 ∨ V.2.1 (7 + 3 * j) = 5 by have := (hA.s0 (V := V) hv).2.2.2.2.2.2 j (by omega); omega) with kq1 | kq1 | kq1 | kq1 | kq1
      · have hq1k : w.1 q1 = some (q1, .inr (7, [.int (nI j), .int (nI (V.2.1 (7 + 3 * j + 2)))])) := by have z := hq1; unfold CE at z; rw [kq1] at z; exact z
        rcases (show u = 0 ∨ u = 1 ∨ u = 2 ∨ u = 3 ∨ u = 4 ∨ u = 5 by omega) with rfl | rfl | rfl | rfl | rfl | rfl
        · refine j_callS (w := w) C (kX0_taken_10 G w hG hE hM q1 q1 _ hq1k) pA.ret 2 q1329 q1330 q66 q1331 (by decide +kernel) rfl (by decide) (by decide) (Nat.le_of_ble_eq_true rfl) rfl dX0_as_38 (by omega) (by omega) (qA.k ?_)
          refine j_callA (w := w) C (kX7_number_7 G w q1 q1 (nI j) (nI (V.2.1 (7 + 3 * j + 2))) hq1k) pI.ret (x := (⟨"MoodFare$Corner", "number", "()I"⟩ : MethodName)) (owner := "MoodFare$Corner") (ci := 7) (T := TX8) hq1k rfl 0 (va_Decl.of (C.hts _ q1333) (C.hts _ q1340)) q1332 q1334 q1337 q1333 q91 q1340 (by decide +kernel) rfl (by decide) (by decide) (Nat.le_of_ble_eq_true rfl) rfl dX0_as_41 (by omega) (by omega) (qI.k ?_)
          refine j_callV (w := w) C (kX0_well G hG w0 w x O V Z ⟨W, hA, hv⟩ (nI j)) pI.ret (ci := 0) (T := TX0) (hA.d0 hv) rfl 1 q395 q397 qs2 q66 q398 (by decide +kernel) rfl (by decide) (by decide) (Nat.le_of_ble_eq_true rfl) rfl dX0_as_44 (by omega) (by omega) (pI.k (fun r2 w2 h2 => ?_))
          obtain ⟨hr2, h2⟩ := h2
          subst hr2
          obtain ⟨W2, hA2, hv2⟩ := h2
          exact j_iret C (by omega) (by omega) (fC.mk ⟨W2, hA2, hv2⟩ (h2 j 0 rfl hj rfl (by omega) (by rw [kq1]; decide))) dX0_as_47
        · refine j_callS (w := w) C (kX0_taken_11 G w hG hE hM q1 q1 _ hq1k) pA.ret 2 q1329 q1330 q66 q1331 (by decide +kernel) rfl (by decide) (by decide) (Nat.le_of_ble_eq_true rfl) rfl dX0_as_38 (by omega) (by omega) (qA.k ?_)
          refine j_callA (w := w) C (kX7_number_7 G w q1 q1 (nI j) (nI (V.2.1 (7 + 3 * j + 2))) hq1k) pI.ret (x := (⟨"MoodFare$Corner", "number", "()I"⟩ : MethodName)) (owner := "MoodFare$Corner") (ci := 7) (T := TX8) hq1k rfl 0 (va_Decl.of (C.hts _ q1333) (C.hts _ q1340)) q1332 q1334 q1337 q1333 q91 q1340 (by decide +kernel) rfl (by decide) (by decide) (Nat.le_of_ble_eq_true rfl) rfl dX0_as_41 (by omega) (by omega) (qI.k ?_)
          refine j_callV (w := w) C (kX0_well G hG w0 w x O V Z ⟨W, hA, hv⟩ (nI j)) pI.ret (ci := 0) (T := TX0) (hA.d0 hv) rfl 1 q395 q397 qs2 q66 q398 (by decide +kernel) rfl (by decide) (by decide) (Nat.le_of_ble_eq_true rfl) rfl dX0_as_44 (by omega) (by omega) (pI.k (fun r3 w3 h3 => ?_))
          obtain ⟨hr3, h3⟩ := h3
          subst hr3
          obtain ⟨W3, hA3, hv3⟩ := h3
          exact j_iret C (by omega) (by omega) (fC.mk ⟨W3, hA3, hv3⟩ (h2 j 1 rfl hj rfl (by omega) (by rw [kq1]; decide))) dX0_as_47
        · refine j_in (w := w) C (iv_S C (Or.inr ⟨rfl, q1331⟩) 2 q1329 q1330 q66 (by decide +kernel) rfl rfl dX0_as_38) (kX0_taken_12 G w hG hE hM q1 q1 _ hq1k) (Or.inr ⟨rfl, q1331⟩) (by decide +kernel) (by decide) (by decide) (Nat.le_of_ble_eq_true rfl) (by omega) (by omega) (fun v w1 h1 => h1.no) ?_
          rintro a1 w1 ⟨h1, rfl⟩
          cases h1
          refine jt_catch C hx (ci := 25) mu_s rfl 48 (Or.inr (Or.inl ⟨by decide, rfl, Or.inr ⟨by decide, _, q1314, CA.of (C.nw hG q1326 rfl)⟩⟩)) ?_
          refine j_abs (P := fun w' => FX G w0 w' x O V Z) (FX.newc ⟨W, hA, hv⟩ 2 (w.2 + 2) (.inr (25, []))) (fun w5 h5 => ?_)
          obtain ⟨W5, hA5, hv5⟩ := h5
          refine j_astore_n (lv' := [(3, .ref (w.2 + 2)), (0, .ref x), (1, .int (nI j)), (2, .int (nI 2))]) C dX0_as_48 rfl (by decide) rfl ?_
          refine j_aload_n C dX0_as_49 rfl 1 rfl ?_
          refine j_iconst (v := nI 3) C dX0_as_50 rfl ?_
          refine j_callV (w := w5) C (kX0_found G hG w0 w5 x O V Z ⟨W5, hA5, hv5⟩ 3) pI.ret (ci := 0) (T := TX0) (hA5.d0 hv5) rfl 1 q399 q401 qs3 q66 q402 (by decide +kernel) rfl (by decide) (by decide) (Nat.le_of_ble_eq_true rfl) rfl dX0_as_51 (by omega) (by omega) (pI.k (fun r6 w6 h6 => ?_))
          obtain ⟨hr6, h6⟩ := h6
          subst hr6
          obtain ⟨W6, hA6, hv6⟩ := h6
          exact j_iret C (by omega) (by omega) (fC.mk ⟨W6, hA6, hv6⟩ (h3 j 2 rfl hj rfl (by omega) (by rw [kq1]; decide))) dX0_as_54
        · refine j_in (w := w) C (iv_S C (Or.inr ⟨rfl, q1331⟩) 2 q1329 q1330 q66 (by decide +kernel) rfl rfl dX0_as_38) (kX0_taken_13 G w hG hE hM q1 q1 _ hq1k) (Or.inr ⟨rfl, q1331⟩) (by decide +kernel) (by decide) (by decide) (Nat.le_of_ble_eq_true rfl) (by omega) (by omega) (fun v w1 h1 => h1.no) ?_
          rintro a1 w1 ⟨h1, rfl⟩
          cases h1
          refine jt_catch C hx (ci := 25) mu_s rfl 48 (Or.inr (Or.inl ⟨by decide, rfl, Or.inr ⟨by decide, _, q1314, CA.of (C.nw hG q1326 rfl)⟩⟩)) ?_
          refine j_abs (P := fun w' => FX G w0 w' x O V Z) (FX.newc ⟨W, hA, hv⟩ 2 (w.2 + 2) (.inr (25, []))) (fun w8 h8 => ?_)
          obtain ⟨W8, hA8, hv8⟩ := h8
          refine j_astore_n (lv' := [(3, .ref (w.2 + 2)), (0, .ref x), (1, .int (nI j)), (2, .int (nI 3))]) C dX0_as_48 rfl (by decide) rfl ?_
          refine j_aload_n C dX0_as_49 rfl 1 rfl ?_
          refine j_iconst (v := nI 3) C dX0_as_50 rfl ?_
          refine j_callV (w := w8) C (kX0_found G hG w0 w8 x O V Z ⟨W8, hA8, hv8⟩ 3) pI.ret (ci := 0) (T := TX0) (hA8.d0 hv8) rfl 1 q399 q401 qs3 q66 q402 (by decide +kernel) rfl (by decide) (by decide) (Nat.le_of_ble_eq_true rfl) rfl dX0_as_51 (by omega) (by omega) (pI.k (fun r9 w9 h9 => ?_))
          obtain ⟨hr9, h9⟩ := h9
          subst hr9
          obtain ⟨W9, hA9, hv9⟩ := h9
          exact j_iret C (by omega) (by omega) (fC.mk ⟨W9, hA9, hv9⟩ (h3 j 3 rfl hj rfl (by omega) (by rw [kq1]; decide))) dX0_as_54
        · refine j_in (w := w) C (iv_S C (Or.inr ⟨rfl, q1331⟩) 2 q1329 q1330 q66 (by decide +kernel) rfl rfl dX0_as_38) (kX0_taken_14 G w hG hE hM q1 q1 _ hq1k) (Or.inr ⟨rfl, q1331⟩) (by decide +kernel) (by decide) (by decide) (Nat.le_of_ble_eq_true rfl) (by omega) (by omega) (fun v w1 h1 => h1.no) ?_
          rintro a1 w1 ⟨h1, rfl⟩
          cases h1
          refine jt_catch C hx (ci := 25) mu_s rfl 48 (Or.inr (Or.inl ⟨by decide, rfl, Or.inr ⟨by decide, _, q1314, CA.of (C.nw hG q1326 rfl)⟩⟩)) ?_
          refine j_abs (P := fun w' => FX G w0 w' x O V Z) (FX.newc ⟨W, hA, hv⟩ 2 (w.2 + 2) (.inr (25, []))) (fun w11 h11 => ?_)
          obtain ⟨W11, hA11, hv11⟩ := h11
          refine j_astore_n (lv' := [(3, .ref (w.2 + 2)), (0, .ref x), (1, .int (nI j)), (2, .int (nI 4))]) C dX0_as_48 rfl (by decide) rfl ?_
          refine j_aload_n C dX0_as_49 rfl 1 rfl ?_
          refine j_iconst (v := nI 3) C dX0_as_50 rfl ?_
          refine j_callV (w := w11) C (kX0_found G hG w0 w11 x O V Z ⟨W11, hA11, hv11⟩ 3) pI.ret (ci := 0) (T := TX0) (hA11.d0 hv11) rfl 1 q399 q401 qs3 q66 q402 (by decide +kernel) rfl (by decide) (by decide) (Nat.le_of_ble_eq_true rfl) rfl dX0_as_51 (by omega) (by omega) (pI.k (fun r12 w12 h12 => ?_))
          obtain ⟨hr12, h12⟩ := h12
          subst hr12
          obtain ⟨W12, hA12, hv12⟩ := h12
          exact j_iret C (by omega) (by omega) (fC.mk ⟨W12, hA12, hv12⟩ (h3 j 4 rfl hj rfl (by omega) (by rw [kq1]; decide))) dX0_as_54
        · refine j_in (w := w) C (iv_S C (Or.inr ⟨rfl, q1331⟩) 2 q1329 q1330 q66 (by decide +kernel) rfl rfl dX0_as_38) (kX0_taken_15 G w hG hE hM q1 q1 _ hq1k) (Or.inr ⟨rfl, q1331⟩) (by decide +kernel) (by decide) (by decide) (Nat.le_of_ble_eq_true rfl) (by omega) (by omega) (fun v w1 h1 => h1.no) ?_
          rintro a1 w1 ⟨h1, rfl⟩
          cases h1
          refine jt_catch C hx (ci := 25) mu_s rfl 48 (Or.inr (Or.inl ⟨by decide, rfl, Or.inr ⟨by decide, _, q1314, CA.of (C.nw hG q1326 rfl)⟩⟩)) ?_
          refine j_abs (P := fun w' => FX G w0 w' x O V Z) (FX.newc ⟨W, hA, hv⟩ 2 (w.2 + 2) (.inr (25, []))) (fun w14 h14 => ?_)
          obtain ⟨W14, hA14, hv14⟩ := h14
          refine j_astore_n (lv' := [(3, .ref (w.2 + 2)), (0, .ref x), (1, .int (nI j)), (2, .int (nI 5))]) C dX0_as_48 rfl (by decide) rfl ?_
          refine j_aload_n C dX0_as_49 rfl 1 rfl ?_
          refine j_iconst (v := nI 3) C dX0_as_50 rfl ?_
          refine j_callV (w := w14) C (kX0_found G hG w0 w14 x O V Z ⟨W14, hA14, hv14⟩ 3) pI.ret (ci := 0) (T := TX0) (hA14.d0 hv14) rfl 1 q399 q401 qs3 q66 q402 (by decide +kernel) rfl (by decide) (by decide) (Nat.le_of_ble_eq_true rfl) rfl dX0_as_51 (by omega) (by omega) (pI.k (fun r15 w15 h15 => ?_))
          obtain ⟨hr15, h15⟩ := h15
          subst hr15
          obtain ⟨W15, hA15, hv15⟩ := h15
          exact j_iret C (by omega) (by omega) (fC.mk ⟨W15, hA15, hv15⟩ (h3 j 5 rfl hj rfl (by omega) (by rw [kq1]; decide))) dX0_as_54
      · have hq1k : w.1 q1 = some (q1, .inr (8, [.int (nI j), .int (nI (V.2.1 (7 + 3 * j + 2)))])) := by have z := hq1; unfold CE at z; rw [kq1] at z; exact z
        rcases (show u = 0 ∨ u = 1 ∨ u = 2 ∨ u = 3 ∨ u = 4 ∨ u = 5 by omega) with rfl | rfl | rfl | rfl | rfl | rfl
        · refine j_callS (w := w) C (kX0_taken_20 G w hG hE hM q1 q1 _ hq1k) pA.ret 2 q1329 q1330 q66 q1331 (by decide +kernel) rfl (by decide) (by decide) (Nat.le_of_ble_eq_true rfl) rfl dX0_as_38 (by omega) (by omega) (qA.k ?_)
          refine j_callA (w := w) C (kX7_number_8 G w q1 q1 (nI j) (nI (V.2.1 (7 + 3 * j + 2))) hq1k) pI.ret (x := (⟨"MoodFare$Corner", "number", "()I"⟩ : MethodName)) (owner := "MoodFare$Corner") (ci := 8) (T := TX9) hq1k rfl 0 (va_Decl.of (C.hts _ q1333) (C.hts _ q1340)) q1332 q1334 q1338 q1333 q91 q1340 (by decide +kernel) rfl (by decide) (by decide) (Nat.le_of_ble_eq_true rfl) rfl dX0_as_41 (by omega) (by omega) (qI.k ?_)
          refine j_callV (w := w) C (kX0_well G hG w0 w x O V Z ⟨W, hA, hv⟩ (nI j)) pI.ret (ci := 0) (T := TX0) (hA.d0 hv) rfl 1 q395 q397 qs2 q66 q398 (by decide +kernel) rfl (by decide) (by decide) (Nat.le_of_ble_eq_true rfl) rfl dX0_as_44 (by omega) (by omega) (pI.k (fun r16 w16 h16 => ?_))
          obtain ⟨hr16, h16⟩ := h16
          subst hr16
          obtain ⟨W16, hA16, hv16⟩ := h16
          exact j_iret C (by omega) (by omega) (fC.mk ⟨W16, hA16, hv16⟩ (h2 j 0 rfl hj rfl (by omega) (by rw [kq1]; decide))) dX0_as_47
        · refine j_callS (w := w) C (kX0_taken_21 G w hG hE hM q1 q1 _ hq1k) pA.ret 2 q1329 q1330 q66 q1331 (by decide +kernel) rfl (by decide) (by decide) (Nat.le_of_ble_eq_true rfl) rfl dX0_as_38 (by omega) (by omega) (qA.k ?_)
          refine j_callA (w := w) C (kX7_number_8 G w q1 q1 (nI j) (nI (V.2.1 (7 + 3 * j + 2))) hq1k) pI.ret (x := (⟨"MoodFare$Corner", "number", "()I"⟩ : MethodName)) (owner := "MoodFare$Corner") (ci := 8) (T := TX9) hq1k rfl 0 (va_Decl.of (C.hts _ q1333) (C.hts _ q1340)) q1332 q1334 q1338 q1333 q91 q1340 (by decide +kernel) rfl (by decide) (by decide) (Nat.le_of_ble_eq_true rfl) rfl dX0_as_41 (by omega) (by omega) (qI.k ?_)
          refine j_callV (w := w) C (kX0_well G hG w0 w x O V Z ⟨W, hA, hv⟩ (nI j)) pI.ret (ci := 0) (T := TX0) (hA.d0 hv) rfl 1 q395 q397 qs2 q66 q398 (by decide +kernel) rfl (by decide) (by decide) (Nat.le_of_ble_eq_true rfl) rfl dX0_as_44 (by omega) (by omega) (pI.k (fun r17 w17 h17 => ?_))
          obtain ⟨hr17, h17⟩ := h17
          subst hr17
          obtain ⟨W17, hA17, hv17⟩ := h17
          exact j_iret C (by omega) (by omega) (fC.mk ⟨W17, hA17, hv17⟩ (h2 j 1 rfl hj rfl (by omega) (by rw [kq1]; decide))) dX0_as_47
        · refine j_callS (w := w) C (kX0_taken_22 G w hG hE hM q1 q1 _ hq1k) pA.ret 2 q1329 q1330 q66 q1331 (by decide +kernel) rfl (by decide) (by decide) (Nat.le_of_ble_eq_true rfl) rfl dX0_as_38 (by omega) (by omega) (qA.k ?_)
          refine j_callA (w := w) C (kX7_number_8 G w q1 q1 (nI j) (nI (V.2.1 (7 + 3 * j + 2))) hq1k) pI.ret (x := (⟨"MoodFare$Corner", "number", "()I"⟩ : MethodName)) (owner := "MoodFare$Corner") (ci := 8) (T := TX9) hq1k rfl 0 (va_Decl.of (C.hts _ q1333) (C.hts _ q1340)) q1332 q1334 q1338 q1333 q91 q1340 (by decide +kernel) rfl (by decide) (by decide) (Nat.le_of_ble_eq_true rfl) rfl dX0_as_41 (by omega) (by omega) (qI.k ?_)
          refine j_callV (w := w) C (kX0_well G hG w0 w x O V Z ⟨W, hA, hv⟩ (nI j)) pI.ret (ci := 0) (T := TX0) (hA.d0 hv) rfl 1 q395 q397 qs2 q66 q398 (by decide +kernel) rfl (by decide) (by decide) (Nat.le_of_ble_eq_true rfl) rfl dX0_as_44 (by omega) (by omega) (pI.k (fun r18 w18 h18 => ?_))
          obtain ⟨hr18, h18⟩ := h18
          subst hr18
          obtain ⟨W18, hA18, hv18⟩ := h18
          exact j_iret C (by omega) (by omega) (fC.mk ⟨W18, hA18, hv18⟩ (h2 j 2 rfl hj rfl (by omega) (by rw [kq1]; decide))) dX0_as_47
        · refine j_in (w := w) C (iv_S C (Or.inr ⟨rfl, q1331⟩) 2 q1329 q1330 q66 (by decide +kernel) rfl rfl dX0_as_38) (kX0_taken_23 G w hG hE hM q1 q1 _ hq1k) (Or.inr ⟨rfl, q1331⟩) (by decide +kernel) (by decide) (by decide) (Nat.le_of_ble_eq_true rfl) (by omega) (by omega) (fun v w1 h1 => h1.no) ?_
          rintro a1 w1 ⟨h1, rfl⟩
          cases h1
          refine jt_catch C hx (ci := 25) mu_s rfl 48 (Or.inr (Or.inl ⟨by decide, rfl, Or.inr ⟨by decide, _, q1314, CA.of (C.nw hG q1326 rfl)⟩⟩)) ?_
          refine j_abs (P := fun w' => FX G w0 w' x O V Z) (FX.newc ⟨W, hA, hv⟩ 2 (w.2 + 2) (.inr (25, []))) (fun w20 h20 => ?_)
          obtain ⟨W20, hA20, hv20⟩ := h20
          refine j_astore_n (lv' := [(3, .ref (w.2 + 2)), (0, .ref x), (1, .int (nI j)), (2, .int (nI 3))]) C dX0_as_48 rfl (by decide) rfl ?_
          refine j_aload_n C dX0_as_49 rfl 1 rfl ?_
          refine j_iconst (v := nI 3) C dX0_as_50 rfl ?_
          refine j_callV (w := w20) C (kX0_found G hG w0 w20 x O V Z ⟨W20, hA20, hv20⟩ 3) pI.ret (ci := 0) (T := TX0) (hA20.d0 hv20) rfl 1 q399 q401 qs3 q66 q402 (by decide +kernel) rfl (by decide) (by decide) (Nat.le_of_ble_eq_true rfl) rfl dX0_as_51 (by omega) (by omega) (pI.k (fun r21 w21 h21 => ?_))
          obtain ⟨hr21, h21⟩ := h21
          subst hr21
          obtain ⟨W21, hA21, hv21⟩ := h21
          exact j_iret C (by omega) (by omega) (fC.mk ⟨W21, hA21, hv21⟩ (h3 j 3 rfl hj rfl (by omega) (by rw [kq1]; decide))) dX0_as_54
        · refine j_in (w := w) C (iv_S C (Or.inr ⟨rfl, q1331⟩) 2 q1329 q1330 q66 (by decide +kernel) rfl rfl dX0_as_38) (kX0_taken_24 G w hG hE hM q1 q1 _ hq1k) (Or.inr ⟨rfl, q1331⟩) (by decide +kernel) (by decide) (by decide) (Nat.le_of_ble_eq_true rfl) (by omega) (by omega) (fun v w1 h1 => h1.no) ?_
          rintro a1 w1 ⟨h1, rfl⟩
          cases h1
          refine jt_catch C hx (ci := 25) mu_s rfl 48 (Or.inr (Or.inl ⟨by decide, rfl, Or.inr ⟨by decide, _, q1314, CA.of (C.nw hG q1326 rfl)⟩⟩)) ?_
          refine j_abs (P := fun w' => FX G w0 w' x O V Z) (FX.newc ⟨W, hA, hv⟩ 2 (w.2 + 2) (.inr (25, []))) (fun w23 h23 => ?_)
          obtain ⟨W23, hA23, hv23⟩ := h23
          refine j_astore_n (lv' := [(3, .ref (w.2 + 2)), (0, .ref x), (1, .int (nI j)), (2, .int (nI 4))]) C dX0_as_48 rfl (by decide) rfl ?_
          refine j_aload_n C dX0_as_49 rfl 1 rfl ?_
          refine j_iconst (v := nI 3) C dX0_as_50 rfl ?_
          refine j_callV (w := w23) C (kX0_found G hG w0 w23 x O V Z ⟨W23, hA23, hv23⟩ 3) pI.ret (ci := 0) (T := TX0) (hA23.d0 hv23) rfl 1 q399 q401 qs3 q66 q402 (by decide +kernel) rfl (by decide) (by decide) (Nat.le_of_ble_eq_true rfl) rfl dX0_as_51 (by omega) (by omega) (pI.k (fun r24 w24 h24 => ?_))
          obtain ⟨hr24, h24⟩ := h24
          subst hr24
          obtain ⟨W24, hA24, hv24⟩ := h24
          exact j_iret C (by omega) (by omega) (fC.mk ⟨W24, hA24, hv24⟩ (h3 j 4 rfl hj rfl (by omega) (by rw [kq1]; decide))) dX0_as_54
        · refine j_in (w := w) C (iv_S C (Or.inr ⟨rfl, q1331⟩) 2 q1329 q1330 q66 (by decide +kernel) rfl rfl dX0_as_38) (kX0_taken_25 G w hG hE hM q1 q1 _ hq1k) (Or.inr ⟨rfl, q1331⟩) (by decide +kernel) (by decide) (by decide) (Nat.le_of_ble_eq_true rfl) (by omega) (by omega) (fun v w1 h1 => h1.no) ?_
          rintro a1 w1 ⟨h1, rfl⟩
          cases h1
          refine jt_catch C hx (ci := 25) mu_s rfl 48 (Or.inr (Or.inl ⟨by decide, rfl, Or.inr ⟨by decide, _, q1314, CA.of (C.nw hG q1326 rfl)⟩⟩)) ?_
          refine j_abs (P := fun w' => FX G w0 w' x O V Z) (FX.newc ⟨W, hA, hv⟩ 2 (w.2 + 2) (.inr (25, []))) (fun w26 h26 => ?_)
          obtain ⟨W26, hA26, hv26⟩ := h26
          refine j_astore_n (lv' := [(3, .ref (w.2 + 2)), (0, .ref x), (1, .int (nI j)), (2, .int (nI 5))]) C dX0_as_48 rfl (by decide) rfl ?_
          refine j_aload_n C dX0_as_49 rfl 1 rfl ?_
          refine j_iconst (v := nI 3) C dX0_as_50 rfl ?_
          refine j_callV (w := w26) C (kX0_found G hG w0 w26 x O V Z ⟨W26, hA26, hv26⟩ 3) pI.ret (ci := 0) (T := TX0) (hA26.d0 hv26) rfl 1 q399 q401 qs3 q66 q402 (by decide +kernel) rfl (by decide) (by decide) (Nat.le_of_ble_eq_true rfl) rfl dX0_as_51 (by omega) (by omega) (pI.k (fun r27 w27 h27 => ?_))
          obtain ⟨hr27, h27⟩ := h27
          subst hr27
          obtain ⟨W27, hA27, hv27⟩ := h27
          exact j_iret C (by omega) (by omega) (fC.mk ⟨W27, hA27, hv27⟩ (h3 j 5 rfl hj rfl (by omega) (by rw [kq1]; decide))) dX0_as_54
      · have hq1k : w.1 q1 = some (q1, .inr (9, [.int (nI j), .int (nI (V.2.1 (7 + 3 * j + 2)))])) := by have z := hq1; unfold CE at z; rw [kq1] at z; exact z
        rcases (show u = 0 ∨ u = 1 ∨ u = 2 ∨ u = 3 ∨ u = 4 ∨ u = 5 by omega) with rfl | rfl | rfl | rfl | rfl | rfl
        · refine j_callS (w := w) C (kX0_taken_30 G w hG hE hM q1 q1 _ hq1k) pA.ret 2 q1329 q1330 q66 q1331 (by decide +kernel) rfl (by decide) (by decide) (Nat.le_of_ble_eq_true rfl) rfl dX0_as_38 (by omega) (by omega) (qA.k ?_)
          refine j_callA (w := w) C (kX7_number_9 G w q1 q1 (nI j) (nI (V.2.1 (7 + 3 * j + 2))) hq1k) pI.ret (x := (⟨"MoodFare$Corner", "number", "()I"⟩ : MethodName)) (owner := "MoodFare$Corner") (ci := 9) (T := TX10) hq1k rfl 0 (va_Decl.of (C.hts _ q1333) (C.hts _ q1340)) q1332 q1334 q1336 q1333 q91 q1340 (by decide +kernel) rfl (by decide) (by decide) (Nat.le_of_ble_eq_true rfl) rfl dX0_as_41 (by omega) (by omega) (qI.k ?_)
          refine j_callV (w := w) C (kX0_well G hG w0 w x O V Z ⟨W, hA, hv⟩ (nI j)) pI.ret (ci := 0) (T := TX0) (hA.d0 hv) rfl 1 q395 q397 qs2 q66 q398 (by decide +kernel) rfl (by decide) (by decide) (Nat.le_of_ble_eq_true rfl) rfl dX0_as_44 (by omega) (by omega) (pI.k (fun r28 w28 h28 => ?_))
          obtain ⟨hr28, h28⟩ := h28
          subst hr28
          obtain ⟨W28, hA28, hv28⟩ := h28
          exact j_iret C (by omega) (by omega) (fC.mk ⟨W28, hA28, hv28⟩ (h2 j 0 rfl hj rfl (by omega) (by rw [kq1]; decide))) dX0_as_47
        · refine j_callS (w := w) C (kX0_taken_31 G w hG hE hM q1 q1 _ hq1k) pA.ret 2 q1329 q1330 q66 q1331 (by decide +kernel) rfl (by decide) (by decide) (Nat.le_of_ble_eq_true rfl) rfl dX0_as_38 (by omega) (by omega) (qA.k ?_)
          refine j_callA (w := w) C (kX7_number_9 G w q1 q1 (nI j) (nI (V.2.1 (7 + 3 * j + 2))) hq1k) pI.ret (x := (⟨"MoodFare$Corner", "number", "()I"⟩ : MethodName)) (owner := "MoodFare$Corner") (ci := 9) (T := TX10) hq1k rfl 0 (va_Decl.of (C.hts _ q1333) (C.hts _ q1340)) q1332 q1334 q1336 q1333 q91 q1340 (by decide +kernel) rfl (by decide) (by decide) (Nat.le_of_ble_eq_true rfl) rfl dX0_as_41 (by omega) (by omega) (qI.k ?_)
          refine j_callV (w := w) C (kX0_well G hG w0 w x O V Z ⟨W, hA, hv⟩ (nI j)) pI.ret (ci := 0) (T := TX0) (hA.d0 hv) rfl 1 q395 q397 qs2 q66 q398 (by decide +kernel) rfl (by decide) (by decide) (Nat.le_of_ble_eq_true rfl) rfl dX0_as_44 (by omega) (by omega) (pI.k (fun r29 w29 h29 => ?_))
          obtain ⟨hr29, h29⟩ := h29
          subst hr29
          obtain ⟨W29, hA29, hv29⟩ := h29
          exact j_iret C (by omega) (by omega) (fC.mk ⟨W29, hA29, hv29⟩ (h2 j 1 rfl hj rfl (by omega) (by rw [kq1]; decide))) dX0_as_47
        · refine j_in (w := w) C (iv_S C (Or.inr ⟨rfl, q1331⟩) 2 q1329 q1330 q66 (by decide +kernel) rfl rfl dX0_as_38) (kX0_taken_32 G w hG hE hM q1 q1 _ hq1k) (Or.inr ⟨rfl, q1331⟩) (by decide +kernel) (by decide) (by decide) (Nat.le_of_ble_eq_true rfl) (by omega) (by omega) (fun v w1 h1 => h1.no) ?_
          rintro a1 w1 ⟨h1, rfl⟩
          cases h1
          refine jt_catch C hx (ci := 25) mu_s rfl 48 (Or.inr (Or.inl ⟨by decide, rfl, Or.inr ⟨by decide, _, q1314, CA.of (C.nw hG q1326 rfl)⟩⟩)) ?_
          refine j_abs (P := fun w' => FX G w0 w' x O V Z) (FX.newc ⟨W, hA, hv⟩ 2 (w.2 + 2) (.inr (25, []))) (fun w31 h31 => ?_)
          obtain ⟨W31, hA31, hv31⟩ := h31
          refine j_astore_n (lv' := [(3, .ref (w.2 + 2)), (0, .ref x), (1, .int (nI j)), (2, .int (nI 2))]) C dX0_as_48 rfl (by decide) rfl ?_
          refine j_aload_n C dX0_as_49 rfl 1 rfl ?_
          refine j_iconst (v := nI 3) C dX0_as_50 rfl ?_
          refine j_callV (w := w31) C (kX0_found G hG w0 w31 x O V Z ⟨W31, hA31, hv31⟩ 3) pI.ret (ci := 0) (T := TX0) (hA31.d0 hv31) rfl 1 q399 q401 qs3 q66 q402 (by decide +kernel) rfl (by decide) (by decide) (Nat.le_of_ble_eq_true rfl) rfl dX0_as_51 (by omega) (by omega) (pI.k (fun r32 w32 h32 => ?_))
          obtain ⟨hr32, h32⟩ := h32
          subst hr32
          obtain ⟨W32, hA32, hv32⟩ := h32
          exact j_iret C (by omega) (by omega) (fC.mk ⟨W32, hA32, hv32⟩ (h3 j 2 rfl hj rfl (by omega) (by rw [kq1]; decide))) dX0_as_54
        · refine j_callS (w := w) C (kX0_taken_33 G w hG hE hM q1 q1 _ hq1k) pA.ret 2 q1329 q1330 q66 q1331 (by decide +kernel) rfl (by decide) (by decide) (Nat.le_of_ble_eq_true rfl) rfl dX0_as_38 (by omega) (by omega) (qA.k ?_)
          refine j_callA (w := w) C (kX7_number_9 G w q1 q1 (nI j) (nI (V.2.1 (7 + 3 * j + 2))) hq1k) pI.ret (x := (⟨"MoodFare$Corner", "number", "()I"⟩ : MethodName)) (owner := "MoodFare$Corner") (ci := 9) (T := TX10) hq1k rfl 0 (va_Decl.of (C.hts _ q1333) (C.hts _ q1340)) q1332 q1334 q1336 q1333 q91 q1340 (by decide +kernel) rfl (by decide) (by decide) (Nat.le_of_ble_eq_true rfl) rfl dX0_as_41 (by omega) (by omega) (qI.k ?_)
          refine j_callV (w := w) C (kX0_well G hG w0 w x O V Z ⟨W, hA, hv⟩ (nI j)) pI.ret (ci := 0) (T := TX0) (hA.d0 hv) rfl 1 q395 q397 qs2 q66 q398 (by decide +kernel) rfl (by decide) (by decide) (Nat.le_of_ble_eq_true rfl) rfl dX0_as_44 (by omega) (by omega) (pI.k (fun r33 w33 h33 => ?_))
          obtain ⟨hr33, h33⟩ := h33
          subst hr33
          obtain ⟨W33, hA33, hv33⟩ := h33
          exact j_iret C (by omega) (by omega) (fC.mk ⟨W33, hA33, hv33⟩ (h2 j 3 rfl hj rfl (by omega) (by rw [kq1]; decide))) dX0_as_47
        · refine j_in (w := w) C (iv_S C (Or.inr ⟨rfl, q1331⟩) 2 q1329 q1330 q66 (by decide +kernel) rfl rfl dX0_as_38) (kX0_taken_34 G w hG hE hM q1 q1 _ hq1k) (Or.inr ⟨rfl, q1331⟩) (by decide +kernel) (by decide) (by decide) (Nat.le_of_ble_eq_true rfl) (by omega) (by omega) (fun v w1 h1 => h1.no) ?_
          rintro a1 w1 ⟨h1, rfl⟩
          cases h1
          refine jt_catch C hx (ci := 25) mu_s rfl 48 (Or.inr (Or.inl ⟨by decide, rfl, Or.inr ⟨by decide, _, q1314, CA.of (C.nw hG q1326 rfl)⟩⟩)) ?_
          refine j_abs (P := fun w' => FX G w0 w' x O V Z) (FX.newc ⟨W, hA, hv⟩ 2 (w.2 + 2) (.inr (25, []))) (fun w35 h35 => ?_)
          obtain ⟨W35, hA35, hv35⟩ := h35
          refine j_astore_n (lv' := [(3, .ref (w.2 + 2)), (0, .ref x), (1, .int (nI j)), (2, .int (nI 4))]) C dX0_as_48 rfl (by decide) rfl ?_
          refine j_aload_n C dX0_as_49 rfl 1 rfl ?_
          refine j_iconst (v := nI 3) C dX0_as_50 rfl ?_
          refine j_callV (w := w35) C (kX0_found G hG w0 w35 x O V Z ⟨W35, hA35, hv35⟩ 3) pI.ret (ci := 0) (T := TX0) (hA35.d0 hv35) rfl 1 q399 q401 qs3 q66 q402 (by decide +kernel) rfl (by decide) (by decide) (Nat.le_of_ble_eq_true rfl) rfl dX0_as_51 (by omega) (by omega) (pI.k (fun r36 w36 h36 => ?_))
          obtain ⟨hr36, h36⟩ := h36
          subst hr36
          obtain ⟨W36, hA36, hv36⟩ := h36
          exact j_iret C (by omega) (by omega) (fC.mk ⟨W36, hA36, hv36⟩ (h3 j 4 rfl hj rfl (by omega) (by rw [kq1]; decide))) dX0_as_54
        · refine j_in (w := w) C (iv_S C (Or.inr ⟨rfl, q1331⟩) 2 q1329 q1330 q66 (by decide +kernel) rfl rfl dX0_as_38) (kX0_taken_35 G w hG hE hM q1 q1 _ hq1k) (Or.inr ⟨rfl, q1331⟩) (by decide +kernel) (by decide) (by decide) (Nat.le_of_ble_eq_true rfl) (by omega) (by omega) (fun v w1 h1 => h1.no) ?_
          rintro a1 w1 ⟨h1, rfl⟩
          cases h1
          refine jt_catch C hx (ci := 25) mu_s rfl 48 (Or.inr (Or.inl ⟨by decide, rfl, Or.inr ⟨by decide, _, q1314, CA.of (C.nw hG q1326 rfl)⟩⟩)) ?_
          refine j_abs (P := fun w' => FX G w0 w' x O V Z) (FX.newc ⟨W, hA, hv⟩ 2 (w.2 + 2) (.inr (25, []))) (fun w38 h38 => ?_)
          obtain ⟨W38, hA38, hv38⟩ := h38
          refine j_astore_n (lv' := [(3, .ref (w.2 + 2)), (0, .ref x), (1, .int (nI j)), (2, .int (nI 5))]) C dX0_as_48 rfl (by decide) rfl ?_
          refine j_aload_n C dX0_as_49 rfl 1 rfl ?_
          refine j_iconst (v := nI 3) C dX0_as_50 rfl ?_
          refine j_callV (w := w38) C (kX0_found G hG w0 w38 x O V Z ⟨W38, hA38, hv38⟩ 3) pI.ret (ci := 0) (T := TX0) (hA38.d0 hv38) rfl 1 q399 q401 qs3 q66 q402 (by decide +kernel) rfl (by decide) (by decide) (Nat.le_of_ble_eq_true rfl) rfl dX0_as_51 (by omega) (by omega) (pI.k (fun r39 w39 h39 => ?_))
          obtain ⟨hr39, h39⟩ := h39
          subst hr39
          obtain ⟨W39, hA39, hv39⟩ := h39
          exact j_iret C (by omega) (by omega) (fC.mk ⟨W39, hA39, hv39⟩ (h3 j 5 rfl hj rfl (by omega) (by rw [kq1]; decide))) dX0_as_54
      · have hq1k : w.1 q1 = some (q1, .inr (10, [.int (nI j), .int (nI (V.2.1 (7 + 3 * j + 2)))])) := by have z := hq1; unfold CE at z; rw [kq1] at z; exact z
        rcases (show u = 0 ∨ u = 1 ∨ u = 2 ∨ u = 3 ∨ u = 4 ∨ u = 5 by omega) with rfl | rfl | rfl | rfl | rfl | rfl
        · refine j_callS (w := w) C (kX0_taken_40 G w hG hE hM q1 q1 _ hq1k) pA.ret 2 q1329 q1330 q66 q1331 (by decide +kernel) rfl (by decide) (by decide) (Nat.le_of_ble_eq_true rfl) rfl dX0_as_38 (by omega) (by omega) (qA.k ?_)
          refine j_callA (w := w) C (kX7_number_10 G w q1 q1 (nI j) (nI (V.2.1 (7 + 3 * j + 2))) hq1k) pI.ret (x := (⟨"MoodFare$Corner", "number", "()I"⟩ : MethodName)) (owner := "MoodFare$Corner") (ci := 10) (T := TX11) hq1k rfl 0 (va_Decl.of (C.hts _ q1333) (C.hts _ q1340)) q1332 q1334 q1335 q1333 q91 q1340 (by decide +kernel) rfl (by decide) (by decide) (Nat.le_of_ble_eq_true rfl) rfl dX0_as_41 (by omega) (by omega) (qI.k ?_)
          refine j_callV (w := w) C (kX0_well G hG w0 w x O V Z ⟨W, hA, hv⟩ (nI j)) pI.ret (ci := 0) (T := TX0) (hA.d0 hv) rfl 1 q395 q397 qs2 q66 q398 (by decide +kernel) rfl (by decide) (by decide) (Nat.le_of_ble_eq_true rfl) rfl dX0_as_44 (by omega) (by omega) (pI.k (fun r40 w40 h40 => ?_))
          obtain ⟨hr40, h40⟩ := h40
          subst hr40
          obtain ⟨W40, hA40, hv40⟩ := h40
          exact j_iret C (by omega) (by omega) (fC.mk ⟨W40, hA40, hv40⟩ (h2 j 0 rfl hj rfl (by omega) (by rw [kq1]; decide))) dX0_as_47
        · refine j_in (w := w) C (iv_S C (Or.inr ⟨rfl, q1331⟩) 2 q1329 q1330 q66 (by decide +kernel) rfl rfl dX0_as_38) (kX0_taken_41 G w hG hE hM q1 q1 _ hq1k) (Or.inr ⟨rfl, q1331⟩) (by decide +kernel) (by decide) (by decide) (Nat.le_of_ble_eq_true rfl) (by omega) (by omega) (fun v w1 h1 => h1.no) ?_
          rintro a1 w1 ⟨h1, rfl⟩
          cases h1
          refine jt_catch C hx (ci := 25) mu_s rfl 48 (Or.inr (Or.inl ⟨by decide, rfl, Or.inr ⟨by decide, _, q1314, CA.of (C.nw hG q1326 rfl)⟩⟩)) ?_
          refine j_abs (P := fun w' => FX G w0 w' x O V Z) (FX.newc ⟨W, hA, hv⟩ 2 (w.2 + 2) (.inr (25, []))) (fun w42 h42 => ?_)
          obtain ⟨W42, hA42, hv42⟩ := h42
          refine j_astore_n (lv' := [(3, .ref (w.2 + 2)), (0, .ref x), (1, .int (nI j)), (2, .int (nI 1))]) C dX0_as_48 rfl (by decide) rfl ?_
          refine j_aload_n C dX0_as_49 rfl 1 rfl ?_
          refine j_iconst (v := nI 3) C dX0_as_50 rfl ?_
          refine j_callV (w := w42) C (kX0_found G hG w0 w42 x O V Z ⟨W42, hA42, hv42⟩ 3) pI.ret (ci := 0) (T := TX0) (hA42.d0 hv42) rfl 1 q399 q401 qs3 q66 q402 (by decide +kernel) rfl (by decide) (by decide) (Nat.le_of_ble_eq_true rfl) rfl dX0_as_51 (by omega) (by omega) (pI.k (fun r43 w43 h43 => ?_))
          obtain ⟨hr43, h43⟩ := h43
          subst hr43
          obtain ⟨W43, hA43, hv43⟩ := h43
          exact j_iret C (by omega) (by omega) (fC.mk ⟨W43, hA43, hv43⟩ (h3 j 1 rfl hj rfl (by omega) (by rw [kq1]; decide))) dX0_as_54
        · refine j_in (w := w) C (iv_S C (Or.inr ⟨rfl, q1331⟩) 2 q1329 q1330 q66 (by decide +kernel) rfl rfl dX0_as_38) (kX0_taken_42 G w hG hE hM q1 q1 _ hq1k) (Or.inr ⟨rfl, q1331⟩) (by decide +kernel) (by decide) (by decide) (Nat.le_of_ble_eq_true rfl) (by omega) (by omega) (fun v w1 h1 => h1.no) ?_
          rintro a1 w1 ⟨h1, rfl⟩
          cases h1
          refine jt_catch C hx (ci := 25) mu_s rfl 48 (Or.inr (Or.inl ⟨by decide, rfl, Or.inr ⟨by decide, _, q1314, CA.of (C.nw hG q1326 rfl)⟩⟩)) ?_
          refine j_abs (P := fun w' => FX G w0 w' x O V Z) (FX.newc ⟨W, hA, hv⟩ 2 (w.2 + 2) (.inr (25, []))) (fun w45 h45 => ?_)
          obtain ⟨W45, hA45, hv45⟩ := h45
          refine j_astore_n (lv' := [(3, .ref (w.2 + 2)), (0, .ref x), (1, .int (nI j)), (2, .int (nI 2))]) C dX0_as_48 rfl (by decide) rfl ?_
          refine j_aload_n C dX0_as_49 rfl 1 rfl ?_
          refine j_iconst (v := nI 3) C dX0_as_50 rfl ?_
          refine j_callV (w := w45) C (kX0_found G hG w0 w45 x O V Z ⟨W45, hA45, hv45⟩ 3) pI.ret (ci := 0) (T := TX0) (hA45.d0 hv45) rfl 1 q399 q401 qs3 q66 q402 (by decide +kernel) rfl (by decide) (by decide) (Nat.le_of_ble_eq_true rfl) rfl dX0_as_51 (by omega) (by omega) (pI.k (fun r46 w46 h46 => ?_))
          obtain ⟨hr46, h46⟩ := h46
          subst hr46
          obtain ⟨W46, hA46, hv46⟩ := h46
          exact j_iret C (by omega) (by omega) (fC.mk ⟨W46, hA46, hv46⟩ (h3 j 2 rfl hj rfl (by omega) (by rw [kq1]; decide))) dX0_as_54
        · refine j_in (w := w) C (iv_S C (Or.inr ⟨rfl, q1331⟩) 2 q1329 q1330 q66 (by decide +kernel) rfl rfl dX0_as_38) (kX0_taken_43 G w hG hE hM q1 q1 _ hq1k) (Or.inr ⟨rfl, q1331⟩) (by decide +kernel) (by decide) (by decide) (Nat.le_of_ble_eq_true rfl) (by omega) (by omega) (fun v w1 h1 => h1.no) ?_
          rintro a1 w1 ⟨h1, rfl⟩
          cases h1
          refine jt_catch C hx (ci := 25) mu_s rfl 48 (Or.inr (Or.inl ⟨by decide, rfl, Or.inr ⟨by decide, _, q1314, CA.of (C.nw hG q1326 rfl)⟩⟩)) ?_
          refine j_abs (P := fun w' => FX G w0 w' x O V Z) (FX.newc ⟨W, hA, hv⟩ 2 (w.2 + 2) (.inr (25, []))) (fun w48 h48 => ?_)
          obtain ⟨W48, hA48, hv48⟩ := h48
          refine j_astore_n (lv' := [(3, .ref (w.2 + 2)), (0, .ref x), (1, .int (nI j)), (2, .int (nI 3))]) C dX0_as_48 rfl (by decide) rfl ?_
          refine j_aload_n C dX0_as_49 rfl 1 rfl ?_
          refine j_iconst (v := nI 3) C dX0_as_50 rfl ?_
          refine j_callV (w := w48) C (kX0_found G hG w0 w48 x O V Z ⟨W48, hA48, hv48⟩ 3) pI.ret (ci := 0) (T := TX0) (hA48.d0 hv48) rfl 1 q399 q401 qs3 q66 q402 (by decide +kernel) rfl (by decide) (by decide) (Nat.le_of_ble_eq_true rfl) rfl dX0_as_51 (by omega) (by omega) (pI.k (fun r49 w49 h49 => ?_))
          obtain ⟨hr49, h49⟩ := h49
          subst hr49
          obtain ⟨W49, hA49, hv49⟩ := h49
          exact j_iret C (by omega) (by omega) (fC.mk ⟨W49, hA49, hv49⟩ (h3 j 3 rfl hj rfl (by omega) (by rw [kq1]; decide))) dX0_as_54
        · refine j_callS (w := w) C (kX0_taken_44 G w hG hE hM q1 q1 _ hq1k) pA.ret 2 q1329 q1330 q66 q1331 (by decide +kernel) rfl (by decide) (by decide) (Nat.le_of_ble_eq_true rfl) rfl dX0_as_38 (by omega) (by omega) (qA.k ?_)
          refine j_callA (w := w) C (kX7_number_10 G w q1 q1 (nI j) (nI (V.2.1 (7 + 3 * j + 2))) hq1k) pI.ret (x := (⟨"MoodFare$Corner", "number", "()I"⟩ : MethodName)) (owner := "MoodFare$Corner") (ci := 10) (T := TX11) hq1k rfl 0 (va_Decl.of (C.hts _ q1333) (C.hts _ q1340)) q1332 q1334 q1335 q1333 q91 q1340 (by decide +kernel) rfl (by decide) (by decide) (Nat.le_of_ble_eq_true rfl) rfl dX0_as_41 (by omega) (by omega) (qI.k ?_)
          refine j_callV (w := w) C (kX0_well G hG w0 w x O V Z ⟨W, hA, hv⟩ (nI j)) pI.ret (ci := 0) (T := TX0) (hA.d0 hv) rfl 1 q395 q397 qs2 q66 q398 (by decide +kernel) rfl (by decide) (by decide) (Nat.le_of_ble_eq_true rfl) rfl dX0_as_44 (by omega) (by omega) (pI.k (fun r50 w50 h50 => ?_))
          obtain ⟨hr50, h50⟩ := h50
          subst hr50
          obtain ⟨W50, hA50, hv50⟩ := h50
          exact j_iret C (by omega) (by omega) (fC.mk ⟨W50, hA50, hv50⟩ (h2 j 4 rfl hj rfl (by omega) (by rw [kq1]; decide))) dX0_as_47
        · refine j_in (w := w) C (iv_S C (Or.inr ⟨rfl, q1331⟩) 2 q1329 q1330 q66 (by decide +kernel) rfl rfl dX0_as_38) (kX0_taken_45 G w hG hE hM q1 q1 _ hq1k) (Or.inr ⟨rfl, q1331⟩) (by decide +kernel) (by decide) (by decide) (Nat.le_of_ble_eq_true rfl) (by omega) (by omega) (fun v w1 h1 => h1.no) ?_
          rintro a1 w1 ⟨h1, rfl⟩
          cases h1
          refine jt_catch C hx (ci := 25) mu_s rfl 48 (Or.inr (Or.inl ⟨by decide, rfl, Or.inr ⟨by decide, _, q1314, CA.of (C.nw hG q1326 rfl)⟩⟩)) ?_
          refine j_abs (P := fun w' => FX G w0 w' x O V Z) (FX.newc ⟨W, hA, hv⟩ 2 (w.2 + 2) (.inr (25, []))) (fun w52 h52 => ?_)
          obtain ⟨W52, hA52, hv52⟩ := h52
          refine j_astore_n (lv' := [(3, .ref (w.2 + 2)), (0, .ref x), (1, .int (nI j)), (2, .int (nI 5))]) C dX0_as_48 rfl (by decide) rfl ?_
          refine j_aload_n C dX0_as_49 rfl 1 rfl ?_
          refine j_iconst (v := nI 3) C dX0_as_50 rfl ?_
          refine j_callV (w := w52) C (kX0_found G hG w0 w52 x O V Z ⟨W52, hA52, hv52⟩ 3) pI.ret (ci := 0) (T := TX0) (hA52.d0 hv52) rfl 1 q399 q401 qs3 q66 q402 (by decide +kernel) rfl (by decide) (by decide) (Nat.le_of_ble_eq_true rfl) rfl dX0_as_51 (by omega) (by omega) (pI.k (fun r53 w53 h53 => ?_))
          obtain ⟨hr53, h53⟩ := h53
          subst hr53
          obtain ⟨W53, hA53, hv53⟩ := h53
          exact j_iret C (by omega) (by omega) (fC.mk ⟨W53, hA53, hv53⟩ (h3 j 5 rfl hj rfl (by omega) (by rw [kq1]; decide))) dX0_as_54
      · have hq1k : w.1 q1 = some (q1, .inr (11, [.int (nI j), .int (nI (V.2.1 (7 + 3 * j + 2)))])) := by have z := hq1; unfold CE at z; rw [kq1] at z; exact z
        rcases (show u = 0 ∨ u = 1 ∨ u = 2 ∨ u = 3 ∨ u = 4 ∨ u = 5 by omega) with rfl | rfl | rfl | rfl | rfl | rfl
        · refine j_callS (w := w) C (kX0_taken_50 G w hG hE hM q1 q1 _ hq1k) pA.ret 2 q1329 q1330 q66 q1331 (by decide +kernel) rfl (by decide) (by decide) (Nat.le_of_ble_eq_true rfl) rfl dX0_as_38 (by omega) (by omega) (qA.k ?_)
          refine j_callA (w := w) C (kX7_number_11 G w q1 q1 (nI j) (nI (V.2.1 (7 + 3 * j + 2))) hq1k) pI.ret (x := (⟨"MoodFare$Corner", "number", "()I"⟩ : MethodName)) (owner := "MoodFare$Corner") (ci := 11) (T := TX12) hq1k rfl 0 (va_Decl.of (C.hts _ q1333) (C.hts _ q1340)) q1332 q1334 q1339 q1333 q91 q1340 (by decide +kernel) rfl (by decide) (by decide) (Nat.le_of_ble_eq_true rfl) rfl dX0_as_41 (by omega) (by omega) (qI.k ?_)
          refine j_callV (w := w) C (kX0_well G hG w0 w x O V Z ⟨W, hA, hv⟩ (nI j)) pI.ret (ci := 0) (T := TX0) (hA.d0 hv) rfl 1 q395 q397 qs2 q66 q398 (by decide +kernel) rfl (by decide) (by decide) (Nat.le_of_ble_eq_true rfl) rfl dX0_as_44 (by omega) (by omega) (pI.k (fun r54 w54 h54 => ?_))
          obtain ⟨hr54, h54⟩ := h54
          subst hr54
          obtain ⟨W54, hA54, hv54⟩ := h54
          exact j_iret C (by omega) (by omega) (fC.mk ⟨W54, hA54, hv54⟩ (h2 j 0 rfl hj rfl (by omega) (by rw [kq1]; decide))) dX0_as_47
        · refine j_in (w := w) C (iv_S C (Or.inr ⟨rfl, q1331⟩) 2 q1329 q1330 q66 (by decide +kernel) rfl rfl dX0_as_38) (kX0_taken_51 G w hG hE hM q1 q1 _ hq1k) (Or.inr ⟨rfl, q1331⟩) (by decide +kernel) (by decide) (by decide) (Nat.le_of_ble_eq_true rfl) (by omega) (by omega) (fun v w1 h1 => h1.no) ?_
          rintro a1 w1 ⟨h1, rfl⟩
          cases h1
          refine jt_catch C hx (ci := 25) mu_s rfl 48 (Or.inr (Or.inl ⟨by decide, rfl, Or.inr ⟨by decide, _, q1314, CA.of (C.nw hG q1326 rfl)⟩⟩)) ?_
          refine j_abs (P := fun w' => FX G w0 w' x O V Z) (FX.newc ⟨W, hA, hv⟩ 2 (w.2 + 2) (.inr (25, []))) (fun w56 h56 => ?_)
          obtain ⟨W56, hA56, hv56⟩ := h56
          refine j_astore_n (lv' := [(3, .ref (w.2 + 2)), (0, .ref x), (1, .int (nI j)), (2, .int (nI 1))]) C dX0_as_48 rfl (by decide) rfl ?_
          refine j_aload_n C dX0_as_49 rfl 1 rfl ?_
          refine j_iconst (v := nI 3) C dX0_as_50 rfl ?_
          refine j_callV (w := w56) C (kX0_found G hG w0 w56 x O V Z ⟨W56, hA56, hv56⟩ 3) pI.ret (ci := 0) (T := TX0) (hA56.d0 hv56) rfl 1 q399 q401 qs3 q66 q402 (by decide +kernel) rfl (by decide) (by decide) (Nat.le_of_ble_eq_true rfl) rfl dX0_as_51 (by omega) (by omega) (pI.k (fun r57 w57 h57 => ?_))
          obtain ⟨hr57, h57⟩ := h57
          subst hr57
          obtain ⟨W57, hA57, hv57⟩ := h57
          exact j_iret C (by omega) (by omega) (fC.mk ⟨W57, hA57, hv57⟩ (h3 j 1 rfl hj rfl (by omega) (by rw [kq1]; decide))) dX0_as_54
        · refine j_in (w := w) C (iv_S C (Or.inr ⟨rfl, q1331⟩) 2 q1329 q1330 q66 (by decide +kernel) rfl rfl dX0_as_38) (kX0_taken_52 G w hG hE hM q1 q1 _ hq1k) (Or.inr ⟨rfl, q1331⟩) (by decide +kernel) (by decide) (by decide) (Nat.le_of_ble_eq_true rfl) (by omega) (by omega) (fun v w1 h1 => h1.no) ?_
          rintro a1 w1 ⟨h1, rfl⟩
          cases h1
          refine jt_catch C hx (ci := 25) mu_s rfl 48 (Or.inr (Or.inl ⟨by decide, rfl, Or.inr ⟨by decide, _, q1314, CA.of (C.nw hG q1326 rfl)⟩⟩)) ?_
          refine j_abs (P := fun w' => FX G w0 w' x O V Z) (FX.newc ⟨W, hA, hv⟩ 2 (w.2 + 2) (.inr (25, []))) (fun w59 h59 => ?_)
          obtain ⟨W59, hA59, hv59⟩ := h59
          refine j_astore_n (lv' := [(3, .ref (w.2 + 2)), (0, .ref x), (1, .int (nI j)), (2, .int (nI 2))]) C dX0_as_48 rfl (by decide) rfl ?_
          refine j_aload_n C dX0_as_49 rfl 1 rfl ?_
          refine j_iconst (v := nI 3) C dX0_as_50 rfl ?_
          refine j_callV (w := w59) C (kX0_found G hG w0 w59 x O V Z ⟨W59, hA59, hv59⟩ 3) pI.ret (ci := 0) (T := TX0) (hA59.d0 hv59) rfl 1 q399 q401 qs3 q66 q402 (by decide +kernel) rfl (by decide) (by decide) (Nat.le_of_ble_eq_true rfl) rfl dX0_as_51 (by omega) (by omega) (pI.k (fun r60 w60 h60 => ?_))
          obtain ⟨hr60, h60⟩ := h60
          subst hr60
          obtain ⟨W60, hA60, hv60⟩ := h60
          exact j_iret C (by omega) (by omega) (fC.mk ⟨W60, hA60, hv60⟩ (h3 j 2 rfl hj rfl (by omega) (by rw [kq1]; decide))) dX0_as_54
        · refine j_in (w := w) C (iv_S C (Or.inr ⟨rfl, q1331⟩) 2 q1329 q1330 q66 (by decide +kernel) rfl rfl dX0_as_38) (kX0_taken_53 G w hG hE hM q1 q1 _ hq1k) (Or.inr ⟨rfl, q1331⟩) (by decide +kernel) (by decide) (by decide) (Nat.le_of_ble_eq_true rfl) (by omega) (by omega) (fun v w1 h1 => h1.no) ?_
          rintro a1 w1 ⟨h1, rfl⟩
          cases h1
          refine jt_catch C hx (ci := 25) mu_s rfl 48 (Or.inr (Or.inl ⟨by decide, rfl, Or.inr ⟨by decide, _, q1314, CA.of (C.nw hG q1326 rfl)⟩⟩)) ?_
          refine j_abs (P := fun w' => FX G w0 w' x O V Z) (FX.newc ⟨W, hA, hv⟩ 2 (w.2 + 2) (.inr (25, []))) (fun w62 h62 => ?_)
          obtain ⟨W62, hA62, hv62⟩ := h62
          refine j_astore_n (lv' := [(3, .ref (w.2 + 2)), (0, .ref x), (1, .int (nI j)), (2, .int (nI 3))]) C dX0_as_48 rfl (by decide) rfl ?_
          refine j_aload_n C dX0_as_49 rfl 1 rfl ?_
          refine j_iconst (v := nI 3) C dX0_as_50 rfl ?_
          refine j_callV (w := w62) C (kX0_found G hG w0 w62 x O V Z ⟨W62, hA62, hv62⟩ 3) pI.ret (ci := 0) (T := TX0) (hA62.d0 hv62) rfl 1 q399 q401 qs3 q66 q402 (by decide +kernel) rfl (by decide) (by decide) (Nat.le_of_ble_eq_true rfl) rfl dX0_as_51 (by omega) (by omega) (pI.k (fun r63 w63 h63 => ?_))
          obtain ⟨hr63, h63⟩ := h63
          subst hr63
          obtain ⟨W63, hA63, hv63⟩ := h63
          exact j_iret C (by omega) (by omega) (fC.mk ⟨W63, hA63, hv63⟩ (h3 j 3 rfl hj rfl (by omega) (by rw [kq1]; decide))) dX0_as_54
        · refine j_callS (w := w) C (kX0_taken_54 G w hG hE hM q1 q1 _ hq1k) pA.ret 2 q1329 q1330 q66 q1331 (by decide +kernel) rfl (by decide) (by decide) (Nat.le_of_ble_eq_true rfl) rfl dX0_as_38 (by omega) (by omega) (qA.k ?_)
          refine j_callA (w := w) C (kX7_number_11 G w q1 q1 (nI j) (nI (V.2.1 (7 + 3 * j + 2))) hq1k) pI.ret (x := (⟨"MoodFare$Corner", "number", "()I"⟩ : MethodName)) (owner := "MoodFare$Corner") (ci := 11) (T := TX12) hq1k rfl 0 (va_Decl.of (C.hts _ q1333) (C.hts _ q1340)) q1332 q1334 q1339 q1333 q91 q1340 (by decide +kernel) rfl (by decide) (by decide) (Nat.le_of_ble_eq_true rfl) rfl dX0_as_41 (by omega) (by omega) (qI.k ?_)
          refine j_callV (w := w) C (kX0_well G hG w0 w x O V Z ⟨W, hA, hv⟩ (nI j)) pI.ret (ci := 0) (T := TX0) (hA.d0 hv) rfl 1 q395 q397 qs2 q66 q398 (by decide +kernel) rfl (by decide) (by decide) (Nat.le_of_ble_eq_true rfl) rfl dX0_as_44 (by omega) (by omega) (pI.k (fun r64 w64 h64 => ?_))
          obtain ⟨hr64, h64⟩ := h64
          subst hr64
          obtain ⟨W64, hA64, hv64⟩ := h64
          exact j_iret C (by omega) (by omega) (fC.mk ⟨W64, hA64, hv64⟩ (h2 j 4 rfl hj rfl (by omega) (by rw [kq1]; decide))) dX0_as_47
        · refine j_callS (w := w) C (kX0_taken_55 G w hG hE hM q1 q1 _ hq1k) pA.ret 2 q1329 q1330 q66 q1331 (by decide +kernel) rfl (by decide) (by decide) (Nat.le_of_ble_eq_true rfl) rfl dX0_as_38 (by omega) (by omega) (qA.k ?_)
          refine j_callA (w := w) C (kX7_number_11 G w q1 q1 (nI j) (nI (V.2.1 (7 + 3 * j + 2))) hq1k) pI.ret (x := (⟨"MoodFare$Corner", "number", "()I"⟩ : MethodName)) (owner := "MoodFare$Corner") (ci := 11) (T := TX12) hq1k rfl 0 (va_Decl.of (C.hts _ q1333) (C.hts _ q1340)) q1332 q1334 q1339 q1333 q91 q1340 (by decide +kernel) rfl (by decide) (by decide) (Nat.le_of_ble_eq_true rfl) rfl dX0_as_41 (by omega) (by omega) (qI.k ?_)
          refine j_callV (w := w) C (kX0_well G hG w0 w x O V Z ⟨W, hA, hv⟩ (nI j)) pI.ret (ci := 0) (T := TX0) (hA.d0 hv) rfl 1 q395 q397 qs2 q66 q398 (by decide +kernel) rfl (by decide) (by decide) (Nat.le_of_ble_eq_true rfl) rfl dX0_as_44 (by omega) (by omega) (pI.k (fun r65 w65 h65 => ?_))
          obtain ⟨hr65, h65⟩ := h65
          subst hr65
          obtain ⟨W65, hA65, hv65⟩ := h65
          exact j_iret C (by omega) (by omega) (fC.mk ⟨W65, hA65, hv65⟩ (h2 j 5 rfl hj rfl (by omega) (by rw [kq1]; decide))) dX0_as_47
    · refine j_ldc C q391 dX0_as_20 ?_
      exact j_iret C (by omega) (by omega) (fC.mk ⟨W, hA, hv⟩ (h1 (Or.inr c17))) dX0_as_22
