/-! ===== the class: what shelves hold ===== -/
set_option maxRecDepth 100000
set_option maxHeartbeats 400000 in
theorem kX1_many_0 (G : gl_T) (w : wd_T) (hG : GH G) (hE : GE G) (sh b τ σ n : Nat) (f : Nat → Int32) (hsh : w.1 sh = some (τ, .inr (1, [.ref b]))) (hb : w.1 b = some (σ, ai (gl_A G 1) n f)) (hn : n < 2 ^ 31) : Mt G yX1_many cX1_many 1 (some .int) 0 [.ref sh] w (qI (nI n) w) 0 0 := by
  refine Mt.start (by decide) (Nat.le_of_ble_eq_true rfl) (fun k C => ?_)
  have C : Cx G k cX1_many "MoodFare$Shelf" "many" 1 (some .int) 0 0 0 _ := C
  refine j_aload_n C dX1_many_0 rfl 0 rfl ?_
  refine j_get (w := w) C in_X1 (ci := 1) (T := TX1) rfl hsh 0 (by decide) q127 (fun _ z => z) (v := .ref b) rfl dX1_many_1 ?_
  refine j_instAy C hb C.an.1 q457 dX1_many_4 ?_
  refine j_if_eqN C 19 dX1_many_7 (by decide) (by omega) (fun c7 => ?_) (fun c7 => ?_)
  · exfalso; omega
  · refine j_aload_n C dX1_many_10 rfl 0 rfl ?_
    refine j_get (w := w) C in_X1 (ci := 1) (T := TX1) rfl hsh 0 (by decide) q127 (fun _ z => z) (v := .ref b) rfl dX1_many_11 ?_
    refine j_castA C hb C.an.1 q457 dX1_many_14 ?_
    refine j_alen (w := w) C 1 hb rfl dX1_many_17 ?_
    exact j_iret C (by omega) (by omega) (pI.mk ⟨rfl, rfl⟩) dX1_many_18
set_option maxHeartbeats 400000 in
theorem kX1_at_0 (G : gl_T) (w : wd_T) (hG : GH G) (hE : GE G) (sh b τ σ n : Nat) (f : Nat → Int32) (hsh : w.1 sh = some (τ, .inr (1, [.ref b]))) (hb : w.1 b = some (σ, ai (gl_A G 1) n f)) (hn : n < 2 ^ 31) (j : Nat) (hj : j < n) : Mt G yX1_at cX1_at 2 (some .int) 0 [.ref sh, .int (nI j)] w (qI (f j) w) 0 0 := by
  refine Mt.start (by decide) (Nat.le_of_ble_eq_true rfl) (fun k C => ?_)
  have C : Cx G k cX1_at "MoodFare$Shelf" "at" 2 (some .int) 0 0 0 _ := C
  refine j_aload_n C dX1_at_0 rfl 0 rfl ?_
  refine j_get (w := w) C in_X1 (ci := 1) (T := TX1) rfl hsh 0 (by decide) q127 (fun _ z => z) (v := .ref b) rfl dX1_at_1 ?_
  refine j_instAy C hb C.an.1 q457 dX1_at_4 ?_
  refine j_if_eqN C 20 dX1_at_7 (by decide) (by first | omega | exact hn) (fun c7 => ?_) (fun c7 => ?_)
  · exfalso; omega
  · refine j_aload_n C dX1_at_10 rfl 0 rfl ?_
    refine j_get (w := w) C in_X1 (ci := 1) (T := TX1) rfl hsh 0 (by decide) q127 (fun _ z => z) (v := .ref b) rfl dX1_at_11 ?_
    refine j_castA C hb C.an.1 q457 dX1_at_14 ?_
    refine j_iload_n C dX1_at_17 rfl 1 rfl ?_
    refine j_baldN (w := w) C hb (j) rfl (by first | omega | exact hn) hn dX1_at_18 ?_
    exact j_iret C (by omega) (by omega) (pI.mk ⟨rfl, rfl⟩) dX1_at_19
set_option maxHeartbeats 400000 in
theorem kX1_many_1 (G : gl_T) (w : wd_T) (hG : GH G) (hE : GE G) (sh b τ σ n : Nat) (f : Nat → Int32) (hsh : w.1 sh = some (τ, .inr (1, [.ref b]))) (hb : w.1 b = some (σ, ai (gl_A G 2) n f)) (hn : n < 2 ^ 31) : Mt G yX1_many cX1_many 1 (some .int) 0 [.ref sh] w (qI (nI n) w) 0 0 := by
  refine Mt.start (by decide) (Nat.le_of_ble_eq_true rfl) (fun k C => ?_)
  have C : Cx G k cX1_many "MoodFare$Shelf" "many" 1 (some .int) 0 0 0 _ := C
  refine j_aload_n C dX1_many_0 rfl 0 rfl ?_
  refine j_get (w := w) C in_X1 (ci := 1) (T := TX1) rfl hsh 0 (by decide) q127 (fun _ z => z) (v := .ref b) rfl dX1_many_1 ?_
  refine j_instAn C hb C.an.2.1 ((C.xe hE).nc 4 rfl) q457 dX1_many_4 ?_
  refine j_if_eqN C 19 dX1_many_7 (by decide) (by omega) (fun c7 => ?_) (fun c7 => ?_)
  · refine j_aload_n C dX1_many_19 rfl 0 rfl ?_
    refine j_get (w := w) C in_X1 (ci := 1) (T := TX1) rfl hsh 0 (by decide) q127 (fun _ z => z) (v := .ref b) rfl dX1_many_20 ?_
    refine j_instAy C hb C.an.2.1 q458 dX1_many_23 ?_
    refine j_if_eqN C 38 dX1_many_26 (by decide) (by omega) (fun c26 => ?_) (fun c26 => ?_)
    · exfalso; omega
    · refine j_aload_n C dX1_many_29 rfl 0 rfl ?_
      refine j_get (w := w) C in_X1 (ci := 1) (T := TX1) rfl hsh 0 (by decide) q127 (fun _ z => z) (v := .ref b) rfl dX1_many_30 ?_
      refine j_castA C hb C.an.2.1 q458 dX1_many_33 ?_
      refine j_alen (w := w) C 2 hb rfl dX1_many_36 ?_
      exact j_iret C (by omega) (by omega) (pI.mk ⟨rfl, rfl⟩) dX1_many_37
  · exfalso; omega
set_option maxHeartbeats 400000 in
theorem kX1_at_1 (G : gl_T) (w : wd_T) (hG : GH G) (hE : GE G) (sh b τ σ n : Nat) (f : Nat → Int32) (hsh : w.1 sh = some (τ, .inr (1, [.ref b]))) (hb : w.1 b = some (σ, ai (gl_A G 2) n f)) (hn : n < 2 ^ 31) (j : Nat) (hj : j < n) : Mt G yX1_at cX1_at 2 (some .int) 0 [.ref sh, .int (nI j)] w (qI (f j) w) 0 0 := by
  refine Mt.start (by decide) (Nat.le_of_ble_eq_true rfl) (fun k C => ?_)
  have C : Cx G k cX1_at "MoodFare$Shelf" "at" 2 (some .int) 0 0 0 _ := C
  refine j_aload_n C dX1_at_0 rfl 0 rfl ?_
  refine j_get (w := w) C in_X1 (ci := 1) (T := TX1) rfl hsh 0 (by decide) q127 (fun _ z => z) (v := .ref b) rfl dX1_at_1 ?_
  refine j_instAn C hb C.an.2.1 ((C.xe hE).nc 4 rfl) q457 dX1_at_4 ?_
  refine j_if_eqN C 20 dX1_at_7 (by decide) (by first | omega | exact hn) (fun c7 => ?_) (fun c7 => ?_)
  · refine j_aload_n C dX1_at_20 rfl 0 rfl ?_
    refine j_get (w := w) C in_X1 (ci := 1) (T := TX1) rfl hsh 0 (by decide) q127 (fun _ z => z) (v := .ref b) rfl dX1_at_21 ?_
    refine j_instAy C hb C.an.2.1 q458 dX1_at_24 ?_
    refine j_if_eqN C 40 dX1_at_27 (by decide) (by first | omega | exact hn) (fun c27 => ?_) (fun c27 => ?_)
    · exfalso; omega
    · refine j_aload_n C dX1_at_30 rfl 0 rfl ?_
      refine j_get (w := w) C in_X1 (ci := 1) (T := TX1) rfl hsh 0 (by decide) q127 (fun _ z => z) (v := .ref b) rfl dX1_at_31 ?_
      refine j_castA C hb C.an.2.1 q458 dX1_at_34 ?_
      refine j_iload_n C dX1_at_37 rfl 1 rfl ?_
      refine j_saldN (w := w) C hb (j) rfl (by first | omega | exact hn) hn dX1_at_38 ?_
      exact j_iret C (by omega) (by omega) (pI.mk ⟨rfl, rfl⟩) dX1_at_39
  · exfalso; omega
set_option maxHeartbeats 400000 in
theorem kX1_many_2 (G : gl_T) (w : wd_T) (hG : GH G) (hE : GE G) (sh b τ σ n : Nat) (f : Nat → Int32) (hsh : w.1 sh = some (τ, .inr (1, [.ref b]))) (hb : w.1 b = some (σ, ai (gl_A G 0) n f)) (hn : n < 2 ^ 31) : Mt G yX1_many cX1_many 1 (some .int) 0 [.ref sh] w (qI (nI n) w) 0 0 := by
  refine Mt.start (by decide) (Nat.le_of_ble_eq_true rfl) (fun k C => ?_)
  have C : Cx G k cX1_many "MoodFare$Shelf" "many" 1 (some .int) 0 0 0 _ := C
  refine j_aload_n C dX1_many_0 rfl 0 rfl ?_
  refine j_get (w := w) C in_X1 (ci := 1) (T := TX1) rfl hsh 0 (by decide) q127 (fun _ z => z) (v := .ref b) rfl dX1_many_1 ?_
  refine j_instAn C hb C.an.2.2 ((C.xe hE).nc 5 rfl) q457 dX1_many_4 ?_
  refine j_if_eqN C 19 dX1_many_7 (by decide) (by omega) (fun c7 => ?_) (fun c7 => ?_)
  · refine j_aload_n C dX1_many_19 rfl 0 rfl ?_
    refine j_get (w := w) C in_X1 (ci := 1) (T := TX1) rfl hsh 0 (by decide) q127 (fun _ z => z) (v := .ref b) rfl dX1_many_20 ?_
    refine j_instAn C hb C.an.2.2 ((C.xe hE).nc 6 rfl) q458 dX1_many_23 ?_
    refine j_if_eqN C 38 dX1_many_26 (by decide) (by omega) (fun c26 => ?_) (fun c26 => ?_)
    · refine j_aload_n C dX1_many_38 rfl 0 rfl ?_
      refine j_get (w := w) C in_X1 (ci := 1) (T := TX1) rfl hsh 0 (by decide) q127 (fun _ z => z) (v := .ref b) rfl dX1_many_39 ?_
      refine j_castA C hb C.an.2.2 q459 dX1_many_42 ?_
      refine j_alen (w := w) C 0 hb rfl dX1_many_45 ?_
      exact j_iret C (by omega) (by omega) (pI.mk ⟨rfl, rfl⟩) dX1_many_46
    · exfalso; omega
  · exfalso; omega
set_option maxHeartbeats 400000 in
theorem kX1_at_2 (G : gl_T) (w : wd_T) (hG : GH G) (hE : GE G) (sh b τ σ n : Nat) (f : Nat → Int32) (hsh : w.1 sh = some (τ, .inr (1, [.ref b]))) (hb : w.1 b = some (σ, ai (gl_A G 0) n f)) (hn : n < 2 ^ 31) (j : Nat) (hj : j < n) : Mt G yX1_at cX1_at 2 (some .int) 0 [.ref sh, .int (nI j)] w (qI (f j) w) 0 0 := by
  refine Mt.start (by decide) (Nat.le_of_ble_eq_true rfl) (fun k C => ?_)
  have C : Cx G k cX1_at "MoodFare$Shelf" "at" 2 (some .int) 0 0 0 _ := C
  refine j_aload_n C dX1_at_0 rfl 0 rfl ?_
  refine j_get (w := w) C in_X1 (ci := 1) (T := TX1) rfl hsh 0 (by decide) q127 (fun _ z => z) (v := .ref b) rfl dX1_at_1 ?_
  refine j_instAn C hb C.an.2.2 ((C.xe hE).nc 5 rfl) q457 dX1_at_4 ?_
  refine j_if_eqN C 20 dX1_at_7 (by decide) (by first | omega | exact hn) (fun c7 => ?_) (fun c7 => ?_)
  · refine j_aload_n C dX1_at_20 rfl 0 rfl ?_
    refine j_get (w := w) C in_X1 (ci := 1) (T := TX1) rfl hsh 0 (by decide) q127 (fun _ z => z) (v := .ref b) rfl dX1_at_21 ?_
    refine j_instAn C hb C.an.2.2 ((C.xe hE).nc 6 rfl) q458 dX1_at_24 ?_
    refine j_if_eqN C 40 dX1_at_27 (by decide) (by first | omega | exact hn) (fun c27 => ?_) (fun c27 => ?_)
    · refine j_aload_n C dX1_at_40 rfl 0 rfl ?_
      refine j_get (w := w) C in_X1 (ci := 1) (T := TX1) rfl hsh 0 (by decide) q127 (fun _ z => z) (v := .ref b) rfl dX1_at_41 ?_
      refine j_castA C hb C.an.2.2 q459 dX1_at_44 ?_
      refine j_iload_n C dX1_at_47 rfl 1 rfl ?_
      refine j_ialdN (w := w) C hb (j) rfl (by first | omega | exact hn) hn dX1_at_48 ?_
      exact j_iret C (by omega) (by omega) (pI.mk ⟨rfl, rfl⟩) dX1_at_49
    · exfalso; omega
  · exfalso; omega
set_option maxHeartbeats 400000 in
theorem kX1_many_N (G : gl_T) (w : wd_T) (hG : GH G) (hE : GE G) (sh τ : Nat) (hsh : w.1 sh = some (τ, .inr (1, [.null]))) : Mb G yX1_many cX1_many 1 (some .int) [] 0 [.ref sh] w (qT w.2 (mu w.1 w.2 w.2 (.inr (21, [])), w.2 + 1)) 1 8 := by
  refine ⟨Nat.le_of_ble_eq_true rfl, fun k C hx => ?_⟩
  have C : Cx G k cX1_many "MoodFare$Shelf" "many" 1 (some .int) 0 1 8 _ := C
  refine j_aload_n C dX1_many_0 rfl 0 rfl ?_
  refine j_get (w := w) C in_X1 (ci := 1) (T := TX1) rfl hsh 0 (by decide) q127 (fun _ z => z) (v := .null) rfl dX1_many_1 ?_
  refine j_instN C dX1_many_4 ?_
  refine j_if_eqN C 19 dX1_many_7 (by decide) (by omega) (fun c7 => ?_) (fun c7 => ?_)
  · refine j_aload_n C dX1_many_19 rfl 0 rfl ?_
    refine j_get (w := w) C in_X1 (ci := 1) (T := TX1) rfl hsh 0 (by decide) q127 (fun _ z => z) (v := .null) rfl dX1_many_20 ?_
    refine j_instN C dX1_many_23 ?_
    refine j_if_eqN C 38 dX1_many_26 (by decide) (by omega) (fun c26 => ?_) (fun c26 => ?_)
    · refine j_aload_n C dX1_many_38 rfl 0 rfl ?_
      refine j_get (w := w) C in_X1 (ci := 1) (T := TX1) rfl hsh 0 (by decide) q127 (fun _ z => z) (v := .null) rfl dX1_many_39 ?_
      refine j_castN C dX1_many_42 ?_
      exact j_alenX C hE hx (by intro x h; simp at h) w.2 (Nat.le_of_ble_eq_true rfl) dX1_many_45 (by omega) (by omega) qT.mk
    · exfalso; omega
  · exfalso; omega
set_option maxHeartbeats 400000 in
theorem kX1_put_0 (G : gl_T) (w : wd_T) (hG : GH G) (hE : GE G) (sh b τ σ n : Nat) (f : Nat → Int32) (hsh : w.1 sh = some (τ, .inr (1, [.ref b]))) (hb : w.1 b = some (σ, ai (gl_A G 1) n f)) (hn : n < 2 ^ 31) (j : Nat) (hj : j < n) (v : Int32) (hne : sh ≠ b) : Mt G yX1_put cX1_put 3 (some .int) 1 [.ref sh, .int (nI j), .int v] w (qI (cutZ (nI 0) v) (mu w.1 b σ (ai (gl_A G 1) n (upd f j (cutZ (nI 0) v))), w.2)) 0 0 := by
  refine Mt.start (by decide) (Nat.le_of_ble_eq_true rfl) (fun k C => ?_)
  have C : Cx G k cX1_put "MoodFare$Shelf" "put" 3 (some .int) 1 0 0 _ := C
  refine j_aload_n C dX1_put_0 rfl 0 rfl ?_
  refine j_get (w := w) C in_X1 (ci := 1) (T := TX1) rfl hsh 0 (by decide) q127 (fun _ z => z) (v := .ref b) rfl dX1_put_1 ?_
  refine j_instAy C hb C.an.1 q457 dX1_put_4 ?_
  refine j_if_eqN C 24 dX1_put_7 (by decide) (by first | omega | exact hn) (fun c7 => ?_) (fun c7 => ?_)
  · exfalso; omega
  · refine j_aload_n C dX1_put_10 rfl 0 rfl ?_
    refine j_get (w := w) C in_X1 (ci := 1) (T := TX1) rfl hsh 0 (by decide) q127 (fun _ z => z) (v := .ref b) rfl dX1_put_11 ?_
    refine j_castA C hb C.an.1 q457 dX1_put_14 ?_
    refine j_iload_n C dX1_put_17 rfl 1 rfl ?_
    refine j_iload_n C dX1_put_18 rfl 2 rfl ?_
    refine j_i2b C dX1_put_19 ?_
    refine j_bastN (w := w) C hb (j) rfl (by first | omega | exact hn) hn dX1_put_20 ?_
    refine j_goto C 58 dX1_put_21 (by decide) ?_
    refine j_aload_n C dX1_put_58 rfl 0 rfl ?_
    refine j_iload_n C dX1_put_59 rfl 1 rfl ?_
    refine j_callV (w := ((mu w.1 b σ (ai (gl_A G 1) n (upd f j (vp_nar .byte v.toInt8.toInt32)))), w.2)) C (kX1_at_0 G ((mu w.1 b σ (ai (gl_A G 1) n (upd f j (vp_nar .byte v.toInt8.toInt32)))), w.2) hG hE sh b τ σ n (upd f j (vp_nar .byte v.toInt8.toInt32)) ((mu_n hne).trans hsh) mu_s hn j hj) pI.ret (ci := 1) (T := TX1) ((mu_n hne).trans hsh) rfl 1 q460 q462 qs5 q67 q463 (by decide +kernel) rfl (by decide) (by decide) (Nat.le_of_ble_eq_true rfl) rfl dX1_put_60 (by omega) (by omega) (qI.k ?_)
    exact j_iret C (by omega) (by omega) (pI.mk ⟨by rw [← cut_0 v]; exact pk_us, by rw [← cut_0 v]⟩) dX1_put_63
set_option maxHeartbeats 400000 in
theorem kX1_put_0X (G : gl_T) (w : wd_T) (hG : GH G) (hE : GE G) (sh b τ σ n : Nat) (f : Nat → Int32) (hsh : w.1 sh = some (τ, .inr (1, [.ref b]))) (hb : w.1 b = some (σ, ai (gl_A G 1) n f)) (hn : n < 2 ^ 31) (i v : Int32) (ho : i < 0 ∨ n ≤ i.toNatClampNeg) : Mb G yX1_put cX1_put 3 (some .int) [] 1 [.ref sh, .int i, .int v] w (qT (w.2 + 2) (mu w.1 (w.2 + 2) (w.2 + 2) (.inr (22, [])), w.2 + 3)) 3 222 := by
  refine ⟨Nat.le_of_ble_eq_true rfl, fun k C hx => ?_⟩
  have C : Cx G k cX1_put "MoodFare$Shelf" "put" 3 (some .int) 1 3 222 _ := C
  refine j_aload_n C dX1_put_0 rfl 0 rfl ?_
  refine j_get (w := w) C in_X1 (ci := 1) (T := TX1) rfl hsh 0 (by decide) q127 (fun _ z => z) (v := .ref b) rfl dX1_put_1 ?_
  refine j_instAy C hb C.an.1 q457 dX1_put_4 ?_
  refine j_if_eqN C 24 dX1_put_7 (by decide) (by omega) (fun c7 => ?_) (fun c7 => ?_)
  · exfalso; omega
  · refine j_aload_n C dX1_put_10 rfl 0 rfl ?_
    refine j_get (w := w) C in_X1 (ci := 1) (T := TX1) rfl hsh 0 (by decide) q127 (fun _ z => z) (v := .ref b) rfl dX1_put_11 ?_
    refine j_castA C hb C.an.1 q457 dX1_put_14 ?_
    refine j_iload_n C dX1_put_17 rfl 1 rfl ?_
    refine j_iload_n C dX1_put_18 rfl 2 rfl ?_
    refine j_i2b C dX1_put_19 ?_
    exact j_bastX C hE hx (by intro x h; simp at h) (w.2 + 2) (Nat.le_of_ble_eq_true rfl) hb ho hn dX1_put_20 (by omega) (by omega) qT.mk
set_option maxHeartbeats 400000 in
theorem kX1_put_1 (G : gl_T) (w : wd_T) (hG : GH G) (hE : GE G) (sh b τ σ n : Nat) (f : Nat → Int32) (hsh : w.1 sh = some (τ, .inr (1, [.ref b]))) (hb : w.1 b = some (σ, ai (gl_A G 2) n f)) (hn : n < 2 ^ 31) (j : Nat) (hj : j < n) (v : Int32) (hne : sh ≠ b) : Mt G yX1_put cX1_put 3 (some .int) 1 [.ref sh, .int (nI j), .int v] w (qI (cutZ (nI 1) v) (mu w.1 b σ (ai (gl_A G 2) n (upd f j (cutZ (nI 1) v))), w.2)) 0 0 := by
  refine Mt.start (by decide) (Nat.le_of_ble_eq_true rfl) (fun k C => ?_)
  have C : Cx G k cX1_put "MoodFare$Shelf" "put" 3 (some .int) 1 0 0 _ := C
  refine j_aload_n C dX1_put_0 rfl 0 rfl ?_
  refine j_get (w := w) C in_X1 (ci := 1) (T := TX1) rfl hsh 0 (by decide) q127 (fun _ z => z) (v := .ref b) rfl dX1_put_1 ?_
  refine j_instAn C hb C.an.2.1 ((C.xe hE).nc 4 rfl) q457 dX1_put_4 ?_
  refine j_if_eqN C 24 dX1_put_7 (by decide) (by first | omega | exact hn) (fun c7 => ?_) (fun c7 => ?_)
  · refine j_aload_n C dX1_put_24 rfl 0 rfl ?_
    refine j_get (w := w) C in_X1 (ci := 1) (T := TX1) rfl hsh 0 (by decide) q127 (fun _ z => z) (v := .ref b) rfl dX1_put_25 ?_
    refine j_instAy C hb C.an.2.1 q458 dX1_put_28 ?_
    refine j_if_eqN C 48 dX1_put_31 (by decide) (by first | omega | exact hn) (fun c31 => ?_) (fun c31 => ?_)
    · exfalso; omega
    · refine j_aload_n C dX1_put_34 rfl 0 rfl ?_
      refine j_get (w := w) C in_X1 (ci := 1) (T := TX1) rfl hsh 0 (by decide) q127 (fun _ z => z) (v := .ref b) rfl dX1_put_35 ?_
      refine j_castA C hb C.an.2.1 q458 dX1_put_38 ?_
      refine j_iload_n C dX1_put_41 rfl 1 rfl ?_
      refine j_iload_n C dX1_put_42 rfl 2 rfl ?_
      refine j_i2s C dX1_put_43 ?_
      refine j_sastN (w := w) C hb (j) rfl (by first | omega | exact hn) hn dX1_put_44 ?_
      refine j_goto C 58 dX1_put_45 (by decide) ?_
      refine j_aload_n C dX1_put_58 rfl 0 rfl ?_
      refine j_iload_n C dX1_put_59 rfl 1 rfl ?_
      refine j_callV (w := ((mu w.1 b σ (ai (gl_A G 2) n (upd f j (vp_nar .short v.toInt16.toInt32)))), w.2)) C (kX1_at_1 G ((mu w.1 b σ (ai (gl_A G 2) n (upd f j (vp_nar .short v.toInt16.toInt32)))), w.2) hG hE sh b τ σ n (upd f j (vp_nar .short v.toInt16.toInt32)) ((mu_n hne).trans hsh) mu_s hn j hj) pI.ret (ci := 1) (T := TX1) ((mu_n hne).trans hsh) rfl 1 q460 q462 qs5 q67 q463 (by decide +kernel) rfl (by decide) (by decide) (Nat.le_of_ble_eq_true rfl) rfl dX1_put_60 (by omega) (by omega) (qI.k ?_)
      exact j_iret C (by omega) (by omega) (pI.mk ⟨by rw [← cut_1 v]; exact pk_us, by rw [← cut_1 v]⟩) dX1_put_63
  · exfalso; omega
set_option maxHeartbeats 400000 in
theorem kX1_put_1X (G : gl_T) (w : wd_T) (hG : GH G) (hE : GE G) (sh b τ σ n : Nat) (f : Nat → Int32) (hsh : w.1 sh = some (τ, .inr (1, [.ref b]))) (hb : w.1 b = some (σ, ai (gl_A G 2) n f)) (hn : n < 2 ^ 31) (i v : Int32) (ho : i < 0 ∨ n ≤ i.toNatClampNeg) : Mb G yX1_put cX1_put 3 (some .int) [] 1 [.ref sh, .int i, .int v] w (qT (w.2 + 2) (mu w.1 (w.2 + 2) (w.2 + 2) (.inr (22, [])), w.2 + 3)) 3 222 := by
  refine ⟨Nat.le_of_ble_eq_true rfl, fun k C hx => ?_⟩
  have C : Cx G k cX1_put "MoodFare$Shelf" "put" 3 (some .int) 1 3 222 _ := C
  refine j_aload_n C dX1_put_0 rfl 0 rfl ?_
  refine j_get (w := w) C in_X1 (ci := 1) (T := TX1) rfl hsh 0 (by decide) q127 (fun _ z => z) (v := .ref b) rfl dX1_put_1 ?_
  refine j_instAn C hb C.an.2.1 ((C.xe hE).nc 4 rfl) q457 dX1_put_4 ?_
  refine j_if_eqN C 24 dX1_put_7 (by decide) (by omega) (fun c7 => ?_) (fun c7 => ?_)
  · refine j_aload_n C dX1_put_24 rfl 0 rfl ?_
    refine j_get (w := w) C in_X1 (ci := 1) (T := TX1) rfl hsh 0 (by decide) q127 (fun _ z => z) (v := .ref b) rfl dX1_put_25 ?_
    refine j_instAy C hb C.an.2.1 q458 dX1_put_28 ?_
    refine j_if_eqN C 48 dX1_put_31 (by decide) (by omega) (fun c31 => ?_) (fun c31 => ?_)
    · exfalso; omega
    · refine j_aload_n C dX1_put_34 rfl 0 rfl ?_
      refine j_get (w := w) C in_X1 (ci := 1) (T := TX1) rfl hsh 0 (by decide) q127 (fun _ z => z) (v := .ref b) rfl dX1_put_35 ?_
      refine j_castA C hb C.an.2.1 q458 dX1_put_38 ?_
      refine j_iload_n C dX1_put_41 rfl 1 rfl ?_
      refine j_iload_n C dX1_put_42 rfl 2 rfl ?_
      refine j_i2s C dX1_put_43 ?_
      exact j_sastX C hE hx (by intro x h; simp at h) (w.2 + 2) (Nat.le_of_ble_eq_true rfl) hb ho hn dX1_put_44 (by omega) (by omega) qT.mk
  · exfalso; omega
set_option maxHeartbeats 400000 in
theorem kX1_put_2 (G : gl_T) (w : wd_T) (hG : GH G) (hE : GE G) (sh b τ σ n : Nat) (f : Nat → Int32) (hsh : w.1 sh = some (τ, .inr (1, [.ref b]))) (hb : w.1 b = some (σ, ai (gl_A G 0) n f)) (hn : n < 2 ^ 31) (j : Nat) (hj : j < n) (v : Int32) (hne : sh ≠ b) : Mt G yX1_put cX1_put 3 (some .int) 1 [.ref sh, .int (nI j), .int v] w (qI (cutZ (nI 2) v) (mu w.1 b σ (ai (gl_A G 0) n (upd f j (cutZ (nI 2) v))), w.2)) 0 0 := by
  refine Mt.start (by decide) (Nat.le_of_ble_eq_true rfl) (fun k C => ?_)
  have C : Cx G k cX1_put "MoodFare$Shelf" "put" 3 (some .int) 1 0 0 _ := C
  refine j_aload_n C dX1_put_0 rfl 0 rfl ?_
  refine j_get (w := w) C in_X1 (ci := 1) (T := TX1) rfl hsh 0 (by decide) q127 (fun _ z => z) (v := .ref b) rfl dX1_put_1 ?_
  refine j_instAn C hb C.an.2.2 ((C.xe hE).nc 5 rfl) q457 dX1_put_4 ?_
  refine j_if_eqN C 24 dX1_put_7 (by decide) (by first | omega | exact hn) (fun c7 => ?_) (fun c7 => ?_)
  · refine j_aload_n C dX1_put_24 rfl 0 rfl ?_
    refine j_get (w := w) C in_X1 (ci := 1) (T := TX1) rfl hsh 0 (by decide) q127 (fun _ z => z) (v := .ref b) rfl dX1_put_25 ?_
    refine j_instAn C hb C.an.2.2 ((C.xe hE).nc 6 rfl) q458 dX1_put_28 ?_
    refine j_if_eqN C 48 dX1_put_31 (by decide) (by first | omega | exact hn) (fun c31 => ?_) (fun c31 => ?_)
    · refine j_aload_n C dX1_put_48 rfl 0 rfl ?_
      refine j_get (w := w) C in_X1 (ci := 1) (T := TX1) rfl hsh 0 (by decide) q127 (fun _ z => z) (v := .ref b) rfl dX1_put_49 ?_
      refine j_castA C hb C.an.2.2 q459 dX1_put_52 ?_
      refine j_iload_n C dX1_put_55 rfl 1 rfl ?_
      refine j_iload_n C dX1_put_56 rfl 2 rfl ?_
      refine j_iastN (w := w) C hb (j) rfl (by first | omega | exact hn) hn dX1_put_57 ?_
      refine j_aload_n C dX1_put_58 rfl 0 rfl ?_
      refine j_iload_n C dX1_put_59 rfl 1 rfl ?_
      refine j_callV (w := ((mu w.1 b σ (ai (gl_A G 0) n (upd f j v))), w.2)) C (kX1_at_2 G ((mu w.1 b σ (ai (gl_A G 0) n (upd f j v))), w.2) hG hE sh b τ σ n (upd f j v) ((mu_n hne).trans hsh) mu_s hn j hj) pI.ret (ci := 1) (T := TX1) ((mu_n hne).trans hsh) rfl 1 q460 q462 qs5 q67 q463 (by decide +kernel) rfl (by decide) (by decide) (Nat.le_of_ble_eq_true rfl) rfl dX1_put_60 (by omega) (by omega) (qI.k ?_)
      exact j_iret C (by omega) (by omega) (pI.mk ⟨by rw [← cut_2 v]; exact pk_us, by rw [← cut_2 v]⟩) dX1_put_63
    · exfalso; omega
  · exfalso; omega
set_option maxHeartbeats 400000 in
theorem kX1_put_2X (G : gl_T) (w : wd_T) (hG : GH G) (hE : GE G) (sh b τ σ n : Nat) (f : Nat → Int32) (hsh : w.1 sh = some (τ, .inr (1, [.ref b]))) (hb : w.1 b = some (σ, ai (gl_A G 0) n f)) (hn : n < 2 ^ 31) (i v : Int32) (ho : i < 0 ∨ n ≤ i.toNatClampNeg) : Mb G yX1_put cX1_put 3 (some .int) [] 1 [.ref sh, .int i, .int v] w (qT (w.2 + 2) (mu w.1 (w.2 + 2) (w.2 + 2) (.inr (22, [])), w.2 + 3)) 3 222 := by
  refine ⟨Nat.le_of_ble_eq_true rfl, fun k C hx => ?_⟩
  have C : Cx G k cX1_put "MoodFare$Shelf" "put" 3 (some .int) 1 3 222 _ := C
  refine j_aload_n C dX1_put_0 rfl 0 rfl ?_
  refine j_get (w := w) C in_X1 (ci := 1) (T := TX1) rfl hsh 0 (by decide) q127 (fun _ z => z) (v := .ref b) rfl dX1_put_1 ?_
  refine j_instAn C hb C.an.2.2 ((C.xe hE).nc 5 rfl) q457 dX1_put_4 ?_
  refine j_if_eqN C 24 dX1_put_7 (by decide) (by omega) (fun c7 => ?_) (fun c7 => ?_)
  · refine j_aload_n C dX1_put_24 rfl 0 rfl ?_
    refine j_get (w := w) C in_X1 (ci := 1) (T := TX1) rfl hsh 0 (by decide) q127 (fun _ z => z) (v := .ref b) rfl dX1_put_25 ?_
    refine j_instAn C hb C.an.2.2 ((C.xe hE).nc 6 rfl) q458 dX1_put_28 ?_
    refine j_if_eqN C 48 dX1_put_31 (by decide) (by omega) (fun c31 => ?_) (fun c31 => ?_)
    · refine j_aload_n C dX1_put_48 rfl 0 rfl ?_
      refine j_get (w := w) C in_X1 (ci := 1) (T := TX1) rfl hsh 0 (by decide) q127 (fun _ z => z) (v := .ref b) rfl dX1_put_49 ?_
      refine j_castA C hb C.an.2.2 q459 dX1_put_52 ?_
      refine j_iload_n C dX1_put_55 rfl 1 rfl ?_
      refine j_iload_n C dX1_put_56 rfl 2 rfl ?_
      exact j_iastX C hE hx (by intro x h; simp at h) (w.2 + 2) (Nat.le_of_ble_eq_true rfl) hb ho hn dX1_put_57 (by omega) (by omega) qT.mk
    · exfalso; omega
  · exfalso; omega
set_option maxHeartbeats 400000 in
theorem kX1_put_N (G : gl_T) (w : wd_T) (hG : GH G) (hE : GE G) (sh τ : Nat) (hsh : w.1 sh = some (τ, .inr (1, [.null]))) (i v : Int32) : Mb G yX1_put cX1_put 3 (some .int) [] 1 [.ref sh, .int i, .int v] w (qT w.2 (mu w.1 w.2 w.2 (.inr (21, [])), w.2 + 1)) 1 8 := by
  refine ⟨Nat.le_of_ble_eq_true rfl, fun k C hx => ?_⟩
  have C : Cx G k cX1_put "MoodFare$Shelf" "put" 3 (some .int) 1 1 8 _ := C
  refine j_aload_n C dX1_put_0 rfl 0 rfl ?_
  refine j_get (w := w) C in_X1 (ci := 1) (T := TX1) rfl hsh 0 (by decide) q127 (fun _ z => z) (v := .null) rfl dX1_put_1 ?_
  refine j_instN C dX1_put_4 ?_
  refine j_if_eqN C 24 dX1_put_7 (by decide) (by omega) (fun c7 => ?_) (fun c7 => ?_)
  · refine j_aload_n C dX1_put_24 rfl 0 rfl ?_
    refine j_get (w := w) C in_X1 (ci := 1) (T := TX1) rfl hsh 0 (by decide) q127 (fun _ z => z) (v := .null) rfl dX1_put_25 ?_
    refine j_instN C dX1_put_28 ?_
    refine j_if_eqN C 48 dX1_put_31 (by decide) (by omega) (fun c31 => ?_) (fun c31 => ?_)
    · refine j_aload_n C dX1_put_48 rfl 0 rfl ?_
      refine j_get (w := w) C in_X1 (ci := 1) (T := TX1) rfl hsh 0 (by decide) q127 (fun _ z => z) (v := .null) rfl dX1_put_49 ?_
      refine j_castN C dX1_put_52 ?_
      refine j_iload_n C dX1_put_55 rfl 1 rfl ?_
      refine j_iload_n C dX1_put_56 rfl 2 rfl ?_
      exact j_iastNX C hE hx (by intro x h; simp at h) w.2 (Nat.le_of_ble_eq_true rfl) dX1_put_57 (by omega) (by omega) qT.mk
    · exfalso; omega
  · exfalso; omega
set_option maxHeartbeats 400000 in
theorem kX0_newLane_0 (G : gl_T) (w : wd_T) (hG : GH G) (n τ : Nat) (hn : n ≤ 40) : Mt G yX0_newLane cX0_newLane 2 (some (.object "java/lang/Object")) 0 [.int (nI 0), .int (nI n)] w (qA (.ref w.2) (mu w.1 w.2 τ (ai (gl_A G 1) n (fun _ => 0)), w.2 + 1)) 1 40 := by
  refine Mt.start (by decide) (Nat.le_of_ble_eq_true rfl) (fun k C => ?_)
  have C : Cx G k cX0_newLane "MoodFare" "newLane" 2 (some (.object "java/lang/Object")) 0 1 40 _ := C
  refine j_iload_n C dX0_newLane_0 rfl 0 rfl ?_
  refine j_if_neN C 10 dX0_newLane_1 (by decide) (by omega) (fun c1 => ?_) (fun c1 => ?_)
  · exfalso; omega
  · refine j_iload_n C dX0_newLane_4 rfl 1 rfl ?_
    refine j_newb (w := w) C τ (n) q164 rfl (by omega) (by omega) (by omega) dX0_newLane_5 ?_
    refine j_goto C 24 dX0_newLane_7 (by decide) ?_
    exact j_aret C (by first | exact Or.inl ⟨_, rfl⟩ | exact Or.inr ⟨_, rfl⟩) (by first | exact Or.inl rfl | exact Or.inr ⟨_, rfl⟩) (by omega) (by omega) (pA.mk ⟨rfl, rfl⟩) dX0_newLane_24
set_option maxHeartbeats 400000 in
theorem kX0_newLane_0X (G : gl_T) (w : wd_T) (hG : GH G) (hE : GE G) (n : Int32) (hneg : n < 0) : Mb G yX0_newLane cX0_newLane 2 (some (.object "java/lang/Object")) [] 0 [.int (nI 0), .int n] w (qT (w.2 + 2) (mu w.1 (w.2 + 2) (w.2 + 2) (.inr (23, [])), w.2 + 3)) 3 54 := by
  refine ⟨Nat.le_of_ble_eq_true rfl, fun k C hx => ?_⟩
  have C : Cx G k cX0_newLane "MoodFare" "newLane" 2 (some (.object "java/lang/Object")) 0 3 54 _ := C
  refine j_iload_n C dX0_newLane_0 rfl 0 rfl ?_
  refine j_if_neN C 10 dX0_newLane_1 (by decide) (by omega) (fun c1 => ?_) (fun c1 => ?_)
  · exfalso; omega
  · refine j_iload_n C dX0_newLane_4 rfl 1 rfl ?_
    exact j_negX C hE hx (by intro x h; simp at h) (w.2 + 2) (Nat.le_of_ble_eq_true rfl) hneg dX0_newLane_5 (by omega) (by omega) qT.mk
set_option maxHeartbeats 400000 in
theorem kX0_newLane_1 (G : gl_T) (w : wd_T) (hG : GH G) (n τ : Nat) (hn : n ≤ 40) : Mt G yX0_newLane cX0_newLane 2 (some (.object "java/lang/Object")) 0 [.int (nI 1), .int (nI n)] w (qA (.ref w.2) (mu w.1 w.2 τ (ai (gl_A G 2) n (fun _ => 0)), w.2 + 1)) 1 40 := by
  refine Mt.start (by decide) (Nat.le_of_ble_eq_true rfl) (fun k C => ?_)
  have C : Cx G k cX0_newLane "MoodFare" "newLane" 2 (some (.object "java/lang/Object")) 0 1 40 _ := C
  refine j_iload_n C dX0_newLane_0 rfl 0 rfl ?_
  refine j_if_neN C 10 dX0_newLane_1 (by decide) (by omega) (fun c1 => ?_) (fun c1 => ?_)
  · refine j_iload_n C dX0_newLane_10 rfl 0 rfl ?_
    refine j_iconst (v := nI 1) C dX0_newLane_11 rfl ?_
    refine j_icmp_neN C 21 dX0_newLane_12 (by decide) (by omega) (by omega) (fun c12 => ?_) (fun c12 => ?_)
    · exfalso; omega
    · refine j_iload_n C dX0_newLane_15 rfl 1 rfl ?_
      refine j_news (w := w) C τ (n) q404 rfl (by omega) (by omega) (by omega) dX0_newLane_16 ?_
      refine j_goto C 24 dX0_newLane_18 (by decide) ?_
      exact j_aret C (by first | exact Or.inl ⟨_, rfl⟩ | exact Or.inr ⟨_, rfl⟩) (by first | exact Or.inl rfl | exact Or.inr ⟨_, rfl⟩) (by omega) (by omega) (pA.mk ⟨rfl, rfl⟩) dX0_newLane_24
  · exfalso; omega
set_option maxHeartbeats 400000 in
theorem kX0_newLane_1X (G : gl_T) (w : wd_T) (hG : GH G) (hE : GE G) (n : Int32) (hneg : n < 0) : Mb G yX0_newLane cX0_newLane 2 (some (.object "java/lang/Object")) [] 0 [.int (nI 1), .int n] w (qT (w.2 + 2) (mu w.1 (w.2 + 2) (w.2 + 2) (.inr (23, [])), w.2 + 3)) 3 54 := by
  refine ⟨Nat.le_of_ble_eq_true rfl, fun k C hx => ?_⟩
  have C : Cx G k cX0_newLane "MoodFare" "newLane" 2 (some (.object "java/lang/Object")) 0 3 54 _ := C
  refine j_iload_n C dX0_newLane_0 rfl 0 rfl ?_
  refine j_if_neN C 10 dX0_newLane_1 (by decide) (by omega) (fun c1 => ?_) (fun c1 => ?_)
  · refine j_iload_n C dX0_newLane_10 rfl 0 rfl ?_
    refine j_iconst (v := nI 1) C dX0_newLane_11 rfl ?_
    refine j_icmp_neN C 21 dX0_newLane_12 (by decide) (by omega) (by omega) (fun c12 => ?_) (fun c12 => ?_)
    · exfalso; omega
    · refine j_iload_n C dX0_newLane_15 rfl 1 rfl ?_
      exact j_negX C hE hx (by intro x h; simp at h) (w.2 + 2) (Nat.le_of_ble_eq_true rfl) hneg dX0_newLane_16 (by omega) (by omega) qT.mk
  · exfalso; omega
set_option maxHeartbeats 400000 in
theorem kX0_newLane_2 (G : gl_T) (w : wd_T) (hG : GH G) (n τ : Nat) (hn : n ≤ 40) : Mt G yX0_newLane cX0_newLane 2 (some (.object "java/lang/Object")) 0 [.int (nI 2), .int (nI n)] w (qA (.ref w.2) (mu w.1 w.2 τ (ai (gl_A G 0) n (fun _ => 0)), w.2 + 1)) 1 40 := by
  refine Mt.start (by decide) (Nat.le_of_ble_eq_true rfl) (fun k C => ?_)
  have C : Cx G k cX0_newLane "MoodFare" "newLane" 2 (some (.object "java/lang/Object")) 0 1 40 _ := C
  refine j_iload_n C dX0_newLane_0 rfl 0 rfl ?_
  refine j_if_neN C 10 dX0_newLane_1 (by decide) (by omega) (fun c1 => ?_) (fun c1 => ?_)
  · refine j_iload_n C dX0_newLane_10 rfl 0 rfl ?_
    refine j_iconst (v := nI 1) C dX0_newLane_11 rfl ?_
    refine j_icmp_neN C 21 dX0_newLane_12 (by decide) (by omega) (by omega) (fun c12 => ?_) (fun c12 => ?_)
    · refine j_iload_n C dX0_newLane_21 rfl 1 rfl ?_
      refine j_newi (w := w) C τ (n) q228 rfl (by omega) (by omega) (by omega) dX0_newLane_22 ?_
      exact j_aret C (by first | exact Or.inl ⟨_, rfl⟩ | exact Or.inr ⟨_, rfl⟩) (by first | exact Or.inl rfl | exact Or.inr ⟨_, rfl⟩) (by omega) (by omega) (pA.mk ⟨rfl, rfl⟩) dX0_newLane_24
    · exfalso; omega
  · exfalso; omega
set_option maxHeartbeats 400000 in
theorem kX0_newLane_2X (G : gl_T) (w : wd_T) (hG : GH G) (hE : GE G) (n : Int32) (hneg : n < 0) : Mb G yX0_newLane cX0_newLane 2 (some (.object "java/lang/Object")) [] 0 [.int (nI 2), .int n] w (qT (w.2 + 2) (mu w.1 (w.2 + 2) (w.2 + 2) (.inr (23, [])), w.2 + 3)) 3 54 := by
  refine ⟨Nat.le_of_ble_eq_true rfl, fun k C hx => ?_⟩
  have C : Cx G k cX0_newLane "MoodFare" "newLane" 2 (some (.object "java/lang/Object")) 0 3 54 _ := C
  refine j_iload_n C dX0_newLane_0 rfl 0 rfl ?_
  refine j_if_neN C 10 dX0_newLane_1 (by decide) (by omega) (fun c1 => ?_) (fun c1 => ?_)
  · refine j_iload_n C dX0_newLane_10 rfl 0 rfl ?_
    refine j_iconst (v := nI 1) C dX0_newLane_11 rfl ?_
    refine j_icmp_neN C 21 dX0_newLane_12 (by decide) (by omega) (by omega) (fun c12 => ?_) (fun c12 => ?_)
    · refine j_iload_n C dX0_newLane_21 rfl 1 rfl ?_
      exact j_negX C hE hx (by intro x h; simp at h) (w.2 + 2) (Nat.le_of_ble_eq_true rfl) hneg dX0_newLane_22 (by omega) (by omega) qT.mk
    · exfalso; omega
  · exfalso; omega
