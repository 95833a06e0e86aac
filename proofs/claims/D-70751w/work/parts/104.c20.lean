/-! ===== the class: the reader looks ===== -/
set_option maxRecDepth 100000
set_option maxHeartbeats 400000 in
theorem kX5_look (G : gl_T) (w : wd_T) (r τ ta sz at0 tok fr mt σ : Nat) (va : Int32) (f : Nat → Int32) (tp : Nat → Nat) (hr : w.1 r = some (τ, .inr (5, [.ref ta, .int (nI sz), .int (nI at0), .int (nI tok), .int (nI fr), .int va, .ref mt]))) (hta : w.1 ta = some (σ, ai (gl_A G 1) 120 f)) (hsz : sz ≤ 120) (ha : at0 ≤ 120) (hf : ∀ i, i < sz → f i &&& nI 255 = nI (tp i)) : Mt G yX5_look cX5_look 1 (some .int) 0 [.ref r] w (qI (if at0 < sz then nI (tp at0) else kNONE) w) 0 0 := by
  refine Mt.start (by decide) (Nat.le_of_ble_eq_true rfl) (fun k C => ?_)
  have C : Cx G k cX5_look "MoodFare$Reader" "look" 1 (some .int) 0 0 0 _ := C
  refine j_aload_n C dX5_look_0 rfl 0 rfl ?_
  refine j_get (w := w) C in_X5 (ci := 5) (T := TX5) rfl hr 2 (by decide) q515 (fun _ z => z) (v := .int (nI at0)) rfl dX5_look_1 ?_
  refine j_aload_n C dX5_look_4 rfl 0 rfl ?_
  refine j_get (w := w) C in_X5 (ci := 5) (T := TX5) rfl hr 1 (by decide) q514 (fun _ z => z) (v := .int (nI sz)) rfl dX5_look_5 ?_
  refine j_icmp_geN C 27 dX5_look_8 (by decide) (by omega) (by omega) (fun c8 => ?_) (fun c8 => ?_)
  · refine j_ldc C q548 dX5_look_27 ?_
    exact j_iret C (by omega) (by omega) (pI.mk ⟨by rw [if_neg (by omega)], rfl⟩) dX5_look_29
  · refine j_aload_n C dX5_look_11 rfl 0 rfl ?_
    refine j_get (w := w) C in_X5 (ci := 5) (T := TX5) rfl hr 0 (by decide) q513 (fun _ z => z) (v := .ref ta) rfl dX5_look_12 ?_
    refine j_aload_n C dX5_look_15 rfl 0 rfl ?_
    refine j_get (w := w) C in_X5 (ci := 5) (T := TX5) rfl hr 2 (by decide) q515 (fun _ z => z) (v := .int (nI at0)) rfl dX5_look_16 ?_
    refine j_baldN (w := w) C hta (at0) rfl (by omega) (by decide) dX5_look_19 ?_
    refine j_sipush (v := nI 255) C dX5_look_20 rfl ?_
    refine j_iand C dX5_look_23 ?_
    refine j_goto C 29 dX5_look_24 (by decide) ?_
    exact j_iret C (by omega) (by omega) (pI.mk ⟨by rw [if_pos (by omega)]; exact hf at0 (by omega), rfl⟩) dX5_look_29
set_option maxHeartbeats 400000 in
theorem kX5_is (G : gl_T) (w : wd_T) (r τ ta sz at0 tok fr mt σ : Nat) (va : Int32) (f : Nat → Int32) (tp : Nat → Nat) (hr : w.1 r = some (τ, .inr (5, [.ref ta, .int (nI sz), .int (nI at0), .int (nI tok), .int (nI fr), .int va, .ref mt]))) (hta : w.1 ta = some (σ, ai (gl_A G 1) 120 f)) (hsz : sz ≤ 120) (ha : at0 ≤ 120) (hf : ∀ i, i < sz → f i &&& nI 255 = nI (tp i)) (s : Nat) (c : Int32) (htok : tok < 2 ^ 31) (hs : s < 2 ^ 31) : Mt G yX5_is cX5_is 3 (some .boolean) 0 [.ref r, .int (nI s), .int c] w (qI (bZ (decide (tok = s) && decide (va = c))) w) 0 0 := by
  refine Mt.start (by decide) (Nat.le_of_ble_eq_true rfl) (fun k C => ?_)
  have C : Cx G k cX5_is "MoodFare$Reader" "is" 3 (some .boolean) 0 0 0 _ := C
  refine j_aload_n C dX5_is_0 rfl 0 rfl ?_
  refine j_get (w := w) C in_X5 (ci := 5) (T := TX5) rfl hr 3 (by decide) q516 (fun _ z => z) (v := .int (nI tok)) rfl dX5_is_1 ?_
  refine j_iload_n C dX5_is_4 rfl 1 rfl ?_
  refine j_icmp_neN C 20 dX5_is_5 (by decide) (by omega) (by omega) (fun c5 => ?_) (fun c5 => ?_)
  · refine j_iconst (v := nI 0) C dX5_is_20 rfl ?_
    exact j_zret C (by decide +kernel) (by omega) (by omega) (pI.mk ⟨by simp [bZ, c5], rfl⟩) dX5_is_21
  · refine j_aload_n C dX5_is_8 rfl 0 rfl ?_
    refine j_get (w := w) C in_X5 (ci := 5) (T := TX5) rfl hr 5 (by decide) q518 (fun _ z => z) (v := .int va) rfl dX5_is_9 ?_
    refine j_iload_n C dX5_is_12 rfl 2 rfl ?_
    refine j_icmp_ne C 20 dX5_is_13 (by decide) (fun c13 => ?_) (fun c13 => ?_)
    · refine j_iconst (v := nI 0) C dX5_is_20 rfl ?_
      exact j_zret C (by decide +kernel) (by omega) (by omega) (pI.mk ⟨by simp [bZ, c5, c13], rfl⟩) dX5_is_21
    · refine j_iconst (v := nI 1) C dX5_is_16 rfl ?_
      refine j_goto C 21 dX5_is_17 (by decide) ?_
      exact j_zret C (by decide +kernel) (by omega) (by omega) (pI.mk ⟨by simp [bZ, c5, c13], rfl⟩) dX5_is_21
