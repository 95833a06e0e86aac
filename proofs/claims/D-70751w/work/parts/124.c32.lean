/-! ===== the class: figures, signs ===== -/
set_option maxRecDepth 100000
theorem takS_y {S : ms_T} {k : Nat} (h : S.1 8 < 0) : takS S true k = advS S := by unfold takS; rw [if_pos h, if_pos rfl]
theorem takS_n {S : ms_T} {k : Nat} (h : S.1 8 < 0) : takS S false k = sN (sF S 8 (nI (S.2.1 10))) 7 k := by unfold takS; rw [if_pos h, if_neg Bool.false_ne_true]
theorem takS_x {S : ms_T} {b : Bool} {k : Nat} (h : ¬ S.1 8 < 0) : takS S b k = S := by unfold takS; rw [if_neg h]
set_option maxHeartbeats 400000 in
theorem kX5_sign_3 (G : gl_T) (hG : GH G) (hE : GE G) (w : wd_T) (r mt ta : Nat) (S : ms_T) (t : Nat → Nat) (hR : RD G w r mt ta S t)  : Mb G yX5_sign cX5_sign 2 none [] 4 [.ref r, .int (nI 44)] w (rdP G r mt ta w (takS S (decide (S.2.1 11 = 3)) 1) (t) none) 1 8 := by
  refine ⟨Nat.le_of_ble_eq_true rfl, fun k C hx => ?_⟩
  have C : Cx G k cX5_sign "MoodFare$Reader" "sign" 2 none 4 1 8 _ := C
  refine j_aload_n C dX5_sign_0 rfl 0 rfl ?_
  refine j_aload_n C dX5_sign_1 rfl 0 rfl ?_
  refine j_iconst (v := nI 3) C dX5_sign_2 rfl ?_
  refine j_iload_n C dX5_sign_3 rfl 1 rfl ?_
  obtain ⟨σ1, f1, ht1, -, -, hf1⟩ := hR.2.2.2.1
  refine j_callV (w := w) C (kX5_is G w r r ta (S.2.1 6) (S.2.1 9) (tkC (S.2.1 11)) (S.2.1 10) mt σ1 (vaC S) f1 (S.2.2.2 5) hR.2.1 ht1 hR.2.2.2.2.1.1 (Nat.le_trans hR.2.2.2.2.1.2.1 hR.2.2.2.2.1.1) hf1 3 (nI 44) (by have := tkC_le (S.2.1 11); omega) (by decide)) pI.ret (ci := 5) (T := TX5) hR.2.1 rfl 2 q554 q556 qs9 q84 q557 (by decide +kernel) rfl (by decide) (by decide) (Nat.le_of_ble_eq_true rfl) rfl dX5_sign_4 (by omega) (by omega) (qI.k ?_)
  refine j_iconst (v := nI 1) C dX5_sign_7 rfl ?_
  cases hb8 : decide ((tkC (S.2.1 11)) = 3) && decide ((vaC S) = (nI 44))
  · refine j_in (w := w) C (iv_V C (ci := 5) (Tt := TX5) hR.2.1 rfl (Or.inr ⟨rfl, q561⟩) 2 q558 q560 qs10 (by decide +kernel) rfl rfl dX5_sign_8) (kX5_must_F G w hG hE r r ta (S.2.1 6) (S.2.1 9) (tkC (S.2.1 11)) (S.2.1 10) mt 1 (vaC S) hR.2.1 hR.ne.2.2) (Or.inr ⟨rfl, q561⟩) (by decide +kernel) (by decide) (by decide) (Nat.le_of_ble_eq_true rfl) (by omega) (by omega) (fun v w1 h1 => h1.no) ?_
    rintro a1 w1 ⟨h1, rfl⟩
    cases h1
    exact jt_out C hx (by intro x h; simp at h) (by omega) (by omega) (rdP.flt hR (FR2.refl r mt w) (by rw [← sg_3 hR, hb8]; exact takS_n hR.2.2.2.2.2.1))
  · refine j_in (w := w) C (iv_V C (ci := 5) (Tt := TX5) hR.2.1 rfl (Or.inr ⟨rfl, q561⟩) 2 q558 q560 qs10 (by decide +kernel) rfl rfl dX5_sign_8) (kX5_must_T G w hG hE r r ta (S.2.1 6) (S.2.1 9) (tkC (S.2.1 11)) (S.2.1 10) mt 1 (vaC S) hR.2.1 hR.ne.2.2) (Or.inr ⟨rfl, q561⟩) (by decide +kernel) (by decide) (by decide) (Nat.le_of_ble_eq_true rfl) (by omega) (by omega) (qV.k ?_) (fun _ _ h => pV.nt h)
    refine j_aload_n C dX5_sign_11 rfl 0 rfl ?_
    obtain ⟨σ2, f2, ht2, -, -, hf2⟩ := hR.2.2.2.1
    refine j_callV (w := w) C (kX5_next G w hG r r ta (S.2.1 6) (S.2.1 9) (tkC (S.2.1 11)) (S.2.1 10) mt σ2 (vaC S) f2 (S.2.2.2 5) hR.2.1 ht2 hR.ne.1 hR.2.2.2.2.1.1 hR.2.2.2.2.1.2.1 hR.2.2.2.2.1.2.2.2.2.1 hf2) pV.ret (ci := 5) (T := TX5) hR.2.1 rfl 0 q540 q542 qs7 q84 q543 (by decide +kernel) rfl (by decide) (by decide) (Nat.le_of_ble_eq_true rfl) rfl dX5_sign_12 (by omega) (by omega) (qV.k ?_)
    rw [nx_adv hR.2.2.2.2.1]
    refine j_abs (P := fun w' => RD G w' r mt ta (advS S) t ∧ FR2 r mt w w') hR.next (fun w2 hw2 => ?_)
    obtain ⟨hR2, hF2⟩ := hw2
    exact j_vret C (by omega) (by omega) (by rw [← sg_3 hR, hb8, takS_y hR.2.2.2.2.2.1]; exact rdP.ok (by rw [advS_8]; exact hR.2.2.2.2.2.1) hR2 ((FR2.refl r mt w).trans hF2)) dX5_sign_15
set_option maxHeartbeats 400000 in
theorem kX5_sign_4 (G : gl_T) (hG : GH G) (hE : GE G) (w : wd_T) (r mt ta : Nat) (S : ms_T) (t : Nat → Nat) (hR : RD G w r mt ta S t)  : Mb G yX5_sign cX5_sign 2 none [] 4 [.ref r, .int (nI 59)] w (rdP G r mt ta w (takS S (decide (S.2.1 11 = 4)) 1) (t) none) 1 8 := by
  refine ⟨Nat.le_of_ble_eq_true rfl, fun k C hx => ?_⟩
  have C : Cx G k cX5_sign "MoodFare$Reader" "sign" 2 none 4 1 8 _ := C
  refine j_aload_n C dX5_sign_0 rfl 0 rfl ?_
  refine j_aload_n C dX5_sign_1 rfl 0 rfl ?_
  refine j_iconst (v := nI 3) C dX5_sign_2 rfl ?_
  refine j_iload_n C dX5_sign_3 rfl 1 rfl ?_
  obtain ⟨σ1, f1, ht1, -, -, hf1⟩ := hR.2.2.2.1
  refine j_callV (w := w) C (kX5_is G w r r ta (S.2.1 6) (S.2.1 9) (tkC (S.2.1 11)) (S.2.1 10) mt σ1 (vaC S) f1 (S.2.2.2 5) hR.2.1 ht1 hR.2.2.2.2.1.1 (Nat.le_trans hR.2.2.2.2.1.2.1 hR.2.2.2.2.1.1) hf1 3 (nI 59) (by have := tkC_le (S.2.1 11); omega) (by decide)) pI.ret (ci := 5) (T := TX5) hR.2.1 rfl 2 q554 q556 qs9 q84 q557 (by decide +kernel) rfl (by decide) (by decide) (Nat.le_of_ble_eq_true rfl) rfl dX5_sign_4 (by omega) (by omega) (qI.k ?_)
  refine j_iconst (v := nI 1) C dX5_sign_7 rfl ?_
  cases hb8 : decide ((tkC (S.2.1 11)) = 3) && decide ((vaC S) = (nI 59))
  · refine j_in (w := w) C (iv_V C (ci := 5) (Tt := TX5) hR.2.1 rfl (Or.inr ⟨rfl, q561⟩) 2 q558 q560 qs10 (by decide +kernel) rfl rfl dX5_sign_8) (kX5_must_F G w hG hE r r ta (S.2.1 6) (S.2.1 9) (tkC (S.2.1 11)) (S.2.1 10) mt 1 (vaC S) hR.2.1 hR.ne.2.2) (Or.inr ⟨rfl, q561⟩) (by decide +kernel) (by decide) (by decide) (Nat.le_of_ble_eq_true rfl) (by omega) (by omega) (fun v w1 h1 => h1.no) ?_
    rintro a1 w1 ⟨h1, rfl⟩
    cases h1
    exact jt_out C hx (by intro x h; simp at h) (by omega) (by omega) (rdP.flt hR (FR2.refl r mt w) (by rw [← sg_4 hR, hb8]; exact takS_n hR.2.2.2.2.2.1))
  · refine j_in (w := w) C (iv_V C (ci := 5) (Tt := TX5) hR.2.1 rfl (Or.inr ⟨rfl, q561⟩) 2 q558 q560 qs10 (by decide +kernel) rfl rfl dX5_sign_8) (kX5_must_T G w hG hE r r ta (S.2.1 6) (S.2.1 9) (tkC (S.2.1 11)) (S.2.1 10) mt 1 (vaC S) hR.2.1 hR.ne.2.2) (Or.inr ⟨rfl, q561⟩) (by decide +kernel) (by decide) (by decide) (Nat.le_of_ble_eq_true rfl) (by omega) (by omega) (qV.k ?_) (fun _ _ h => pV.nt h)
    refine j_aload_n C dX5_sign_11 rfl 0 rfl ?_
    obtain ⟨σ2, f2, ht2, -, -, hf2⟩ := hR.2.2.2.1
    refine j_callV (w := w) C (kX5_next G w hG r r ta (S.2.1 6) (S.2.1 9) (tkC (S.2.1 11)) (S.2.1 10) mt σ2 (vaC S) f2 (S.2.2.2 5) hR.2.1 ht2 hR.ne.1 hR.2.2.2.2.1.1 hR.2.2.2.2.1.2.1 hR.2.2.2.2.1.2.2.2.2.1 hf2) pV.ret (ci := 5) (T := TX5) hR.2.1 rfl 0 q540 q542 qs7 q84 q543 (by decide +kernel) rfl (by decide) (by decide) (Nat.le_of_ble_eq_true rfl) rfl dX5_sign_12 (by omega) (by omega) (qV.k ?_)
    rw [nx_adv hR.2.2.2.2.1]
    refine j_abs (P := fun w' => RD G w' r mt ta (advS S) t ∧ FR2 r mt w w') hR.next (fun w2 hw2 => ?_)
    obtain ⟨hR2, hF2⟩ := hw2
    exact j_vret C (by omega) (by omega) (by rw [← sg_4 hR, hb8, takS_y hR.2.2.2.2.2.1]; exact rdP.ok (by rw [advS_8]; exact hR.2.2.2.2.2.1) hR2 ((FR2.refl r mt w).trans hF2)) dX5_sign_15
theorem fig_ok {G : gl_T} {w w' : wd_T} {r mt ta : Nat} {S : ms_T} {t : Nat → Nat} {lo hi : Int32} (h8 : S.1 8 < 0) (e : takV S (inB (S.1 12) lo hi) = nI (figV S lo hi) ∧ takS S (inB (S.1 12) lo hi) 2 = figS S lo hi) (hva : vaC S = S.1 12) (hb : inB (vaC S) lo hi = true) (hR : RD G w' r mt ta (advS S) t) (hF : FR2 r mt w w') : rdP G r mt ta w (figS S lo hi) t (some (.int (nI (figV S lo hi)))) (.returned (some (.int (vaC S)))) w' := by
  rw [hva] at hb
  rw [hb] at e
  have e1 : S.1 12 = nI (figV S lo hi) := by
    rw [← e.1]
    unfold takV
    rw [if_pos ⟨h8, rfl⟩]
  rw [hva, e1, ← e.2, takS_y h8]
  exact rdP.ok (by rw [advS_8]; exact h8) hR hF
set_option maxHeartbeats 400000 in
theorem kX5_figure (G : gl_T) (hG : GH G) (hE : GE G) (w : wd_T) (r mt ta : Nat) (S : ms_T) (t : Nat → Nat) (hR : RD G w r mt ta S t) (lo hi : Int32) (h0 : 0 ≤ lo) : Mb G yX5_figure cX5_figure 4 (some .int) [] 4 [.ref r, .int lo, .int hi] w (rdP G r mt ta w (figS S lo hi) (t) (some (.int (nI (figV S lo hi))))) 2 16 := by
  refine ⟨Nat.le_of_ble_eq_true rfl, fun k C hx => ?_⟩
  have C : Cx G k cX5_figure "MoodFare$Reader" "figure" 4 (some .int) 4 2 16 _ := C
  have h8 := hR.2.2.2.2.2.1
  have htk := tkC_le (S.2.1 11)
  refine j_aload_n C dX5_figure_0 rfl 0 rfl ?_
  refine j_aload_n C dX5_figure_1 rfl 0 rfl ?_
  refine j_get (w := w) C in_X5 (ci := 5) (T := TX5) rfl hR.2.1 3 (by decide) q516 (fun _ z => z) (v := .int (nI (tkC (S.2.1 11)))) rfl dX5_figure_2 ?_
  refine j_iconst (v := nI 2) C dX5_figure_5 rfl ?_
  refine j_icmp_neN C 13 dX5_figure_6 (by decide) (by omega) (by omega) (fun c6 => ?_) (fun c6 => ?_)
  · refine j_iconst (v := nI 0) C dX5_figure_13 rfl ?_
    refine j_iconst (v := nI 1) C dX5_figure_14 rfl ?_
    refine j_in (w := w) C (iv_V C (ci := 5) (Tt := TX5) hR.2.1 rfl (Or.inr ⟨rfl, q561⟩) 2 q558 q560 qs10 (by decide +kernel) rfl rfl dX5_figure_15) (kX5_must_F G w hG hE r r ta (S.2.1 6) (S.2.1 9) (tkC (S.2.1 11)) (S.2.1 10) mt 1 (vaC S) hR.2.1 hR.ne.2.2) (Or.inr ⟨rfl, q561⟩) (by decide +kernel) (by decide) (by decide) (Nat.le_of_ble_eq_true rfl) (by omega) (by omega) (fun v w1 h1 => h1.no) ?_
    rintro a1 w1 ⟨h1, rfl⟩
    cases h1
    exact jt_out C hx (by intro x h; simp at h) (by omega) (by omega) (rdP.flt hR (FR2.refl r mt w) (by rw [← (figA (hi := hi) (lo := lo) ⟨h8, fun z => c6 (tkC_2.mpr z)⟩).2]; exact takS_n h8))
  · have h11 := tkC_2.mp c6
    have hva : vaC S = S.1 12 := by unfold vaC; rw [if_neg (by omega)]
    have e := figE (S := S) (hi := hi) h0 (fun z => z.2 h11)
    refine j_iconst (v := nI 1) C dX5_figure_9 rfl ?_
    refine j_goto C 14 dX5_figure_10 (by decide) ?_
    refine j_iconst (v := nI 1) C dX5_figure_14 rfl ?_
    refine j_in (w := w) C (iv_V C (ci := 5) (Tt := TX5) hR.2.1 rfl (Or.inr ⟨rfl, q561⟩) 2 q558 q560 qs10 (by decide +kernel) rfl rfl dX5_figure_15) (kX5_must_T G w hG hE r r ta (S.2.1 6) (S.2.1 9) (tkC (S.2.1 11)) (S.2.1 10) mt 1 (vaC S) hR.2.1 hR.ne.2.2) (Or.inr ⟨rfl, q561⟩) (by decide +kernel) (by decide) (by decide) (Nat.le_of_ble_eq_true rfl) (by omega) (by omega) (qV.k ?_) (fun _ _ h => pV.nt h)
    refine j_aload_n C dX5_figure_18 rfl 0 rfl ?_
    refine j_aload_n C dX5_figure_19 rfl 0 rfl ?_
    refine j_get (w := w) C in_X5 (ci := 5) (T := TX5) rfl hR.2.1 5 (by decide) q518 (fun _ z => z) (v := .int (vaC S)) rfl dX5_figure_20 ?_
    refine j_i2l C dX5_figure_23 ?_
    refine j_iload_n C dX5_figure_24 rfl 1 rfl ?_
    refine j_i2l C dX5_figure_25 ?_
    refine j_iload_n C dX5_figure_26 rfl 2 rfl ?_
    refine j_i2l C dX5_figure_27 ?_
    refine j_callSN (w := w) C (kX0_isIn G w ((vaC S)) lo hi) pI.ret 3 (C.nw hG q551 rfl) q388 q66 q389 (by decide +kernel) rfl (by decide) (by decide) (Nat.le_of_ble_eq_true rfl) rfl dX5_figure_28 (by omega) (by omega) (qI.k ?_)
    refine j_iconst (v := nI 2) C dX5_figure_31 rfl ?_
    cases hb32 : inB ((vaC S)) lo hi
    · refine j_in (w := w) C (iv_V C (ci := 5) (Tt := TX5) hR.2.1 rfl (Or.inr ⟨rfl, q561⟩) 2 q558 q560 qs10 (by decide +kernel) rfl rfl dX5_figure_32) (kX5_must_F G w hG hE r r ta (S.2.1 6) (S.2.1 9) (tkC (S.2.1 11)) (S.2.1 10) mt 2 (vaC S) hR.2.1 hR.ne.2.2) (Or.inr ⟨rfl, q561⟩) (by decide +kernel) (by decide) (by decide) (Nat.le_of_ble_eq_true rfl) (by omega) (by omega) (fun v w1 h1 => h1.no) ?_
      rintro a1 w1 ⟨h1, rfl⟩
      cases h1
      exact jt_out C hx (by intro x h; simp at h) (by omega) (by omega) (rdP.flt hR (FR2.refl r mt w) (by rw [← e.2, ← hva, hb32]; exact takS_n h8))
    · refine j_in (w := w) C (iv_V C (ci := 5) (Tt := TX5) hR.2.1 rfl (Or.inr ⟨rfl, q561⟩) 2 q558 q560 qs10 (by decide +kernel) rfl rfl dX5_figure_32) (kX5_must_T G w hG hE r r ta (S.2.1 6) (S.2.1 9) (tkC (S.2.1 11)) (S.2.1 10) mt 2 (vaC S) hR.2.1 hR.ne.2.2) (Or.inr ⟨rfl, q561⟩) (by decide +kernel) (by decide) (by decide) (Nat.le_of_ble_eq_true rfl) (by omega) (by omega) (qV.k ?_) (fun _ _ h => pV.nt h)
      refine j_aload_n C dX5_figure_35 rfl 0 rfl ?_
      refine j_get (w := w) C in_X5 (ci := 5) (T := TX5) rfl hR.2.1 5 (by decide) q518 (fun _ z => z) (v := .int (vaC S)) rfl dX5_figure_36 ?_
      refine j_istore_n (lv' := [(3, .int (vaC S)), (0, .ref r), (1, .int lo), (2, .int hi)]) C dX5_figure_39 rfl (by decide) rfl ?_
      refine j_aload_n C dX5_figure_40 rfl 1 rfl ?_
      obtain ⟨σ1, f1, ht1, -, -, hf1⟩ := hR.2.2.2.1
      refine j_callV (w := w) C (kX5_next G w hG r r ta (S.2.1 6) (S.2.1 9) (tkC (S.2.1 11)) (S.2.1 10) mt σ1 (vaC S) f1 (S.2.2.2 5) hR.2.1 ht1 hR.ne.1 hR.2.2.2.2.1.1 hR.2.2.2.2.1.2.1 hR.2.2.2.2.1.2.2.2.2.1 hf1) pV.ret (ci := 5) (T := TX5) hR.2.1 rfl 0 q540 q542 qs7 q84 q543 (by decide +kernel) rfl (by decide) (by decide) (Nat.le_of_ble_eq_true rfl) rfl dX5_figure_41 (by omega) (by omega) (qV.k ?_)
      rw [nx_adv hR.2.2.2.2.1]
      refine j_abs (P := fun w' => RD G w' r mt ta (advS S) t ∧ FR2 r mt w w') hR.next (fun w1 hw1 => ?_)
      obtain ⟨hR1, hF1⟩ := hw1
      refine j_iload_n C dX5_figure_44 rfl 0 rfl ?_
      exact j_iret C (by omega) (by omega) (fig_ok h8 e hva hb32 hR1 ((FR2.refl r mt w).trans hF1)) dX5_figure_45
