/-! ===== plain words: corners, streets, a town are read (the reference) ===== -/
set_option maxRecDepth 100000
theorem takS_w {S : ms_T} {b : Bool} {k : Nat} (h : pOK S) (hw : (takS S b k).1 8 < 0) : S.1 8 < 0 ∧ b = true := by
  unfold takS at hw
  split at hw
  · rename_i c
    refine ⟨c, ?_⟩
    cases b with
    | true => rfl
    | false =>
      exfalso
      have q : nI (S.2.1 10) < 0 := hw
      exact absurd q (Int32.not_lt.mpr (nI_pos' (by have := h.2.2.1; omega)))
  · rename_i c
    exact absurd hw c
theorem figS_w {S : ms_T} {lo hi : Int32} (h : pOK S) (hw : (figS S lo hi).1 8 < 0) : S.1 8 < 0 ∧ figB S lo hi = true := takS_w h hw
theorem tofS_w {S : ms_T} {f : Nat} (h : pOK S) (hw : (tofS S f).1 8 < 0) : S.1 8 < 0 ∧ tofB S f = true := takS_w h hw
theorem figS_t (S : ms_T) (lo hi : Int32) : (figS S lo hi).2.2 = S.2.2 := takS_t _ _ _
theorem tofS_t (S : ms_T) (f : Nat) : (tofS S f).2.2 = S.2.2 := takS_t _ _ _
/-- a corner is read -/
def rcA (S : ms_T) : ms_T := takS S (decide (S.2.2.2 7 6 < 6)) 3
def rcB (S : ms_T) : ms_T := takS (figS (rcA S) (nI 0) (nI 9)) (decide ((figS (rcA S) (nI 0) (nI 9)).2.1 11 = 3)) 1
def rcC (S : ms_T) : ms_T := figS (rcB S) (nI 0) (nI 9)
def rcD (S : ms_T) : ms_T := takS (rcC S) (decide ((rcC S).2.1 11 = 4)) 1
def rcK (S : ms_T) : Nat := 7 + 3 * (if (rcA S).2.2.2 7 6 < 6 then (rcA S).2.2.2 7 6 else 0)
def rcT (S : ms_T) : Nat → Nat := uN (uN (uN (uN ((rcD S).2.2.2 7) (rcK S) (kndN (S.1 12))) (rcK S + 1) (figV (rcA S) (nI 0) (nI 9))) (rcK S + 2) (figV (rcB S) (nI 0) (nI 9))) 6 ((rcD S).2.2.2 7 6 + 1)
def rcS (S : ms_T) : ms_T := if (rcD S).1 8 < 0 then sB (rcD S) 7 (rcT S) else rcD S
theorem rcK_le (S : ms_T) : rcK S ≤ 22 ∧ 7 ≤ rcK S := by
  unfold rcK
  split <;> omega
theorem rcD_ok {S : ms_T} (h : pOK S) : pOK (rcD S) := takS_ok (figS_ok (takS_ok (figS_ok (takS_ok h))))
theorem rcD_t (S : ms_T) : (rcD S).2.2 = S.2.2 := by
  unfold rcD rcC rcB rcA
  rw [takS_t, figS_t, takS_t, figS_t, takS_t]
theorem rcD_w {S : ms_T} (h : pOK S) (hw : (rcD S).1 8 < 0) : S.1 8 < 0 ∧ S.2.2.2 7 6 < 6 := by
  have h1 : pOK (rcA S) := by unfold rcA; exact takS_ok h
  have h2 : pOK (rcB S) := by unfold rcB; exact takS_ok (figS_ok h1)
  have h3 : pOK (rcC S) := by unfold rcC; exact figS_ok h2
  unfold rcD at hw
  have w1 := (takS_w (S := rcC S) h3 hw).1
  unfold rcC at w1
  have w2 := (figS_w (S := rcB S) h2 w1).1
  unfold rcB at w2
  have w3 := (takS_w (S := figS (rcA S) (nI 0) (nI 9)) (figS_ok h1) w2).1
  have w4 := (figS_w (S := rcA S) h1 w3).1
  unfold rcA at w4
  obtain ⟨w5, w6⟩ := takS_w h w4
  exact ⟨w5, of_decide_eq_true w6⟩
theorem pOK_up {D : ms_T} {T : Nat → Nat} (h : pOK D) (h6 : T 6 ≤ 6) (h25 : T 25 ≤ 8) (h5 : T 5 < 256) : pOK (sB D 7 T) := by
  obtain ⟨a1, a2, a3, a4, a5, a6, a7, a8⟩ := h
  exact ⟨a1, a2, a3, a4, a5, h6, h25, h5⟩
theorem uN4c {T : Nat → Nat} {k a b c d : Nat} (h1 : 7 ≤ k) (h2 : k ≤ 22) : uN (uN (uN (uN T k a) (k + 1) b) (k + 2) c) 6 d 6 = d ∧ uN (uN (uN (uN T k a) (k + 1) b) (k + 2) c) 6 d 25 = T 25 ∧ uN (uN (uN (uN T k a) (k + 1) b) (k + 2) c) 6 d 5 = T 5 := by
  refine ⟨uN_s, ?_, ?_⟩
  · rw [uN_n (by omega), uN_n (by omega), uN_n (by omega), uN_n (by omega)]
  · rw [uN_n (by omega), uN_n (by omega), uN_n (by omega), uN_n (by omega)]
theorem uN4s {T : Nat → Nat} {k a b c d : Nat} (h1 : 26 ≤ k) : uN (uN (uN (uN T k a) (k + 1) b) 5 c) 25 d 6 = T 6 ∧ uN (uN (uN (uN T k a) (k + 1) b) 5 c) 25 d 25 = d ∧ uN (uN (uN (uN T k a) (k + 1) b) 5 c) 25 d 5 = c := by
  refine ⟨?_, uN_s, ?_⟩
  · rw [uN_n (by omega), uN_n (by omega), uN_n (by omega), uN_n (by omega)]
  · rw [uN_n (by omega), uN_s]
theorem rcS_ok {S : ms_T} (h : pOK S) : pOK (rcS S) := by
  unfold rcS
  split
  · rename_i c
    have hc := (rcD_w h c).2
    have e6 : (rcD S).2.2.2 7 6 = S.2.2.2 7 6 := by rw [rcD_t]
    have u := uN4c (T := (rcD S).2.2.2 7) (a := kndN (S.1 12)) (b := figV (rcA S) (nI 0) (nI 9)) (c := figV (rcB S) (nI 0) (nI 9)) (d := (rcD S).2.2.2 7 6 + 1) (rcK_le S).2 (rcK_le S).1
    refine pOK_up (rcD_ok h) ?_ ?_ ?_
    · unfold rcT
      rw [u.1, e6]
      exact hc
    · unfold rcT
      rw [u.2.1]
      exact (rcD_ok h).2.2.2.2.2.2.1
    · unfold rcT
      rw [u.2.2]
      exact (rcD_ok h).2.2.2.2.2.2.2
  · exact rcD_ok h
/-- a street is read -/
def rsA (S : ms_T) : ms_T := takS S (decide (S.2.2.2 7 25 < 8)) 3
def rsF (S : ms_T) : Nat := figV (rsA S) (nI 0) (nI ((rsA S).2.2.2 7 6) - nI 1)
def rsB (S : ms_T) : ms_T := takS (figS (rsA S) (nI 0) (nI ((rsA S).2.2.2 7 6) - nI 1)) (decide ((figS (rsA S) (nI 0) (nI ((rsA S).2.2.2 7 6) - nI 1)).2.1 11 = 3)) 1
def rsC (S : ms_T) : ms_T := tofS (rsB S) (rsF S)
def rsD (S : ms_T) : ms_T := takS (rsC S) (decide ((rsC S).2.1 11 = 4)) 1
def rsK (S : ms_T) : Nat := 26 + 2 * (if (rsA S).2.2.2 7 25 < 8 then (rsA S).2.2.2 7 25 else 0)
def rsT (S : ms_T) : Nat → Nat := uN (uN (uN (uN ((rsD S).2.2.2 7) (rsK S) (rsF S)) (rsK S + 1) (tofV (rsB S) (rsF S))) 5 ((rsD S).2.2.2 7 5 ||| 2 ^ (rsD S).2.2.2 7 25)) 25 ((rsD S).2.2.2 7 25 + 1)
def rsS (S : ms_T) : ms_T := if (rsD S).1 8 < 0 then sB (rsD S) 7 (rsT S) else rsD S
theorem rsK_le (S : ms_T) : rsK S ≤ 40 ∧ 26 ≤ rsK S := by
  unfold rsK
  split <;> omega
theorem rsD_ok {S : ms_T} (h : pOK S) : pOK (rsD S) := takS_ok (tofS_ok (takS_ok (figS_ok (takS_ok h))))
theorem rsD_t (S : ms_T) : (rsD S).2.2 = S.2.2 := by
  unfold rsD rsC rsB rsA
  rw [takS_t, tofS_t, takS_t, figS_t, takS_t]
theorem rsD_w {S : ms_T} (h : pOK S) (hw : (rsD S).1 8 < 0) : S.1 8 < 0 ∧ S.2.2.2 7 25 < 8 := by
  have h1 : pOK (rsA S) := by unfold rsA; exact takS_ok h
  have h2 : pOK (rsB S) := by unfold rsB; exact takS_ok (figS_ok h1)
  have h3 : pOK (rsC S) := by unfold rsC; exact tofS_ok h2
  unfold rsD at hw
  have w1 := (takS_w (S := rsC S) h3 hw).1
  unfold rsC at w1
  have w2 := (tofS_w (S := rsB S) h2 w1).1
  unfold rsB at w2
  have w3 := (takS_w (S := figS (rsA S) (nI 0) (nI ((rsA S).2.2.2 7 6) - nI 1)) (figS_ok h1) w2).1
  have w4 := (figS_w (S := rsA S) h1 w3).1
  unfold rsA at w4
  obtain ⟨w5, w6⟩ := takS_w h w4
  exact ⟨w5, of_decide_eq_true w6⟩
theorem rsS_ok {S : ms_T} (h : pOK S) : pOK (rsS S) := by
  unfold rsS
  split
  · rename_i c
    have hc := (rsD_w h c).2
    have e6 : (rsD S).2.2.2 7 25 = S.2.2.2 7 25 := by rw [rsD_t]
    have u := uN4s (T := (rsD S).2.2.2 7) (a := rsF S) (b := tofV (rsB S) (rsF S)) (c := (rsD S).2.2.2 7 5 ||| 2 ^ (rsD S).2.2.2 7 25) (d := (rsD S).2.2.2 7 25 + 1) (rsK_le S).2
    refine pOK_up (rsD_ok h) ?_ ?_ ?_
    · unfold rsT
      rw [u.1]
      exact (rsD_ok h).2.2.2.2.2.1
    · unfold rsT
      rw [u.2.1, e6]
      exact hc
    · unfold rsT
      rw [u.2.2, e6]
      exact Nat.or_lt_two_pow (n := 8) (rsD_ok h).2.2.2.2.2.2.2 (Nat.pow_lt_pow_right (by decide) hc)
  · exact rsD_ok h
/-- corners, streets, one after another -/
def rcG (S : ms_T) : Bool := decide (S.1 8 < 0) && (decide (S.2.1 11 = 1) && decide (0 < kndN (S.1 12)))
def rcL : Nat → ms_T → Option ms_T
  | 0, _ => none
  | n + 1, S => if rcG S then rcL n (rcS S) else some S
def rsG (S : ms_T) : Bool := decide (S.1 8 < 0) && (decide (S.2.1 11 = 1) && decide (S.1 12 = nI 120))
def rsL : Nat → ms_T → Option ms_T
  | 0, _ => none
  | n + 1, S => if rsG S then rsL n (rsS S) else some S
/-- the head of a text -/
def twA (S : ms_T) : ms_T := advS (sF (sN (sB S 7 (fun _ => 0)) 9 0) 8 (-1))
def twB (S : ms_T) : ms_T := takS (twA S) (decide ((twA S).2.1 11 = 1) && decide ((twA S).1 12 = nI 116)) 1
def twC (S : ms_T) : ms_T := sB (figS (twB S) (nI 1) (nI 9)) 7 (uN ((figS (twB S) (nI 1) (nI 9)).2.2.2 7) 0 (figV (twB S) (nI 1) (nI 9)))
def twD (S : ms_T) : ms_T := takS (twC S) (decide ((twC S).2.1 11 = 3)) 1
def twE (S : ms_T) : ms_T := sB (figS (twD S) (nI 0) (nI 9)) 7 (uN ((figS (twD S) (nI 0) (nI 9)).2.2.2 7) 1 (figV (twD S) (nI 0) (nI 9)))
def twF (S : ms_T) : ms_T := takS (twE S) (decide ((twE S).2.1 11 = 4)) 1
def twG (S : ms_T) : ms_T := if (twF S).1 8 < 0 ∧ ¬ ((twF S).2.1 11 = 1 ∧ 0 < kndN ((twF S).1 12)) then takS (twF S) false 1 else twF S
/-- its end -/
def twH (S : ms_T) : ms_T := if S.1 8 < 0 ∧ ¬ S.2.1 11 = 0 then takS S false 1 else S
theorem pOK_d {S : ms_T} {i v : Nat} (h : pOK S) (h1 : i ≤ 1) : pOK (sB S 7 (uN (S.2.2.2 7) i v)) := by
  obtain ⟨a1, a2, a3, a4, a5, a6, a7, a8⟩ := h
  refine ⟨a1, a2, a3, a4, a5, ?_, ?_, ?_⟩
  · show uN (S.2.2.2 7) i v 6 ≤ 6
    rw [uN_n (by omega)]; exact a6
  · show uN (S.2.2.2 7) i v 25 ≤ 8
    rw [uN_n (by omega)]; exact a7
  · show uN (S.2.2.2 7) i v 5 < 256
    rw [uN_n (by omega)]; exact a8
/-- how a reader begins -/
def pOK0 (S : ms_T) : Prop := S.2.1 6 ≤ 120 ∧ S.2.1 10 ≤ 120 ∧ S.2.1 11 ≤ 5 ∧ ∀ i, S.2.2.2 5 i ≤ 255
theorem pOK_0 {S : ms_T} (h : pOK0 S) : pOK (sF (sN (sB S 7 (fun _ => 0)) 9 0) 8 (-1)) := ⟨h.1, Nat.zero_le _, h.2.1, h.2.2.1, h.2.2.2, Nat.zero_le _, Nat.zero_le _, show 0 < 256 by decide⟩
theorem twG_ok {S : ms_T} (h : pOK0 S) : pOK (twG S) := by
  have : pOK (twF S) := takS_ok (pOK_d (figS_ok (takS_ok (pOK_d (figS_ok (takS_ok (advS_ok (pOK_0 h)))) (by decide)))) (by decide))
  unfold twG
  split
  · exact takS_ok this
  · exact this
theorem rcL_ok : ∀ n S R, pOK S → rcL n S = some R → pOK R := by
  intro n
  induction n with
  | zero => intro S R _ h; cases h
  | succ n ih =>
    intro S R h e
    unfold rcL at e
    split at e
    · exact ih _ _ (rcS_ok h) e
    · cases e; exact h
theorem rsL_ok : ∀ n S R, pOK S → rsL n S = some R → pOK R := by
  intro n
  induction n with
  | zero => intro S R _ h; cases h
  | succ n ih =>
    intro S R h e
    unfold rsL at e
    split at e
    · exact ih _ _ (rsS_ok h) e
    · cases e; exact h
