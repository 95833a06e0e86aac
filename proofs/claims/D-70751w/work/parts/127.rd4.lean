/-! ===== the whole text, read ===== -/
set_option maxRecDepth 100000
/-- the fault of the one is the other's -/
def fe (S' S : ms_T) : Prop := S'.1 8 = S.1 8 ∧ S'.2.1 7 = S.2.1 7
theorem fe.refl (S : ms_T) : fe S S := ⟨rfl, rfl⟩
theorem fe.of {S' S : ms_T} (h : S' = S) : fe S' S := h ▸ fe.refl S'
theorem fe.trans {A B C : ms_T} (h : fe A B) (h2 : fe B C) : fe A C := ⟨h.1.trans h2.1, h.2.trans h2.2⟩
theorem fe.sb (D : ms_T) (T : Nat → Nat) : fe (sB D 7 T) D := ⟨rfl, rfl⟩
section RDQ
variable {G : gl_T} {w w' w1 : wd_T} {r mt ta : Nat} {S S' : ms_T} {t t' : Nat → Nat} {v : Option Value}
theorem rdP.up2 (hF : FR2 r mt w w1) (he : ¬ S.1 8 < 0 → fe S' S) {a : Nat} (h : rdP G r mt ta w1 S t v (.threw a) w') {t'' : Nat → Nat} {v' : Option Value} : rdP G r mt ta w S' t'' v' (.threw a) w' := by
  rcases h with ⟨-, h2, -⟩ | ⟨h1, a', pl, h2, h3, h4, h5, h6⟩
  · cases h2
  · cases h2
    obtain ⟨e1, e2⟩ := he h1
    exact Or.inr ⟨by rw [e1]; exact h1, a, pl, rfl, e1.trans h3, by rw [e2]; exact h4, h5, hF.trans h6⟩
theorem rdP.flt2 (h : RD G w1 r mt ta S t) (hF : FR2 r mt w w1) {kd : Nat} (hS : fe S' (sN (sF S 8 (nI (S.2.1 10))) 7 kd)) : rdP G r mt ta w S' t' v (.threw w1.2) (mu w1.1 w1.2 w1.2 (fltE kd (S.2.1 10)), w1.2 + 1) := by
  have h1 := rdP.flt (t' := t') (v := v) h hF (S' := sN (sF S 8 (nI (S.2.1 10))) 7 kd) rfl
  exact rdP.up2 (FR2.refl r mt w) (fun _ => hS) h1
end RDQ
section TWF
variable {S : ms_T}
theorem tw_F (h : ¬ (twF S).1 8 < 0) : fe (twG S) (twF S) := by
  unfold twG
  rw [if_neg (fun z => h z.1)]
  exact fe.refl _
theorem tw_E (h : ¬ (twE S).1 8 < 0) : fe (twG S) (twE S) := by
  have e : twF S = twE S := by
    unfold twF
    exact takS_x h
  exact (tw_F (by rw [e]; exact h)).trans (fe.of e)
theorem tw_E0 (h : ¬ (figS (twD S) (nI 0) (nI 9)).1 8 < 0) : fe (twG S) (figS (twD S) (nI 0) (nI 9)) := by
  have e : fe (twE S) (figS (twD S) (nI 0) (nI 9)) := by
    unfold twE
    exact fe.sb _ _
  exact (tw_E (by rw [e.1]; exact h)).trans e
theorem tw_D (h : ¬ (twD S).1 8 < 0) : fe (twG S) (twD S) := by
  have e : figS (twD S) (nI 0) (nI 9) = twD S := figS_x h
  exact (tw_E0 (by rw [e]; exact h)).trans (fe.of e)
theorem tw_C (h : ¬ (twC S).1 8 < 0) : fe (twG S) (twC S) := by
  have e : twD S = twC S := by
    unfold twD
    exact takS_x h
  exact (tw_D (by rw [e]; exact h)).trans (fe.of e)
theorem tw_C0 (h : ¬ (figS (twB S) (nI 1) (nI 9)).1 8 < 0) : fe (twG S) (figS (twB S) (nI 1) (nI 9)) := by
  have e : fe (twC S) (figS (twB S) (nI 1) (nI 9)) := by
    unfold twC
    exact fe.sb _ _
  exact (tw_C (by rw [e.1]; exact h)).trans e
theorem tw_B (h : ¬ (twB S).1 8 < 0) : fe (twG S) (twB S) := by
  have e : figS (twB S) (nI 1) (nI 9) = twB S := figS_x h
  exact (tw_C0 (by rw [e]; exact h)).trans (fe.of e)
theorem rcL_f {X R : ms_T} (h : ¬ X.1 8 < 0) : ∀ n, rcL n X = some R → R = X := by
  intro n
  cases n with
  | zero => intro e; cases e
  | succ n =>
    intro e
    have : rcG X = false := by unfold rcG; rw [decide_eq_false h]; rfl
    unfold rcL at e
    rw [this] at e
    exact (Option.some.inj e).symm
theorem rsL_f {X R : ms_T} (h : ¬ X.1 8 < 0) : ∀ n, rsL n X = some R → R = X := by
  intro n
  cases n with
  | zero => intro e; cases e
  | succ n =>
    intro e
    have : rsG X = false := by unfold rsG; rw [decide_eq_false h]; rfl
    unfold rsL at e
    rw [this] at e
    exact (Option.some.inj e).symm
theorem twH_f {X : ms_T} (h : ¬ X.1 8 < 0) : twH X = X := by
  unfold twH
  rw [if_neg (fun z => h z.1)]
/-- a fault before the corners, among them, among the streets -/
theorem al_x {X R2 : ms_T} {n : Nat} (h : ¬ X.1 8 < 0) (h2 : rsL n X = some R2) : twH R2 = X := by
  have e := rsL_f h n h2
  subst e
  exact twH_f h
theorem al_c {X R1 R2 : ms_T} {m n : Nat} (h : ¬ X.1 8 < 0) (h1 : rcL m X = some R1) (h2 : rsL n R1 = some R2) : twH R2 = X := by
  have e := rcL_f h m h1
  subst e
  exact al_x h h2
theorem al_g {D R1 R2 : ms_T} {m n : Nat} (hf : fe (twG S) D) (h : ¬ D.1 8 < 0) (h1 : rcL m (twG S) = some R1) (h2 : rsL n R1 = some R2) : fe (twH R2) D := by
  have h0 : ¬ (twG S).1 8 < 0 := by rw [hf.1]; exact h
  exact (fe.of (al_c h0 h1 h2)).trans hf
end TWF
theorem is_l {S : ms_T} {c : Int32} : (decide (tkC (S.2.1 11) = 1) && decide (vaC S = c)) = (decide (S.2.1 11 = 1) && decide (S.1 12 = c)) := by
  by_cases h : S.2.1 11 = 1
  · have e : vaC S = S.1 12 := by unfold vaC; rw [if_neg (by omega)]
    rw [e, h]
    rfl
  · rw [decide_eq_false h, decide_eq_false (fun z => h (tkC_1.mp z))]
    rfl
/-- the draft -/
def drI (rate : Nat) (X : ms_T) : Prop := smT (X.2.2.2 7) ∧ X.2.2.2 7 5 + 1 = 2 ^ X.2.2.2 7 25 ∧ X.2.2.2 7 0 = rate
theorem fig_lt {S : ms_T} {n : Nat} (hp : pOK S) (hn : n ≤ 6) (h : (figS S (nI 0) (nI n - nI 1)).1 8 < 0) : figV S (nI 0) (nI n - nI 1) < n := by
  have h1 := figS_w hp h
  have hb := h1.2
  unfold figV
  rw [if_pos h1]
  unfold figB at hb
  split at hb
  · cases hb
  · obtain ⟨j, hj, hl⟩ := inB_p (by omega) hb
    rw [hj, nI_clamp (by omega)]
    exact hl
theorem tof_lt {S : ms_T} {f : Nat} (hp : pOK S) (h : (tofS S f).1 8 < 0) : tofV S f < S.2.2.2 7 6 := by
  have h1 := tofS_w hp h
  have h6 := hp.2.2.2.2.2.1
  have hb := h1.2
  unfold tofV
  rw [if_pos h1]
  unfold tofB at hb
  split at hb
  · cases hb
  · obtain ⟨hb1, -⟩ := Bool.and_eq_true_iff.mp hb
    obtain ⟨j, hj, hl⟩ := inB_p (by omega) hb1
    rw [hj, nI_clamp (by omega)]
    exact hl
theorem rcS_7 {S : ms_T} (h : (rcD S).1 8 < 0) : (rcS S).2.2.2 7 = rcT S := by
  unfold rcS
  rw [if_pos h]
  rfl
theorem rsS_7 {S : ms_T} (h : (rsD S).1 8 < 0) : (rsS S).2.2.2 7 = rsT S := by
  unfold rsS
  rw [if_pos h]
  rfl
theorem rcS_8 (S : ms_T) : (rcS S).1 8 = (rcD S).1 8 := by
  unfold rcS
  split <;> rfl
theorem rsS_8 (S : ms_T) : (rsS S).1 8 = (rsD S).1 8 := by
  unfold rsS
  split <;> rfl
theorem drI_rc {S : ms_T} {rate : Nat} (hp : pOK S) (h : drI rate S) (h8 : (rcS S).1 8 < 0) : drI rate (rcS S) ∧ (rcS S).2.2.2 7 6 = S.2.2.2 7 6 + 1 ∧ (rcS S).2.2.2 7 25 = S.2.2.2 7 25 := by
  rw [rcS_8] at h8
  obtain ⟨⟨r0, r1, r2, r3, r4, r5, r6, r7, r25, r26⟩, h5, h0⟩ := h
  have h6 := (rcD_w hp h8).2
  have eD : (rcD S).2.2 = S.2.2 := rcD_t S
  have eA : (rcA S).2.2 = S.2.2 := takS_t _ _ _
  have ek : rcK S = 7 + 3 * S.2.2.2 7 6 := by
    unfold rcK
    rw [eA, if_pos h6]
  have hm : figV (rcA S) (nI 0) (nI 9) ≤ 9 := figV_le (by decide) (by decide)
  have hf : figV (rcB S) (nI 0) (nI 9) ≤ 9 := figV_le (by decide) (by decide)
  have hk := kndN_le (S.1 12)
  have E : ∀ i, i ≠ 7 + 3 * S.2.2.2 7 6 → i ≠ 7 + 3 * S.2.2.2 7 6 + 1 → i ≠ 7 + 3 * S.2.2.2 7 6 + 2 → i ≠ 6 → rcT S i = S.2.2.2 7 i := fun i a b c d => by
    unfold rcT
    rw [ek, uN_n d, uN_n c, uN_n b, uN_n a, eD]
  have E6 : rcT S 6 = S.2.2.2 7 6 + 1 := by
    unfold rcT
    rw [uN_s, eD]
  have Ek : rcT S (7 + 3 * S.2.2.2 7 6) = kndN (S.1 12) := by
    unfold rcT
    rw [ek, uN_n (by omega), uN_n (by omega), uN_n (by omega), uN_s]
  have E1 : rcT S (7 + 3 * S.2.2.2 7 6 + 1) = figV (rcA S) (nI 0) (nI 9) := by
    unfold rcT
    rw [ek, uN_n (by omega), uN_n (by omega), uN_s]
  have E2 : rcT S (7 + 3 * S.2.2.2 7 6 + 2) = figV (rcB S) (nI 0) (nI 9) := by
    unfold rcT
    rw [ek, uN_n (by omega), uN_s]
  have g : ∀ i, i ≠ 6 → (i < 7 ∨ 25 ≤ i) → rcT S i = S.2.2.2 7 i := fun i a b => E i (by omega) (by omega) (by omega) a
  refine ⟨⟨?_, ?_, ?_⟩, ?_, ?_⟩
  · rw [rcS_7 h8]
    refine ⟨by rw [g 0 (by omega) (by omega)]; exact r0, by rw [g 1 (by omega) (by omega)]; exact r1, by rw [g 2 (by omega) (by omega)]; exact r2, by rw [g 3 (by omega) (by omega)]; exact r3, by rw [g 4 (by omega) (by omega)]; exact r4, by rw [g 5 (by omega) (by omega)]; exact r5, by rw [E6]; omega, fun c hc => ?_, by rw [g 25 (by omega) (by omega)]; exact r25, fun x hx => ?_⟩
    · by_cases z : c = S.2.2.2 7 6
      · rw [z, Ek, E1, E2]
        exact ⟨hk, hm, hf⟩
      · rw [E _ (by omega) (by omega) (by omega) (by omega), E _ (by omega) (by omega) (by omega) (by omega), E _ (by omega) (by omega) (by omega) (by omega)]
        exact r7 c hc
    · rw [g _ (by omega) (by omega), g _ (by omega) (by omega)]
      exact r26 x hx
  · rw [rcS_7 h8, g 5 (by omega) (by omega), g 25 (by omega) (by omega)]
    exact h5
  · rw [rcS_7 h8, g 0 (by omega) (by omega)]
    exact h0
  · rw [rcS_7 h8, E6]
  · rw [rcS_7 h8, g 25 (by omega) (by omega)]
theorem or_pow {a k : Nat} (hk : k < 8) (h : a + 1 = 2 ^ k) : (a ||| 2 ^ k) + 1 = 2 ^ (k + 1) := by
  have e : a = 2 ^ k - 1 := by omega
  subst e
  have : ∀ i : Fin 8, ((2 ^ i.val - 1) ||| 2 ^ i.val) + 1 = 2 ^ (i.val + 1) := by decide +kernel
  exact this ⟨k, hk⟩
theorem drI_rs {S : ms_T} {rate : Nat} (hp : pOK S) (h : drI rate S) (h8 : (rsS S).1 8 < 0) : drI rate (rsS S) ∧ (rsS S).2.2.2 7 25 = S.2.2.2 7 25 + 1 ∧ (rsS S).2.2.2 7 6 = S.2.2.2 7 6 := by
  rw [rsS_8] at h8
  obtain ⟨⟨r0, r1, r2, r3, r4, r5, r6, r7, r25, r26⟩, h5, h0⟩ := h
  have h25 := (rsD_w hp h8).2
  have eD : (rsD S).2.2 = S.2.2 := rsD_t S
  have eA : (rsA S).2.2 = S.2.2 := takS_t _ _ _
  have ek : rsK S = 26 + 2 * S.2.2.2 7 25 := by
    unfold rsK
    rw [eA, if_pos h25]
  have hpA : pOK (rsA S) := takS_ok hp
  have hpF : pOK (figS (rsA S) (nI 0) (nI (S.2.2.2 7 6) - nI 1)) := figS_ok hpA
  have hpB : pOK (rsB S) := by rw [rsB_e]; exact takS_ok hpF
  have hpC : pOK (rsC S) := by unfold rsC; exact tofS_ok hpB
  have h8C : (tofS (rsB S) (rsF S)).1 8 < 0 := by
    rw [rsD_e] at h8
    have := (takS_w hpC h8).1
    unfold rsC at this
    exact this
  have h8B : (rsB S).1 8 < 0 := (tofS_w hpB h8C).1
  have h8F : (figS (rsA S) (nI 0) (nI (S.2.2.2 7 6) - nI 1)).1 8 < 0 := by
    rw [rsB_e] at h8B
    exact (takS_w hpF h8B).1
  have hf : rsF S < 6 := by
    rw [rsF_e]
    have := fig_lt hpA r6 h8F
    omega
  have ht : tofV (rsB S) (rsF S) < 6 := by
    have := tof_lt hpB h8C
    rw [show (rsB S).2.2.2 7 = S.2.2.2 7 from congrArg (fun z => z.2 7) (rsB_7 S)] at this
    omega
  have E : ∀ i, i ≠ 26 + 2 * S.2.2.2 7 25 → i ≠ 26 + 2 * S.2.2.2 7 25 + 1 → i ≠ 5 → i ≠ 25 → rsT S i = S.2.2.2 7 i := fun i a b c d => by
    unfold rsT
    rw [ek, uN_n d, uN_n c, uN_n b, uN_n a, eD]
  have E25 : rsT S 25 = S.2.2.2 7 25 + 1 := by
    unfold rsT
    rw [uN_s, eD]
  have E5 : rsT S 5 = S.2.2.2 7 5 ||| 2 ^ S.2.2.2 7 25 := by
    unfold rsT
    rw [uN_n (by omega), uN_s, eD]
  have E0 : rsT S (26 + 2 * S.2.2.2 7 25) = rsF S := by
    unfold rsT
    rw [ek, uN_n (by omega), uN_n (by omega), uN_n (by omega), uN_s]
  have E1 : rsT S (26 + 2 * S.2.2.2 7 25 + 1) = tofV (rsB S) (rsF S) := by
    unfold rsT
    rw [ek, uN_n (by omega), uN_n (by omega), uN_s]
  have g : ∀ i, i < 25 → i ≠ 5 → rsT S i = S.2.2.2 7 i := fun i a b => E i (by omega) (by omega) b (by omega)
  have ho := or_pow h25 h5
  refine ⟨⟨?_, ?_, ?_⟩, ?_, ?_⟩
  · rw [rsS_7 h8]
    refine ⟨by rw [g 0 (by omega) (by omega)]; exact r0, by rw [g 1 (by omega) (by omega)]; exact r1, by rw [g 2 (by omega) (by omega)]; exact r2, by rw [g 3 (by omega) (by omega)]; exact r3, by rw [g 4 (by omega) (by omega)]; exact r4, ?_, by rw [g 6 (by omega) (by omega)]; exact r6, fun c hc => ?_, by rw [E25]; omega, fun x hx => ?_⟩
    · rw [E5]
      exact Nat.or_lt_two_pow (n := 8) r5 (Nat.pow_lt_pow_right (by decide) h25)
    · rw [g _ (by omega) (by omega), g _ (by omega) (by omega), g _ (by omega) (by omega)]
      exact r7 c hc
    · by_cases z : x = S.2.2.2 7 25
      · rw [z, E0, E1]
        exact ⟨hf, ht⟩
      · rw [E _ (by omega) (by omega) (by omega) (by omega), E _ (by omega) (by omega) (by omega) (by omega)]
        exact r26 x hx
  · rw [rsS_7 h8, E5, E25]
    exact ho
  · rw [rsS_7 h8, g 0 (by omega) (by omega)]
    exact h0
  · rw [rsS_7 h8, E25]
  · rw [rsS_7 h8, g 6 (by omega) (by omega)]
