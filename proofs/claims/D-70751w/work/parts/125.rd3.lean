/-! ===== corners and streets, read ===== -/
set_option maxRecDepth 100000
/-- the row of the town that is being made: its rate and what is open come last -/
def mdR (S : ms_T) : Nat → Nat := fun i => if i = 0 ∨ i = 5 then 0 else S.2.2.2 7 i
theorem mdR_n (S : ms_T) {i : Nat} (h0 : i ≠ 0) (h5 : i ≠ 5) : mdR S i = S.2.2.2 7 i := if_neg (fun z => z.elim h0 h5)
theorem mdR_t {S S' : ms_T} (h : S'.2.2 = S.2.2) : mdR S' = mdR S := by unfold mdR; rw [h]
theorem figS_x {S : ms_T} {lo hi : Int32} (h : ¬ S.1 8 < 0) : figS S lo hi = S := takS_x h
theorem tofS_x {S : ms_T} {f : Nat} (h : ¬ S.1 8 < 0) : tofS S f = S := takS_x h
section RCF
variable {S : ms_T}
theorem rc_d {X : ms_T} (h : rcD S = X) (h8 : ¬ X.1 8 < 0) : rcS S = X := by
  unfold rcS
  rw [h, if_neg h8]
theorem rc_f4 (h : ¬ (rcD S).1 8 < 0) : rcS S = rcD S := rc_d rfl h
theorem rc_f3 (h : ¬ (rcC S).1 8 < 0) : rcS S = rcC S := rc_d (takS_x h) h
theorem rc_f2 (h : ¬ (rcB S).1 8 < 0) : rcS S = rcB S := by
  have e : rcC S = rcB S := figS_x h
  rw [← e] at h
  rw [rc_f3 h, e]
theorem rc_f1 (h : ¬ (figS (rcA S) (nI 0) (nI 9)).1 8 < 0) : rcS S = figS (rcA S) (nI 0) (nI 9) := by
  have e : rcB S = figS (rcA S) (nI 0) (nI 9) := takS_x h
  rw [← e] at h
  rw [rc_f2 h, e]
theorem rc_f0 (h : ¬ (rcA S).1 8 < 0) : rcS S = rcA S := by
  have e : figS (rcA S) (nI 0) (nI 9) = rcA S := figS_x h
  rw [← e] at h
  rw [rc_f1 h, e]
theorem rs_d {X : ms_T} (h : rsD S = X) (h8 : ¬ X.1 8 < 0) : rsS S = X := by
  unfold rsS
  rw [h, if_neg h8]
theorem rs_f4 (h : ¬ (rsD S).1 8 < 0) : rsS S = rsD S := rs_d rfl h
theorem rs_f3 (h : ¬ (rsC S).1 8 < 0) : rsS S = rsC S := rs_d (takS_x h) h
theorem rs_f2 (h : ¬ (rsB S).1 8 < 0) : rsS S = rsB S := by
  have e : rsC S = rsB S := tofS_x h
  rw [← e] at h
  rw [rs_f3 h, e]
theorem rs_f1 (h : ¬ (figS (rsA S) (nI 0) (nI ((rsA S).2.2.2 7 6) - nI 1)).1 8 < 0) : rsS S = figS (rsA S) (nI 0) (nI ((rsA S).2.2.2 7 6) - nI 1) := by
  have e : rsB S = figS (rsA S) (nI 0) (nI ((rsA S).2.2.2 7 6) - nI 1) := takS_x h
  rw [← e] at h
  rw [rs_f2 h, e]
theorem rs_f0 (h : ¬ (rsA S).1 8 < 0) : rsS S = rsA S := by
  have e : figS (rsA S) (nI 0) (nI ((rsA S).2.2.2 7 6) - nI 1) = rsA S := figS_x h
  rw [← e] at h
  rw [rs_f1 h, e]
end RCF
/-- the kind of a letter -/
theorem ix_kn {v : Nat} (h : v ≤ 255) : (0 < kndN (nI v) → nI 1 + ixN v = nI (kndN (nI v)) ∧ 0 ≤ ixN v) ∧ (kndN (nI v) = 0 → ixN v < 0) := by
  have hb : ∀ i : Fin 256, (0 < kndN (nI i.val) → nI 1 + ixN i.val = nI (kndN (nI i.val)) ∧ 0 ≤ ixN i.val) ∧ (kndN (nI i.val) = 0 → ixN i.val < 0) := by decide +kernel
  exact hb ⟨v, by omega⟩
theorem TN.ffrom {G : gl_T} {w : wd_T} {a c v : Nat} {t : Nat → Nat} {f : Nat → Int32} (h : TN G w a t) (hm : w.1 (a + 3) = some (a, ai (gl_A G 0) 8 f)) (vm : ∀ i, i < 8 → f i = nI (t (26 + 2 * i))) (hc : c < 8) : TN G (mu w.1 (a + 3) a (ai (gl_A G 0) 8 (upd f c (nI v))), w.2) a (uN t (26 + 2 * c) v) := by
  obtain ⟨g0, ⟨e, md, hl, hL⟩, ⟨fm, g3, g4⟩, ⟨ff, g5, g6⟩, ⟨ft, g7, g8⟩, g9, g10⟩ := id h
  have hF : FR a w (mu w.1 (a + 3) a (ai (gl_A G 0) 8 (upd f c (nI v))), w.2) := FR.upd hm (fun z => z)
  have hte : TE a (uN t (26 + 2 * c) v) = TE a t := by
    unfold TE
    rw [uN_n (show 0 ≠ 26 + 2 * c by omega), uN_n (show 1 ≠ 26 + 2 * c by omega), uN_n (show 2 ≠ 26 + 2 * c by omega), uN_n (show 3 ≠ 26 + 2 * c by omega), uN_n (show 4 ≠ 26 + 2 * c by omega), uN_n (show 5 ≠ 26 + 2 * c by omega), uN_n (show 25 ≠ 26 + 2 * c by omega)]
  have e6 : uN t (26 + 2 * c) v 6 = t 6 := uN_n (by omega)
  have hnew : ∀ i, i < 8 → upd f c (nI v) i = nI (uN t (26 + 2 * c) v (26 + 2 * i)) := fun i hi => by
    unfold upd
    by_cases z : i = c
    · rw [if_pos z, z, uN_s]
    · rw [if_neg z, uN_n (by omega), vm i hi]
  refine ⟨?_, ⟨e, md, ?_, ?_⟩, ⟨fm, (mu_n (by omega)).trans g3, fun i hi => by rw [g4 i hi, uN_n (by omega)]⟩, ⟨_, mu_s, hnew⟩, ⟨ft, (mu_n (by omega)).trans g7, fun i hi => by rw [g8 i hi, uN_n (by omega)]⟩, by rw [e6]; exact g9, fun i hi => ?_⟩
  · rw [hte]
    exact (mu_n (by omega)).trans g0
  · rw [e6]
    exact (mu_n (by omega)).trans hl
  · rcases hL with ⟨h2, h2'⟩ | ⟨fl, he, hf⟩
    · exact Or.inl ⟨h2, by rw [e6]; exact h2'⟩
    · have ne : e ≠ a + 3 := fun z => by
        rw [z, hm] at he
        exact ai_aq he
      refine Or.inr ⟨fl, (mu_n ne).trans he, fun i hi => ?_⟩
      rw [e6] at hi
      obtain ⟨q, hq, hcell⟩ := hf i hi
      refine ⟨q, hq, ?_⟩
      have ec : CE (uN t (26 + 2 * c) v) i = CE t i := by
        unfold CE
        rw [uN_n (show 7 + 3 * i ≠ 26 + 2 * c by omega), uN_n (show 7 + 3 * i + 2 ≠ 26 + 2 * c by omega)]
      rw [ec]
      exact hF.2 _ _ _ hcell (Or.inr (isC_CE (g10 i hi).1 (g10 i hi).2))
  · rw [e6] at hi
    rw [uN_n (by omega)]
    exact g10 i hi
theorem TN.fto {G : gl_T} {w : wd_T} {a c v : Nat} {t : Nat → Nat} {f : Nat → Int32} (h : TN G w a t) (hm : w.1 (a + 4) = some (a, ai (gl_A G 0) 8 f)) (vm : ∀ i, i < 8 → f i = nI (t (26 + 2 * i + 1))) (hc : c < 8) : TN G (mu w.1 (a + 4) a (ai (gl_A G 0) 8 (upd f c (nI v))), w.2) a (uN t (26 + 2 * c + 1) v) := by
  obtain ⟨g0, ⟨e, md, hl, hL⟩, ⟨fm, g3, g4⟩, ⟨ff, g5, g6⟩, ⟨ft, g7, g8⟩, g9, g10⟩ := id h
  have hF : FR a w (mu w.1 (a + 4) a (ai (gl_A G 0) 8 (upd f c (nI v))), w.2) := FR.upd hm (fun z => z)
  have hte : TE a (uN t (26 + 2 * c + 1) v) = TE a t := by
    unfold TE
    rw [uN_n (show 0 ≠ 26 + 2 * c + 1 by omega), uN_n (show 1 ≠ 26 + 2 * c + 1 by omega), uN_n (show 2 ≠ 26 + 2 * c + 1 by omega), uN_n (show 3 ≠ 26 + 2 * c + 1 by omega), uN_n (show 4 ≠ 26 + 2 * c + 1 by omega), uN_n (show 5 ≠ 26 + 2 * c + 1 by omega), uN_n (show 25 ≠ 26 + 2 * c + 1 by omega)]
  have e6 : uN t (26 + 2 * c + 1) v 6 = t 6 := uN_n (by omega)
  have hnew : ∀ i, i < 8 → upd f c (nI v) i = nI (uN t (26 + 2 * c + 1) v (26 + 2 * i + 1)) := fun i hi => by
    unfold upd
    by_cases z : i = c
    · rw [if_pos z, z, uN_s]
    · rw [if_neg z, uN_n (by omega), vm i hi]
  refine ⟨?_, ⟨e, md, ?_, ?_⟩, ⟨fm, (mu_n (by omega)).trans g3, fun i hi => by rw [g4 i hi, uN_n (by omega)]⟩, ⟨ff, (mu_n (by omega)).trans g5, fun i hi => by rw [g6 i hi, uN_n (by omega)]⟩, ⟨_, mu_s, hnew⟩, by rw [e6]; exact g9, fun i hi => ?_⟩
  · rw [hte]
    exact (mu_n (by omega)).trans g0
  · rw [e6]
    exact (mu_n (by omega)).trans hl
  · rcases hL with ⟨h2, h2'⟩ | ⟨fl, he, hf⟩
    · exact Or.inl ⟨h2, by rw [e6]; exact h2'⟩
    · have ne : e ≠ a + 4 := fun z => by
        rw [z, hm] at he
        exact ai_aq he
      refine Or.inr ⟨fl, (mu_n ne).trans he, fun i hi => ?_⟩
      rw [e6] at hi
      obtain ⟨q, hq, hcell⟩ := hf i hi
      refine ⟨q, hq, ?_⟩
      have ec : CE (uN t (26 + 2 * c + 1) v) i = CE t i := by
        unfold CE
        rw [uN_n (show 7 + 3 * i ≠ 26 + 2 * c + 1 by omega), uN_n (show 7 + 3 * i + 2 ≠ 26 + 2 * c + 1 by omega)]
      rw [ec]
      exact hF.2 _ _ _ hcell (Or.inr (isC_CE (g10 i hi).1 (g10 i hi).2))
  · rw [e6] at hi
    rw [uN_n (by omega)]
    exact g10 i hi
/-- the draft is well laid -/
def drO (S : ms_T) : Prop := smT (S.2.2.2 7) ∧ S.2.2.2 7 5 + 1 = 2 ^ S.2.2.2 7 25
theorem mdR_sm {S : ms_T} (h : smT (S.2.2.2 7)) : smT (mdR S) := by
  obtain ⟨r0, r1, r2, r3, r4, r5, r6, r7, r25, r26⟩ := h
  refine ⟨Nat.zero_le _, ?_, ?_, ?_, ?_, (show 0 < 256 by decide), ?_, fun c hc => ?_, ?_, fun x hx => ?_⟩
  · rw [mdR_n S (by omega) (by omega)]; exact r1
  · rw [mdR_n S (by omega) (by omega)]; exact r2
  · rw [mdR_n S (by omega) (by omega)]; exact r3
  · rw [mdR_n S (by omega) (by omega)]; exact r4
  · rw [mdR_n S (by omega) (by omega)]; exact r6
  · rw [mdR_n S (by omega) (by omega), mdR_n S (by omega) (by omega), mdR_n S (by omega) (by omega)]; exact r7 c hc
  · rw [mdR_n S (by omega) (by omega)]; exact r25
  · rw [mdR_n S (by omega) (by omega), mdR_n S (by omega) (by omega)]; exact r26 x hx
theorem figV_le {S : ms_T} {lo : Int32} {n : Nat} (h0 : 0 ≤ lo) (hn : n < 2 ^ 31) : figV S lo (nI n) ≤ n := by
  unfold figV
  split
  · rename_i h
    have hb := h.2
    unfold figB at hb
    split at hb
    · cases hb
    · have h1 := of_decide_eq_true hb
      have h2 : nI (S.1 12).toNatClampNeg = S.1 12 := nI_of_nn (Int32.le_trans h0 h1.1)
      have h3 := h1.2
      rw [← h2] at h3
      have hlt : (S.1 12).toNatClampNeg < 2 ^ 31 := by
        have := Int32.toNatClampNeg_lt (S.1 12)
        omega
      exact (nI_leI hlt hn).mp h3
  · exact Nat.zero_le _
/-- what a corner lays -/
theorem rcS_row {S : ms_T} (h8 : (rcD S).1 8 < 0) (h6 : S.2.2.2 7 6 < 6) : mdR (rcS S) = adT (uN (mdR S) (7 + 3 * S.2.2.2 7 6 + 1) (figV (rcA S) (nI 0) (nI 9))) (kndN (S.1 12)) (figV (rcB S) (nI 0) (nI 9)) := by
  have eD : (rcD S).2.2 = S.2.2 := rcD_t S
  have eA : (rcA S).2.2 = S.2.2 := takS_t _ _ _
  have ek : rcK S = 7 + 3 * S.2.2.2 7 6 := by
    unfold rcK
    rw [eA, if_pos h6]
  have e6 : uN (mdR S) (7 + 3 * S.2.2.2 7 6 + 1) (figV (rcA S) (nI 0) (nI 9)) 6 = S.2.2.2 7 6 := by
    rw [uN_n (by omega), mdR_n S (by omega) (by omega)]
  unfold rcS
  rw [if_pos h8]
  funext i
  unfold adT
  rw [e6]
  show (if i = 0 ∨ i = 5 then 0 else rcT S i) = _
  unfold rcT
  rw [ek, eD]
  by_cases z6 : i = 6
  · subst z6
    rw [if_neg (by omega), uN_s, uN_s]
  · rw [uN_n z6, uN_n z6]
    by_cases z2 : i = 7 + 3 * S.2.2.2 7 6 + 2
    · rw [z2, if_neg (by omega), uN_s, uN_s]
    · rw [uN_n z2, uN_n z2]
      by_cases z0 : i = 7 + 3 * S.2.2.2 7 6
      · rw [z0, if_neg (by omega), uN_s, uN_n (by omega), uN_s]
      · rw [uN_n z0]
        by_cases z1 : i = 7 + 3 * S.2.2.2 7 6 + 1
        · rw [z1, if_neg (by omega), uN_s, uN_s]
        · rw [uN_n z1, uN_n z1, uN_n z0]
          rfl
theorem rsS_row {S : ms_T} (h8 : (rsD S).1 8 < 0) (h25 : S.2.2.2 7 25 < 8) : mdR (rsS S) = uN (uN (uN (mdR S) (26 + 2 * S.2.2.2 7 25 + 1) (tofV (rsB S) (rsF S))) (26 + 2 * S.2.2.2 7 25) (rsF S)) 25 (S.2.2.2 7 25 + 1) := by
  have eD : (rsD S).2.2 = S.2.2 := rsD_t S
  have eA : (rsA S).2.2 = S.2.2 := takS_t _ _ _
  have ek : rsK S = 26 + 2 * S.2.2.2 7 25 := by
    unfold rsK
    rw [eA, if_pos h25]
  unfold rsS
  rw [if_pos h8]
  funext i
  show (if i = 0 ∨ i = 5 then 0 else rsT S i) = _
  unfold rsT
  rw [ek, eD]
  by_cases z25 : i = 25
  · subst z25
    rw [if_neg (by omega), uN_s, uN_s]
  · rw [uN_n z25, uN_n z25]
    by_cases z5 : i = 5
    · subst z5
      rw [if_pos (Or.inr rfl), uN_n (by omega), uN_n (by omega)]
      rfl
    · rw [uN_n z5]
      by_cases z1 : i = 26 + 2 * S.2.2.2 7 25 + 1
      · rw [z1, if_neg (by omega), uN_s, uN_n (by omega), uN_s]
      · rw [uN_n z1]
        by_cases z0 : i = 26 + 2 * S.2.2.2 7 25
        · rw [z0, if_neg (by omega), uN_s, uN_s]
        · rw [uN_n z0, uN_n z0, uN_n z1]
          rfl
theorem RD.sb {G : gl_T} {w : wd_T} {r mt ta : Nat} {D : ms_T} {T t t' : Nat → Nat} (h : RD G w r mt ta D t) (hp : pOK (sB D 7 T)) (et : t = t') : RD G w r mt ta (sB D 7 T) t' := by
  subst et
  obtain ⟨h0, h1, h2, ⟨σ, f, h3, h4, h5, h6⟩, h7, h8, h9⟩ := h
  exact ⟨h0, h1, h2, ⟨σ, f, h3, h4, h5, h6⟩, hp, h8, h9⟩
theorem flt_8 {S : ms_T} (hp : pOK S) (k : Nat) : ¬ (sN (sF S 8 (nI (S.2.1 10))) 7 k).1 8 < 0 := by
  have := hp.2.2.1
  show ¬ nI (S.2.1 10) < 0
  exact nI_pos (by omega)
theorem sB_1 (D : ms_T) (k : Nat) (T : Nat → Nat) : (sB D k T).1 = D.1 := rfl
theorem rcD_e (S : ms_T) : rcD S = takS (rcC S) (decide ((rcC S).2.1 11 = 4)) 1 := by unfold rcD; rfl
theorem rsD_e (S : ms_T) : rsD S = takS (rsC S) (decide ((rsC S).2.1 11 = 4)) 1 := by unfold rsD; rfl
section RSE
variable {S : ms_T}
theorem rsA_7 (S : ms_T) : (rsA S).2.2.2 7 6 = S.2.2.2 7 6 := congrArg (fun z => z.2 7 6) (takS_t S _ 3)
theorem rsF_e (S : ms_T) : rsF S = figV (rsA S) (nI 0) (nI (S.2.2.2 7 6) - nI 1) := by unfold rsF; rw [rsA_7]
theorem rsB_e (S : ms_T) : rsB S = takS (figS (rsA S) (nI 0) (nI (S.2.2.2 7 6) - nI 1)) (decide ((figS (rsA S) (nI 0) (nI (S.2.2.2 7 6) - nI 1)).2.1 11 = 3)) 1 := by unfold rsB; rw [rsA_7]
theorem rs_g1 (h : ¬ (figS (rsA S) (nI 0) (nI (S.2.2.2 7 6) - nI 1)).1 8 < 0) : rsS S = figS (rsA S) (nI 0) (nI (S.2.2.2 7 6) - nI 1) := by
  rw [← rsA_7] at h ⊢
  exact rs_f1 h
theorem rs_g2 (h : ¬ (takS (figS (rsA S) (nI 0) (nI (S.2.2.2 7 6) - nI 1)) (decide ((figS (rsA S) (nI 0) (nI (S.2.2.2 7 6) - nI 1)).2.1 11 = 3)) 1).1 8 < 0) : rsS S = takS (figS (rsA S) (nI 0) (nI (S.2.2.2 7 6) - nI 1)) (decide ((figS (rsA S) (nI 0) (nI (S.2.2.2 7 6) - nI 1)).2.1 11 = 3)) 1 := by
  rw [← rsB_e] at h ⊢
  exact rs_f2 h
theorem rs_g4 (h : ¬ (takS (rsC S) (decide ((rsC S).2.1 11 = 4)) 1).1 8 < 0) : rsS S = takS (rsC S) (decide ((rsC S).2.1 11 = 4)) 1 := by
  rw [← rsD_e] at h ⊢
  exact rs_f4 h
theorem rsB_7 (S : ms_T) : (rsB S).2.2 = S.2.2 := by
  rw [rsB_e]
  exact (takS_t _ _ _).trans ((figS_t _ _ _).trans (takS_t _ _ _))
/-- the street's end is no number -/
theorem rs_n {D : ms_T} {f : Nat} {lo hi : Int32} (h8 : D.1 8 < 0) (h : ¬ D.2.1 11 = 2) : tofS D f = figS D lo hi ∧ ¬ (figS D lo hi).1 8 < 0 ∨ pOK D → tofS D f = figS D lo hi := by
  intro _
  rw [← (tofA ⟨h8, h⟩).2, ← (figA ⟨h8, h⟩).2]
theorem tof_b {D : ms_T} {f : Nat} (h11 : D.2.1 11 = 2) : tofB D f = (inB (D.1 12) (nI 0) (nI (D.2.2.2 7 6) - nI 1) && (!decide (D.1 12 = nI f) && !stB (D.2.2.2 7) f (D.1 12) (D.2.2.2 7 25))) := by
  unfold tofB
  rw [if_neg (fun z => z.2 h11)]
theorem fig_b {D : ms_T} {lo hi : Int32} (h11 : D.2.1 11 = 2) : figB D lo hi = inB (D.1 12) lo hi := by
  unfold figB
  rw [if_neg (fun z => z.2 h11)]
theorem tof_n {D : ms_T} {f : Nat} (h8 : D.1 8 < 0) (h11 : D.2.1 11 = 2) (hb : (!decide (D.1 12 = nI f) && !stB (D.2.2.2 7) f (D.1 12) (D.2.2.2 7 25)) = false) : tofS D f = sN (sF D 8 (nI (D.2.1 10))) 7 2 := by
  have e : tofB D f = false := by rw [tof_b h11, hb, Bool.and_false]
  unfold tofS
  rw [e, if_neg (fun z => z.2 h11)]
  exact takS_n h8
theorem tof_y {D : ms_T} {f : Nat} {hi : Int32} (h11 : D.2.1 11 = 2) (hh : nI (D.2.2.2 7 6) - nI 1 = hi) (hb : (!decide (D.1 12 = nI f) && !stB (D.2.2.2 7) f (D.1 12) (D.2.2.2 7 25)) = true) : tofS D f = figS D (nI 0) hi ∧ tofV D f = figV D (nI 0) hi := by
  have e : tofB D f = figB D (nI 0) hi := by rw [tof_b h11, fig_b h11, hb, Bool.and_true, hh]
  constructor
  · unfold tofS figS
    rw [e]
  · unfold tofV figV
    rw [e]
theorem st_hs {T t : Nat → Nat} {f n : Nat} (hT : smT T) (hf : f < 2 ^ 31) (hn : n < 2 ^ 31) (he : ∀ i, 26 ≤ i → t i = T i) : ∀ k, k ≤ 8 → stB T f (nI n) k = hsN t f n k := by
  intro k
  induction k with
  | zero => intro _; rfl
  | succ k ih =>
    intro hk
    have h := hT.2.2.2.2.2.2.2.2.2 k (by omega)
    show (stB T f (nI n) k || (decide (nI (T (26 + 2 * k)) = nI f) && decide (nI (T (26 + 2 * k + 1)) = nI n))) = (hsN t f n k || (decide (t (26 + 2 * k) = f) && decide (t (26 + 2 * k + 1) = n)))
    rw [ih (by omega), he _ (by omega), he _ (by omega)]
    have e1 : (nI (T (26 + 2 * k)) = nI f) = (T (26 + 2 * k) = f) := propext (nI_eq (by omega) hf)
    have e2 : (nI (T (26 + 2 * k + 1)) = nI n) = (T (26 + 2 * k + 1) = n) := propext (nI_eq (by omega) hn)
    simp only [e1, e2]
theorem rs_flt (hp : pOK S) (h8 : S.1 8 < 0) (h : ¬ S.2.2.2 7 25 < 8) : rsS S = sN (sF S 8 (nI (S.2.1 10))) 7 3 := by
  have e : rsA S = sN (sF S 8 (nI (S.2.1 10))) 7 3 := by
    unfold rsA
    rw [decide_eq_false h]
    exact takS_n h8
  rw [rs_f0 (by rw [e]; exact flt_8 hp 3), e]
theorem rs_flt2 {D : ms_T} (hp : pOK D) (hD : rsB S = D) (h : tofS D (rsF S) = sN (sF D 8 (nI (D.2.1 10))) 7 2) : rsS S = sN (sF D 8 (nI (D.2.1 10))) 7 2 := by
  have e : rsC S = sN (sF D 8 (nI (D.2.1 10))) 7 2 := by
    unfold rsC
    rw [hD]
    exact h
  rw [rs_f3 (by rw [e]; exact flt_8 hp 2), e]
theorem rs_g3 {X : ms_T} (h : rsC S = X) (h8 : ¬ X.1 8 < 0) : rsS S = X := by
  rw [← h] at h8 ⊢
  exact rs_f3 h8
theorem rs_ok {G : gl_T} {w w' : wd_T} {r mt ta : Nat} (hp : pOK S) (h8D : (rsD S).1 8 < 0) (h25 : S.2.2.2 7 25 < 8) (hR : RD G w' r mt ta (rsD S) (uN (uN (uN (mdR S) (26 + 2 * S.2.2.2 7 25 + 1) (tofV (rsB S) (rsF S))) (26 + 2 * S.2.2.2 7 25) (rsF S)) 25 (S.2.2.2 7 25 + 1))) (hF : FR2 r mt w w') : rdP G r mt ta w (rsS S) (mdR (rsS S)) none (.returned none) w' := by
  have e : rsS S = sB (rsD S) 7 (rsT S) := if_pos h8D
  have hq := RD.sb (T := rsT S) hR (by rw [← e]; exact rsS_ok hp) (rsS_row h8D h25).symm
  rw [← e] at hq
  exact rdP.ok (by rw [e, sB_1]; exact h8D) hq hF
theorem figV_lt (S : ms_T) (lo hi : Int32) : figV S lo hi < 2 ^ 31 := by
  unfold figV
  split
  · have := Int32.toNatClampNeg_lt (S.1 12)
    omega
  · decide
end RSE
