/-! ===== a town is read: the reference's words come to an end; what they leave ===== -/
set_option maxRecDepth 100000
def kt (S S' : ms_T) : Prop := (∀ i, i ≠ 7 → i ≠ 9 → i ≠ 10 → i ≠ 11 → S'.2.1 i = S.2.1 i) ∧ S'.2.2.1 = S.2.2.1 ∧ (∀ j, j ≠ 7 → S'.2.2.2 j = S.2.2.2 j) ∧ (S'.1 8 < 0 → S.1 8 < 0 ∧ S'.2.1 7 = S.2.1 7)
def kq (X S : ms_T) : Prop := pOK S ∧ kt X S
theorem kt_n4 {A : ms_T} {a b c d : Nat} {v : Int32} {i : Nat} (h1 : i ≠ 9) (h2 : i ≠ 10) (h3 : i ≠ 11) : (sN (sN (sF (sN A 10 a) 12 v) 9 b) 11 c).2.1 i = A.2.1 i ∧ (sN (sN (sF (sN A 10 a) 12 v) 11 c) 9 d).2.1 i = A.2.1 i := by
  constructor
  · show (if i = 11 then c else if i = 9 then b else if i = 10 then a else A.2.1 i) = _
    rw [if_neg h3, if_neg h1, if_neg h2]
  · show (if i = 9 then d else if i = 11 then c else if i = 10 then a else A.2.1 i) = _
    rw [if_neg h1, if_neg h3, if_neg h2]
theorem adv_n (S : ms_T) {i : Nat} (h1 : i ≠ 9) (h2 : i ≠ 10) (h3 : i ≠ 11) : (advS S).2.1 i = S.2.1 i := by
  unfold advS
  split
  · exact (kt_n4 (d := 0) h1 h2 h3).1
  · exact (kt_n4 (b := 0) h1 h2 h3).2
theorem kt_adv (S : ms_T) : kt S (advS S) := ⟨fun i _ b c d => adv_n S b c d, by rw [advS_t], fun j _ => by rw [advS_t], fun h => ⟨by rw [advS_8] at h; exact h, adv_n S (by omega) (by omega) (by omega)⟩⟩
theorem kt.rf (S : ms_T) : kt S S := ⟨fun _ _ _ _ _ => rfl, rfl, fun _ _ => rfl, fun h => ⟨h, rfl⟩⟩
theorem kt.tr {A B C : ms_T} (h : kt A B) (g : kt B C) : kt A C := ⟨fun i a b c d => (g.1 i a b c d).trans (h.1 i a b c d), g.2.1.trans h.2.1, fun j hj => (g.2.2.1 j hj).trans (h.2.2.1 j hj), fun z => ⟨(h.2.2.2 (g.2.2.2 z).1).1, (g.2.2.2 z).2.trans (h.2.2.2 (g.2.2.2 z).1).2⟩⟩
theorem kt_sb (S : ms_T) (T : Nat → Nat) : kt S (sB S 7 T) := ⟨fun _ _ _ _ _ => rfl, rfl, fun j hj => if_neg hj, fun h => ⟨h, rfl⟩⟩
theorem kt_tak {S : ms_T} (hp : pOK S) (b : Bool) (k : Nat) : kt S (takS S b k) := by
  refine ⟨fun i a1 b1 c1 d1 => ?_, by rw [takS_t], fun j _ => by rw [takS_t], fun h => ?_⟩
  · unfold takS
    split
    · split
      · exact adv_n S b1 c1 d1
      · show (if i = 7 then k else S.2.1 i) = _
        rw [if_neg a1]
    · rfl
  · obtain ⟨h1, h2⟩ := takS_w hp h
    refine ⟨h1, ?_⟩
    unfold takS
    rw [if_pos h1, if_pos h2]
    exact adv_n S (by omega) (by omega) (by omega)
section KTS
variable {X S : ms_T}
theorem kq.tak (h : kq X S) (b : Bool) (k : Nat) : kq X (takS S b k) := ⟨takS_ok h.1, h.2.tr (kt_tak h.1 b k)⟩
theorem kq.fig (h : kq X S) (lo hi : Int32) : kq X (figS S lo hi) := h.tak _ _
theorem kq.tof (h : kq X S) (f : Nat) : kq X (tofS S f) := h.tak _ _
theorem kq_rcD (h : kq X S) : kq X (rcD S) := by
  have a : kq X (rcA S) := by unfold rcA; exact h.tak _ _
  have b : kq X (rcB S) := by unfold rcB; exact (a.fig _ _).tak _ _
  have c : kq X (rcC S) := by unfold rcC; exact b.fig _ _
  unfold rcD
  exact c.tak _ _
theorem kq_rcS (h : kq X S) : kq X (rcS S) := by
  refine ⟨rcS_ok h.1, ?_⟩
  unfold rcS
  split
  · exact (kq_rcD h).2.tr (kt_sb _ _)
  · exact (kq_rcD h).2
theorem kq_rsD (h : kq X S) : kq X (rsD S) := by
  have a : kq X (rsA S) := by unfold rsA; exact h.tak _ _
  have b : kq X (rsB S) := by unfold rsB; exact (a.fig _ _).tak _ _
  have c : kq X (rsC S) := by unfold rsC; exact b.tof _
  unfold rsD
  exact c.tak _ _
theorem kq_rsS (h : kq X S) : kq X (rsS S) := by
  refine ⟨rsS_ok h.1, ?_⟩
  unfold rsS
  split
  · exact (kq_rsD h).2.tr (kt_sb _ _)
  · exact (kq_rsD h).2
theorem kq_rcL : ∀ n S R, kq X S → rcL n S = some R → kq X R := by
  intro n
  induction n with
  | zero => intro S R _ h; cases h
  | succ n ih =>
    intro S R h e
    unfold rcL at e
    split at e
    · exact ih _ _ (kq_rcS h) e
    · cases e; exact h
theorem kq_rsL : ∀ n S R, kq X S → rsL n S = some R → kq X R := by
  intro n
  induction n with
  | zero => intro S R _ h; cases h
  | succ n ih =>
    intro S R h e
    unfold rsL at e
    split at e
    · exact ih _ _ (kq_rsS h) e
    · cases e; exact h
end KTS
def tw0 (S : ms_T) : ms_T := sF (sN (sB S 7 (fun _ => 0)) 9 0) 8 (-1)
theorem kq_tw {S : ms_T} (h : pOK0 S) : kq (tw0 S) (twG S) := by
  have a0 : kq (tw0 S) (tw0 S) := ⟨pOK_0 h, kt.rf _⟩
  have a : kq (tw0 S) (twA S) := ⟨advS_ok a0.1, kt_adv _⟩
  have b : kq (tw0 S) (twB S) := by unfold twB; exact a.tak _ _
  have c : kq (tw0 S) (twC S) := by unfold twC; exact ⟨pOK_d (b.fig _ _).1 (by decide), (b.fig _ _).2.tr (kt_sb _ _)⟩
  have d : kq (tw0 S) (twD S) := by unfold twD; exact c.tak _ _
  have e : kq (tw0 S) (twE S) := by unfold twE; exact ⟨pOK_d (d.fig _ _).1 (by decide), (d.fig _ _).2.tr (kt_sb _ _)⟩
  have f : kq (tw0 S) (twF S) := by unfold twF; exact e.tak _ _
  unfold twG
  split
  · exact f.tak _ _
  · exact f
theorem kq_twH {X S : ms_T} (h : kq X S) : kq X (twH S) := by
  unfold twH
  split
  · exact h.tak _ _
  · exact h
/-! corners, streets: there is an end -/
theorem rcS_6 {S : ms_T} (hp : pOK S) (h8 : (rcS S).1 8 < 0) : (rcS S).2.2.2 7 6 = S.2.2.2 7 6 + 1 ∧ S.2.2.2 7 6 < 6 := by
  rw [rcS_8] at h8
  refine ⟨?_, (rcD_w hp h8).2⟩
  rw [rcS_7 h8]
  unfold rcT
  rw [uN_s, rcD_t]
theorem rsS_25 {S : ms_T} (hp : pOK S) (h8 : (rsS S).1 8 < 0) : (rsS S).2.2.2 7 25 = S.2.2.2 7 25 + 1 ∧ S.2.2.2 7 25 < 8 := by
  rw [rsS_8] at h8
  refine ⟨?_, (rsD_w hp h8).2⟩
  rw [rsS_7 h8]
  unfold rsT
  rw [uN_s, rsD_t]
theorem rcG_f {S : ms_T} (h : ¬ S.1 8 < 0) : rcG S = false := by
  unfold rcG
  rw [decide_eq_false h]
  rfl
theorem rsG_f {S : ms_T} (h : ¬ S.1 8 < 0) : rsG S = false := by
  unfold rsG
  rw [decide_eq_false h]
  rfl
theorem rcL_ex : ∀ m S, pOK S → 6 ≤ S.2.2.2 7 6 + m → ∃ n R, rcL n S = some R := by
  intro m
  induction m with
  | zero =>
    intro S hp h6
    by_cases hg : rcG S = true
    · have h8 : ¬ (rcS S).1 8 < 0 := fun z => by have := (rcS_6 hp z).2; omega
      refine ⟨2, rcS S, ?_⟩
      rw [rcL, if_pos hg, rcL, if_neg (by rw [rcG_f h8]; decide)]
    · exact ⟨1, S, by rw [rcL, if_neg hg]⟩
  | succ m ih =>
    intro S hp h6
    by_cases hg : rcG S = true
    · by_cases h8 : (rcS S).1 8 < 0
      · obtain ⟨n, R, h⟩ := ih (rcS S) (rcS_ok hp) (by rw [(rcS_6 hp h8).1]; omega)
        exact ⟨n + 1, R, by rw [rcL, if_pos hg]; exact h⟩
      · refine ⟨2, rcS S, ?_⟩
        rw [rcL, if_pos hg, rcL, if_neg (by rw [rcG_f h8]; decide)]
    · exact ⟨1, S, by rw [rcL, if_neg hg]⟩
theorem rsL_ex : ∀ m S, pOK S → 8 ≤ S.2.2.2 7 25 + m → ∃ n R, rsL n S = some R := by
  intro m
  induction m with
  | zero =>
    intro S hp h6
    by_cases hg : rsG S = true
    · have h8 : ¬ (rsS S).1 8 < 0 := fun z => by have := (rsS_25 hp z).2; omega
      refine ⟨2, rsS S, ?_⟩
      rw [rsL, if_pos hg, rsL, if_neg (by rw [rsG_f h8]; decide)]
    · exact ⟨1, S, by rw [rsL, if_neg hg]⟩
  | succ m ih =>
    intro S hp h6
    by_cases hg : rsG S = true
    · by_cases h8 : (rsS S).1 8 < 0
      · obtain ⟨n, R, h⟩ := ih (rsS S) (rsS_ok hp) (by rw [(rsS_25 hp h8).1]; omega)
        exact ⟨n + 1, R, by rw [rsL, if_pos hg]; exact h⟩
      · refine ⟨2, rsS S, ?_⟩
        rw [rsL, if_pos hg, rsL, if_neg (by rw [rsG_f h8]; decide)]
    · exact ⟨1, S, by rw [rsL, if_neg hg]⟩
/-! the draft is well laid -/
def dr2 (X : ms_T) : Prop := X.2.2.2 7 3 = 0 ∧ ∀ x, x < X.2.2.2 7 25 → X.2.2.2 7 (26 + 2 * x) < X.2.2.2 7 6 ∧ X.2.2.2 7 (26 + 2 * x + 1) < X.2.2.2 7 6
theorem dr2_rc {S : ms_T} (hp : pOK S) (h : dr2 S) (h8 : (rcS S).1 8 < 0) : dr2 (rcS S) := by
  have e6 := rcS_6 hp h8
  rw [rcS_8] at h8
  have eD : (rcD S).2.2 = S.2.2 := rcD_t S
  have hK := rcK_le S
  have E : ∀ i, i < 6 ∨ 25 ≤ i → rcT S i = S.2.2.2 7 i := fun i hi => by
    unfold rcT
    rw [uN_n (by omega), uN_n (by omega), uN_n (by omega), uN_n (by omega), eD]
  have e7 := rcS_7 h8
  unfold dr2
  rw [e6.1, e7, E 3 (by omega), E 25 (by omega)]
  refine ⟨h.1, fun x hx => ?_⟩
  rw [E _ (by omega), E _ (by omega)]
  have := h.2 x hx
  omega
theorem dr2_rs {S : ms_T} (hp : pOK S) (h : dr2 S) (h8 : (rsS S).1 8 < 0) : dr2 (rsS S) := by
  have e25 := rsS_25 hp h8
  rw [rsS_8] at h8
  have eD : (rsD S).2.2 = S.2.2 := rsD_t S
  have eA : (rsA S).2.2 = S.2.2 := takS_t _ _ _
  have ek : rsK S = 26 + 2 * S.2.2.2 7 25 := by
    unfold rsK
    rw [eA, if_pos e25.2]
  have hpA : pOK (rsA S) := takS_ok hp
  have hpF : pOK (figS (rsA S) (nI 0) (nI (S.2.2.2 7 6) - nI 1)) := figS_ok hpA
  have hpB : pOK (rsB S) := by rw [rsB_e]; exact takS_ok hpF
  have hpC : pOK (rsC S) := by unfold rsC; exact tofS_ok hpB
  have h8C : (tofS (rsB S) (rsF S)).1 8 < 0 := by
    rw [rsD_e] at h8
    have := (takS_w hpC h8).1
    unfold rsC at this
    exact this
  have h8B : (rsB S).1 8 < 0 := (tofS_w hpB h8C).1
  have h8F : (figS (rsA S) (nI 0) (nI (S.2.2.2 7 6) - nI 1)).1 8 < 0 := by
    rw [rsB_e] at h8B
    exact (takS_w hpF h8B).1
  have hf : rsF S < S.2.2.2 7 6 := by
    rw [rsF_e]
    exact fig_lt hpA hp.2.2.2.2.2.1 h8F
  have ht : tofV (rsB S) (rsF S) < S.2.2.2 7 6 := by
    have := tof_lt hpB h8C
    rw [show (rsB S).2.2.2 7 = S.2.2.2 7 from congrArg (fun z => z.2 7) (rsB_7 S)] at this
    exact this
  have E : ∀ i, i ≠ 26 + 2 * S.2.2.2 7 25 → i ≠ 26 + 2 * S.2.2.2 7 25 + 1 → i ≠ 5 → i ≠ 25 → rsT S i = S.2.2.2 7 i := fun i a b c d => by
    unfold rsT
    rw [ek, uN_n d, uN_n c, uN_n b, uN_n a, eD]
  have E0 : rsT S (26 + 2 * S.2.2.2 7 25) = rsF S := by
    unfold rsT
    rw [ek, uN_n (by omega), uN_n (by omega), uN_n (by omega), uN_s]
  have E1 : rsT S (26 + 2 * S.2.2.2 7 25 + 1) = tofV (rsB S) (rsF S) := by
    unfold rsT
    rw [ek, uN_n (by omega), uN_n (by omega), uN_s]
  have e7 := rsS_7 h8
  unfold dr2
  rw [e25.1, e7, E 3 (by omega) (by omega) (by omega) (by omega), E 6 (by omega) (by omega) (by omega) (by omega)]
  refine ⟨h.1, fun x hx => ?_⟩
  by_cases z : x = S.2.2.2 7 25
  · subst z
    rw [E0, E1]
    exact ⟨hf, ht⟩
  · rw [E _ (by omega) (by omega) (by omega) (by omega), E _ (by omega) (by omega) (by omega) (by omega)]
    exact h.2 x (by omega)
def dr3 (S : ms_T) : Prop := S.1 8 < 0 → ∃ rate, drI rate S ∧ dr2 S
theorem dr3_rcL : ∀ n S R, pOK S → dr3 S → rcL n S = some R → dr3 R := by
  intro n
  induction n with
  | zero => intro S R _ _ h; cases h
  | succ n ih =>
    intro S R hp h e
    unfold rcL at e
    split at e
    · rename_i hg
      refine ih _ _ (rcS_ok hp) (fun h8 => ?_) e
      have hS : S.1 8 < 0 := Decidable.byContradiction (fun z => by rw [rcG_f z] at hg; cases hg)
      obtain ⟨rate, d1, d2⟩ := h hS
      exact ⟨rate, (drI_rc hp d1 h8).1, dr2_rc hp d2 h8⟩
    · cases e; exact h
theorem dr3_rsL : ∀ n S R, pOK S → dr3 S → rsL n S = some R → dr3 R := by
  intro n
  induction n with
  | zero => intro S R _ _ h; cases h
  | succ n ih =>
    intro S R hp h e
    unfold rsL at e
    split at e
    · rename_i hg
      refine ih _ _ (rsS_ok hp) (fun h8 => ?_) e
      have hS : S.1 8 < 0 := Decidable.byContradiction (fun z => by rw [rsG_f z] at hg; cases hg)
      obtain ⟨rate, d1, d2⟩ := h hS
      exact ⟨rate, (drI_rs hp d1 h8).1, dr2_rs hp d2 h8⟩
    · cases e; exact h
theorem dr3_tw (S : ms_T) : dr3 (twG S) := by
  intro _
  obtain ⟨d1, d6, d25⟩ := dr_F S
  have e : (twG S).2.2 = (twF S).2.2 := by
    unfold twG
    split
    · exact takS_t _ _ _
    · rfl
  have e7 : (twG S).2.2.2 7 = (twF S).2.2.2 7 := congrArg (fun z => z.2 7) e
  refine ⟨figV (twB S) (nI 1) (nI 9), ?_, ?_⟩
  · unfold drI at d1 ⊢
    rw [e7]
    exact d1
  · unfold dr2
    rw [e7, d25]
    refine ⟨?_, fun x hx => absurd hx (by omega)⟩
    rw [twF_7, uN_n (by omega), uN_n (by omega)]
    rfl
/-- **what reading a town leaves** -/
theorem tw_end {S : ms_T} (h : pOK0 S) : ∃ (nc nx : Nat) (R1 R2 : ms_T), rcL nc (twG S) = some R1 ∧ rsL nx R1 = some R2 ∧ pOK (twH R2) ∧ kt (tw0 S) (twH R2) ∧ ((twH R2).1 8 < 0 → okT ((twH R2).2.2.2 7)) := by
  have k0 := kq_tw h
  obtain ⟨nc, R1, h1⟩ := rcL_ex 6 (twG S) k0.1 (by omega)
  have k1 := kq_rcL nc _ _ k0 h1
  obtain ⟨nx, R2, h2⟩ := rsL_ex 8 R1 k1.1 (by omega)
  have k2 := kq_rsL nx _ _ k1 h2
  have k3 := kq_twH k2
  refine ⟨nc, nx, R1, R2, h1, h2, k3.1, k3.2, fun h8 => ?_⟩
  have d2 := dr3_rsL nx _ _ k1.1 (dr3_rcL nc _ _ k0.1 (dr3_tw S) h1) h2
  have e : twH R2 = R2 := by
    unfold twH at h8 ⊢
    split at h8
    · rename_i c
      exact absurd (takS_w k2.1 h8).2 (by decide)
    · rename_i c
      rw [if_neg c]
  rw [e] at h8 ⊢
  obtain ⟨rate, ⟨q1, q2, -⟩, q3, q4⟩ := d2 h8
  exact ⟨q1, q4, by omega, by omega⟩
section TWL
variable {S : ms_T} {V : fv_T}
theorem RLw.tw1 {T : ms_T} (h : RLw S V) (hp : pOK T) (k : kt (tw0 S) T) : RLw (sN T 6 0) (vN (vN V 1 (T.2.1 7)) 0 0) := by
  obtain ⟨⟨a1, a2, a3, a4, a5⟩, h2, h3, h4, h5, h6, h7, ⟨b, h8, h9, h10, h11, h12⟩⟩ := h
  obtain ⟨k1, k2, k3, -⟩ := k
  have n : ∀ i, i ≠ 7 → i ≠ 9 → i ≠ 10 → i ≠ 11 → T.2.1 i = S.2.1 i := fun i a b c d => by
    rw [k1 i a b c d]
    show (if i = 9 then 0 else S.2.1 i) = _
    rw [if_neg b]
  have bb : ∀ j, j ≠ 7 → T.2.2.2 j = S.2.2.2 j := fun j hj => by
    rw [k3 j hj]
    show (if j = 7 then _ else S.2.2.2 j) = _
    rw [if_neg hj]
  have r : T.2.2.1 = S.2.2.1 := k2
  have n17 := n 17 (by omega) (by omega) (by omega) (by omega)
  have n31 := n 31 (by omega) (by omega) (by omega) (by omega)
  have n28 := n 28 (by omega) (by omega) (by omega) (by omega)
  have n4 := n 4 (by omega) (by omega) (by omega) (by omega)
  refine ⟨⟨rfl, rfl, a3.trans n17.symm, a4.trans n4.symm, a5.trans n31.symm⟩, ?_, ?_, ?_, ?_, fun i hi => absurd (show i < 0 from hi) (by omega), ?_, ⟨⟨Nat.zero_le _, hp.2.2.1, hp.2.2.2.1, hp.2.2.2.2.1⟩, ?_, ?_, ?_, ?_, ?_⟩⟩
  · show eqT V.2.1 (T.2.2.2 6) ∧ okT V.2.1
    rw [bb 6 (by omega)]; exact h2
  · show ∀ j, j < T.2.1 17 → eqT (V.2.2.1 j) (fun i => T.2.2.2 9 (42 * j + i)) ∧ okT (V.2.2.1 j)
    rw [bb 9 (by omega), n17]; exact h3
  · show ∀ j, j ≤ 1 → imR (V.2.2.2.1 j) (T.2.2.2 11 j) (fun i => T.2.2.2 10 (42 * j + i))
    rw [bb 11 (by omega), bb 10 (by omega)]; exact h4
  · show ∀ j, j < 8 → rowR (V.2.2.2.2.1 j) (T.2.2.1 1 j) (T.2.2.2 2 j) (fun c => T.2.2.1 3 (40 * j + c))
    rw [bb 2 (by omega), r]; exact h5
  · show ∀ i, i < T.2.1 31 → V.2.2.2.2.2.2 i = T.2.2.2 18 i
    rw [bb 18 (by omega), n31]; exact h7
  · show T.2.1 17 ≤ 24
    omega
  · show T.2.1 28 ≤ 8
    omega
  · show T.2.1 31 ≤ 16
    omega
  · show ∀ j, j < 8 → T.2.2.2 2 j ≤ 40
    rw [bb 2 (by omega)]; exact h11
  · show ∀ j, T.2.2.2 11 j ≤ 1
    rw [bb 11 (by omega)]; exact h12
theorem RLw.tw2 {T : ms_T} (h : RLw S V) (hp : pOK T) (k : kt (tw0 S) T) (h8 : T.1 8 < 0) (ho : okT (T.2.2.2 7)) : RLw (sN (sB (sN T 6 0) 6 (T.2.2.2 7)) 17 0) (vN (vT (vN V 0 0) (T.2.2.2 7)) 2 0) := by
  have h1 := h.tw1 hp k
  have e7 : T.2.1 7 = V.1 1 := (k.2.2.2 h8).2.trans h.1.2.1.symm
  obtain ⟨⟨a1, a2, a3, a4, a5⟩, h2, h3, h4, h5, h6, h7, ⟨b, h8, h9, h10, h11, h12⟩⟩ := h1
  exact ⟨⟨rfl, e7.symm, rfl, a4, a5⟩, ⟨eqT.rf _, ho⟩, fun j hj => absurd (show j < 0 from hj) (by omega), h4, h5, h6, h7, ⟨b, Nat.zero_le _, h9, h10, h11, h12⟩⟩
theorem lw_town (h : RL S V) : ∃ (nc nx : Nat) (R1 R2 : ms_T), rcL nc (twG S) = some R1 ∧ rsL nx R1 = some R2 ∧
    (∀ pl, ¬ (twH R2).1 8 < 0 → (twH R2).1 8 = nI pl → (¬ (twH R2).1 8 < 0 → (-1000100) - (twH R2).1 8 = (-1000100) - nI pl ∧ RLw (sN (twH R2) 6 0) (vN (vN V 1 ((twH R2).2.1 7)) 0 0)) ∧ ((twH R2).1 8 < 0 → nI ((twH R2).2.2.2 7 25) = (-1000100) - nI pl ∧ RLw (sN (sB (sN (twH R2) 6 0) 6 ((twH R2).2.2.2 7)) 17 0) (vN (vN V 1 ((twH R2).2.1 7)) 0 0))) ∧
    ((twH R2).1 8 < 0 → (¬ (twH R2).1 8 < 0 → (-1000100) - (twH R2).1 8 = nI ((twH R2).2.2.2 7 25) ∧ RLw (sN (twH R2) 6 0) (vN (vT (vN V 0 0) ((twH R2).2.2.2 7)) 2 0)) ∧ ((twH R2).1 8 < 0 → nI ((twH R2).2.2.2 7 25) = nI ((twH R2).2.2.2 7 25) ∧ RLw (sN (sB (sN (twH R2) 6 0) 6 ((twH R2).2.2.2 7)) 17 0) (vN (vT (vN V 0 0) ((twH R2).2.2.2 7)) 2 0))) := by
  have hw := h.2
  obtain ⟨nc, nx, R1, R2, h1, h2, hp, k, ho⟩ := tw_end hw.2.2.2.2.2.2.2.1
  exact ⟨nc, nx, R1, R2, h1, h2, fun pl z e => ⟨fun _ => ⟨by rw [e], hw.tw1 hp k⟩, fun z2 => absurd z2 z⟩, fun z => ⟨fun z2 => absurd z z2, fun _ => ⟨rfl, hw.tw2 hp k z (ho z)⟩⟩⟩
end TWL
