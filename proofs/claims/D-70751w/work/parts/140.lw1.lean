/-! ===== all rows of streets: both ways are one ===== -/
set_option maxRecDepth 100000
/-- going back from a row, and on -/
def rbL (most : Nat) (jd : Nat × ms_T → Nat → Nat × ms_T) (f : Nat) (a : Nat × ms_T) (l : Nat) : Option (Nat × ms_T) := if (bckS a.2 l).1 then rowsL most jd f (a.1, (bckS a.2 l).2) ((bckS a.2 l).2.1 20).toNatClampNeg else some (a.1, (bckS a.2 l).2)
/-- what a row and those that go on from it leave of the reference -/
def kpL (S S' : ms_T) (d : Nat) : Prop := (∀ i, i ≠ 20 → i ≠ 27 → S'.1 i = S.1 i) ∧ (∀ i, i ≠ 28 → i ≠ 29 → S'.2.1 i = S.2.1 i) ∧ S'.2.2.1 = S.2.2.1 ∧ (∀ j, j < 12 ∨ 17 < j → S'.2.2.2 j = S.2.2.2 j) ∧ (∀ i, i < d → S'.2.2.2 12 i = S.2.2.2 12 i ∧ S'.2.2.2 13 i = S.2.2.2 13 i) ∧ ∀ i, i ≤ d → S'.2.2.2 14 i = S.2.2.2 14 i ∧ S'.2.2.2 15 i = S.2.2.2 15 i ∧ S'.2.2.2 16 i = S.2.2.2 16 i
theorem kpL.rf (S : ms_T) (d : Nat) : kpL S S d := ⟨fun _ _ _ => rfl, fun _ _ _ => rfl, rfl, fun _ _ => rfl, fun _ _ => ⟨rfl, rfl⟩, fun _ _ => ⟨rfl, rfl, rfl⟩⟩
theorem kpL.tr {A B C : ms_T} {d e : Nat} (h : kpL A B d) (g : kpL B C e) (hd : d ≤ e) : kpL A C d :=
  ⟨fun i x y => (g.1 i x y).trans (h.1 i x y), fun i x y => (g.2.1 i x y).trans (h.2.1 i x y), g.2.2.1.trans h.2.2.1, fun j hj => (g.2.2.2.1 j hj).trans (h.2.2.2.1 j hj),
    fun i hi => ⟨(g.2.2.2.2.1 i (by omega)).1.trans (h.2.2.2.2.1 i hi).1, (g.2.2.2.2.1 i (by omega)).2.trans (h.2.2.2.2.1 i hi).2⟩,
    fun i hi => ⟨(g.2.2.2.2.2 i (by omega)).1.trans (h.2.2.2.2.2 i hi).1, (g.2.2.2.2.2 i (by omega)).2.1.trans (h.2.2.2.2.2 i hi).2.1, (g.2.2.2.2.2 i (by omega)).2.2.trans (h.2.2.2.2.2 i hi).2.2⟩⟩
theorem kpL.dn {A B : ms_T} {d e : Nat} (h : kpL A B e) (hd : d ≤ e) : kpL A B d := ⟨h.1, h.2.1, h.2.2.1, h.2.2.2.1, fun i hi => h.2.2.2.2.1 i (by omega), fun i hi => h.2.2.2.2.2 i (by omega)⟩
/-- the reference stands on a row of d streets, whose town is t and that costs c -/
def stL (S : ms_T) (t : Nat → Nat) (d c : Nat) : Prop := smT (S.2.2.2 8) ∧ t 1 ≤ 9 ∧ c ≤ 90 * d ∧ (∀ i, i = 0 ∨ 5 ≤ i → t i = S.2.2.2 8 i) ∧ t 4 = S.2.2.2 14 d ∧ t 1 = S.2.2.2 15 d ∧ t 3 = S.2.2.2 8 3 + d ∧ c = S.2.2.2 16 d
theorem stL.kp {S S' : ms_T} {t : Nat → Nat} {d c : Nat} (h : stL S t d c) (g : kpL S S' d) : stL S' t d c := by
  obtain ⟨h0, h1, h2, h3, h4, h5, h6, h7⟩ := h
  have e8 := g.2.2.2.1 8 (by omega)
  have ed := g.2.2.2.2.2 d (Nat.le_refl _)
  refine ⟨by rw [e8]; exact h0, h1, h2, fun i hi => by rw [e8]; exact h3 i hi, by rw [ed.1]; exact h4, by rw [ed.2.1]; exact h5, by rw [e8]; exact h6, by rw [ed.2.2]; exact h7⟩
theorem goN_cg {t u : Nat → Nat} (h : ∀ i, i = 0 ∨ 5 ≤ i → t i = u i) (x f : Nat) : goN t x f = goN u x f := by
  unfold goN
  rw [h 25 (by omega), h 5 (by omega), h (26 + 2 * x) (by omega)]
theorem psd_cg {t u : Nat → Nat} (h : ∀ i, i = 0 ∨ 5 ≤ i → t i = u i) (c m s : Nat) : psd t c m s = psd u c m s := by
  unfold psd
  rw [h (7 + 3 * c) (by omega), h (7 + 3 * c + 1) (by omega)]
theorem csd_cg {t u : Nat → Nat} (h : ∀ i, i = 0 ∨ 5 ≤ i → t i = u i) (c m s : Nat) : csd t c m s = csd u c m s := by
  unfold csd
  rw [psd_cg h, h 0 (by omega), h (7 + 3 * c + 2) (by omega)]
theorem rdT_4 {t : Nat → Nat} {x : Nat} : rdT t x 4 = t (26 + 2 * x + 1) := by unfold rdT; rw [uN_n (by omega), uN_s]
theorem rdT_1 {t : Nat → Nat} {x : Nat} : rdT t x 1 = psd t (t (26 + 2 * x + 1)) (t 1) (t 3) := by unfold rdT; rw [uN_n (by omega), uN_n (by omega), uN_s]
theorem rdT_33 {t : Nat → Nat} {x : Nat} : rdT t x 3 = t 3 + 1 := uN_s
theorem stL.add {S : ms_T} {t : Nat → Nat} {d c x : Nat} (h : stL S t d c) (hx : x < t 25) : stL (addS S d x) (rdT t x) (d + 1) (c + csd t (t (26 + 2 * x + 1)) (t 1) (t 3)) := by
  obtain ⟨h0, h1, h2, h3, h4, h5, h6, h7⟩ := h
  have hx8 : x < 8 := by
    have := h0.2.2.2.2.2.2.2.2.1
    have := h3 25 (by omega)
    omega
  have e26 := h3 (26 + 2 * x + 1) (by omega)
  have hp := psd_le (t := t) (c := t (26 + 2 * x + 1)) (step := t 3) h1
  have hc : csd t (t (26 + 2 * x + 1)) (t 1) (t 3) ≤ 90 := by
    rw [csd_cg h3, e26]
    exact csd_le h0 (h0.2.2.2.2.2.2.2.2.2 x hx8).2 h1
  refine ⟨h0, by rw [rdT_1]; exact hp, by omega, fun i hi => ?_, ?_, ?_, ?_, ?_⟩
  · show rdT t x i = S.2.2.2 8 i
    rw [← h3 i hi]
    unfold rdT
    rw [uN_n (by omega), uN_n (by omega), uN_n (by omega), uN_n (by omega)]
  · show rdT t x 4 = uN (S.2.2.2 14) (d + 1) _ (d + 1)
    rw [rdT_4, uN_s, e26]
  · show rdT t x 1 = uN (S.2.2.2 15) (d + 1) _ (d + 1)
    rw [rdT_1, uN_s, psd_cg h3, e26, h5, h6]
  · show rdT t x 3 = S.2.2.2 8 3 + (d + 1)
    rw [rdT_33, h6]
    omega
  · show c + _ = uN (S.2.2.2 16) (d + 1) _ (d + 1)
    rw [uN_s, csd_cg h3, e26, h5, h6, h7]
theorem addS_kp (S : ms_T) (d x : Nat) : kpL S (addS S d x) d := by
  refine ⟨fun i h1 _ => if_neg h1, fun _ _ _ => rfl, rfl, fun j hj => ?_, fun i hi => ⟨?_, ?_⟩, fun i hi => ⟨?_, ?_, ?_⟩⟩
  · show (if j = 16 then _ else if j = 15 then _ else if j = 14 then _ else if j = 13 then _ else if j = 12 then _ else S.2.2.2 j) = _
    rw [if_neg (by omega), if_neg (by omega), if_neg (by omega), if_neg (by omega), if_neg (by omega)]
  · show uN (S.2.2.2 12) d x i = _
    rw [uN_n (by omega)]
  · show uN (S.2.2.2 13) d (x + 1) i = _
    rw [uN_n (by omega)]
  · show uN (S.2.2.2 14) (d + 1) _ i = _
    rw [uN_n (by omega)]
  · show uN (S.2.2.2 15) (d + 1) _ i = _
    rw [uN_n (by omega)]
  · show uN (S.2.2.2 16) (d + 1) _ i = _
    rw [uN_n (by omega)]
section LWR
variable {α : Type} {bt : (Nat → Nat) → Nat → Nat → α → Bool × α} {most : Nat} {jd : Nat × ms_T → Nat → Nat × ms_T}
/-- what a judge's two shapes have in common: P ties what is judged -/
def jdOK (P : α → (Nat → Nat) → Nat × ms_T → Prop) (bt : (Nat → Nat) → Nat → Nat → α → Bool × α) (most : Nat) (jd : Nat × ms_T → Nat → Nat × ms_T) : Prop :=
  (∀ (p : α) (b : Nat → Nat) (a a' : Nat × ms_T), P p b a → a'.1 = a.1 → a'.2.1 27 = a.2.1 27 → a'.2.2.1 28 = a.2.2.1 28 → a'.2.2.1 29 = a.2.2.1 29 → a'.2.2.2.2 17 = a.2.2.2.2 17 → P p b a') ∧
  (∀ (a : Nat × ms_T) (d c : Nat) (t : Nat → Nat) (q : ro_T α), d ≤ most → stL a.2 t d c → P q.1 q.2.1 a → (∀ i, i < d → q.2.2.1 i = a.2.2.2.2 12 i) → P (vis bt d c t q).1 (vis bt d c t q).2.1 (jd a d) ∧ kpL a.2 (jd a d).2 99 ∧ (jd a d).2.1 20 = a.2.1 20)
theorem rwL_s2 {f : Nat → ro_T α → ro_T α} (k : Nat) (q : ro_T α) : rwL f (k + 1) q = f k (rwL f k q) := rfl
/-- what is tried on the levels ahead stays -/
theorem rwL_tr {f : Nat → ro_T α → ro_T α} {d : Nat} (hf : ∀ s q i, i < d → (f s q).2.2.1 i = q.2.2.1 i) : ∀ k q i, i < d → (rwL f k q).2.2.1 i = q.2.2.1 i := by
  intro k
  induction k with
  | zero => intro q i _; rfl
  | succ k ih => intro q i hi; rw [rwL_s2, hf _ _ _ hi, ih q i hi]
theorem rwF_tr : ∀ m many cost (t : Nat → Nat) (q : ro_T α) i, i < many → (rwF bt m many cost t q).2.2.1 i = q.2.2.1 i := by
  intro m
  induction m with
  | zero => intro many cost t q i hi; rfl
  | succ m ih =>
    intro many cost t q i hi
    rw [rwF_s]
    rw [rwL_tr (d := many) (fun s q i hi => ?_) _ _ i hi]
    · rfl
    · unfold rwG
      by_cases z : goN t s (t 4) = true
      · simp only [z, if_true]
        rw [ih _ _ _ _ i (by omega)]
        exact uN_n (by omega)
      · simp only [z]
        rfl
theorem lw_rows {P : α → (Nat → Nat) → Nat × ms_T → Prop} (hm : most ≠ 0) (hm8 : most ≤ 8) (hJ : jdOK P bt most jd) : ∀ m d (a : Nat × ms_T) (t : Nat → Nat) (c : Nat) (q : ro_T α), d + m = most → stL a.2 t d c → P q.1 q.2.1 a → (∀ i, i < d → q.2.2.1 i = a.2.2.2.2 12 i) →
    ∃ (N : Nat) (a' : Nat × ms_T), (∀ f, rowsL most jd (f + N) a d = rbL most jd f a' d) ∧ kpL a.2 a'.2 d ∧ P (rwF bt m d c t q).1 (rwF bt m d c t q).2.1 a' := by
  intro m
  induction m with
  | zero =>
    intro d a t c q hd hs hP hq
    obtain ⟨h1, h2, h3⟩ := hJ.2 a d c t q (by omega) hs hP hq
    refine ⟨1, jd a d, fun f => ?_, h2.dn (by omega), h1⟩
    have eg : gonS (jd a d).2 most d = bckS (jd a d).2 d := by unfold gonS; exact if_neg (by omega)
    rw [rowsL, if_neg hm, eg]
    rfl
  | succ m ih =>
    intro d a t c q hd hs hP hq
    obtain ⟨h1, h2, h3⟩ := hJ.2 a d c t q (by omega) hs hP hq
    -- the streets from x on
    have inner : ∀ n x (a1 : Nat × ms_T) (q1 : ro_T α), x + n = t 25 → kpL a.2 a1.2 d → P q1.1 q1.2.1 a1 → (∀ i, i < d → q1.2.2.1 i = a.2.2.2.2 12 i) →
        fstS (a1.2.2.2.2 8) (a1.2.2.2.2 14 d) (a1.2.2.2.2 8 25 - a1.2.2.2.2 13 d) (a1.2.2.2.2 13 d) = fstS (a1.2.2.2.2 8) (a1.2.2.2.2 14 d) (a1.2.2.2.2 8 25 - x) x →
        ∃ (N : Nat) (a' : Nat × ms_T), (∀ f, rbL most jd (f + N) a1 (d + 1) = rbL most jd f a' d) ∧ kpL a.2 a'.2 d ∧ ∀ q0, rwL (rwG bt m d c t) x q0 = q1 → P (rwL (rwG bt m d c t) (t 25) q0).1 (rwL (rwG bt m d c t) (t 25) q0).2.1 a' := by
      intro n
      induction n with
      | zero =>
        intro x a1 q1 hx hk hP1 hq1 hf
        have hs1 := hs.kp hk
        have e25 := hs1.2.2.2.1 25 (by omega)
        refine ⟨0, a1, fun f => ?_, hk, fun q0 hq0 => ?_⟩
        · unfold rbL
          have e : bckS a1.2 (d + 1) = bckS a1.2 d := by
            rw [bckS, hf, fstS_e (by omega)]
          rw [e]
          rfl
        · rw [← show x = t 25 by omega, hq0]
          exact hP1
      | succ n ih2 =>
        intro x a1 q1 hx hk hP1 hq1 hf
        have hs1 := hs.kp hk
        have e25 := hs1.2.2.2.1 25 (by omega)
        have eg : goN t x (t 4) = goN (a1.2.2.2.2 8) x (a1.2.2.2.2 14 d) := by
          rw [goN_cg hs1.2.2.2.1, hs1.2.2.2.2.1]
        by_cases hg : goN t x (t 4) = true
        · have hfs : fstS (a1.2.2.2.2 8) (a1.2.2.2.2 14 d) (a1.2.2.2.2 8 25 - a1.2.2.2.2 13 d) (a1.2.2.2.2 13 d) = some x := by
            rw [hf]
            exact fstS_t (by omega) (by rw [← eg]; exact hg)
          have hb : bckS a1.2 (d + 1) = (true, addS a1.2 d x) := by rw [bckS, hfs]
          have hs2 := hs1.add (x := x) (by omega)
          obtain ⟨N1, a2, g1, g2, g3⟩ := ih (d + 1) (a1.1, addS a1.2 d x) (rdT t x) _ (q1.1, q1.2.1, uN q1.2.2.1 d x, q1.2.2.2) (by omega) hs2 (hJ.1 _ _ a1 (a1.1, addS a1.2 d x) hP1 rfl rfl rfl rfl rfl) (fun i hi => by
            show uN q1.2.2.1 d x i = uN (a1.2.2.2.2 12) d x i
            by_cases z : i = d
            · subst z; rw [uN_s, uN_s]
            · rw [uN_n z, uN_n z, hq1 i (by omega), (hk.2.2.2.2.1 i (by omega)).1])
          have hk2 : kpL a.2 a2.2 d := hk.tr ((addS_kp a1.2 d x).tr g2 (by omega)) (Nat.le_refl _)
          have e13 : a2.2.2.2.2 13 d = x + 1 := by
            rw [(g2.2.2.2.2.1 d (by omega)).2]
            exact uN_s
          have hq2 : rwG bt m d c t x q1 = rwF bt m (d + 1) (c + csd t (t (26 + 2 * x + 1)) (t 1) (t 3)) (rdT t x) (q1.1, q1.2.1, uN q1.2.2.1 d x, q1.2.2.2) := by
            unfold rwG
            rw [if_pos hg]
          obtain ⟨N2, a3, k1, k2, k3⟩ := ih2 (x + 1) a2 (rwG bt m d c t x q1) (by omega) hk2 (by rw [hq2]; exact g3) (fun i hi => by
            rw [hq2, rwF_tr _ _ _ _ _ i (by omega)]
            show uN q1.2.2.1 d x i = _
            rw [uN_n (by omega)]
            exact hq1 i hi) (by rw [e13])
          refine ⟨N2 + N1, a3, fun f => ?_, k2, fun q0 hq0 => k3 q0 (by rw [rwL_s2, hq0])⟩
          rw [← k1 f, ← g1 (f + N2), ← Nat.add_assoc]
          unfold rbL
          rw [hb]
          show (if true = true then rowsL most jd (f + N2 + N1) (a1.1, addS a1.2 d x) ((addS a1.2 d x).1 20).toNatClampNeg else _) = _
          rw [if_pos rfl]
          have e20 : ((addS a1.2 d x).1 20).toNatClampNeg = d + 1 := nI_clamp (by omega)
          rw [e20]
        · have hg' : goN t x (t 4) = false := by simpa using hg
          obtain ⟨N2, a3, k1, k2, k3⟩ := ih2 (x + 1) a1 q1 (by omega) hk hP1 hq1 (by rw [hf]; exact fstS_s (by omega) (by rw [← eg]; exact hg'))
          refine ⟨N2, a3, k1, k2, fun q0 hq0 => k3 q0 ?_⟩
          rw [rwL_s2, hq0]
          unfold rwG
          rw [if_neg hg]
    have hk1 : kpL a.2 (sB (jd a d).2 13 (uN ((jd a d).2.2.2.2 13) d 0)) d := by
      refine kpL.tr (h2.dn (show d ≤ 99 by omega)) (e := d) ⟨fun _ _ _ => rfl, fun _ _ _ => rfl, rfl, fun j hj => ?_, fun i hi => ⟨rfl, ?_⟩, fun i hi => ⟨rfl, rfl, rfl⟩⟩ (Nat.le_refl _)
      · show (if j = 13 then _ else _) = _
        rw [if_neg (by omega)]
      · show uN _ d 0 i = _
        rw [uN_n (by omega)]
    obtain ⟨N, a', k1, k2, k3⟩ := inner (t 25) 0 ((jd a d).1, sB (jd a d).2 13 (uN ((jd a d).2.2.2.2 13) d 0)) (rw0 bt d c t q) (by omega) hk1 (hJ.1 _ _ (jd a d) _ h1 rfl rfl rfl rfl rfl) hq (by
      show fstS _ _ (_ - uN _ d 0 d) (uN _ d 0 d) = _
      rw [uN_s])
    refine ⟨N + 1, a', fun f => ?_, k2, ?_⟩
    · have eg : gonS (jd a d).2 most d = bckS (sB (jd a d).2 13 (uN ((jd a d).2.2.2.2 13) d 0)) (d + 1) := by unfold gonS; exact if_pos (by omega)
      rw [← k1 f, ← Nat.add_assoc, rowsL, if_neg hm, eg]
      rfl
    · rw [rwF_s]
      exact k3 _ rfl
end LWR
