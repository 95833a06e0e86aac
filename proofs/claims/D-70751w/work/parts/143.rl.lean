/-! ===== the class and the reference: what ties them ===== -/
set_option maxRecDepth 100000
def eqT (t u : Nat → Nat) : Prop := ∀ i, i < 42 → t i = u i
def okT (t : Nat → Nat) : Prop := smT t ∧ (∀ x, x < t 25 → t (26 + 2 * x) < t 6 ∧ t (26 + 2 * x + 1) < t 6) ∧ t 3 ≤ 999 ∧ t 5 < 2 ^ t 25
def rowR (r : Option (Nat × Nat × (Nat → Int32))) (l : Int32) (n : Nat) (it : Nat → Int32) : Prop := match r with
  | none => l = kNONE
  | some (k, m, f) => k ≤ 2 ∧ l = nI k ∧ n = m ∧ ∀ c, c < m → it c = f c
def imR (r : Option (Nat → Nat)) (n : Nat) (u : Nat → Nat) : Prop := match r with
  | none => n = 0
  | some t => n = 1 ∧ eqT t u ∧ okT t
def RL0 (S : ms_T) (V : fv_T) : Prop := V.1 0 = S.2.1 6 ∧ V.1 1 = S.2.1 7 ∧ V.1 2 = S.2.1 17 ∧ V.1 3 = S.2.1 4 ∧ V.1 4 = S.2.1 31
def RLc (S : ms_T) (V : fv_T) : Prop := eqT V.2.1 (S.2.2.2 6) ∧ okT V.2.1
def RLp (S : ms_T) (V : fv_T) : Prop := ∀ j, j < S.2.1 17 → eqT (V.2.2.1 j) (fun i => S.2.2.2 9 (42 * j + i)) ∧ okT (V.2.2.1 j)
def RLi (S : ms_T) (V : fv_T) : Prop := ∀ j, j ≤ 1 → imR (V.2.2.2.1 j) (S.2.2.2 11 j) (fun i => S.2.2.2 10 (42 * j + i))
def RLr (S : ms_T) (V : fv_T) : Prop := ∀ j, j < 8 → rowR (V.2.2.2.2.1 j) (S.2.2.1 1 j) (S.2.2.2 2 j) (fun c => S.2.2.1 3 (40 * j + c))
def RLt (S : ms_T) (V : fv_T) : Prop := ∀ i, i < S.2.1 6 → V.2.2.2.2.2.1 i &&& nI 255 = nI (S.2.2.2 5 i)
def RLq (S : ms_T) (V : fv_T) : Prop := ∀ i, i < S.2.1 31 → V.2.2.2.2.2.2 i = S.2.2.2 18 i
def RLb (S : ms_T) : Prop := pOK0 S ∧ S.2.1 17 ≤ 24 ∧ S.2.1 28 ≤ 8 ∧ S.2.1 31 ≤ 16 ∧ (∀ j, j < 8 → S.2.2.2 2 j ≤ 40) ∧ ∀ j, S.2.2.2 11 j ≤ 1
/-- tied, the town up to what is beyond its row -/
def RLw (S : ms_T) (V : fv_T) : Prop := RL0 S V ∧ RLc S V ∧ RLp S V ∧ RLi S V ∧ RLr S V ∧ RLt S V ∧ RLq S V ∧ RLb S
def RL (S : ms_T) (V : fv_T) : Prop := V.2.1 = S.2.2.2 6 ∧ RLw S V
section RLL
variable {S : ms_T} {V : fv_T}
theorem RL.w (h : RL S V) : RLw S V := h.2
theorem RLw.st (h : RLw S V) (v : Nat) : RLw (sN S 4 v) (vN V 3 v) := by
  obtain ⟨⟨a1, a2, a3, a4, a5⟩, h2, h3, h4, h5, h6, h7, h8⟩ := h
  exact ⟨⟨a1, a2, a3, rfl, a5⟩, h2, h3, h4, h5, h6, h7, h8⟩
theorem RLw.s8 (h : RLw S V) (t : Nat → Nat) : RLw (sB S 8 t) V := h
theorem RLw.st8 (h : RLw S V) (v : Nat) (t : Nat → Nat) : RLw (sN (sB S 8 t) 4 v) (vN V 3 v) := RLw.st (S := sB S 8 t) h v
theorem RLw.kp {R : ms_T} (h : RLw S V) (k : kpL S R 0) (h28 : R.2.1 28 ≤ 8) : RLw R V := by
  obtain ⟨⟨a1, a2, a3, a4, a5⟩, h2, h3, h4, h5, h6, h7, ⟨⟨b1, b2, b3, b4⟩, h8, -, h10, h11, h12⟩⟩ := h
  obtain ⟨k1, k2, k3, k4, -, -⟩ := k
  have n : ∀ i, i < 28 ∨ 29 < i → R.2.1 i = S.2.1 i := fun i hi => k2 i (by omega) (by omega)
  have b : ∀ i, i < 12 ∨ 17 < i → R.2.2.2 i = S.2.2.2 i := fun i hi => k4 i hi
  refine ⟨⟨a1.trans (n 6 (by omega)).symm, a2.trans (n 7 (by omega)).symm, a3.trans (n 17 (by omega)).symm, a4.trans (n 4 (by omega)).symm, a5.trans (n 31 (by omega)).symm⟩, ?_, ?_, ?_, ?_, ?_, ?_, ?_⟩
  · unfold RLc; rw [b 6 (by omega)]; exact h2
  · unfold RLp; rw [b 9 (by omega), n 17 (by omega)]; exact h3
  · unfold RLi; rw [b 10 (by omega), b 11 (by omega)]; exact h4
  · unfold RLr; rw [b 2 (by omega), k3]; exact h5
  · unfold RLt; rw [b 5 (by omega), n 6 (by omega)]; exact h6
  · unfold RLq; rw [b 18 (by omega), n 31 (by omega)]; exact h7
  · unfold RLb pOK0
    rw [n 6 (by omega), n 10 (by omega), n 11 (by omega), n 17 (by omega), n 31 (by omega), b 2 (by omega), b 5 (by omega), b 11 (by omega)]
    exact ⟨⟨b1, b2, b3, b4⟩, h8, h28, h10, h11, h12⟩
theorem RLw.sc {R : ms_T} (h : RLw S V) (h28 : R.2.1 28 ≤ 8) : RLw (scr S R) V := by
  obtain ⟨a, h2, h3, h4, h5, h6, h7, ⟨b, h8, -, h10, h11, h12⟩⟩ := h
  exact ⟨a, h2, h3, h4, h5, h6, h7, ⟨b, h8, h28, h10, h11, h12⟩⟩
/-- the town of a step -/
theorem eqT.rf (t : Nat → Nat) : eqT t t := fun _ _ => rfl
theorem okT_ride {t : Nat → Nat} {j : Nat} (h : okT t) (hj : j < t 25) (h3 : t 3 < 999) : okT (rdT t j) := by
  obtain ⟨h1, h2, h4, h5⟩ := h
  have h8 := h1.2.2.2.2.2.2.2.2.1
  have e25 : rdT t j 25 = t 25 := rdT_n (by omega)
  have e6 : rdT t j 6 = t 6 := by unfold rdT; rw [uN_n (by omega), uN_n (by omega), uN_n (by omega), uN_n (by omega)]
  have e5 : rdT t j 5 = t 5 := by unfold rdT; rw [uN_n (by omega), uN_n (by omega), uN_n (by omega), uN_n (by omega)]
  refine ⟨smT_rdT h1 (by omega) (by omega), fun x hx => ?_, by rw [rdT_33]; omega, by rw [e5, e25]; exact h5⟩
  rw [e25] at hx
  rw [e6, rdT_n (by omega), rdT_n (by omega)]
  exact h2 x hx
theorem okT_much {t : Nat → Nat} {j u : Nat} (h : okT t) (hj : j < t 6) (hu : u ≤ 9) : okT (uN t (7 + 3 * j + 1) u) := by
  obtain ⟨⟨r0, r1, r2, r3, r4, r5, r6, r7, r25, r26⟩, h2, h4, h5⟩ := h
  have e : ∀ i, i < 8 ∨ 25 ≤ i → uN t (7 + 3 * j + 1) u i = t i := fun i hi => uN_n (by omega)
  refine ⟨⟨by rw [e _ (by omega)]; exact r0, by rw [e _ (by omega)]; exact r1, by rw [e _ (by omega)]; exact r2, by rw [e _ (by omega)]; exact r3, by rw [e _ (by omega)]; exact r4, by rw [e _ (by omega)]; exact r5, by rw [e _ (by omega)]; exact r6, fun c hc => ?_, by rw [e _ (by omega)]; exact r25, fun x hx => by rw [e _ (by omega), e _ (by omega)]; exact r26 x hx⟩, fun x hx => ?_, by rw [e _ (by omega)]; exact h4, by rw [e 5 (by omega), e 25 (by omega)]; exact h5⟩
  · obtain ⟨q1, q2, q3⟩ := r7 c hc
    rw [uN_n (by omega), uN_n (show 7 + 3 * c + 2 ≠ 7 + 3 * j + 1 by omega)]
    refine ⟨q1, ?_, q3⟩
    by_cases z : c = j
    · subst z; rw [uN_s]; exact hu
    · rw [uN_n (by omega)]; exact q2
  · rw [e _ (by omega)] at hx
    rw [e _ (by omega), e _ (by omega), e _ (by omega)]
    exact h2 x hx
theorem okT_2 {t : Nat → Nat} (h : okT t) : okT (uN t 2 0) := by
  obtain ⟨⟨r0, r1, r2, r3, r4, r5, r6, r7, r25, r26⟩, h2, h4, h5⟩ := h
  have e : ∀ i, i ≠ 2 → uN t 2 0 i = t i := fun i hi => uN_n hi
  refine ⟨⟨r0, r1, Nat.zero_le _, r3, r4, r5, r6, fun c hc => ?_, r25, fun x hx => by rw [e _ (by omega), e _ (by omega)]; exact r26 x hx⟩, fun x hx => ?_, h4, h5⟩
  · rw [e _ (by omega), e _ (by omega), e _ (by omega)]
    exact r7 c hc
  · rw [e _ (by omega), e _ (by omega), e _ (by omega)]
    exact h2 x hx
theorem okT_5 {t : Nat → Nat} {v : Nat} (h : okT t) (hv : v < 2 ^ t 25) : okT (uN t 5 v) := by
  obtain ⟨h1, h2, h4, h5⟩ := h
  have h8 : 2 ^ t 25 ≤ 2 ^ 8 := Nat.pow_le_pow_right (by decide) h1.2.2.2.2.2.2.2.2.1
  refine ⟨smT_5 h1 (by omega), fun x hx => ?_, h4, hv⟩
  rw [uN_n (by omega), uN_n (by omega), uN_n (by omega)]
  exact h2 x hx
theorem okT_cg {t u : Nat → Nat} (h : okT t) (e : eqT t u) : okT u := by
  obtain ⟨⟨r0, r1, r2, r3, r4, r5, r6, r7, r25, r26⟩, h2, h4, h5⟩ := h
  have e25 := e 25 (by omega)
  refine ⟨⟨by rw [← e _ (by omega)]; exact r0, by rw [← e _ (by omega)]; exact r1, by rw [← e _ (by omega)]; exact r2, by rw [← e _ (by omega)]; exact r3, by rw [← e _ (by omega)]; exact r4, by rw [← e _ (by omega)]; exact r5, by rw [← e _ (by omega)]; exact r6, fun c hc => by rw [← e _ (by omega), ← e _ (by omega), ← e _ (by omega)]; exact r7 c hc, by rw [← e25]; exact r25, fun x hx => by rw [← e _ (by omega), ← e _ (by omega)]; exact r26 x hx⟩, fun x hx => ?_, by rw [← e _ (by omega)]; exact h4, by rw [← e 5 (by omega), ← e25]; exact h5⟩
  rw [← e25] at hx
  rw [← e 6 (by omega), ← e _ (by omega), ← e _ (by omega)]
  exact h2 x hx
/-- an act: the past is kept, the town is another -/
theorem RLw.act (h : RL S V) {t : Nat → Nat} (ht : okT t) : RLw (sB (noS S) 6 t) (vT (kpV V) t) := by
  obtain ⟨hT, ⟨a1, a2, a3, a4, a5⟩, ⟨-, hk⟩, h3, h4, h5, h6, h7, ⟨b, h8, h9, h10, h11, h12⟩⟩ := h
  by_cases z : S.2.1 17 = 24
  · have ek : kpV V = kpA (kpR V) := by unfold kpV; rw [if_pos (by omega)]
    have ea : noA S = 24 := by unfold noA; rw [if_pos z]; omega
    have ep : noP S = va_cpy (S.2.2.2 6) (va_cpy (S.2.2.2 9) (S.2.2.2 9) 42 0 966) 0 (42 * (S.2.1 17 - 1)) 42 := by unfold noP; rw [if_pos z]
    rw [ek]
    refine ⟨⟨a1, a2, ea.symm, a4, a5⟩, ⟨eqT.rf _, ht⟩, fun j hj => ?_, h4, h5, h6, h7, ⟨b, show noA S ≤ 24 by omega, h9, h10, h11, h12⟩⟩
    have hj : j < noA S := hj
    show eqT (if j = 23 then V.2.1 else V.2.2.1 (j + 1)) (fun i => noP S (42 * j + i)) ∧ okT (if j = 23 then V.2.1 else V.2.2.1 (j + 1))
    rw [ep, z]
    by_cases y : j = 23
    · rw [if_pos y]
      refine ⟨fun i hi => ?_, hk⟩
      subst y
      show V.2.1 i = va_cpy _ _ _ _ _ (42 * 23 + i)
      rw [hT]
      unfold va_cpy
      rw [if_pos (by omega)]
      exact congrArg (S.2.2.2 6) (by omega)
    · rw [if_neg y]
      obtain ⟨q1, q2⟩ := h3 (j + 1) (by omega)
      refine ⟨fun i hi => ?_, q2⟩
      show V.2.2.1 (j + 1) i = va_cpy _ _ _ _ _ (42 * j + i)
      rw [q1 i hi]
      unfold va_cpy
      rw [if_neg (by omega), if_pos (by omega)]
      exact congrArg (S.2.2.2 9) (by omega)
  · have ek : kpV V = kpA V := by unfold kpV; rw [if_neg (by omega)]
    have ea : noA S = S.2.1 17 + 1 := by unfold noA; rw [if_neg z]
    have ep : noP S = va_cpy (S.2.2.2 6) (S.2.2.2 9) 0 (42 * S.2.1 17) 42 := by unfold noP; rw [if_neg z]
    rw [ek]
    refine ⟨⟨a1, a2, show V.1 2 + 1 = noA S by omega, a4, a5⟩, ⟨eqT.rf _, ht⟩, fun j hj => ?_, h4, h5, h6, h7, ⟨b, show noA S ≤ 24 by omega, h9, h10, h11, h12⟩⟩
    have hj : j < noA S := hj
    show eqT (if j = V.1 2 then V.2.1 else V.2.2.1 j) (fun i => noP S (42 * j + i)) ∧ okT (if j = V.1 2 then V.2.1 else V.2.2.1 j)
    rw [ep, a3]
    by_cases y : j = S.2.1 17
    · rw [if_pos y]
      refine ⟨fun i hi => ?_, hk⟩
      subst y
      show V.2.1 i = va_cpy _ _ _ _ _ (42 * S.2.1 17 + i)
      rw [hT]
      unfold va_cpy
      rw [if_pos (by omega)]
      exact congrArg (S.2.2.2 6) (by omega)
    · rw [if_neg y]
      obtain ⟨q1, q2⟩ := h3 j (by omega)
      refine ⟨fun i hi => ?_, q2⟩
      show V.2.2.1 j i = va_cpy _ _ _ _ _ (42 * j + i)
      rw [q1 i hi]
      unfold va_cpy
      rw [if_neg (by omega)]
end RLL
