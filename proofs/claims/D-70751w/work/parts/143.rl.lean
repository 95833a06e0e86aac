/-! ===== the class and the reference: what ties them ===== -/
set_option maxRecDepth 100000
def eqT (t u : Nat → Nat) : Prop := ∀ i, i < 42 → t i = u i
def okT (t : Nat → Nat) : Prop := smT t ∧ (∀ x, x < t 25 → t (26 + 2 * x) < t 6 ∧ t (26 + 2 * x + 1) < t 6) ∧ t 3 ≤ 999 ∧ t 5 < 2 ^ t 25
def rowR (r : Option (Nat × Nat × (Nat → Int32))) (l : Int32) (n : Nat) (it : Nat → Int32) : Prop := match r with
  | none => l = kNONE
  | some (k, m, f) => k ≤ 2 ∧ l = nI k ∧ n = m ∧ (∀ c, c < m → it c = f c) ∧ ∀ c, c < m → cutZ (nI k) (f c) = f c
def imR (r : Option (Nat → Nat)) (n : Nat) (u : Nat → Nat) : Prop := match r with
  | none => n = 0
  | some t => n = 1 ∧ eqT t u ∧ okT t
def RL0 (S : ms_T) (V : fv_T) : Prop := V.1 0 = S.2.1 6 ∧ V.1 1 = S.2.1 7 ∧ V.1 2 = S.2.1 17 ∧ V.1 3 = S.2.1 4 ∧ V.1 4 = S.2.1 31
def RLc (S : ms_T) (V : fv_T) : Prop := eqT V.2.1 (S.2.2.2 6) ∧ okT V.2.1
def RLp (S : ms_T) (V : fv_T) : Prop := ∀ j, j < S.2.1 17 → eqT (V.2.2.1 j) (fun i => S.2.2.2 9 (42 * j + i)) ∧ okT (V.2.2.1 j)
def RLi (S : ms_T) (V : fv_T) : Prop := ∀ j, j ≤ 1 → imR (V.2.2.2.1 j) (S.2.2.2 11 j) (fun i => S.2.2.2 10 (42 * j + i))
def RLr (S : ms_T) (V : fv_T) : Prop := ∀ j, j < 8 → rowR (V.2.2.2.2.1 j) (S.2.2.1 1 j) (S.2.2.2 2 j) (fun c => S.2.2.1 3 (40 * j + c))
def RLt (S : ms_T) (V : fv_T) : Prop := ∀ i, i < S.2.1 6 → V.2.2.2.2.2.1 i &&& nI 255 = nI (S.2.2.2 5 i)
def RLq (S : ms_T) (V : fv_T) : Prop := ∀ i, i < S.2.1 31 → V.2.2.2.2.2.2 i = S.2.2.2 18 i
def RLb (S : ms_T) : Prop := pOK0 S ∧ S.2.1 17 ≤ 24 ∧ S.2.1 28 ≤ 8 ∧ S.2.1 31 ≤ 16 ∧ (∀ j, j < 8 → S.2.2.2 2 j ≤ 40) ∧ ∀ j, S.2.2.2 11 j ≤ 1
/-- tied, the town up to what is beyond its row -/
def RLw (S : ms_T) (V : fv_T) : Prop := RL0 S V ∧ RLc S V ∧ RLp S V ∧ RLi S V ∧ RLr S V ∧ RLt S V ∧ RLq S V ∧ RLb S
def RL (S : ms_T) (V : fv_T) : Prop := V.2.1 = S.2.2.2 6 ∧ RLw S V
section RLL
variable {S : ms_T} {V : fv_T}
theorem RL.w (h : RL S V) : RLw S V := h.2
theorem RLw.st (h : RLw S V) (v : Nat) : RLw (sN S 4 v) (vN V 3 v) := by
  obtain ⟨⟨a1, a2, a3, a4, a5⟩, h2, h3, h4, h5, h6, h7, h8⟩ := h
  exact ⟨⟨a1, a2, a3, rfl, a5⟩, h2, h3, h4, h5, h6, h7, h8⟩
theorem RLw.s8 (h : RLw S V) (t : Nat → Nat) : RLw (sB S 8 t) V := h
theorem RLw.st8 (h : RLw S V) (v : Nat) (t : Nat → Nat) : RLw (sN (sB S 8 t) 4 v) (vN V 3 v) := RLw.st (S := sB S 8 t) h v
theorem RLw.kp {R : ms_T} (h : RLw S V) (k : kpL S R 0) (h28 : R.2.1 28 ≤ 8) : RLw R V := by
  obtain ⟨⟨a1, a2, a3, a4, a5⟩, h2, h3, h4, h5, h6, h7, ⟨⟨b1, b2, b3, b4⟩, h8, -, h10, h11, h12⟩⟩ := h
  obtain ⟨k1, k2, k3, k4, -, -⟩ := k
  have n : ∀ i, i < 28 ∨ 29 < i → R.2.1 i = S.2.1 i := fun i hi => k2 i (by omega) (by omega)
  have b : ∀ i, i < 12 ∨ 17 < i → R.2.2.2 i = S.2.2.2 i := fun i hi => k4 i hi
  refine ⟨⟨a1.trans (n 6 (by omega)).symm, a2.trans (n 7 (by omega)).symm, a3.trans (n 17 (by omega)).symm, a4.trans (n 4 (by omega)).symm, a5.trans (n 31 (by omega)).symm⟩, ?_, ?_, ?_, ?_, ?_, ?_, ?_⟩
  · unfold RLc; rw [b 6 (by omega)]; exact h2
  · unfold RLp; rw [b 9 (by omega), n 17 (by omega)]; exact h3
  · unfold RLi; rw [b 10 (by omega), b 11 (by omega)]; exact h4
  · unfold RLr; rw [b 2 (by omega), k3]; exact h5
  · unfold RLt; rw [b 5 (by omega), n 6 (by omega)]; exact h6
  · unfold RLq; rw [b 18 (by omega), n 31 (by omega)]; exact h7
  · unfold RLb pOK0
    rw [n 6 (by omega), n 10 (by omega), n 11 (by omega), n 17 (by omega), n 31 (by omega), b 2 (by omega), b 5 (by omega), b 11 (by omega)]
    exact ⟨⟨b1, b2, b3, b4⟩, h8, h28, h10, h11, h12⟩
theorem RLw.sc {R : ms_T} (h : RLw S V) (h28 : R.2.1 28 ≤ 8) : RLw (scr S R) V := by
  obtain ⟨a, h2, h3, h4, h5, h6, h7, ⟨b, h8, -, h10, h11, h12⟩⟩ := h
  exact ⟨a, h2, h3, h4, h5, h6, h7, ⟨b, h8, h28, h10, h11, h12⟩⟩
/-- the town of a step -/
theorem eqT.rf (t : Nat → Nat) : eqT t t := fun _ _ => rfl
theorem okT_ride {t : Nat → Nat} {j : Nat} (h : okT t) (hj : j < t 25) (h3 : t 3 < 999) : okT (rdT t j) := by
  obtain ⟨h1, h2, h4, h5⟩ := h
  have h8 := h1.2.2.2.2.2.2.2.2.1
  have e25 : rdT t j 25 = t 25 := rdT_n (by omega)
  have e6 : rdT t j 6 = t 6 := by unfold rdT; rw [uN_n (by omega), uN_n (by omega), uN_n (by omega), uN_n (by omega)]
  have e5 : rdT t j 5 = t 5 := by unfold rdT; rw [uN_n (by omega), uN_n (by omega), uN_n (by omega), uN_n (by omega)]
  refine ⟨smT_rdT h1 (by omega) (by omega), fun x hx => ?_, by rw [rdT_33]; omega, by rw [e5, e25]; exact h5⟩
  rw [e25] at hx
  rw [e6, rdT_n (by omega), rdT_n (by omega)]
  exact h2 x hx
theorem okT_much {t : Nat → Nat} {j u : Nat} (h : okT t) (hj : j < t 6) (hu : u ≤ 9) : okT (uN t (7 + 3 * j + 1) u) := by
  obtain ⟨⟨r0, r1, r2, r3, r4, r5, r6, r7, r25, r26⟩, h2, h4, h5⟩ := h
  have e : ∀ i, i < 8 ∨ 25 ≤ i → uN t (7 + 3 * j + 1) u i = t i := fun i hi => uN_n (by omega)
  refine ⟨⟨by rw [e _ (by omega)]; exact r0, by rw [e _ (by omega)]; exact r1, by rw [e _ (by omega)]; exact r2, by rw [e _ (by omega)]; exact r3, by rw [e _ (by omega)]; exact r4, by rw [e _ (by omega)]; exact r5, by rw [e _ (by omega)]; exact r6, fun c hc => ?_, by rw [e _ (by omega)]; exact r25, fun x hx => by rw [e _ (by omega), e _ (by omega)]; exact r26 x hx⟩, fun x hx => ?_, by rw [e _ (by omega)]; exact h4, by rw [e 5 (by omega), e 25 (by omega)]; exact h5⟩
  · obtain ⟨q1, q2, q3⟩ := r7 c hc
    rw [uN_n (by omega), uN_n (show 7 + 3 * c + 2 ≠ 7 + 3 * j + 1 by omega)]
    refine ⟨q1, ?_, q3⟩
    by_cases z : c = j
    · subst z; rw [uN_s]; exact hu
    · rw [uN_n (by omega)]; exact q2
  · rw [e _ (by omega)] at hx
    rw [e _ (by omega), e _ (by omega), e _ (by omega)]
    exact h2 x hx
theorem okT_2 {t : Nat → Nat} (h : okT t) : okT (uN t 2 0) := by
  obtain ⟨⟨r0, r1, r2, r3, r4, r5, r6, r7, r25, r26⟩, h2, h4, h5⟩ := h
  have e : ∀ i, i ≠ 2 → uN t 2 0 i = t i := fun i hi => uN_n hi
  refine ⟨⟨r0, r1, Nat.zero_le _, r3, r4, r5, r6, fun c hc => ?_, r25, fun x hx => by rw [e _ (by omega), e _ (by omega)]; exact r26 x hx⟩, fun x hx => ?_, h4, h5⟩
  · rw [e _ (by omega), e _ (by omega), e _ (by omega)]
    exact r7 c hc
  · rw [e _ (by omega), e _ (by omega), e _ (by omega)]
    exact h2 x hx
theorem okT_5 {t : Nat → Nat} {v : Nat} (h : okT t) (hv : v < 2 ^ t 25) : okT (uN t 5 v) := by
  obtain ⟨h1, h2, h4, h5⟩ := h
  have h8 : 2 ^ t 25 ≤ 2 ^ 8 := Nat.pow_le_pow_right (by decide) h1.2.2.2.2.2.2.2.2.1
  refine ⟨smT_5 h1 (by omega), fun x hx => ?_, h4, hv⟩
  rw [uN_n (by omega), uN_n (by omega), uN_n (by omega)]
  exact h2 x hx
theorem okT_cg {t u : Nat → Nat} (h : okT t) (e : eqT t u) : okT u := by
  obtain ⟨⟨r0, r1, r2, r3, r4, r5, r6, r7, r25, r26⟩, h2, h4, h5⟩ := h
  have e25 := e 25 (by omega)
  refine ⟨⟨by rw [← e _ (by omega)]; exact r0, by rw [← e _ (by omega)]; exact r1, by rw [← e _ (by omega)]; exact r2, by rw [← e _ (by omega)]; exact r3, by rw [← e _ (by omega)]; exact r4, by rw [← e _ (by omega)]; exact r5, by rw [← e _ (by omega)]; exact r6, fun c hc => by rw [← e _ (by omega), ← e _ (by omega), ← e _ (by omega)]; exact r7 c hc, by rw [← e25]; exact r25, fun x hx => by rw [← e _ (by omega), ← e _ (by omega)]; exact r26 x hx⟩, fun x hx => ?_, by rw [← e _ (by omega)]; exact h4, by rw [← e 5 (by omega), ← e25]; exact h5⟩
  rw [← e25] at hx
  rw [← e 6 (by omega), ← e _ (by omega), ← e _ (by omega)]
  exact h2 x hx
/-- an act: the past is kept, the town is another -/
theorem RLw.act (h : RL S V) {t : Nat → Nat} (ht : okT t) : RLw (sB (noS S) 6 t) (vT (kpV V) t) := by
  obtain ⟨hT, ⟨a1, a2, a3, a4, a5⟩, ⟨-, hk⟩, h3, h4, h5, h6, h7, ⟨b, h8, h9, h10, h11, h12⟩⟩ := h
  by_cases z : S.2.1 17 = 24
  · have ek : kpV V = kpA (kpR V) := by unfold kpV; rw [if_pos (by omega)]
    have ea : noA S = 24 := by unfold noA; rw [if_pos z]; omega
    have ep : noP S = va_cpy (S.2.2.2 6) (va_cpy (S.2.2.2 9) (S.2.2.2 9) 42 0 966) 0 (42 * (S.2.1 17 - 1)) 42 := by unfold noP; rw [if_pos z]
    rw [ek]
    refine ⟨⟨a1, a2, ea.symm, a4, a5⟩, ⟨eqT.rf _, ht⟩, fun j hj => ?_, h4, h5, h6, h7, ⟨b, show noA S ≤ 24 by omega, h9, h10, h11, h12⟩⟩
    have hj : j < noA S := hj
    show eqT (if j = 23 then V.2.1 else V.2.2.1 (j + 1)) (fun i => noP S (42 * j + i)) ∧ okT (if j = 23 then V.2.1 else V.2.2.1 (j + 1))
    rw [ep, z]
    by_cases y : j = 23
    · rw [if_pos y]
      refine ⟨fun i hi => ?_, hk⟩
      subst y
      show V.2.1 i = va_cpy _ _ _ _ _ (42 * 23 + i)
      rw [hT]
      unfold va_cpy
      rw [if_pos (by omega)]
      exact congrArg (S.2.2.2 6) (by omega)
    · rw [if_neg y]
      obtain ⟨q1, q2⟩ := h3 (j + 1) (by omega)
      refine ⟨fun i hi => ?_, q2⟩
      show V.2.2.1 (j + 1) i = va_cpy _ _ _ _ _ (42 * j + i)
      rw [q1 i hi]
      unfold va_cpy
      rw [if_neg (by omega), if_pos (by omega)]
      exact congrArg (S.2.2.2 9) (by omega)
  · have ek : kpV V = kpA V := by unfold kpV; rw [if_neg (by omega)]
    have ea : noA S = S.2.1 17 + 1 := by unfold noA; rw [if_neg z]
    have ep : noP S = va_cpy (S.2.2.2 6) (S.2.2.2 9) 0 (42 * S.2.1 17) 42 := by unfold noP; rw [if_neg z]
    rw [ek]
    refine ⟨⟨a1, a2, show V.1 2 + 1 = noA S by omega, a4, a5⟩, ⟨eqT.rf _, ht⟩, fun j hj => ?_, h4, h5, h6, h7, ⟨b, show noA S ≤ 24 by omega, h9, h10, h11, h12⟩⟩
    have hj : j < noA S := hj
    show eqT (if j = V.1 2 then V.2.1 else V.2.2.1 j) (fun i => noP S (42 * j + i)) ∧ okT (if j = V.1 2 then V.2.1 else V.2.2.1 j)
    rw [ep, a3]
    by_cases y : j = S.2.1 17
    · rw [if_pos y]
      refine ⟨fun i hi => ?_, hk⟩
      subst y
      show V.2.1 i = va_cpy _ _ _ _ _ (42 * S.2.1 17 + i)
      rw [hT]
      unfold va_cpy
      rw [if_pos (by omega)]
      exact congrArg (S.2.2.2 6) (by omega)
    · rw [if_neg y]
      obtain ⟨q1, q2⟩ := h3 j (by omega)
      refine ⟨fun i hi => ?_, q2⟩
      show V.2.2.1 j i = va_cpy _ _ _ _ _ (42 * j + i)
      rw [q1 i hi]
      unfold va_cpy
      rw [if_neg (by omega)]
end RLL
/-! ===== what ties them, act by act ===== -/
set_option maxRecDepth 100000
theorem cut_cut {l : Nat} (hl : l ≤ 2) (v : Int32) : cutZ (nI l) (cutZ (nI l) v) = cutZ (nI l) v := by
  rcases (show l = 0 ∨ l = 1 ∨ l = 2 by omega) with rfl | rfl | rfl
  · have e : ∀ z : Int32, cutZ (nI 0) z = z.toInt8.toInt32 := fun z => by rw [← cut_0, pk_vb]
    rw [e, e, Int8.toInt8_toInt32]
  · have e : ∀ z : Int32, cutZ (nI 1) z = z.toInt16.toInt32 := fun z => by rw [← cut_1, pk_vs]
    rw [e, e, Int16.toInt16_toInt32]
  · rw [← cut_2]
theorem cut_00 {l : Nat} (hl : l ≤ 2) : cutZ (nI l) 0 = 0 := by
  rcases (show l = 0 ∨ l = 1 ∨ l = 2 by omega) with rfl | rfl | rfl <;> decide +kernel
section RLA
variable {S : ms_T} {V : fv_T}
theorem RLw.undo (h : RLw S V) (hn : 0 < S.2.1 17) : RLw (sB (sN S 17 (S.2.1 17 - 1)) 6 (fun i => S.2.2.2 9 (42 * (S.2.1 17 - 1) + i))) (vT (vN V 2 (S.2.1 17 - 1)) (V.2.2.1 (S.2.1 17 - 1))) := by
  obtain ⟨⟨a1, a2, a3, a4, a5⟩, h2, h3, h4, h5, h6, h7, ⟨b, h8, h9, h10, h11, h12⟩⟩ := h
  exact ⟨⟨a1, a2, rfl, a4, a5⟩, h3 _ (by omega), fun j hj => h3 j (by have hj : j < S.2.1 17 - 1 := hj; omega), h4, h5, h6, h7, ⟨b, by show S.2.1 17 - 1 ≤ 24; omega, h9, h10, h11, h12⟩⟩
theorem RLw.image (h : RL S V) {j : Nat} (hj : j ≤ 1) : RLw (sB (sB S 10 (va_cpy (S.2.2.2 6) (S.2.2.2 10) 0 (42 * j) 42)) 11 (uN (S.2.2.2 11) j 1)) (vI V j (S.2.2.2 6)) := by
  obtain ⟨hT, a, ⟨h2, hk⟩, h3, h4, h5, h6, h7, ⟨b, h8, h9, h10, h11, h12⟩⟩ := h
  refine ⟨a, ⟨h2, hk⟩, h3, fun k hk1 => ?_, h5, h6, h7, ⟨b, h8, h9, h10, h11, fun k => ?_⟩⟩
  · show imR (if k = j then some (S.2.2.2 6) else V.2.2.2.1 k) (uN (S.2.2.2 11) j 1 k) (fun i => va_cpy (S.2.2.2 6) (S.2.2.2 10) 0 (42 * j) 42 (42 * k + i))
    by_cases z : k = j
    · rw [if_pos z, z, uN_s]
      refine ⟨rfl, fun i hi => ?_, by rw [← hT]; exact hk⟩
      show _ = va_cpy _ _ _ _ _ (42 * j + i)
      unfold va_cpy
      rw [if_pos (by omega)]
      exact congrArg (S.2.2.2 6) (by omega)
    · rw [if_neg z, uN_n z]
      have q := h4 k hk1
      cases e : V.2.2.2.1 k with
      | none => rw [e] at q; exact q
      | some t =>
        rw [e] at q
        obtain ⟨q1, q2, q3⟩ := q
        refine ⟨q1, fun i hi => ?_, q3⟩
        rw [q2 i hi]
        show _ = va_cpy _ _ _ _ _ (42 * k + i)
        unfold va_cpy
        rw [if_neg (by omega)]
  · show uN (S.2.2.2 11) j 1 k ≤ 1
    by_cases z : k = j
    · rw [z, uN_s]; exact Nat.le_refl _
    · rw [uN_n z]; exact h12 k
theorem RLw.im_n (h : RLw S V) {j : Nat} (hj : j ≤ 1) (e : V.2.2.2.1 j = none) : S.2.2.2 11 j = 0 := by
  have q := h.2.2.2.1 j hj
  rw [e] at q
  exact q
theorem RLw.im_s (h : RLw S V) {j : Nat} {t : Nat → Nat} (hj : j ≤ 1) (e : V.2.2.2.1 j = some t) : S.2.2.2 11 j = 1 ∧ eqT t (fun i => S.2.2.2 10 (42 * j + i)) ∧ okT t := by
  have q := h.2.2.2.1 j hj
  rw [e] at q
  exact q
theorem RLw.rest (h : RLw S V) {j : Nat} {t : Nat → Nat} (hj : j ≤ 1) (e : V.2.2.2.1 j = some t) : RLw (sN (sB S 6 (fun i => S.2.2.2 10 (42 * j + i))) 17 0) (vN (vT V t) 2 0) := by
  obtain ⟨q1, q2, q3⟩ := h.im_s hj e
  obtain ⟨⟨a1, a2, a3, a4, a5⟩, h2, h3, h4, h5, h6, h7, ⟨b, h8, h9, h10, h11, h12⟩⟩ := h
  exact ⟨⟨a1, a2, rfl, a4, a5⟩, ⟨q2, q3⟩, fun j hj => absurd (show j < 0 from hj) (by omega), h4, h5, h6, h7, ⟨b, Nat.zero_le _, h9, h10, h11, h12⟩⟩
theorem RLw.r_n (h : RLw S V) {j : Nat} (hj : j < 8) (e : V.2.2.2.2.1 j = none) : S.2.2.1 1 j = kNONE := by
  have q := h.2.2.2.2.1 j hj
  rw [e] at q
  exact q
theorem RLw.r_s (h : RLw S V) {j l n : Nat} {f : Nat → Int32} (hj : j < 8) (e : V.2.2.2.2.1 j = some (l, n, f)) : l ≤ 2 ∧ S.2.2.1 1 j = nI l ∧ S.2.2.2 2 j = n ∧ (∀ c, c < n → S.2.2.1 3 (40 * j + c) = f c) ∧ n ≤ 40 ∧ ¬ S.2.2.1 1 j = kNONE ∧ ∀ c, c < n → cutZ (nI l) (f c) = f c := by
  have q := h.2.2.2.2.1 j hj
  rw [e] at q
  obtain ⟨q1, q2, q3, q4, q7⟩ := q
  have q5 := h.2.2.2.2.2.2.2.2.2.2.2.1 j hj
  exact ⟨q1, q2, q3, q4, by omega, by rw [q2]; exact nI_NONE (by omega), q7⟩
/-- one row is another, the rest of the rows stands -/
theorem RLr.up {S' : ms_T} {j : Nat} {r : Option (Nat × Nat × (Nat → Int32))} (h : RLr S V) (hj : rowR r (S'.2.2.1 1 j) (S'.2.2.2 2 j) (fun c => S'.2.2.1 3 (40 * j + c))) (h1 : ∀ k, k ≠ j → S'.2.2.1 1 k = S.2.2.1 1 k) (h2 : ∀ k, k ≠ j → S'.2.2.2 2 k = S.2.2.2 2 k) (h3 : ∀ k c, k ≠ j → k < 8 → c < 40 → S'.2.2.1 3 (40 * k + c) = S.2.2.1 3 (40 * k + c)) (hm : ∀ j, j < 8 → S.2.2.2 2 j ≤ 40) : RLr S' (vR V j r) := by
  intro k hk
  show rowR (if k = j then r else V.2.2.2.2.1 k) (S'.2.2.1 1 k) (S'.2.2.2 2 k) (fun c => S'.2.2.1 3 (40 * k + c))
  by_cases z : k = j
  · rw [if_pos z, z]; exact hj
  · rw [if_neg z, h1 k z, h2 k z]
    have q := h k hk
    have q2 := hm k hk
    cases e : V.2.2.2.2.1 k with
    | none => rw [e] at q; exact q
    | some t =>
      rw [e] at q
      obtain ⟨l, n, f⟩ := t
      obtain ⟨a, b, c, d, e7⟩ := q
      refine ⟨a, b, c, fun i hi => ?_, e7⟩
      show S'.2.2.1 3 (40 * k + i) = f i
      rw [h3 k i z hk (by omega)]
      exact d i hi
theorem RLw.row (h : RLw S V) {j l m : Nat} (hj : j < 8) (hl : l ≤ 2) (hm : m ≤ 40) : RLw (sN (sR (sB (sR S 1 (upd (S.2.2.1 1) j (nI l))) 2 (uN (S.2.2.2 2) j m)) 3 (zerosAt (S.2.2.1 3) (40 * j) 40)) 4 0) (vN (vR V j (some (l, m, fun _ => 0))) 3 0) := by
  obtain ⟨⟨a1, a2, a3, a4, a5⟩, h2, h3, h4, h5, h6, h7, ⟨b, h8, h9, h10, h11, h12⟩⟩ := h
  have hr : RLr (sN (sR (sB (sR S 1 (upd (S.2.2.1 1) j (nI l))) 2 (uN (S.2.2.2 2) j m)) 3 (zerosAt (S.2.2.1 3) (40 * j) 40)) 4 0) (vR V j (some (l, m, fun _ => 0))) := by
    refine RLr.up h5 ⟨hl, ?_, uN_s, fun c hc => ?_, fun _ _ => cut_00 hl⟩ (fun k hk => ?_) (fun k hk => uN_n hk) (fun k c hk hk8 hc => ?_) h11
    · show upd (S.2.2.1 1) j (nI l) j = nI l
      simp [upd]
    · show zerosAt (S.2.2.1 3) (40 * j) 40 (40 * j + c) = 0
      unfold zerosAt
      rw [if_pos (by omega)]
    · show upd (S.2.2.1 1) j (nI l) k = _
      simp [upd, hk]
    · show zerosAt (S.2.2.1 3) (40 * j) 40 (40 * k + c) = _
      unfold zerosAt
      rw [if_neg (by omega)]
  refine ⟨⟨a1, a2, a3, rfl, a5⟩, h2, h3, h4, hr, h6, h7, ⟨b, h8, h9, h10, fun k hk => ?_, h12⟩⟩
  show uN (S.2.2.2 2) j m k ≤ 40
  by_cases z : k = j
  · rw [z, uN_s]; exact hm
  · rw [uN_n z]; exact h11 k hk
theorem RLw.drop (h : RLw S V) {j v : Nat} (hj : j < 8) : RLw (sN (sR S 1 (upd (S.2.2.1 1) j kNONE)) 4 v) (vR (vN V 3 v) j none) := by
  obtain ⟨⟨a1, a2, a3, a4, a5⟩, h2, h3, h4, h5, h6, h7, ⟨b, h8, h9, h10, h11, h12⟩⟩ := h
  have hr : RLr (sN (sR S 1 (upd (S.2.2.1 1) j kNONE)) 4 v) (vR V j none) := by
    refine RLr.up h5 ?_ (fun k hk => ?_) (fun k hk => rfl) (fun k c hk hk8 hc => rfl) h11
    · show upd (S.2.2.1 1) j kNONE j = kNONE
      simp [upd]
    · show upd (S.2.2.1 1) j kNONE k = _
      simp [upd, hk]
  exact ⟨⟨a1, a2, a3, rfl, a5⟩, h2, h3, h4, hr, h6, h7, ⟨b, h8, h9, h10, h11, h12⟩⟩
theorem RLw.drop0 (h : RLw S V) {j v : Nat} (hj : j < 8) (e : V.2.2.2.2.1 j = none) : RLw (sN S 4 v) (vR (vN V 3 v) j none) := by
  have q := h.r_n hj e
  obtain ⟨⟨a1, a2, a3, a4, a5⟩, h2, h3, h4, h5, h6, h7, ⟨b, h8, h9, h10, h11, h12⟩⟩ := h
  have hr : RLr (sN S 4 v) (vR V j none) := RLr.up h5 q (fun k hk => rfl) (fun k hk => rfl) (fun k c hk hk8 hc => rfl) h11
  exact ⟨⟨a1, a2, a3, rfl, a5⟩, h2, h3, h4, hr, h6, h7, ⟨b, h8, h9, h10, h11, h12⟩⟩
theorem RLw.set (h : RLw S V) {j l n a : Nat} {f : Nat → Int32} {v : Int32} (hj : j < 8) (e : V.2.2.2.2.1 j = some (l, n, f)) (ha : a < n) (hv : cutZ (nI l) v = v) : RLw (sN (sR S 3 (upd (S.2.2.1 3) (40 * j + a) v)) 4 0) (vN (vR V j (some (l, n, upd f a v))) 3 0) := by
  obtain ⟨q1, q2, q3, q4, q5, -, q7⟩ := h.r_s hj e
  obtain ⟨⟨a1, a2, a3, a4, a5⟩, h2, h3, h4, h5, h6, h7, ⟨b, h8, h9, h10, h11, h12⟩⟩ := h
  have hr : RLr (sN (sR S 3 (upd (S.2.2.1 3) (40 * j + a) v)) 4 0) (vR V j (some (l, n, upd f a v))) := by
    refine RLr.up h5 ⟨q1, q2, q3, fun c hc => ?_, fun c hc => ?_⟩ (fun k hk => rfl) (fun k hk => rfl) (fun k c hk hk8 hc => ?_) h11
    rotate_left
    · show cutZ (nI l) (upd f a v c) = upd f a v c
      by_cases z : c = a
      · simp only [upd, z, if_true]
        exact hv
      · simp only [upd, z, if_false]
        exact q7 c hc
    rotate_right
    · show upd (S.2.2.1 3) (40 * j + a) v (40 * j + c) = upd f a v c
      by_cases z : c = a
      · simp [upd, z]
      · have : ¬ 40 * j + c = 40 * j + a := by omega
        simp only [upd, z, this, if_false]
        exact q4 c hc
    · show upd (S.2.2.1 3) (40 * j + a) v (40 * k + c) = _
      have : ¬ 40 * k + c = 40 * j + a := by omega
      simp only [upd, this, if_false]
  exact ⟨⟨a1, a2, a3, rfl, a5⟩, h2, h3, h4, hr, h6, h7, ⟨b, h8, h9, h10, h11, h12⟩⟩
/-- rows copied -/
theorem RLw.copy (h : RLw S V) {ja jb l na nb a b m : Nat} {f g : Nat → Int32} (hja : ja < 8) (hjb : jb < 8) (ea : V.2.2.2.2.1 ja = some (l, na, f)) (eb : V.2.2.2.2.1 jb = some (l, nb, g)) (ha : a + m ≤ na) (hb : b + m ≤ nb) : RLw (sN (sR (sR S 4 (va_cpy (S.2.2.1 3) (S.2.2.1 4) (40 * ja + a) 0 m)) 3 (va_cpy (va_cpy (S.2.2.1 3) (S.2.2.1 4) (40 * ja + a) 0 m) (S.2.2.1 3) 0 (40 * jb + b) m)) 4 0) (vN (vR V jb (some (l, nb, va_cpy f g a b m))) 3 0) := by
  obtain ⟨q1, q2, q3, q4, q5, -, q7⟩ := h.r_s hjb eb
  obtain ⟨p1, p2, p3, p4, p5, -, p7⟩ := h.r_s hja ea
  obtain ⟨⟨a1, a2, a3, a4, a5⟩, h2, h3, h4, h5, h6, h7, ⟨b', h8, h9, h10, h11, h12⟩⟩ := h
  have hr : RLr (sN (sR (sR S 4 (va_cpy (S.2.2.1 3) (S.2.2.1 4) (40 * ja + a) 0 m)) 3 (va_cpy (va_cpy (S.2.2.1 3) (S.2.2.1 4) (40 * ja + a) 0 m) (S.2.2.1 3) 0 (40 * jb + b) m)) 4 0) (vR V jb (some (l, nb, va_cpy f g a b m))) := by
    refine RLr.up h5 ⟨q1, q2, q3, fun c hc => ?_, fun c hc => ?_⟩ (fun k hk => rfl) (fun k hk => rfl) (fun k c hk hk8 hc => ?_) h11
    rotate_left
    · show cutZ (nI l) (va_cpy f g a b m c) = va_cpy f g a b m c
      unfold va_cpy
      by_cases z : b ≤ c ∧ c < b + m
      · rw [if_pos z]
        exact p7 _ (by omega)
      · rw [if_neg z]
        exact q7 c hc
    rotate_right
    · show va_cpy (va_cpy (S.2.2.1 3) (S.2.2.1 4) (40 * ja + a) 0 m) (S.2.2.1 3) 0 (40 * jb + b) m (40 * jb + c) = va_cpy f g a b m c
      unfold va_cpy
      by_cases z : b ≤ c ∧ c < b + m
      · rw [if_pos (by omega), if_pos (by omega), if_pos z]
        have := p4 (a + (c - b)) (by omega)
        rw [← this]
        exact congrArg (S.2.2.1 3) (by omega)
      · rw [if_neg (by omega), if_neg z]
        exact q4 c hc
    · show va_cpy (va_cpy (S.2.2.1 3) (S.2.2.1 4) (40 * ja + a) 0 m) (S.2.2.1 3) 0 (40 * jb + b) m (40 * k + c) = _
      unfold va_cpy
      rw [if_neg (by omega)]
  exact ⟨⟨a1, a2, a3, rfl, a5⟩, h2, h3, h4, hr, h6, h7, ⟨b', h8, h9, h10, h11, h12⟩⟩
theorem RLw.feed (h : RLw S V) {c : Nat} (hc : c ≤ 255) (h6 : S.2.1 6 < 120) {v : Int32} (hv : v &&& nI 255 = nI c) : RLw (sN (sB S 5 (uN (S.2.2.2 5) (S.2.1 6) c)) 6 (S.2.1 6 + 1)) (vTp (vN V 0 (S.2.1 6 + 1)) (upd V.2.2.2.2.2.1 (S.2.1 6) v)) := by
  obtain ⟨⟨a1, a2, a3, a4, a5⟩, h2, h3, h4, h5, h6', h7, ⟨⟨b1, b2, b3, b4⟩, h8, h9, h10, h11, h12⟩⟩ := h
  refine ⟨⟨rfl, a2, a3, a4, a5⟩, h2, h3, h4, h5, fun i hi => ?_, h7, ⟨⟨by show S.2.1 6 + 1 ≤ 120; omega, b2, b3, fun i => ?_⟩, h8, h9, h10, h11, h12⟩⟩
  · have hi : i < S.2.1 6 + 1 := hi
    show upd V.2.2.2.2.2.1 (S.2.1 6) v i &&& nI 255 = nI (uN (S.2.2.2 5) (S.2.1 6) c i)
    by_cases z : i = S.2.1 6
    · rw [z, uN_s]
      simp only [upd, if_true]
      exact hv
    · rw [uN_n z]
      simp only [upd, z, if_false]
      exact h6' i (by omega)
  · show uN (S.2.2.2 5) (S.2.1 6) c i ≤ 255
    by_cases z : i = S.2.1 6
    · rw [z, uN_s]; exact hc
    · rw [uN_n z]; exact b4 i
/-- the trail -/
theorem RLw.t0 (h : RLw S V) : RLw (sN S 31 0) (vQ V (0, V.2.2.2.2.2.2)) := by
  obtain ⟨⟨a1, a2, a3, a4, a5⟩, h2, h3, h4, h5, h6, h7, ⟨b, h8, h9, h10, h11, h12⟩⟩ := h
  exact ⟨⟨a1, a2, a3, a4, rfl⟩, h2, h3, h4, h5, h6, fun i hi => absurd (show i < 0 from hi) (by omega), ⟨b, h8, h9, Nat.zero_le _, h11, h12⟩⟩
theorem RLw.tp {q : Nat × (Nat → Nat)} {b : Nat} (h : RLw S (vQ V q)) (hq : q.1 < 16) : RLw (tpS S b) (vQ V (tpN q b)) := by
  obtain ⟨⟨a1, a2, a3, a4, a5⟩, h2, h3, h4, h5, h6, h7, ⟨b', h8, h9, h10, h11, h12⟩⟩ := h
  have a5 : q.1 = S.2.1 31 := a5
  refine ⟨⟨a1, a2, a3, a4, show q.1 + 1 = S.2.1 31 + 1 by omega⟩, h2, h3, h4, h5, h6, fun i hi => ?_, ⟨b', h8, h9, show S.2.1 31 + 1 ≤ 16 by omega, h11, h12⟩⟩
  have hi : i < S.2.1 31 + 1 := hi
  show uN q.2 q.1 b i = uN (S.2.2.2 18) (S.2.1 31) b i
  rw [a5]
  by_cases z : i = S.2.1 31
  · rw [z, uN_s, uN_s]
  · rw [uN_n z, uN_n z]
    exact h7 i (by omega)
end RLA
/-! ===== words over rows that are tied ===== -/
set_option maxRecDepth 100000
theorem gsF_cg {it ju : Nat → Int32} {t : Nat → Nat} {p f : Nat} : ∀ n, (∀ i, i < n → it (p + i) = ju (p + i)) → (∀ i, i < n → it (f + i) = ju (f + i)) → gsF it t p f n = gsF ju t p f n := by
  intro n
  induction n with
  | zero => intro _ _; rfl
  | succ n ih =>
    intro h1 h2
    unfold gsF
    rw [ih (fun i hi => h1 i (by omega)) (fun i hi => h2 i (by omega)), h1 n (by omega), h2 n (by omega)]
theorem alF_cg {it ju : Nat → Int32} {t : Nat → Nat} {pl lo p f n : Nat} (h1 : ∀ i, i < n → it (p + i) = ju (p + i)) (h2 : ∀ i, i < n → it (f + i) = ju (f + i)) : ∀ k, alF it t pl lo p f n k = alF ju t pl lo p f n k := by
  intro k
  induction k with
  | zero => rfl
  | succ k ih =>
    unfold alF
    rw [ih, gsF_cg n h1 h2]
theorem shU_cg {it ju : Nat → Int32} {t : Nat → Nat} {f : Nat} : ∀ n, (∀ i, i < n → it (f + i) = ju (f + i)) → shU it t f n = shU ju t f n := by
  intro n
  induction n with
  | zero => intro _; rfl
  | succ n ih =>
    intro h
    unfold shU
    rw [ih (fun i hi => h i (by omega)), h n (by omega)]
theorem shA_cg {it ju : Nat → Int32} {t : Nat → Nat} {f c : Nat} : ∀ n, (∀ i, i < n → it (f + i) = ju (f + i)) → shA it t f c n = shA ju t f c n := by
  intro n
  induction n with
  | zero => intro _; rfl
  | succ n ih =>
    intro h
    unfold shA
    rw [ih (fun i hi => h i (by omega)), h n (by omega), shU_cg n (fun i hi => h i (by omega))]
theorem shB_cg {it ju : Nat → Int32} {t : Nat → Nat} {f : Nat} : ∀ n, (∀ i, i < n → it (f + i) = ju (f + i)) → shB it t f n = shB ju t f n := by
  intro n
  induction n with
  | zero => intro _; rfl
  | succ n ih =>
    intro h
    unfold shB
    rw [ih (fun i hi => h i (by omega)), h n (by omega), shU_cg n (fun i hi => h i (by omega))]
section RLW
variable {S : ms_T} {V : fv_T}
theorem RLw.bar (h : RLw S V) {r q : Nat} (hr : r < 8) (hq : q < 8) (i j n : Int32) : barV V.2.2.2.2.1 r i q j n = barN S r i q j n := by
  unfold barV barN
  cases e : V.2.2.2.2.1 r with
  | none => rw [if_pos (h.r_n hr e)]
  | some y =>
    obtain ⟨l, m, f⟩ := y
    obtain ⟨-, -, q3, -, -, q6, -⟩ := h.r_s hr e
    rw [if_neg q6, q3]
    show (if partB m i n = false then 2 else _) = (if partB m i n = false then 2 else _)
    by_cases z : partB m i n = false
    · rw [if_pos z, if_pos z]
    · rw [if_neg z, if_neg z]
      cases e2 : V.2.2.2.2.1 q with
      | none => rw [if_pos (h.r_n hq e2)]
      | some y =>
        obtain ⟨l, m, f⟩ := y
        obtain ⟨-, -, q3, -, -, q6, -⟩ := h.r_s hq e2
        rw [if_neg q6, q3]
theorem barV_t {R : Nat → Option (Nat × Nat × (Nat → Int32))} {r q : Nat} {i j n : Int32} (h : barV R r i q j n = 0) : (∃ y, R r = some y ∧ partB y.2.1 i n = true) ∧ ∃ z, R q = some z ∧ partB z.2.1 j n = true := by
  unfold barV at h
  split at h
  · cases h
  · rename_i y e
    split at h
    · cases h
    · rename_i c
      split at h
      · cases h
      · rename_i z e2
        split at h
        · cases h
        · rename_i c2
          exact ⟨⟨y, e, by simpa using c⟩, z, e2, by simpa using c2⟩
theorem RLw.it (h : RLw S V) {r l m a n : Nat} {f : Nat → Int32} (hr : r < 8) (e : V.2.2.2.2.1 r = some (l, m, f)) (hn : a + n ≤ m) : ∀ i, i < n → itV V.2.2.2.2.1 (40 * r + a + i) = S.2.2.1 3 (40 * r + a + i) := by
  intro i hi
  obtain ⟨-, -, q3, q4, q5, -, -⟩ := h.r_s hr e
  rw [Nat.add_assoc, itV_r e (by omega), q4 _ (by omega)]
theorem cnt_eq (h : RLw S V) : ∀ k, k ≤ 8 → cntR V.2.2.2.2.1 k = cntF (S.2.2.1 1) k := by
  intro k
  induction k with
  | zero => intro _; rfl
  | succ k ih =>
    intro hk
    unfold cntR cntF
    rw [ih (by omega)]
    congr 1
    cases e : V.2.2.2.2.1 k with
    | none => rw [if_pos rfl, if_pos (h.r_n (by omega) e)]
    | some y =>
      obtain ⟨l, m, f⟩ := y
      rw [if_neg (by simp), if_neg (h.r_s (by omega) e).2.2.2.2.2.1]
end RLW
