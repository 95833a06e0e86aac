/-! ===== the four questions: both ways are one ===== -/
set_option maxRecDepth 100000
section LWQ
variable {α : Type} {bt : (Nat → Nat) → Nat → Nat → α → Bool × α} {most : Nat} {jd : Nat × ms_T → Nat → Nat × ms_T}
theorem lw_top {P : α → (Nat → Nat) → Nat × ms_T → Prop} (hm8 : most ≤ 8) (hJ : jdOK P bt most jd) {a : Nat × ms_T} {t : Nat → Nat} {q : ro_T α} (hs : stL a.2 t 0 0) (hP : P q.1 q.2.1 a) :
    ∃ (N : Nat) (a' : Nat × ms_T), rowsL most jd N a 0 = some a' ∧ kpL a.2 a'.2 0 ∧ P (rwF bt most 0 0 t q).1 (rwF bt most 0 0 t q).2.1 a' := by
  by_cases hm : most = 0
  · subst hm
    obtain ⟨h1, h2, h3⟩ := hJ.2 a 0 0 t q (Nat.le_refl _) hs hP (fun i hi => absurd hi (by omega))
    exact ⟨1, jd a 0, by rw [rowsL, if_pos rfl], h2.dn (by omega), h1⟩
  · obtain ⟨N, a', h1, h2, h3⟩ := lw_rows hm hm8 hJ most 0 a t 0 q (by omega) hs hP (fun i hi => absurd hi (by omega))
    refine ⟨0 + N, (a'.1, sF a'.2 20 (-1)), h1 0, ?_, hJ.1 _ _ a' _ h3 rfl rfl rfl rfl rfl⟩
    exact h2.tr (e := 0) ⟨fun i x y => if_neg x, fun _ _ _ => rfl, rfl, fun _ _ => rfl, fun _ _ => ⟨rfl, rfl⟩, fun _ _ => ⟨rfl, rfl, rfl⟩⟩ (Nat.le_refl _)
end LWQ
theorem kpsS_kp (S : ms_T) (d : Nat) : kpL S (kpsS S d) 99 := by
  refine ⟨fun i _ h => if_neg h, fun i h1 h2 => ?_, rfl, fun j hj => ?_, fun i hi => ⟨rfl, rfl⟩, fun i hi => ⟨rfl, rfl, rfl⟩⟩
  · show (if i = 29 then _ else if i = 28 then _ else _) = _
    rw [if_neg h2, if_neg h1]
    rfl
  · show (if j = 17 then _ else _) = _
    rw [if_neg (by omega)]
    rfl
theorem kps_17 {S : ms_T} {d i : Nat} (h : i < d) : (kpsS S d).2.2.2 17 i = S.2.2.2 12 i := by
  show va_cpy (S.2.2.2 12) (S.2.2.2 17) 0 0 d i = _
  unfold va_cpy
  rw [if_pos (by omega)]
  exact congrArg (S.2.2.2 12) (by omega)
/-- the cheapest -/
def tiC (p : Option (Nat × Nat)) (b : Nat → Nat) (a : Nat × ms_T) : Prop := a.2.2.1 28 ≤ 8 ∧ match p with
  | none => a.2.1 27 = kNONE
  | some (x, y) => a.2.1 27 = nI x ∧ a.2.2.1 28 = y ∧ x ≤ 2000 ∧ ∀ i, i < y → b i = a.2.2.2.2 17 i
theorem jd_C (c : Nat) : jdOK tiC (btC c) 8 (jdC c) := by
  refine ⟨fun p b a a' h _ e27 e28 _ e17 => ?_, fun a d cs t q hd hs hP hq => ?_⟩
  · refine ⟨by rw [e28]; exact h.1, ?_⟩
    have h2 := h.2
    cases p with
    | none => exact e27.trans h2
    | some z => exact ⟨e27.trans h2.1, e28.trans h2.2.1, h2.2.2.1, fun i hi => by rw [e17]; exact h2.2.2.2 i hi⟩
  · obtain ⟨-, -, hc, -, h4, -, -, h7⟩ := hs
    have e17 : ∀ i, i < d → q.2.2.1 i = (kpsS a.2 d).2.2.2 17 i := fun i hi => by rw [kps_17 hi]; exact hq i hi
    obtain ⟨p, b, tr, n⟩ := q
    obtain ⟨h28, h2⟩ := hP
    cases p with
    | none =>
      have h2 : a.2.1 27 = kNONE := h2
      by_cases z : t 4 = c
      · have ej : jdC c a d = (a.1, kpsS a.2 d) := by unfold jdC; rw [if_pos ⟨by omega, Or.inl h2⟩]
        have eb : btC c t d cs none = (true, some (cs, d)) := if_pos z
        rw [ej]
        refine ⟨?_, kpsS_kp _ _, rfl⟩
        unfold vis
        show tiC (btC c t d cs none).2 (if (btC c t d cs none).1 then tr else b) _
        rw [eb]
        refine ⟨show d ≤ 8 from hd, show nI (a.2.2.2.2 16 d) = _ by rw [← h7], rfl, by omega, e17⟩
      · have ej : jdC c a d = (a.1, a.2) := by unfold jdC; rw [if_neg (fun y => z (by omega))]
        have eb : btC c t d cs none = (false, none) := if_neg z
        rw [ej]
        refine ⟨?_, kpL.rf _ _, rfl⟩
        unfold vis
        show tiC (btC c t d cs none).2 (if (btC c t d cs none).1 then tr else b) _
        rw [eb]
        exact ⟨h28, h2⟩
    | some xy =>
      obtain ⟨x, y⟩ := xy
      have h2 : a.2.1 27 = nI x ∧ a.2.2.1 28 = y ∧ x ≤ 2000 ∧ ∀ i, i < y → b i = a.2.2.2.2 17 i := h2
      obtain ⟨h27, h28', hx, hb⟩ := h2
      have hn : ¬ nI x = kNONE := nI_NONE (by omega)
      have e1 : nI cs < nI x ↔ cs < x := nI_ltI (by omega) (by omega)
      have e2 : nI cs = nI x ↔ cs = x := nI_eq (by omega) (by omega)
      by_cases z : t 4 = c ∧ ¬ (x < cs ∨ x = cs ∧ y ≤ d)
      · have ej : jdC c a d = (a.1, kpsS a.2 d) := by
          unfold jdC
          rw [if_pos]
          rw [h27, ← h7, e1, e2, h28']
          exact ⟨by omega, Or.inr (by omega)⟩
        have eb : btC c t d cs (some (x, y)) = (true, some (cs, d)) := if_pos z
        rw [ej]
        refine ⟨?_, kpsS_kp _ _, rfl⟩
        unfold vis
        show tiC (btC c t d cs (some (x, y))).2 (if (btC c t d cs (some (x, y))).1 then tr else b) _
        rw [eb]
        refine ⟨show d ≤ 8 from hd, show nI (a.2.2.2.2 16 d) = _ by rw [← h7], rfl, by omega, e17⟩
      · have ej : jdC c a d = (a.1, a.2) := by
          unfold jdC
          rw [if_neg]
          rw [h27, ← h7, e1, e2, h28']
          intro y'
          rcases y'.2 with y2 | y2
          · exact hn y2
          · exact z ⟨by omega, by omega⟩
        have eb : btC c t d cs (some (x, y)) = (false, some (x, y)) := if_neg z
        rw [ej]
        refine ⟨?_, kpL.rf _ _, rfl⟩
        unfold vis
        show tiC (btC c t d cs (some (x, y))).2 (if (btC c t d cs (some (x, y))).1 then tr else b) _
        rw [eb]
        exact ⟨h28, h27, h28', hx, hb⟩
/-- the dearest of st streets -/
def tiD (st : Nat) (p : Option (Nat × Nat)) (b : Nat → Nat) (a : Nat × ms_T) : Prop := a.2.2.1 28 ≤ 8 ∧ match p with
  | none => a.2.1 27 = kNONE
  | some (x, y) => a.2.1 27 = nI x ∧ a.2.2.1 29 = y ∧ a.2.2.1 28 = st ∧ x ≤ 2000 ∧ ∀ i, i < st → b i = a.2.2.2.2 17 i
theorem jd_D (st : Nat) (h8 : st ≤ 8) : jdOK (tiD st) (btD st) st (jdD st) := by
  refine ⟨fun p b a a' h _ e27 e28 e29 e17 => ?_, fun a d cs t q hd hs hP hq => ?_⟩
  · refine ⟨by rw [e28]; exact h.1, ?_⟩
    have h2 := h.2
    cases p with
    | none => exact e27.trans h2
    | some z => exact ⟨e27.trans h2.1, e29.trans h2.2.1, e28.trans h2.2.2.1, h2.2.2.2.1, fun i hi => by rw [e17]; exact h2.2.2.2.2 i hi⟩
  · obtain ⟨-, -, hc, -, h4, -, -, h7⟩ := hs
    have e17 : ∀ i, i < d → q.2.2.1 i = (kpsS a.2 d).2.2.2 17 i := fun i hi => by rw [kps_17 hi]; exact hq i hi
    obtain ⟨p, b, tr, n⟩ := q
    obtain ⟨h28, h2⟩ := hP
    cases p with
    | none =>
      have h2 : a.2.1 27 = kNONE := h2
      by_cases z : d < st
      · have ej : jdD st a d = (a.1, a.2) := by unfold jdD; rw [if_neg (fun y => by omega)]
        have eb : btD st t d cs none = (false, none) := if_pos z
        rw [ej]
        refine ⟨?_, kpL.rf _ _, rfl⟩
        unfold vis
        show tiD st (btD st t d cs none).2 (if (btD st t d cs none).1 then tr else b) _
        rw [eb]
        exact ⟨h28, h2⟩
      · have ez : d = st := by omega
        subst ez
        have ej : jdD d a d = (a.1, kpsS a.2 d) := by unfold jdD; rw [if_pos ⟨rfl, by rw [h2]; exact NONE_lt (by omega)⟩]
        have eb : btD d t d cs none = (true, some (cs, t 4)) := if_neg z
        rw [ej]
        refine ⟨?_, kpsS_kp _ _, rfl⟩
        unfold vis
        show tiD d (btD d t d cs none).2 (if (btD d t d cs none).1 then tr else b) _
        rw [eb]
        exact ⟨show d ≤ 8 from h8, show nI (a.2.2.2.2 16 d) = _ by rw [← h7], h4.symm, rfl, by omega, e17⟩
    | some xy =>
      obtain ⟨x, y⟩ := xy
      obtain ⟨h27, h29, h28', hx, hb⟩ := h2
      have e1 : nI x < nI cs ↔ x < cs := nI_ltI (by omega) (by omega)
      by_cases z : d < st ∨ cs ≤ x
      · have ej : jdD st a d = (a.1, a.2) := by
          unfold jdD
          rw [if_neg]
          rw [h27, ← h7, e1]
          omega
        have eb : btD st t d cs (some (x, y)) = (false, some (x, y)) := if_pos z
        rw [ej]
        refine ⟨?_, kpL.rf _ _, rfl⟩
        unfold vis
        show tiD st (btD st t d cs (some (x, y))).2 (if (btD st t d cs (some (x, y))).1 then tr else b) _
        rw [eb]
        exact ⟨h28, h27, h29, h28', hx, hb⟩
      · have ez : d = st := by omega
        subst ez
        have ej : jdD d a d = (a.1, kpsS a.2 d) := by
          unfold jdD
          rw [if_pos]
          rw [h27, ← h7, e1]
          omega
        have eb : btD d t d cs (some (x, y)) = (true, some (cs, t 4)) := if_neg z
        rw [ej]
        refine ⟨?_, kpsS_kp _ _, rfl⟩
        unfold vis
        show tiD d (btD d t d cs (some (x, y))).2 (if (btD d t d cs (some (x, y))).1 then tr else b) _
        rw [eb]
        exact ⟨show d ≤ 8 from h8, show nI (a.2.2.2.2 16 d) = _ by rw [← h7], h4.symm, rfl, by omega, e17⟩
/-- the moods -/
def tiM (p : Nat) (_ : Nat → Nat) (a : Nat × ms_T) : Prop := a.2.2.1 28 ≤ 8 ∧ a.1 = p
theorem jd_M (c st : Nat) : jdOK tiM (btM c st) st (jdM c st) := by
  refine ⟨fun p b a a' h e1 e27 e28 e29 e17 => ⟨by rw [e28]; exact h.1, e1.trans h.2⟩, fun a d cs t q hd hs hP hq => ?_⟩
  obtain ⟨-, -, hc, -, h4, h5, -, h7⟩ := hs
  refine ⟨⟨hP.1, ?_⟩, kpL.rf _ _, rfl⟩
  show a.1 ||| _ = q.1 ||| _
  rw [hP.2, h4, h5]
/-- the soonest of a mood -/
def tiS (p : Option Nat) (b : Nat → Nat) (a : Nat × ms_T) : Prop := a.2.2.1 28 ≤ 8 ∧ match p with
  | none => a.2.1 27 = kNONE
  | some x => ¬ a.2.1 27 = kNONE ∧ a.2.2.1 28 = x ∧ ∀ i, i < x → b i = a.2.2.2.2 17 i
theorem jd_S (m : Nat) : jdOK tiS (btS m) 8 (jdG m) := by
  refine ⟨fun p b a a' h _ e27 e28 e29 e17 => ?_, fun a d cs t q hd hs hP hq => ?_⟩
  · refine ⟨by rw [e28]; exact h.1, ?_⟩
    have h2 := h.2
    cases p with
    | none => exact e27.trans h2
    | some z => exact ⟨fun y => h2.1 (e27.symm.trans y), e28.trans h2.2.1, fun i hi => by rw [e17]; exact h2.2.2 i hi⟩
  · obtain ⟨-, -, hc, -, h4, h5, -, h7⟩ := hs
    have e17 : ∀ i, i < d → q.2.2.1 i = (kpsS a.2 d).2.2.2 17 i := fun i hi => by rw [kps_17 hi]; exact hq i hi
    have hn : ¬ nI (a.2.2.2.2 16 d) = kNONE := nI_NONE (by omega)
    obtain ⟨p, b, tr, n⟩ := q
    obtain ⟨h28, h2⟩ := hP
    cases p with
    | none =>
      have h2 : a.2.1 27 = kNONE := h2
      by_cases z : t 1 = m
      · have ej : jdG m a d = (a.1, kpsS a.2 d) := by unfold jdG; rw [if_pos ⟨by omega, Or.inl h2⟩]
        have eb : btS m t d cs none = (true, some d) := if_pos z
        rw [ej]
        refine ⟨?_, kpsS_kp _ _, rfl⟩
        unfold vis
        show tiS (btS m t d cs none).2 (if (btS m t d cs none).1 then tr else b) _
        rw [eb]
        exact ⟨show d ≤ 8 from hd, hn, rfl, e17⟩
      · have ej : jdG m a d = (a.1, a.2) := by unfold jdG; rw [if_neg (fun y => z (by omega))]
        have eb : btS m t d cs none = (false, none) := if_neg z
        rw [ej]
        refine ⟨?_, kpL.rf _ _, rfl⟩
        unfold vis
        show tiS (btS m t d cs none).2 (if (btS m t d cs none).1 then tr else b) _
        rw [eb]
        exact ⟨h28, h2⟩
    | some x =>
      obtain ⟨h27, h28', hb⟩ := h2
      by_cases z : t 1 = m ∧ d < x
      · have ej : jdG m a d = (a.1, kpsS a.2 d) := by unfold jdG; rw [if_pos ⟨by omega, Or.inr (by omega)⟩]
        have eb : btS m t d cs (some x) = (true, some d) := if_pos z
        rw [ej]
        refine ⟨?_, kpsS_kp _ _, rfl⟩
        unfold vis
        show tiS (btS m t d cs (some x)).2 (if (btS m t d cs (some x)).1 then tr else b) _
        rw [eb]
        exact ⟨show d ≤ 8 from hd, hn, rfl, e17⟩
      · have ej : jdG m a d = (a.1, a.2) := by
          unfold jdG
          rw [if_neg (fun y => by
            rcases y.2 with y2 | y2
            · exact h27 y2
            · exact z ⟨by omega, by omega⟩)]
        have eb : btS m t d cs (some x) = (false, some x) := if_neg z
        rw [ej]
        refine ⟨?_, kpL.rf _ _, rfl⟩
        unfold vis
        show tiS (btS m t d cs (some x)).2 (if (btS m t d cs (some x)).1 then tr else b) _
        rw [eb]
        exact ⟨h28, h27, h28', hb⟩
/-- where the questions begin -/
theorem stL_bgn {S : ms_T} (ht : smT (S.2.2.2 6)) : stL (sF (bgnS S) 27 kNONE) (S.2.2.2 6) 0 0 := ⟨ht, ht.2.1, Nat.le_refl _, fun _ _ => rfl, rfl, rfl, rfl, rfl⟩
theorem stL_bgn0 {S : ms_T} (ht : smT (S.2.2.2 6)) : stL (bgnS S) (S.2.2.2 6) 0 0 := ⟨ht, ht.2.1, Nat.le_refl _, fun _ _ => rfl, rfl, rfl, rfl, rfl⟩
theorem stL_fnd {S : ms_T} {op : Nat} (ht : smT (S.2.2.2 6)) (h : op < 256) : stL (sF (sB (bgnS S) 8 (uN (S.2.2.2 6) 5 op)) 27 kNONE) (uN (S.2.2.2 6) 5 op) 0 0 := ⟨smT_5 ht h, ht.2.1, Nat.le_refl _, fun _ _ => rfl, rfl, rfl, rfl, rfl⟩
