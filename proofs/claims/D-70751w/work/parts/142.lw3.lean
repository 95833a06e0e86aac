/-! ===== streets shut by chance: the sets one after another ===== -/
set_option maxRecDepth 100000
theorem scr_kp {S A B : ms_T} (hA : scr S A = A) (h : kpL A B 0) : scr S B = B := by
  have e1 : ∀ i, i ≠ 20 → i ≠ 27 → A.1 i = S.1 i := fun i x y => by
    rw [← hA]
    show (if i = 20 ∨ i = 27 then _ else _) = _
    rw [if_neg (by omega)]
  have e2 : ∀ i, i ≠ 28 → i ≠ 29 → A.2.1 i = S.2.1 i := fun i x y => by
    rw [← hA]
    show (if i = 28 ∨ i = 29 then _ else _) = _
    rw [if_neg (by omega)]
  have e3 : A.2.2.1 = S.2.2.1 := by rw [← hA]; rfl
  have e4 : ∀ j, ¬ (j = 8 ∨ (12 ≤ j ∧ j ≤ 17)) → A.2.2.2 j = S.2.2.2 j := fun j x => by
    rw [← hA]
    show (if j = 8 ∨ (12 ≤ j ∧ j ≤ 17) then _ else _) = _
    rw [if_neg x]
  obtain ⟨k1, k2, k3, k4, -, -⟩ := h
  unfold scr
  refine Prod.ext ?_ (Prod.ext ?_ (Prod.ext ?_ ?_))
  · funext i
    show (if i = 20 ∨ i = 27 then B.1 i else S.1 i) = B.1 i
    split
    · rfl
    · rw [k1 i (by omega) (by omega), e1 i (by omega) (by omega)]
  · funext i
    show (if i = 28 ∨ i = 29 then B.2.1 i else S.2.1 i) = B.2.1 i
    split
    · rfl
    · rw [k2 i (by omega) (by omega), e2 i (by omega) (by omega)]
  · show S.2.2.1 = B.2.2.1
    rw [k3, e3]
  · funext j
    show (if j = 8 ∨ (12 ≤ j ∧ j ≤ 17) then B.2.2.2 j else S.2.2.2 j) = B.2.2.2 j
    split
    · rfl
    · rw [k4 j (by omega), e4 j (by omega)]
theorem scr_b {S A : ms_T} {v : Int32} {f : Nat → Nat} (hA : scr S A = A) : scr S (sF (sB (bgnS A) 8 f) 27 v) = sF (sB (bgnS A) 8 f) 27 v := by
  have e1 : ∀ i, i ≠ 20 → i ≠ 27 → A.1 i = S.1 i := fun i x y => by
    rw [← hA]
    show (if i = 20 ∨ i = 27 then _ else _) = _
    rw [if_neg (by omega)]
  have e4 : ∀ j, ¬ (j = 8 ∨ (12 ≤ j ∧ j ≤ 17)) → A.2.2.2 j = S.2.2.2 j := fun j x => by
    rw [← hA]
    show (if j = 8 ∨ (12 ≤ j ∧ j ≤ 17) then _ else _) = _
    rw [if_neg x]
  have e2 : (fun i => if i = 28 ∨ i = 29 then A.2.1 i else S.2.1 i) = A.2.1 := congrArg (fun z : ms_T => z.2.1) hA
  have e3 : S.2.2.1 = A.2.2.1 := by
    have h := congrArg (fun z : ms_T => z.2.2.1) hA
    exact h
  refine Prod.ext ?_ (Prod.ext e2 (Prod.ext e3 ?_))
  · funext i
    show (if i = 20 ∨ i = 27 then (if i = 27 then v else if i = 20 then nI 0 else A.1 i) else S.1 i) = (if i = 27 then v else if i = 20 then nI 0 else A.1 i)
    by_cases z : i = 20 ∨ i = 27
    · rw [if_pos z]
    · rw [if_neg z, if_neg (by omega), if_neg (by omega), e1 i (by omega) (by omega)]
  · funext j
    show (if j = 8 ∨ (12 ≤ j ∧ j ≤ 17) then (sF (sB (bgnS A) 8 f) 27 v).2.2.2 j else S.2.2.2 j) = (sF (sB (bgnS A) 8 f) 27 v).2.2.2 j
    by_cases z : j = 8 ∨ (12 ≤ j ∧ j ≤ 17)
    · rw [if_pos z]
    · rw [if_neg z]
      show _ = (if j = 8 then f else if j = 16 then _ else if j = 15 then _ else if j = 14 then _ else if j = 13 then _ else if j = 8 then _ else A.2.2.2 j)
      rw [if_neg (by omega), if_neg (by omega), if_neg (by omega), if_neg (by omega), if_neg (by omega), if_neg (by omega), e4 j (by omega)]
/-- the rows of one set -/
def setR (S : ms_T) (j s : Nat) (A B : ms_T) : Prop := ∃ (n : Nat) (R : Nat × ms_T) (b : Nat → Nat), rowsL 8 (jdC j) n (0, sF (sB (bgnS A) 8 (uN (S.2.2.2 6) 5 s)) 27 kNONE) 0 = some R ∧ R.2 = B ∧ scr S B = B ∧ B.2.1 28 ≤ 8 ∧ tiC (rpC j (uN (S.2.2.2 6) 5 s)) b R
theorem setR_ex {S A : ms_T} {j s : Nat} (ht : smT (S.2.2.2 6)) (hs : s < 256) (hA : scr S A = A) (h28 : A.2.1 28 ≤ 8) : ∃ B, setR S j s A B := by
  have e6 : A.2.2.2 6 = S.2.2.2 6 := by
    rw [← hA]
    rfl
  have h0 : stL (sF (sB (bgnS A) 8 (uN (S.2.2.2 6) 5 s)) 27 kNONE) (uN (S.2.2.2 6) 5 s) 0 0 := by
    rw [← e6]
    exact stL_fnd (by rw [e6]; exact ht) hs
  obtain ⟨n, R, h1, h2, h3⟩ := lw_top (q := (none, (fun _ => 0), (fun _ => 0), 0)) (a := (0, sF (sB (bgnS A) 8 (uN (S.2.2.2 6) 5 s)) 27 kNONE)) (Nat.le_refl 8) (jd_C j) h0 ⟨h28, rfl⟩
  exact ⟨R.2, n, R, _, h1, rfl, scr_kp (scr_b hA) h2, h3.1, h3⟩
noncomputable def setN (S : ms_T) (j c s : Nat) (A : ms_T) : ms_T := @dite ms_T ((s < 256 ∧ ¬ wayF (S.2.2.2 6) c s (S.2.2.2 6 25) = 0) ∧ ∃ B, setR S j s A B) (Classical.propDecidable _) (fun h => Classical.choose h.2) (fun _ => A)
noncomputable def setW (S : ms_T) (j c : Nat) : Nat → ms_T
  | 0 => S
  | s + 1 => setN S j c s (setW S j c s)
theorem setW_ok {S : ms_T} {j c : Nat} (h28 : S.2.1 28 ≤ 8) : ∀ s, scr S (setW S j c s) = setW S j c s ∧ (setW S j c s).2.1 28 ≤ 8 := by
  intro s
  induction s with
  | zero => exact ⟨scr_self S, h28⟩
  | succ s ih =>
    show scr S (setN S j c s (setW S j c s)) = setN S j c s (setW S j c s) ∧ (setN S j c s (setW S j c s)).2.1 28 ≤ 8
    unfold setN
    split
    · rename_i h
      obtain ⟨n, R, b, -, -, k1, k2, -⟩ := Classical.choose_spec h.2
      exact ⟨k1, k2⟩
    · exact ih
theorem setW_0 {S : ms_T} {j c s : Nat} (h : wayF (S.2.2.2 6) c s (S.2.2.2 6 25) = 0) : setW S j c (s + 1) = setW S j c s := by
  show setN S j c s (setW S j c s) = _
  unfold setN
  rw [dif_neg (fun z => z.1.2 h)]
theorem setW_1 {S : ms_T} {j c s : Nat} (ht : smT (S.2.2.2 6)) (h28 : S.2.1 28 ≤ 8) (hs : s < 256) (h : ¬ wayF (S.2.2.2 6) c s (S.2.2.2 6 25) = 0) : setR S j s (setW S j c s) (setW S j c (s + 1)) := by
  have hk := setW_ok (j := j) (c := c) h28 s
  have he := setR_ex (j := j) ht hs hk.1 hk.2
  show setR S j s (setW S j c s) (setN S j c s (setW S j c s))
  unfold setN
  rw [dif_pos ⟨⟨hs, h⟩, he⟩]
  exact Classical.choose_spec he
theorem abF_up {t : Nat → Nat} {W : Nat → ms_T} {c q : Nat} : ∀ n s, s ≤ n → abF t W c q s ≤ abF t W c q n := by
  intro n
  induction n with
  | zero => intro s h; rw [show s = 0 by omega]; exact Nat.le_refl _
  | succ n ih =>
    intro s h
    by_cases z : s = n + 1
    · rw [z]; exact Nat.le_refl _
    · have := ih s (by omega)
      show _ ≤ abF t W c q n + _
      omega
theorem due_ti {p : Option (Nat × Nat)} {b : Nat → Nat} {R : Nat × ms_T} {q : Nat} (h : tiC p b R) (hq : q ≤ 999) : (¬ R.2.1 27 = kNONE ∧ R.2.1 27 ≤ nI q) ↔ dueP p q = true := by
  cases p with
  | none => exact ⟨fun z => absurd h.2 z.1, fun z => by cases z⟩
  | some xy =>
    obtain ⟨x, y⟩ := xy
    obtain ⟨-, h1, -, h2, -⟩ := h
    rw [h1, nI_leI (by omega) (by omega)]
    refine ⟨fun z => decide_eq_true z.2, fun z => ⟨nI_NONE (by omega), of_decide_eq_true z⟩⟩
/-- **streets shut by chance**: the reference counts as the class does -/
theorem lw_shut {S : ms_T} {j c q : Nat} (ht : smT (S.2.2.2 6)) (ho : S.2.2.2 6 5 < 2 ^ S.2.2.2 6 25) (h28 : S.2.1 28 ≤ 8) (hc : c ≤ 10) (hq : q ≤ 999) : ∃ W, shW S j c q W ∧ abF (S.2.2.2 6) W c q (S.2.2.2 6 5 + 1) = abG (S.2.2.2 6) j c q (S.2.2.2 6 5 + 1) ∧ ∀ s, (W s).2.1 28 ≤ 8 := by
  have h25 := ht.2.2.2.2.2.2.2.2.1
  have h5 := ht.2.2.2.2.2.1
  have hab : abF (S.2.2.2 6) (setW S j c) c q (S.2.2.2 6 5 + 1) = abG (S.2.2.2 6) j c q (S.2.2.2 6 5 + 1) := by
    refine abF_abG h25 ho (fun s hs hw => ?_)
    obtain ⟨n, R, b, h1, h2, -, -, h3⟩ := setW_1 (j := j) ht h28 (show s < 256 by omega) hw
    rw [← h2]
    exact due_ti h3 hq
  refine ⟨setW S j c, ⟨scr_self S, fun s => (setW_ok h28 s).2, fun s _ h => setW_0 h, fun s hs hw => ?_, fun s hs => ?_⟩, hab, fun s => (setW_ok h28 s).2⟩
  · obtain ⟨n, R, b, h1, h2, h3, -, -⟩ := setW_1 (j := j) ht h28 (show s < 256 by omega) hw
    refine ⟨n, R, ?_, h2.trans h3.symm⟩
    rw [(setW_ok h28 s).1]
    exact h1
  · have e1 := abF_up (t := S.2.2.2 6) (W := setW S j c) (c := c) (q := q) _ s hs
    have e2 := abG_le (t := S.2.2.2 6) (j := j) (c := c) (q := q) (S.2.2.2 6 5 + 1)
    have e3 := (belF_le (S.2.2.2 6) (S.2.2.2 6 25)).2
    have e4 := p10_8 h25
    rw [blG_belF hc h25 ho] at e2
    omega
