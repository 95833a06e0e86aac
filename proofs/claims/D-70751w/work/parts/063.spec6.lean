/-! ===== plain words: streets shut by chance ===== -/
set_option maxRecDepth 100000
/-- a set of streets within another -/
def subB (s op : Nat) : Bool := decide (nI s &&& (nI op ^^^ (-1)) = 0)
def belF (t : Nat → Nat) : Nat → Nat
  | 0 => 1
  | k + 1 => belF t k * (if hasN (t 5) k then 10 else 1)
def wayF (t : Nat → Nat) (c s : Nat) : Nat → Nat
  | 0 => if subB s (t 5) then 1 else 0
  | k + 1 => wayF t c s k * (if hasN (t 5) k then (if hasN s k then 10 - c else c) else 1)
/-- the reference with what is scratch of another one -/
def scr (S R : ms_T) : ms_T := (fun i => if i = 20 ∨ i = 27 then R.1 i else S.1 i, fun i => if i = 28 ∨ i = 29 then R.2.1 i else S.2.1 i, S.2.2.1, fun j => if j = 8 ∨ (12 ≤ j ∧ j ≤ 17) then R.2.2.2 j else S.2.2.2 j)
theorem scr_self (S : ms_T) : scr S S = S := by
  unfold scr
  refine Prod.ext ?_ (Prod.ext ?_ (Prod.ext rfl ?_)) <;> (funext i; simp)
def abF (t : Nat → Nat) (W : Nat → ms_T) (c q : Nat) : Nat → Nat
  | 0 => 0
  | s + 1 => abF t W c q s + (if 0 < wayF t c s (t 25) ∧ ¬ (W (s + 1)).1 27 = kNONE ∧ (W (s + 1)).1 27 ≤ nI q then wayF t c s (t 25) else 0)
/-- the sets of open streets one after another, each with the least that is due then -/
def shW (S : ms_T) (j c q : Nat) (W : Nat → ms_T) : Prop := scr S (W 0) = S ∧ (∀ s, (W s).2.1 28 ≤ 8) ∧ (∀ s, s ≤ S.2.2.2 6 5 → wayF (S.2.2.2 6) c s (S.2.2.2 6 25) = 0 → W (s + 1) = W s) ∧ (∀ s, s ≤ S.2.2.2 6 5 → ¬ wayF (S.2.2.2 6) c s (S.2.2.2 6 25) = 0 → ∃ (n : Nat) (R : Nat × ms_T), rowsL 8 (jdC j) n (0, sF (sB (bgnS (scr S (W s))) 8 (uN (S.2.2.2 6) 5 s)) 27 kNONE) 0 = some R ∧ R.2 = scr S (W (s + 1))) ∧ ∀ s, s ≤ S.2.2.2 6 5 + 1 → abF (S.2.2.2 6) W c q s < 2 ^ 31
theorem belF_le (t : Nat → Nat) : ∀ k, 0 < belF t k ∧ belF t k ≤ 10 ^ k := by
  intro k
  induction k with
  | zero => exact ⟨Nat.le_refl _, Nat.le_refl _⟩
  | succ k ih =>
    unfold belF
    rw [Nat.pow_succ]
    split <;> omega
theorem wayF_le {t : Nat → Nat} {c s : Nat} (hc : c ≤ 10) : ∀ k, wayF t c s k ≤ 10 ^ k := by
  intro k
  induction k with
  | zero => unfold wayF; split <;> decide
  | succ k ih =>
    unfold wayF
    rw [Nat.pow_succ]
    refine Nat.mul_le_mul ih ?_
    split
    · split <;> omega
    · omega
theorem p10_8 {k : Nat} (h : k ≤ 8) : 10 ^ k ≤ 100000000 := Nat.le_trans (Nat.pow_le_pow_right (by decide) h) (by decide)
