/-! ===== streets shut by chance: both ways of counting ===== -/
set_option maxRecDepth 100000
def wyP (t : Nat → Nat) (c s : Nat) : Nat → Nat
  | 0 => 1
  | k + 1 => wyP t c s k * (if hasN (t 5) k then (if hasN s k then 10 - c else c) else 1)
theorem wayF_w (t : Nat → Nat) (c s : Nat) : ∀ n, wayF t c s n = if subB s (t 5) then wyP t c s n else 0 := by
  intro n
  induction n with
  | zero => rfl
  | succ n ih =>
    show wayF t c s n * _ = _
    rw [ih]
    by_cases h : subB s (t 5) = true
    · rw [if_pos h, if_pos h]
      rfl
    · rw [if_neg h, if_neg h, Nat.zero_mul]
theorem wyP_n (t : Nat → Nat) (c s : Nat) : ∀ n, n ≤ 8 → wyP t c (andn (t 5) s) n = wayG t c s n := by
  intro n
  induction n with
  | zero => intro _; rfl
  | succ n ih =>
    intro hn
    show wyP t c (andn (t 5) s) n * _ = wayG t c s n * _
    rw [ih (by omega)]
    congr 1
    by_cases ho : hasN (t 5) n = true
    · rw [if_pos ho, if_pos ho]
      have e : hasN (andn (t 5) s) n = !hasN s n := by
        rw [hasN_tb] at ho
        rw [hasN_tb, hasN_tb, andn_tb (t 5) s n (by omega), ho]
        rfl
      rw [e]
      cases hasN s n <;> rfl
    · rw [if_neg ho, if_neg ho]
theorem sumF_ext {f : Nat → Nat} {a : Nat} : ∀ b, (∀ s, a ≤ s → s < a + b → f s = 0) → sumF f (a + b) = sumF f a := by
  intro b
  induction b with
  | zero => intro _; rfl
  | succ b ih =>
    intro h
    show sumF f (a + b) + f (a + b) = _
    rw [ih (fun s h1 h2 => h s h1 (by omega)), h (a + b) (by omega) (by omega)]
    rfl
theorem sum_open {t : Nat → Nat} {h : Nat → Nat} (hn : t 25 ≤ 8) (ho : t 5 < 2 ^ t 25) : sumF (fun s => if subB s (t 5) then h s else 0) (2 ^ t 25) = sumF (fun s => if subB s (t 5) then h s else 0) (t 5 + 1) := by
  have h2 : 2 ^ t 25 ≤ 2 ^ 8 := Nat.pow_le_pow_right (by decide) hn
  rw [show 2 ^ t 25 = t 5 + 1 + (2 ^ t 25 - (t 5 + 1)) by omega]
  exact sumF_ext _ (fun s h1 h3 => if_neg (fun z => by
    have := sub_le z (by omega) (by omega)
    omega))
theorem abG_sum (t : Nat → Nat) (j c q : Nat) : ∀ n, abG t j c q n = sumF (fun s => if subB s (t 5) && dueP (rpC j (uN t 5 (andn (t 5) s))) q then wayG t c s (t 25) else 0) n := by
  intro n
  induction n with
  | zero => rfl
  | succ n ih =>
    show abG t j c q n + _ = _ + _
    rw [ih]
theorem abF_sum (t : Nat → Nat) (W : Nat → ms_T) (c q : Nat) : ∀ n, abF t W c q n = sumF (fun s => if 0 < wayF t c s (t 25) ∧ ¬ (W (s + 1)).1 27 = kNONE ∧ (W (s + 1)).1 27 ≤ nI q then wayF t c s (t 25) else 0) n := by
  intro n
  induction n with
  | zero => rfl
  | succ n ih =>
    show abF t W c q n + _ = _ + _
    rw [ih]
/-- **both count the same** -/
theorem abF_abG {t : Nat → Nat} {W : Nat → ms_T} {j c q : Nat} (hn : t 25 ≤ 8) (ho : t 5 < 2 ^ t 25) (hW : ∀ s, s ≤ t 5 → ¬ wayF t c s (t 25) = 0 → ((¬ (W (s + 1)).1 27 = kNONE ∧ (W (s + 1)).1 27 ≤ nI q) ↔ dueP (rpC j (uN t 5 s)) q = true)) : abF t W c q (t 5 + 1) = abG t j c q (t 5 + 1) := by
  have e1 : abF t W c q (t 5 + 1) = sumF (fun s => if subB s (t 5) then (fun s => if dueP (rpC j (uN t 5 s)) q then wyP t c s (t 25) else 0) s else 0) (t 5 + 1) := by
    rw [abF_sum]
    refine sumF_cg _ (fun s hs => ?_)
    have hw := hW s (by omega)
    rw [wayF_w] at hw ⊢
    by_cases h : subB s (t 5) = true
    · rw [if_pos h] at hw
      simp only [if_pos h]
      by_cases z : wyP t c s (t 25) = 0
      · rw [z]
        simp
      · have hd := hw z
        by_cases hq : dueP (rpC j (uN t 5 s)) q = true
        · rw [if_pos hq, if_pos ⟨by omega, hd.mpr hq⟩]
        · rw [if_neg hq, if_neg (fun y => hq (hd.mp y.2))]
    · simp only [if_neg h]
      simp
  have e2 : abG t j c q (t 5 + 1) = sumF (fun s => if subB s (t 5) then (fun s => if dueP (rpC j (uN t 5 s)) q then wyP t c s (t 25) else 0) (andn (t 5) s) else 0) (t 5 + 1) := by
    rw [abG_sum]
    refine sumF_cg _ (fun s hs => ?_)
    by_cases h : subB s (t 5) = true
    · simp only [h, Bool.true_and, if_true]
      rw [wyP_n t c s (t 25) hn]
    · simp [h]
  rw [e1, e2, ← sum_open (h := fun s => if dueP (rpC j (uN t 5 s)) q then wyP t c s (t 25) else 0) hn ho, ← sum_open (h := fun s => (fun s => if dueP (rpC j (uN t 5 s)) q then wyP t c s (t 25) else 0) (andn (t 5) s)) hn ho]
  exact (sum_turn hn ho (fun s => if dueP (rpC j (uN t 5 s)) q then wyP t c s (t 25) else 0)).symm
