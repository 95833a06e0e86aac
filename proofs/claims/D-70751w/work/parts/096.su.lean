/-! ===== sums over sets of streets ===== -/
set_option maxRecDepth 100000
def sumF (f : Nat → Nat) : Nat → Nat
  | 0 => 0
  | n + 1 => sumF f n + f n
theorem sumF_add (f : Nat → Nat) (a : Nat) : ∀ b, sumF f (a + b) = sumF f a + sumF (fun s => f (a + s)) b := by
  intro b
  induction b with
  | zero => rfl
  | succ b ih =>
    show sumF f (a + b) + f (a + b) = sumF f a + (sumF (fun s => f (a + s)) b + f (a + b))
    rw [ih]
    omega
theorem sumF_cg {f g : Nat → Nat} : ∀ n, (∀ s, s < n → f s = g s) → sumF f n = sumF g n := by
  intro n
  induction n with
  | zero => intro _; rfl
  | succ n ih =>
    intro h
    show sumF f n + f n = sumF g n + g n
    rw [ih (fun s hs => h s (by omega)), h n (by omega)]
theorem sumF_mul (f : Nat → Nat) (c : Nat) : ∀ n, sumF (fun s => f s * c) n = sumF f n * c := by
  intro n
  induction n with
  | zero => exact (Nat.zero_mul c).symm
  | succ n ih =>
    show sumF (fun s => f s * c) n + f n * c = (sumF f n + f n) * c
    rw [ih, Nat.add_mul]
theorem hasN_tb (n k : Nat) : hasN n k = n.testBit k := by
  unfold hasN
  rw [Nat.testBit_eq_decide_div_mod_eq]
/-- a set's weight: nothing if it isn't within the open ones -/
def wt (op c : Nat) : Nat → Nat → Nat
  | 0, _ => 1
  | n + 1, s => wt op c n s * (if hasN op n then (if hasN s n then c else 10 - c) else (if hasN s n then 0 else 1))
theorem wt_lo (op c : Nat) : ∀ n s a, n ≤ a → wt op c n (2 ^ a + s) = wt op c n s := by
  intro n
  induction n with
  | zero => intro s a _; rfl
  | succ n ih =>
    intro s a h
    have e : hasN (2 ^ a + s) n = hasN s n := by
      rw [hasN_tb, hasN_tb]
      exact Nat.testBit_two_pow_add_gt (by omega) s
    show wt op c n (2 ^ a + s) * _ = wt op c n s * _
    rw [ih s a (by omega), e]
theorem wt_sum {op c : Nat} (hc : c ≤ 10) : ∀ n, sumF (wt op c n) (2 ^ n) = belF (fun i => if i = 5 then op else 0) n := by
  intro n
  induction n with
  | zero => rfl
  | succ n ih =>
    have e1 : ∀ s, s < 2 ^ n → wt op c (n + 1) s = wt op c n s * (if hasN op n then 10 - c else 1) := by
      intro s hs
      have : hasN s n = false := by
        rw [hasN_tb]
        exact Nat.testBit_lt_two_pow hs
      show wt op c n s * _ = _
      rw [this]
      simp
    have e2 : ∀ s, s < 2 ^ n → wt op c (n + 1) (2 ^ n + s) = wt op c n s * (if hasN op n then c else 0) := by
      intro s hs
      have : hasN (2 ^ n + s) n = true := by
        rw [hasN_tb, Nat.testBit_two_pow_add_eq, Nat.testBit_lt_two_pow hs]
        rfl
      show wt op c n (2 ^ n + s) * _ = _
      rw [this, wt_lo op c n s n (Nat.le_refl _)]
      simp
    rw [show 2 ^ (n + 1) = 2 ^ n + 2 ^ n by rw [Nat.pow_succ]; omega, sumF_add, sumF_cg _ e1, sumF_cg _ e2, sumF_mul, sumF_mul, ih, ← Nat.mul_add]
    show belF _ n * _ = belF _ n * _
    congr 1
    show _ = if hasN op n then 10 else 1
    by_cases h : hasN op n = true
    · simp only [h, if_true]
      omega
    · simp [h]
theorem belF_cg {t u : Nat → Nat} (h : t 5 = u 5) : ∀ n, belF t n = belF u n := by
  intro n
  induction n with
  | zero => rfl
  | succ n ih =>
    show belF t n * _ = belF u n * _
    rw [ih, h]
theorem subB_N {s op : Nat} (hs : s < 256) (ho : op < 256) : subB s op = decide (andn s op = 0) := by
  unfold subB
  rw [andn_I hs ho]
  by_cases h : andn s op = 0
  · rw [h]
    rfl
  · rw [decide_eq_false h]
    refine decide_eq_false (fun z => h ?_)
    have hl : andn s op < 256 := andn_lt hs
    exact (nI_eq (by omega) (by decide)).mp z
theorem andn_tb (s op k : Nat) (hk : k < 8) : (andn s op).testBit k = (s.testBit k && !op.testBit k) := by
  unfold andn
  rw [Nat.testBit_and, Nat.testBit_xor]
  have : (255 : Nat).testBit k = true := by
    rcases (show k = 0 ∨ k = 1 ∨ k = 2 ∨ k = 3 ∨ k = 4 ∨ k = 5 ∨ k = 6 ∨ k = 7 by omega) with rfl | rfl | rfl | rfl | rfl | rfl | rfl | rfl <;> decide
  rw [this]
  simp
theorem wt_way {t : Nat → Nat} {c s : Nat} (h : ∀ k, k < 8 → hasN s k = true → hasN (t 5) k = true) : ∀ n, n ≤ 8 → wt (t 5) c n s = wayG t c s n := by
  intro n
  induction n with
  | zero => intro _; rfl
  | succ n ih =>
    intro hn
    show wt (t 5) c n s * _ = wayG t c s n * _
    rw [ih (by omega)]
    congr 1
    by_cases ho : hasN (t 5) n = true
    · rw [if_pos ho, if_pos ho]
    · rw [if_neg ho, if_neg ho, if_neg (fun z => ho (h n (by omega) z))]
theorem wt_zero {op c s k : Nat} (hs : hasN s k = true) (ho : hasN op k = false) : ∀ n, k < n → wt op c n s = 0 := by
  intro n
  induction n with
  | zero => intro h; omega
  | succ n ih =>
    intro h
    show wt op c n s * _ = 0
    by_cases z : k = n
    · subst z
      rw [hs, ho]
      simp
    · rw [ih (by omega), Nat.zero_mul]
theorem wt_eq {t : Nat → Nat} {c s n : Nat} (hn : n ≤ 8) (hs : s < 2 ^ n) (ho : t 5 < 2 ^ n) : wt (t 5) c n s = (if subB s (t 5) then wayG t c s n else 0) := by
  have h2 : 2 ^ n ≤ 2 ^ 8 := Nat.pow_le_pow_right (by decide) hn
  rw [subB_N (by omega) (by omega)]
  by_cases h : andn s (t 5) = 0
  · rw [if_pos (decide_eq_true h)]
    refine wt_way (fun k hk h1 => ?_) n hn
    have := andn_tb s (t 5) k hk
    rw [h, Nat.zero_testBit] at this
    rw [hasN_tb] at h1 ⊢
    rw [h1] at this
    cases z : (t 5).testBit k with
    | true => rfl
    | false => rw [z] at this; cases this
  · rw [if_neg (fun z => h (of_decide_eq_true z))]
    obtain ⟨k, hk⟩ := Nat.exists_testBit_of_ne_zero h
    have hk8 : k < 8 := by
      by_cases z : k < 8
      · exact z
      · have hl : andn s (t 5) < 2 ^ k := Nat.lt_of_lt_of_le (show andn s (t 5) < 2 ^ 8 from andn_lt (by omega)) (Nat.pow_le_pow_right (by decide) (by omega))
        rw [Nat.testBit_lt_two_pow hl] at hk
        cases hk
    rw [andn_tb s (t 5) k hk8] at hk
    simp at hk
    have hkn : k < n := by
      by_cases z : k < n
      · exact z
      · have hl : s < 2 ^ k := Nat.lt_of_lt_of_le hs (Nat.pow_le_pow_right (by decide) (by omega))
        rw [Nat.testBit_lt_two_pow hl] at hk
        cases hk.1
    exact wt_zero (by rw [hasN_tb]; exact hk.1) (by rw [hasN_tb]; exact hk.2) n hkn
theorem sub_le {s op : Nat} (h : subB s op = true) (hs : s < 256) (ho : op < 256) : s ≤ op := by
  rw [subB_N hs ho] at h
  have h0 := of_decide_eq_true h
  have e : s &&& op = s := by
    apply Nat.eq_of_testBit_eq
    intro k
    rw [Nat.testBit_and]
    by_cases hk : k < 8
    · have := andn_tb s op k hk
      rw [h0, Nat.zero_testBit] at this
      cases z1 : s.testBit k <;> cases z2 : op.testBit k <;> simp_all
    · have hl : s < 2 ^ k := Nat.lt_of_lt_of_le (show s < 2 ^ 8 from hs) (Nat.pow_le_pow_right (by decide) (by omega))
      rw [Nat.testBit_lt_two_pow hl]
      rfl
  rw [← e]
  exact Nat.and_le_right
theorem blG_sum (t : Nat → Nat) (c : Nat) : ∀ n, blG t c n = sumF (fun s => if subB s (t 5) then wayG t c s (t 25) else 0) n := by
  intro n
  induction n with
  | zero => rfl
  | succ n ih =>
    show blG t c n + _ = _ + _
    rw [ih]
/-- **all the ways together** -/
theorem blG_belF {t : Nat → Nat} {c : Nat} (hc : c ≤ 10) (hn : t 25 ≤ 8) (ho : t 5 < 2 ^ t 25) : blG t c (t 5 + 1) = belF t (t 25) := by
  have h2 : 2 ^ t 25 ≤ 2 ^ 8 := Nat.pow_le_pow_right (by decide) hn
  have e1 := wt_sum (op := t 5) hc (t 25)
  rw [belF_cg (t := fun i => if i = 5 then t 5 else 0) (u := t) rfl] at e1
  rw [← e1, blG_sum, show 2 ^ t 25 = t 5 + 1 + (2 ^ t 25 - (t 5 + 1)) by omega, sumF_add (wt (t 5) c (t 25)) (t 5 + 1)]
  have e2 : sumF (fun s => wt (t 5) c (t 25) (t 5 + 1 + s)) (2 ^ t 25 - (t 5 + 1)) = 0 := by
    have : ∀ m, m ≤ 2 ^ t 25 - (t 5 + 1) → sumF (fun s => wt (t 5) c (t 25) (t 5 + 1 + s)) m = 0 := by
      intro m
      induction m with
      | zero => intro _; rfl
      | succ m ih =>
        intro hm
        show sumF _ m + wt (t 5) c (t 25) (t 5 + 1 + m) = 0
        rw [ih (by omega), wt_eq hn (by omega) ho, if_neg (fun z => by
          have := sub_le z (by omega) (by omega)
          omega)]
    exact this _ (Nat.le_refl _)
  rw [e2, Nat.add_zero]
  exact sumF_cg _ (fun s hs => (wt_eq hn (by omega) ho).symm)
