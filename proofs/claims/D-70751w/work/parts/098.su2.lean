/-! ===== sums over sets of streets, turned over ===== -/
set_option maxRecDepth 100000
def RS (op : Nat) : Nat → (Nat → Nat) → Nat
  | 0, h => h 0
  | n + 1, h => RS op n h + (if hasN op n then RS op n (fun s => h (2 ^ n + s)) else 0)
theorem RS_cg {op : Nat} : ∀ n {f g : Nat → Nat}, (∀ s, s < 2 ^ n → f s = g s) → RS op n f = RS op n g := by
  intro n
  induction n with
  | zero => intro f g h; exact h 0 (by decide)
  | succ n ih =>
    intro f g h
    have h2 : 2 ^ (n + 1) = 2 ^ n + 2 ^ n := by rw [Nat.pow_succ]; omega
    show RS op n f + _ = RS op n g + _
    rw [ih (f := f) (g := g) (fun s hs => h s (by omega)), ih (f := fun s => f (2 ^ n + s)) (g := fun s => g (2 ^ n + s)) (fun s hs => h (2 ^ n + s) (by omega))]
def cm (op : Nat) : Nat → Nat → Nat
  | 0, _ => 0
  | n + 1, s => cm op n s + (if hasN op n && !hasN s n then 2 ^ n else 0)
theorem hasN_lt {s n : Nat} (h : s < 2 ^ n) : hasN s n = false := by
  rw [hasN_tb]
  exact Nat.testBit_lt_two_pow h
theorem hasN_hi {s n : Nat} (h : s < 2 ^ n) : hasN (2 ^ n + s) n = true := by
  rw [hasN_tb, Nat.testBit_two_pow_add_eq, Nat.testBit_lt_two_pow h]
  rfl
theorem cm_lo (op : Nat) : ∀ n s a, n ≤ a → cm op n (2 ^ a + s) = cm op n s := by
  intro n
  induction n with
  | zero => intro s a _; rfl
  | succ n ih =>
    intro s a h
    have e : hasN (2 ^ a + s) n = hasN s n := by
      rw [hasN_tb, hasN_tb]
      exact Nat.testBit_two_pow_add_gt (by omega) s
    show cm op n (2 ^ a + s) + _ = cm op n s + _
    rw [ih s a (by omega), e]
theorem RS_cm (op : Nat) : ∀ n (h : Nat → Nat), RS op n (fun s => h (cm op n s)) = RS op n h := by
  intro n
  induction n with
  | zero => intro h; rfl
  | succ n ih =>
    intro h
    show RS op n (fun s => h (cm op (n + 1) s)) + (if hasN op n then RS op n (fun s => h (cm op (n + 1) (2 ^ n + s))) else 0) = RS op n h + (if hasN op n then RS op n (fun s => h (2 ^ n + s)) else 0)
    by_cases ho : hasN op n = true
    · have e1 : RS op n (fun s => h (cm op (n + 1) s)) = RS op n (fun s => h (2 ^ n + cm op n s)) := RS_cg n (fun s hs => by
        show h (cm op n s + _) = _
        rw [ho, hasN_lt hs]
        simp [Nat.add_comm])
      have e2 : RS op n (fun s => h (cm op (n + 1) (2 ^ n + s))) = RS op n (fun s => h (cm op n s)) := RS_cg n (fun s hs => by
        show h (cm op n (2 ^ n + s) + _) = _
        rw [hasN_hi hs, cm_lo op n s n (Nat.le_refl _)]
        simp)
      rw [if_pos ho, if_pos ho, e1, e2, ih h, ih (fun s => h (2 ^ n + s))]
      omega
    · have e1 : RS op n (fun s => h (cm op (n + 1) s)) = RS op n (fun s => h (cm op n s)) := RS_cg n (fun s hs => by
        show h (cm op n s + _) = _
        simp [ho])
      rw [if_neg ho, if_neg ho, e1, ih h]
theorem cm_lt (op : Nat) : ∀ n s, cm op n s < 2 ^ n := by
  intro n
  induction n with
  | zero => intro s; exact Nat.zero_lt_one
  | succ n ih =>
    intro s
    have := ih s
    show cm op n s + _ < 2 ^ (n + 1)
    rw [Nat.pow_succ]
    split <;> omega
theorem cm_tb (op : Nat) : ∀ n s k, (cm op n s).testBit k = (decide (k < n) && (op.testBit k && !s.testBit k)) := by
  intro n
  induction n with
  | zero => intro s k; show (0 : Nat).testBit k = _; simp
  | succ n ih =>
    intro s k
    have hl := cm_lt op n s
    show (cm op n s + (if hasN op n && !hasN s n then 2 ^ n else 0)).testBit k = _
    rw [hasN_tb, hasN_tb]
    by_cases z : k = n
    · subst z
      cases ho : op.testBit k <;> cases hs : s.testBit k <;> simp [Nat.testBit_lt_two_pow hl]
      rw [Nat.add_comm, Nat.testBit_two_pow_add_eq, Nat.testBit_lt_two_pow hl]
      rfl
    · by_cases hk : k < n
      · have e : ∀ b : Bool, (cm op n s + (if b then 2 ^ n else 0)).testBit k = (cm op n s).testBit k := by
          intro b
          cases b
          · rfl
          · simp only [if_true]
            rw [Nat.add_comm]
            exact Nat.testBit_two_pow_add_gt hk _
        rw [e, ih]
        simp [hk, Nat.lt_succ_of_lt hk]
      · have hl2 : cm op n s + (if op.testBit n && !s.testBit n then 2 ^ n else 0) < 2 ^ k := by
          have hp : 2 ^ (n + 1) ≤ 2 ^ k := Nat.pow_le_pow_right (by decide) (by omega)
          rw [Nat.pow_succ] at hp
          split <;> omega
        rw [Nat.testBit_lt_two_pow hl2]
        simp
        omega
theorem andn_cm {op s n : Nat} (hn : n ≤ 8) (ho : op < 2 ^ n) : andn op s = cm op n s := by
  apply Nat.eq_of_testBit_eq
  intro k
  rw [cm_tb]
  by_cases hk : k < n
  · rw [andn_tb op s k (by omega)]
    simp [hk]
  · unfold andn
    rw [Nat.testBit_and, Nat.testBit_lt_two_pow (Nat.lt_of_lt_of_le ho (Nat.pow_le_pow_right (by decide) (by omega)))]
    simp [hk]
def sbn (op : Nat) : Nat → Nat → Bool
  | 0, _ => true
  | n + 1, s => sbn op n s && (hasN op n || !hasN s n)
theorem sbn_lo (op : Nat) : ∀ n s a, n ≤ a → sbn op n (2 ^ a + s) = sbn op n s := by
  intro n
  induction n with
  | zero => intro s a _; rfl
  | succ n ih =>
    intro s a h
    have e : hasN (2 ^ a + s) n = hasN s n := by
      rw [hasN_tb, hasN_tb]
      exact Nat.testBit_two_pow_add_gt (by omega) s
    show (sbn op n (2 ^ a + s) && _) = (sbn op n s && _)
    rw [ih s a (by omega), e]
theorem sum_RS (op : Nat) : ∀ n (h : Nat → Nat), sumF (fun s => if sbn op n s then h s else 0) (2 ^ n) = RS op n h := by
  intro n
  induction n with
  | zero => intro h; exact Nat.zero_add _
  | succ n ih =>
    intro h
    rw [show 2 ^ (n + 1) = 2 ^ n + 2 ^ n by rw [Nat.pow_succ]; omega, sumF_add]
    have e1 : sumF (fun s => if sbn op (n + 1) s then h s else 0) (2 ^ n) = sumF (fun s => if sbn op n s then h s else 0) (2 ^ n) := sumF_cg _ (fun s hs => by
      show (if (sbn op n s && _) = true then _ else _) = _
      rw [hasN_lt hs]
      simp)
    have e2 : sumF (fun s => if sbn op (n + 1) (2 ^ n + s) then h (2 ^ n + s) else 0) (2 ^ n) = if hasN op n then RS op n (fun s => h (2 ^ n + s)) else 0 := by
      by_cases ho : hasN op n = true
      · rw [if_pos ho, ← ih (fun s => h (2 ^ n + s))]
        exact sumF_cg _ (fun s hs => by
          show (if (sbn op n (2 ^ n + s) && _) = true then _ else _) = _
          rw [ho, sbn_lo op n s n (Nat.le_refl _)]
          simp)
      · rw [if_neg ho]
        have : ∀ m, m ≤ 2 ^ n → sumF (fun s => if sbn op (n + 1) (2 ^ n + s) then h (2 ^ n + s) else 0) m = 0 := by
          intro m
          induction m with
          | zero => intro _; rfl
          | succ m ih2 =>
            intro hm
            show sumF _ m + (if (sbn op n (2 ^ n + m) && _) = true then _ else _) = 0
            rw [ih2 (by omega), hasN_hi (show m < 2 ^ n by omega)]
            simp [ho]
        exact this _ (Nat.le_refl _)
    rw [e1, ih h, e2]
    rfl
theorem sbn_iff (op : Nat) : ∀ n s, sbn op n s = true ↔ ∀ k, k < n → hasN s k = true → hasN op k = true := by
  intro n
  induction n with
  | zero => intro s; exact ⟨fun _ k hk => by omega, fun _ => rfl⟩
  | succ n ih =>
    intro s
    show (sbn op n s && (hasN op n || !hasN s n)) = true ↔ _
    rw [Bool.and_eq_true, ih s]
    constructor
    · intro ⟨a, b⟩ k hk h1
      by_cases z : k = n
      · subst z
        rw [h1] at b
        simpa using b
      · exact a k (by omega) h1
    · intro a
      refine ⟨fun k hk h1 => a k (by omega) h1, ?_⟩
      cases hs : hasN s n with
      | false => simp
      | true => rw [a n (by omega) hs]; rfl
theorem subB_sbn {s op n : Nat} (hn : n ≤ 8) (hs : s < 2 ^ n) (ho : op < 2 ^ n) : subB s op = sbn op n s := by
  have h2 : 2 ^ n ≤ 2 ^ 8 := Nat.pow_le_pow_right (by decide) hn
  rw [subB_N (by omega) (by omega)]
  by_cases h : andn s op = 0
  · rw [decide_eq_true h]
    refine ((sbn_iff op n s).mpr (fun k hk h1 => ?_)).symm
    have := andn_tb s op k (by omega)
    rw [h, Nat.zero_testBit] at this
    rw [hasN_tb] at h1 ⊢
    rw [h1] at this
    simpa using this.symm
  · rw [decide_eq_false h]
    cases hz : sbn op n s with
    | false => rfl
    | true =>
      exfalso
      apply h
      apply Nat.eq_of_testBit_eq
      intro k
      rw [Nat.zero_testBit]
      by_cases hk : k < n
      · rw [andn_tb s op k (by omega)]
        cases z : s.testBit k with
        | false => rfl
        | true =>
          have := (sbn_iff op n s).mp hz k hk (by rw [hasN_tb]; exact z)
          rw [hasN_tb] at this
          rw [this]
          rfl
      · unfold andn
        rw [Nat.testBit_and, Nat.testBit_lt_two_pow (Nat.lt_of_lt_of_le hs (Nat.pow_le_pow_right (by decide) (by omega)))]
        rfl
/-- **sets within the open ones, turned over** -/
theorem sum_turn {op n : Nat} (hn : n ≤ 8) (ho : op < 2 ^ n) (h : Nat → Nat) : sumF (fun s => if subB s op then h (andn op s) else 0) (2 ^ n) = sumF (fun s => if subB s op then h s else 0) (2 ^ n) := by
  have e1 : sumF (fun s => if subB s op then h (andn op s) else 0) (2 ^ n) = sumF (fun s => if sbn op n s then (fun s => h (cm op n s)) s else 0) (2 ^ n) := sumF_cg _ (fun s hs => by rw [subB_sbn hn hs ho, andn_cm hn ho])
  have e2 : sumF (fun s => if subB s op then h s else 0) (2 ^ n) = sumF (fun s => if sbn op n s then h s else 0) (2 ^ n) := sumF_cg _ (fun s hs => by rw [subB_sbn hn hs ho])
  rw [e1, e2, sum_RS, sum_RS, RS_cm]
