/-! ===== plain words: streets drawn ===== -/
set_option maxRecDepth 100000
theorem ctS_lt {t : Nat → Nat} {f x n : Nat} (h : x < n) (hg : goN t x f = true) : ctS t f x < ctS t f n := by
  have h1 : ctS t f (x + 1) ≤ ctS t f n := ctS_mono n h
  have h2 : ctS t f (x + 1) = ctS t f x + 1 := by
    show ctS t f x + (if goN t x f then 1 else 0) = _
    rw [if_pos hg]
  omega
/-- the street of which so many are ahead -/
def nthS (t : Nat → Nat) (f a : Nat) : Nat → Nat
  | 0 => 0
  | x + 1 => if goN t x f = true ∧ ctS t f x = a then x else nthS t f a x
theorem nthS_eq {t : Nat → Nat} {f a x : Nat} (hg : goN t x f = true) (ha : ctS t f x = a) : ∀ n, x < n → nthS t f a n = x := by
  intro n
  induction n with
  | zero => intro h; omega
  | succ n ih =>
    intro h
    unfold nthS
    by_cases z : x = n
    · subst z
      rw [if_pos ⟨hg, ha⟩]
    · rw [if_neg ?_]
      · exact ih (by omega)
      · intro ⟨h1, h2⟩
        have := ctS_lt (show x < n by omega) hg
        omega
/-- drawn numbers -/
def drX (s : Nat) : Nat → Nat
  | 0 => s
  | k + 1 => drX s k * 16807 % 2147483647
theorem drX_lt {s : Nat} (h : s < 2147483647) : ∀ k, drX s k < 2147483647 := by
  intro k
  cases k with
  | zero => exact h
  | succ k => exact Nat.mod_lt _ (by decide)
/-- a street drawn, gone; none: a step alone -/
def drS (u : Nat → Nat) (x : Nat) : Nat → Nat := if ctS u (u 4) (u 25) = 0 then uN u 3 (u 3 + 1) else rdT u (nthS u (u 4) (x % ctS u (u 4) (u 25)) (u 25))
def drT (t : Nat → Nat) (s : Nat) : Nat → Nat → Nat
  | 0 => t
  | k + 1 => drS (drT t s k) (drX s (k + 1))
theorem ctS_ex {t : Nat → Nat} {f a : Nat} : ∀ n, a < ctS t f n → ∃ x, x < n ∧ goN t x f = true ∧ ctS t f x = a := by
  intro n
  induction n with
  | zero => intro h; cases h
  | succ n ih =>
    intro h
    have h' : a < ctS t f n + (if goN t n f then 1 else 0) := h
    by_cases z : a < ctS t f n
    · obtain ⟨x, h1, h2, h3⟩ := ih z
      exact ⟨x, by omega, h2, h3⟩
    · split at h'
      · rename_i hg
        exact ⟨n, by omega, hg, by omega⟩
      · omega
theorem smT_3 {t : Nat → Nat} {v : Nat} (ht : smT t) (h : v ≤ 1100) : smT (uN t 3 v) := by
  obtain ⟨r0, r1, r2, r3, r4, r5, r6, r7, r25, r26⟩ := ht
  refine ⟨r0, r1, r2, h, r4, r5, r6, fun c hc => ?_, r25, fun x hx => ?_⟩
  · have q := r7 c hc
    refine ⟨?_, ?_, ?_⟩ <;> (unfold uN; split <;> omega)
  · have q := r26 x hx
    refine ⟨?_, ?_⟩ <;> (unfold uN; split <;> omega)
theorem drT_sm {t : Nat → Nat} {s : Nat} (ht : smT t) : ∀ k, t 3 + k ≤ 1100 → smT (drT t s k) ∧ drT t s k 3 = t 3 + k := by
  intro k
  induction k with
  | zero => exact fun _ => ⟨ht, rfl⟩
  | succ k ih =>
    intro h
    obtain ⟨h1, h2⟩ := ih (by omega)
    show smT (drS (drT t s k) (drX s (k + 1))) ∧ drS (drT t s k) (drX s (k + 1)) 3 = _
    unfold drS
    split
    · exact ⟨smT_3 h1 (by omega), by rw [uN_s]; omega⟩
    · rename_i hw
      obtain ⟨x, hx, hg, hc⟩ := ctS_ex (t := drT t s k) (f := drT t s k 4) (drT t s k 25) (Nat.mod_lt (drX s (k + 1)) (by omega))
      rw [nthS_eq hg hc _ hx]
      have := h1.2.2.2.2.2.2.2.2.1
      exact ⟨smT_rd h1 (by omega) (by omega), by rw [rdT_3]; omega⟩
theorem nI_none {x : Nat} (h : x < 2 ^ 31) : ¬ nI x = kNONE := by
  intro z
  have q := congrArg Int32.toInt z
  rw [nI_toInt h] at q
  have : (kNONE).toInt = -1000000 := by decide +kernel
  omega
