/-! ===== plain words: what fits, what is shared, the streets from a corner ===== -/
set_option maxRecDepth 100000
/-- what keeps two rows from being read -/
def barN (S : ms_T) (r : Nat) (i : Int32) (q : Nat) (j n : Int32) : Nat := if S.2.2.1 1 r = kNONE then 1 else if partB (S.2.2.2 2 r) i n = false then 2 else if S.2.2.1 1 q = kNONE then 1 else if partB (S.2.2.2 2 q) j n = false then 2 else 0
theorem barN_0 {S : ms_T} {r q : Nat} {i j n : Int32} (h : barN S r i q j n = 0) : ¬ S.2.2.1 1 r = kNONE ∧ partB (S.2.2.2 2 r) i n = true ∧ ¬ S.2.2.1 1 q = kNONE ∧ partB (S.2.2.2 2 q) j n = true := by
  unfold barN at h
  split at h
  · cases h
  · rename_i h1
    split at h
    · cases h
    · rename_i h2
      split at h
      · cases h
      · rename_i h3
        split at h
        · cases h
        · rename_i h4
          exact ⟨h1, by simpa using h2, h3, by simpa using h4⟩
theorem partB_m {m b : Nat} {i : Int32} (hm : m < 2 ^ 30) (hb : b < 2 ^ 31) (h : partB m i (nI b) = true) : ∃ a : Nat, i = nI a ∧ a + b ≤ m := by
  obtain ⟨a, c, h1, h2, h3⟩ := partB_n hm h
  have : b = c := (nI_eq hb (by omega)).mp h2
  exact ⟨a, h1, by omega⟩
theorem alF_s {it : Nat → Int32} {t : Nat → Nat} {pl lo p f n v : Nat} (h : lo ≤ v) : alF it t pl lo p f n (v + 1 - lo) = alF it t pl lo p f n (v - lo) ||| (if (gsF it (uN t pl v) p f n).1 then 2 ^ v else 0) := by
  rw [show v + 1 - lo = (v - lo) + 1 by omega]
  show _ ||| (if (gsF it (uN t pl (lo + (v - lo))) p f n).1 then 2 ^ (lo + (v - lo)) else 0) = _
  rw [show lo + (v - lo) = v by omega]
theorem alF_lt {it : Nat → Int32} {t : Nat → Nat} {pl lo p f n : Nat} : ∀ k, lo + k ≤ 10 → alF it t pl lo p f n k < 2 ^ 10 := by
  intro k
  induction k with
  | zero => intro _; exact (by decide : 0 < 2 ^ 10)
  | succ k ih =>
    intro h
    refine Nat.or_lt_two_pow (n := 10) (ih (by omega)) ?_
    split
    · exact Nat.pow_lt_pow_right (by decide) (by omega)
    · decide
/-- the town that is tried, after so many -/
def alT (it : Nat → Int32) (t t8 : Nat → Nat) (pl lo p f n : Nat) : Nat → Nat → Nat
  | 0 => t8
  | k + 1 => (gsF it (uN t pl (lo + k)) p f n).2
theorem alT_s {it : Nat → Int32} {t t8 : Nat → Nat} {pl lo p f n v : Nat} (h : lo ≤ v) : alT it t t8 pl lo p f n (v + 1 - lo) = (gsF it (uN t pl v) p f n).2 := by
  rw [show v + 1 - lo = (v - lo) + 1 by omega]
  show (gsF it (uN t pl (lo + (v - lo))) p f n).2 = _
  rw [show lo + (v - lo) = v by omega]
theorem smT_u {t : Nat → Nat} {pl v : Nat} (ht : smT t) (h : (pl = 0 ∧ v ≤ 9) ∨ (pl = 1 ∧ v ≤ 9) ∨ ∃ c, c < 6 ∧ ((pl = 7 + 3 * c ∧ v ≤ 5) ∨ (pl = 7 + 3 * c + 1 ∧ v ≤ 9))) : smT (uN t pl v) := by
  obtain ⟨r0, r1, r2, r3, r4, r5, r6, r7, r25, r26⟩ := ht
  rcases h with ⟨rfl, hv⟩ | ⟨rfl, hv⟩ | ⟨c, hc, ⟨rfl, hv⟩ | ⟨rfl, hv⟩⟩ <;>
  refine ⟨?_, ?_, ?_, ?_, ?_, ?_, ?_, fun c' hc' => ?_, ?_, fun x hx => ?_⟩ <;>
  first
  | (have q := r7 c' hc'; refine ⟨?_, ?_, ?_⟩ <;> (unfold uN; split <;> omega))
  | (have q := r26 x hx; refine ⟨?_, ?_⟩ <;> (unfold uN; split <;> omega))
  | (unfold uN; split <;> omega)
/-- streets of a row gone one by one: the town, what is owed, whether -/
def shU (it : Nat → Int32) (t : Nat → Nat) (f : Nat) : Nat → Nat → Nat
  | 0 => t
  | k + 1 => rdT (shU it t f k) (it (f + k)).toNatClampNeg
def shA (it : Nat → Int32) (t : Nat → Nat) (f c : Nat) : Nat → Nat
  | 0 => 0
  | k + 1 => shA it t f c k + (if k < c then 0 else csd (shU it t f k) (shU it t f k (26 + 2 * (it (f + k)).toNatClampNeg + 1)) (shU it t f k 1) (shU it t f k 3) / 2)
def shB (it : Nat → Int32) (t : Nat → Nat) (f : Nat) : Nat → Bool
  | 0 => true
  | k + 1 => shB it t f k && goB (shU it t f k) (it (f + k)) (shU it t f k 4)
theorem shB_f {it : Nat → Int32} {t : Nat → Nat} {f k : Nat} (h : shB it t f k = false) : ∀ n, k ≤ n → shB it t f n = false := by
  intro n hn
  induction n with
  | zero => rw [show k = 0 by omega] at h; exact h
  | succ n ih =>
    by_cases z : k = n + 1
    · subst z; exact h
    · show (shB it t f n && _) = false
      rw [ih (by omega)]; rfl
theorem shU_sm {it : Nat → Int32} {t : Nat → Nat} {f : Nat} (ht : smT t) : ∀ n, t 3 + n ≤ 1100 → shB it t f n = true → smT (shU it t f n) ∧ shU it t f n 3 = t 3 + n := by
  intro n
  induction n with
  | zero => exact fun _ _ => ⟨ht, rfl⟩
  | succ n ih =>
    intro h hb
    have hb' : (shB it t f n && goB (shU it t f n) (it (f + n)) (shU it t f n 4)) = true := hb
    rw [Bool.and_eq_true] at hb'
    obtain ⟨h1, h2⟩ := ih (by omega) hb'.1
    obtain ⟨x, hx, hl, -⟩ := goB_n (by have := h1.2.2.2.2.2.2.2.2.1; omega) hb'.2
    have hx8 : x < 8 := by have := h1.2.2.2.2.2.2.2.2.1; omega
    show smT (rdT (shU it t f n) (it (f + n)).toNatClampNeg) ∧ rdT (shU it t f n) (it (f + n)).toNatClampNeg 3 = _
    rw [hx, nI_clamp (by omega)]
    exact ⟨smT_rd h1 (by omega) hx8, by rw [rdT_3]; omega⟩
theorem shA_le {it : Nat → Int32} {t : Nat → Nat} {f c : Nat} (ht : smT t) : ∀ n, t 3 + n ≤ 1100 → shB it t f n = true → shA it t f c n ≤ 45 * n := by
  intro n
  induction n with
  | zero => exact fun _ _ => Nat.le_refl 0
  | succ n ih =>
    intro h hb
    have hb' : (shB it t f n && goB (shU it t f n) (it (f + n)) (shU it t f n 4)) = true := hb
    rw [Bool.and_eq_true] at hb'
    have q := ih (by omega) hb'.1
    obtain ⟨h1, h2⟩ := shU_sm ht n (by omega) hb'.1
    obtain ⟨x, hx, hl, -⟩ := goB_n (by have := h1.2.2.2.2.2.2.2.2.1; omega) hb'.2
    have hx8 : x < 8 := by have := h1.2.2.2.2.2.2.2.2.1; omega
    show shA it t f c n + (if n < c then 0 else csd (shU it t f n) (shU it t f n (26 + 2 * (it (f + n)).toNatClampNeg + 1)) (shU it t f n 1) (shU it t f n 3) / 2) ≤ _
    rw [hx, nI_clamp (by omega)]
    have hc := csd_le (step := shU it t f n 3) h1 (h1.2.2.2.2.2.2.2.2.2 x hx8).2 h1.2.1
    split <;> omega
/-- how many of the first streets go from a corner -/
def ctS (t : Nat → Nat) (f : Nat) : Nat → Nat
  | 0 => 0
  | x + 1 => ctS t f x + (if goN t x f then 1 else 0)
theorem ctS_mono {t : Nat → Nat} {f x : Nat} : ∀ y, x ≤ y → ctS t f x ≤ ctS t f y := by
  intro y h
  induction y with
  | zero => rw [show x = 0 by omega]; exact Nat.le_refl _
  | succ y ih =>
    by_cases z : x = y + 1
    · rw [z]; exact Nat.le_refl _
    · have := ih (by omega)
      show _ ≤ ctS t f y + _
      omega
theorem ctS_le {t : Nat → Nat} {f : Nat} : ∀ y, ctS t f y ≤ y := by
  intro y
  induction y with
  | zero => exact Nat.le_refl _
  | succ y ih =>
    show ctS t f y + (if goN t y f then 1 else 0) ≤ _
    split <;> omega
theorem nI_dec {a : Nat} (h : 0 < a) : nI a + (-1) = nI (a - 1) := by
  have : nI a + -nI 1 = nI (a - 1) := nI_addneg h
  rw [← this]
  rfl
