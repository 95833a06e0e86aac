/-! ===== plain words: rides one after another ===== -/
set_option maxRecDepth 100000
theorem sB_self (S : ms_T) (j : Nat) : sB S j (S.2.2.2 j) = S := by
  unfold sB
  refine Prod.ext rfl (Prod.ext rfl (Prod.ext rfl ?_))
  funext i
  by_cases h : i = j <;> simp [h]
theorem sB_sB (S : ms_T) (j : Nat) (f g : Nat → Nat) : sB (sB S j f) j g = sB S j g := by
  unfold sB
  refine Prod.ext rfl (Prod.ext rfl (Prod.ext rfl ?_))
  funext i
  by_cases h : i = j <;> simp [h]
theorem smT_rd {t : Nat → Nat} {x : Nat} (ht : smT t) (h3 : t 3 ≤ 1099) (hx : x < 8) : smT (rdT t x) := by
  have hp := psd_le (t := t) (c := t (26 + 2 * x + 1)) (step := t 3) ht.2.1
  obtain ⟨r0, r1, r2, r3, r4, r5, r6, r7, r25, r26⟩ := ht
  have rx := r26 x hx
  have e : ∀ i, i ≠ 2 → i ≠ 1 → i ≠ 4 → i ≠ 3 → rdT t x i = t i := fun i a b c d => by
    unfold rdT
    rw [uN_n d, uN_n c, uN_n b, uN_n a]
  have e3 : rdT t x 3 = t 3 + 1 := uN_s
  have e4 : rdT t x 4 = t (26 + 2 * x + 1) := by unfold rdT; rw [uN_n (by omega), uN_s]
  have e1 : rdT t x 1 = psd t (t (26 + 2 * x + 1)) (t 1) (t 3) := by unfold rdT; rw [uN_n (by omega), uN_n (by omega), uN_s]
  have e2 : rdT t x 2 ≤ 9999 := by
    have : rdT t x 2 = min 9999 (t 2 + csd t (t (26 + 2 * x + 1)) (t 1) (t 3)) := by unfold rdT; rw [uN_n (by omega), uN_n (by omega), uN_n (by omega), uN_s]
    omega
  refine ⟨by rw [e 0 (by omega) (by omega) (by omega) (by omega)]; exact r0, by rw [e1]; exact hp, e2, by rw [e3]; omega, by rw [e4]; exact rx.2, by rw [e 5 (by omega) (by omega) (by omega) (by omega)]; exact r5, by rw [e 6 (by omega) (by omega) (by omega) (by omega)]; exact r6, fun c hc => ?_, by rw [e 25 (by omega) (by omega) (by omega) (by omega)]; exact r25, fun y hy => ?_⟩
  · rw [e _ (by omega) (by omega) (by omega) (by omega), e _ (by omega) (by omega) (by omega) (by omega), e _ (by omega) (by omega) (by omega) (by omega)]
    exact r7 c hc
  · rw [e _ (by omega) (by omega) (by omega) (by omega), e _ (by omega) (by omega) (by omega) (by omega)]
    exact r26 y hy
theorem rdT_3 (t : Nat → Nat) (x : Nat) : rdT t x 3 = t 3 + 1 := uN_s
/-- streets of a row gone, each at a told cost: whether so far, and the town then -/
def gsF (it : Nat → Int32) (t : Nat → Nat) (p f : Nat) : Nat → Bool × (Nat → Nat)
  | 0 => (true, t)
  | k + 1 => if (gsF it t p f k).1 && (goB (gsF it t p f k).2 (it (f + k)) ((gsF it t p f k).2 4) && decide (nI (csd (gsF it t p f k).2 ((gsF it t p f k).2 (26 + 2 * (it (f + k)).toNatClampNeg + 1)) ((gsF it t p f k).2 1) ((gsF it t p f k).2 3)) = it (p + k))) then (true, rdT (gsF it t p f k).2 (it (f + k)).toNatClampNeg) else (false, (gsF it t p f k).2)
theorem gsF_s (it : Nat → Int32) (t : Nat → Nat) (p f k : Nat) : gsF it t p f (k + 1) = if (gsF it t p f k).1 && (goB (gsF it t p f k).2 (it (f + k)) ((gsF it t p f k).2 4) && decide (nI (csd (gsF it t p f k).2 ((gsF it t p f k).2 (26 + 2 * (it (f + k)).toNatClampNeg + 1)) ((gsF it t p f k).2 1) ((gsF it t p f k).2 3)) = it (p + k))) then (true, rdT (gsF it t p f k).2 (it (f + k)).toNatClampNeg) else (false, (gsF it t p f k).2) := rfl
theorem gsF_f {it : Nat → Int32} {t : Nat → Nat} {p f k : Nat} (h : (gsF it t p f k).1 = false) : ∀ n, k ≤ n → gsF it t p f n = (false, (gsF it t p f k).2) := by
  intro n hn
  induction n with
  | zero =>
    have : k = 0 := by omega
    subst this
    exact Prod.ext h rfl
  | succ n ih =>
    by_cases z : k = n + 1
    · subst z
      exact Prod.ext h rfl
    · have q := ih (by omega)
      rw [gsF_s, q]
      simp
theorem gsF_sm {it : Nat → Int32} {t : Nat → Nat} {p f : Nat} (ht : smT t) : ∀ n, t 3 + n ≤ 1100 → smT (gsF it t p f n).2 ∧ (gsF it t p f n).2 3 ≤ t 3 + n := by
  intro n
  induction n with
  | zero => exact fun h => ⟨ht, Nat.le_refl _⟩
  | succ n ih =>
    intro h
    obtain ⟨h1, h2⟩ := ih (by omega)
    rw [gsF_s]
    split
    · rename_i c
      simp only [Bool.and_eq_true] at c
      obtain ⟨x, hx, hl, -⟩ := goB_n (by have := h1.2.2.2.2.2.2.2.2.1; omega) c.2.1
      have hx8 : x < 8 := by have := h1.2.2.2.2.2.2.2.2.1; omega
      rw [hx, nI_clamp (by omega)]
      exact ⟨smT_rd h1 (by omega) hx8, by show rdT (gsF it t p f n).2 x 3 ≤ _; rw [rdT_3]; omega⟩
    · exact ⟨h1, by show (gsF it t p f n).2 3 ≤ _; omega⟩
/-- all values of a place of a town that go with two rows -/
def alF (it : Nat → Int32) (t : Nat → Nat) (pl lo p f n : Nat) : Nat → Nat
  | 0 => 0
  | k + 1 => alF it t pl lo p f n k ||| (if (gsF it (uN t pl (lo + k)) p f n).1 then 2 ^ (lo + k) else 0)
/-- what one owes: halves of the costs from a place on; none if it can't be gone -/
def owF (it : Nat → Int32) (t : Nat → Nat) (f c : Nat) : Nat → Option (Nat × (Nat → Nat))
  | 0 => some (0, t)
  | k + 1 => match owF it t f c k with
    | none => none
    | some (a, u) => if goB u (it (f + k)) (u 4) then some (a + (if k < c then 0 else csd u (u (26 + 2 * (it (f + k)).toNatClampNeg + 1)) (u 1) (u 3) / 2), rdT u (it (f + k)).toNatClampNeg) else none
/-- how a corner that is no grief is marked -/
def jmS (S : ms_T) (c : Nat) : ms_T := tpS (tpS (if S.2.2.2 6 (7 + 3 * c) = 1 then S else tpS S (if S.2.2.2 6 (7 + 3 * c) = 2 then 24 else 22)) 21) 20
def jmV (t : Nat → Nat) (c : Nat) : Int32 := if t (7 + 3 * c) = 2 then nI (2 * (c + t (7 + 3 * c + 1))) else if t (7 + 3 * c) = 3 then nI (c + t (7 + 3 * c + 1)) - nI 1000 else nI (c + t (7 + 3 * c + 1))
def gzS (S : ms_T) (c : Nat) : ms_T := tpS (tpS (if S.2.2.2 6 (7 + 3 * c) = 5 then tpS S 14 else S) 13) 10
def gzV (t : Nat → Nat) (c : Nat) : Int32 := if t (7 + 3 * c) = 5 then nI 2 * (nI (t (7 + 3 * c + 2)) - nI 100) else nI (t (7 + 3 * c + 2)) - nI 100
def jzS (S : ms_T) (c : Nat) : ms_T := jmS (tpS (tpS (if S.2.2.2 6 (7 + 3 * c) = 2 then tpS S 12 else S) 11) 10) c
def jzV (t : Nat → Nat) (c : Nat) : Int32 := if t (7 + 3 * c) = 2 then -(nI (t (7 + 3 * c + 2)) + jmV t c) else nI (t (7 + 3 * c + 2)) + jmV t c
def gmS (S : ms_T) (c : Nat) : ms_T := gzS (tpS (tpS S 23) 20) c
def gmV (t : Nat → Nat) (c : Nat) : Int32 := nI c - gzV t c
theorem tpS_n (S : ms_T) (b : Nat) : (tpS S b).2.1 31 = S.2.1 31 + 1 := rfl
theorem tpS_t (S : ms_T) (b : Nat) : (tpS S b).2.2.2 6 = S.2.2.2 6 := rfl
/-- how many rows there are -/
def cntF (f : Nat → Int32) : Nat → Nat
  | 0 => 0
  | k + 1 => cntF f k + (if f k = kNONE then 0 else 1)
