/-! ===== plain words: how the reference reads a text ===== -/
set_option maxRecDepth 100000
def byt (b : Nat → Nat) (n k : Nat) : Int32 := if k < n then nI (b k) else -1
def dgt (b : Nat → Nat) (n k : Nat) : Bool := inB (byt b n k) (nI 48) (nI 57)
theorem byt_lt {b : Nat → Nat} {n k : Nat} (h : k < n) : byt b n k = nI (b k) := if_pos h
theorem byt_ge {b : Nat → Nat} {n k : Nat} (h : ¬ k < n) : byt b n k = -1 := if_neg h
theorem dgt_n {b : Nat → Nat} {n k : Nat} (hb : ∀ i, b i ≤ 255) (h : dgt b n k = true) : k < n ∧ 48 ≤ b k ∧ b k ≤ 57 := by
  unfold dgt at h
  by_cases z : k < n
  · rw [byt_lt z, inB_i (by have := hb k; omega) (by decide) (by decide)] at h
    exact ⟨z, of_decide_eq_true h⟩
  · rw [byt_ge z] at h
    exact absurd h (by decide +kernel)
/-- how many figures from a place on -/
def dgC (b : Nat → Nat) (n s : Nat) : Nat → Nat → Nat
  | 0, i => i
  | f + 1, i => if dgt b n (s + i) then dgC b n s f (i + 1) else i
/-- the number of the first two of so many figures -/
def dgV (b : Nat → Nat) (s : Nat) : Nat → Nat
  | 0 => 0
  | i + 1 => if i < 2 then 10 * dgV b s i + b (s + i) - 48 else dgV b s i
theorem dgV_le {b : Nat → Nat} {s : Nat} (hb : ∀ i, b i ≤ 255) : ∀ i, dgV b s i ≤ 5000 := by
  have h1 : dgV b s 1 ≤ 255 := by
    show 10 * 0 + b (s + 0) - 48 ≤ 255
    have := hb (s + 0); omega
  have h2 : dgV b s 2 ≤ 5000 := by
    show 10 * dgV b s 1 + b (s + 1) - 48 ≤ 5000
    have := hb (s + 1); omega
  intro i
  induction i with
  | zero => exact Nat.zero_le _
  | succ i ih =>
    by_cases z : i < 2
    · rcases (show i = 0 ∨ i = 1 by omega) with rfl | rfl
      · exact Nat.le_trans h1 (by decide)
      · exact h2
    · show (if i < 2 then _ else dgV b s i) ≤ 5000
      rw [if_neg z]; exact ih
/-- the sort of a sign -/
def tokN (c : Int32) : Nat := if c < 0 then 0 else if inB c (nI 97) (nI 122) then 1 else if c = nI 44 then 3 else if c = nI 59 then 4 else 5
/-- the next token is read -/
def advS (S : ms_T) : ms_T :=
  if dgt (S.2.2.2 5) (S.2.1 6) (S.2.1 9) then
    sN (sN (sF (sN S 10 (S.2.1 9)) 12 (nI (dgV (S.2.2.2 5) (S.2.1 9) (dgC (S.2.2.2 5) (S.2.1 6) (S.2.1 9) 121 0)))) 9 (S.2.1 9 + dgC (S.2.2.2 5) (S.2.1 6) (S.2.1 9) 121 0)) 11 (if dgC (S.2.2.2 5) (S.2.1 6) (S.2.1 9) 121 0 < 3 then 2 else 5)
  else sN (sN (sF (sN S 10 (S.2.1 9)) 12 (byt (S.2.2.2 5) (S.2.1 6) (S.2.1 9))) 11 (tokN (byt (S.2.2.2 5) (S.2.1 6) (S.2.1 9)))) 9 (S.2.1 9 + if tokN (byt (S.2.2.2 5) (S.2.1 6) (S.2.1 9)) = 0 then 0 else 1)
/-- the reader is well laid -/
def pOK (S : ms_T) : Prop := S.2.1 6 ≤ 120 ∧ S.2.1 9 ≤ S.2.1 6 ∧ S.2.1 10 ≤ 120 ∧ S.2.1 11 ≤ 5 ∧ (∀ i, S.2.2.2 5 i ≤ 255) ∧ S.2.2.2 7 6 ≤ 6 ∧ S.2.2.2 7 25 ≤ 8 ∧ S.2.2.2 7 5 < 256
theorem dgC_le {b : Nat → Nat} {n s : Nat} (hb : ∀ i, b i ≤ 255) : ∀ f i, s + i ≤ n → s + dgC b n s f i ≤ n := by
  intro f
  induction f with
  | zero => intro i h; exact h
  | succ f ih =>
    intro i h
    unfold dgC
    split
    · rename_i c
      have := dgt_n hb c
      exact ih (i + 1) (by omega)
    · exact h
theorem sN_self (S : ms_T) (j : Nat) : sN S j (S.2.1 j) = S := by
  unfold sN
  refine Prod.ext rfl (Prod.ext ?_ rfl)
  funext i
  by_cases h : i = j <;> simp [h]
theorem sNF (S : ms_T) (j k a b : Nat) (v w : Int32) : sN (sF (sN (sF S k v) j a) k w) j b = sN (sF S k w) j b := by
  unfold sN sF
  refine Prod.ext ?_ (Prod.ext ?_ rfl)
  · funext i
    by_cases h : i = k <;> simp [h]
  · funext i
    by_cases h : i = j <;> simp [h]
theorem tokN_le (c : Int32) : tokN c ≤ 5 := by
  unfold tokN
  repeat' split
  all_goals decide
theorem advS_t (S : ms_T) : (advS S).2.2 = S.2.2 := by
  unfold advS
  split <;> rfl
theorem advS_8 (S : ms_T) : (advS S).1 8 = S.1 8 := by
  unfold advS
  split <;> rfl
theorem advS_ok {S : ms_T} (h : pOK S) : pOK (advS S) := by
  obtain ⟨h6, h9, h10, h11, h5, hc, hx, ho⟩ := h
  unfold advS
  split
  · have := dgC_le (n := S.2.1 6) (s := S.2.1 9) h5 121 0 h9
    refine ⟨h6, this, by show S.2.1 9 ≤ 120; omega, ?_, h5, hc, hx, ho⟩
    show (if _ < 3 then 2 else 5) ≤ 5
    split <;> decide
  · refine ⟨h6, ?_, by show S.2.1 9 ≤ 120; omega, tokN_le _, h5, hc, hx, ho⟩
    show S.2.1 9 + (if tokN (byt (S.2.2.2 5) (S.2.1 6) (S.2.1 9)) = 0 then 0 else 1) ≤ S.2.1 6
    by_cases z : S.2.1 9 < S.2.1 6
    · split <;> omega
    · rw [byt_ge z, if_pos (by decide +kernel)]
      exact h9
/-- a token is taken, if it is so -/
def takS (S : ms_T) (b : Bool) (k : Nat) : ms_T := if S.1 8 < 0 then (if b then advS S else sN (sF S 8 (nI (S.2.1 10))) 7 k) else S
def takV (S : ms_T) (b : Bool) : Int32 := if S.1 8 < 0 ∧ b = true then S.1 12 else nI 0
theorem takS_ok {S : ms_T} {b : Bool} {k : Nat} (h : pOK S) : pOK (takS S b k) := by
  unfold takS
  split
  · split
    · exact advS_ok h
    · exact h
  · exact h
theorem takS_t (S : ms_T) (b : Bool) (k : Nat) : (takS S b k).2.2 = S.2.2 := by
  unfold takS
  split
  · split
    · exact advS_t S
    · rfl
  · rfl
/-- a figure between two -/
def figB (S : ms_T) (lo hi : Int32) : Bool := if S.1 8 < 0 ∧ ¬ S.2.1 11 = 2 then false else inB (S.1 12) lo hi
def figS (S : ms_T) (lo hi : Int32) : ms_T := takS S (figB S lo hi) (if S.1 8 < 0 ∧ ¬ S.2.1 11 = 2 then 1 else 2)
def figV (S : ms_T) (lo hi : Int32) : Nat := if S.1 8 < 0 ∧ figB S lo hi = true then (S.1 12).toNatClampNeg else 0
def kndN (c : Int32) : Nat := if c = nI 106 then 1 else if c = nI 108 then 2 else if c = nI 104 then 3 else if c = nI 103 then 4 else if c = nI 114 then 5 else 0
theorem kndN_le (c : Int32) : kndN c ≤ 5 := by
  unfold kndN
  repeat' split
  all_goals decide
theorem nI_of_nn {x : Int32} (h : 0 ≤ x) : nI x.toNatClampNeg = x := by
  obtain ⟨j, hj, rfl⟩ := nI_of (Int32.not_lt.mpr h)
  rw [nI_clamp hj]
theorem takV_n {S : ms_T} {b : Bool} {lo : Int32} (h0 : 0 ≤ lo) (h : b = true → lo ≤ S.1 12) : takV S b = nI (if S.1 8 < 0 ∧ b = true then (S.1 12).toNatClampNeg else 0) := by
  unfold takV
  split
  · rename_i c
    exact (nI_of_nn (Int32.le_trans h0 (h c.2))).symm
  · rfl
theorem figA {S : ms_T} {lo hi : Int32} (h : S.1 8 < 0 ∧ ¬ S.2.1 11 = 2) : takV S false = nI (figV S lo hi) ∧ takS S false 1 = figS S lo hi := by
  have e : figB S lo hi = false := by unfold figB; rw [if_pos h]
  constructor
  · unfold takV figV
    rw [if_neg (fun z => by cases z.2), if_neg (fun z => by rw [e] at z; cases z.2)]
  · unfold figS
    rw [e, if_pos h]
theorem figE {S : ms_T} {lo hi : Int32} (h0 : 0 ≤ lo) (h : ¬ (S.1 8 < 0 ∧ ¬ S.2.1 11 = 2)) : takV S (inB (S.1 12) lo hi) = nI (figV S lo hi) ∧ takS S (inB (S.1 12) lo hi) 2 = figS S lo hi := by
  have e : figB S lo hi = inB (S.1 12) lo hi := by unfold figB; rw [if_neg h]
  constructor
  · rw [takV_n h0 (fun z => (of_decide_eq_true z).1)]
    unfold figV
    rw [e]
  · unfold figS
    rw [e, if_neg h]
theorem figS_ok {S : ms_T} {lo hi : Int32} (h : pOK S) : pOK (figS S lo hi) := takS_ok h
/-- a street is told already -/
def stB (T : Nat → Nat) (f : Nat) (v : Int32) : Nat → Bool
  | 0 => false
  | x + 1 => stB T f v x || (decide (nI (T (26 + 2 * x)) = nI f) && decide (nI (T (26 + 2 * x + 1)) = v))
def tofB (S : ms_T) (f : Nat) : Bool := if S.1 8 < 0 ∧ ¬ S.2.1 11 = 2 then false else (inB (S.1 12) (nI 0) (nI (S.2.2.2 7 6) - nI 1) && (!decide (S.1 12 = nI f) && !stB (S.2.2.2 7) f (S.1 12) (S.2.2.2 7 25)))
def tofS (S : ms_T) (f : Nat) : ms_T := takS S (tofB S f) (if S.1 8 < 0 ∧ ¬ S.2.1 11 = 2 then 1 else 2)
def tofV (S : ms_T) (f : Nat) : Nat := if S.1 8 < 0 ∧ tofB S f = true then (S.1 12).toNatClampNeg else 0
theorem tofS_ok {S : ms_T} {f : Nat} (h : pOK S) : pOK (tofS S f) := takS_ok h
theorem tofA {S : ms_T} {f : Nat} (h : S.1 8 < 0 ∧ ¬ S.2.1 11 = 2) : takV S false = nI (tofV S f) ∧ takS S false 1 = tofS S f := by
  have e : tofB S f = false := by unfold tofB; rw [if_pos h]
  constructor
  · unfold takV tofV
    rw [if_neg (fun z => by cases z.2), if_neg (fun z => by rw [e] at z; cases z.2)]
  · unfold tofS
    rw [e, if_pos h]
theorem tofE {S : ms_T} {f : Nat} (h : ¬ (S.1 8 < 0 ∧ ¬ S.2.1 11 = 2)) : takV S (inB (S.1 12) (nI 0) (nI (S.2.2.2 7 6) - nI 1) && (!decide (S.1 12 = nI f) && !stB (S.2.2.2 7) f (S.1 12) (S.2.2.2 7 25))) = nI (tofV S f) ∧ takS S (inB (S.1 12) (nI 0) (nI (S.2.2.2 7 6) - nI 1) && (!decide (S.1 12 = nI f) && !stB (S.2.2.2 7) f (S.1 12) (S.2.2.2 7 25))) 2 = tofS S f := by
  have e : tofB S f = (inB (S.1 12) (nI 0) (nI (S.2.2.2 7 6) - nI 1) && (!decide (S.1 12 = nI f) && !stB (S.2.2.2 7) f (S.1 12) (S.2.2.2 7 25))) := by unfold tofB; rw [if_neg h]
  constructor
  · rw [takV_n (lo := nI 0) (by decide +kernel) (fun z => by
      rw [Bool.and_eq_true] at z
      exact (of_decide_eq_true z.1).1)]
    unfold tofV
    rw [e]
  · unfold tofS
    rw [e, if_neg h]
