/-! ===== plain words: rows of streets, one after another (the reference's way) ===== -/
set_option maxRecDepth 100000
/-- the first street from a place on that goes from a corner -/
def fstS (t : Nat → Nat) (f : Nat) : Nat → Nat → Option Nat
  | 0, _ => none
  | n + 1, x => if goN t x f then some x else fstS t f n (x + 1)
theorem fstS_s {t : Nat → Nat} {f x : Nat} (hx : x < t 25) (h : goN t x f = false) : fstS t f (t 25 - x) x = fstS t f (t 25 - (x + 1)) (x + 1) := by
  obtain ⟨m, hm⟩ : ∃ m, t 25 - x = m + 1 := ⟨t 25 - x - 1, by omega⟩
  rw [hm, show t 25 - (x + 1) = m by omega]
  simp [fstS, h]
theorem fstS_t {t : Nat → Nat} {f x : Nat} (hx : x < t 25) (h : goN t x f = true) : fstS t f (t 25 - x) x = some x := by
  obtain ⟨m, hm⟩ : ∃ m, t 25 - x = m + 1 := ⟨t 25 - x - 1, by omega⟩
  rw [hm]
  simp [fstS, h]
theorem fstS_e {t : Nat → Nat} {f x : Nat} (hx : t 25 ≤ x) : fstS t f (t 25 - x) x = none := by
  rw [show t 25 - x = 0 by omega]
  rfl
/-- a street more on the row of d streets -/
def addS (S : ms_T) (d x : Nat) : ms_T :=
  sF (sB (sB (sB (sB (sB S 12 (uN (S.2.2.2 12) d x)) 13 (uN (S.2.2.2 13) d (x + 1))) 14 (uN (S.2.2.2 14) (d + 1) (S.2.2.2 8 (26 + 2 * x + 1)))) 15 (uN (S.2.2.2 15) (d + 1) (psd (S.2.2.2 8) (S.2.2.2 8 (26 + 2 * x + 1)) (S.2.2.2 15 d) (S.2.2.2 8 3 + d)))) 16 (uN (S.2.2.2 16) (d + 1) (S.2.2.2 16 d + csd (S.2.2.2 8) (S.2.2.2 8 (26 + 2 * x + 1)) (S.2.2.2 15 d) (S.2.2.2 8 3 + d)))) 20 (nI (d + 1))
/-- back over so many streets, till one can be taken anew -/
def bckS (S : ms_T) : Nat → Bool × ms_T
  | 0 => (false, sF S 20 (-1))
  | l + 1 => match fstS (S.2.2.2 8) (S.2.2.2 14 l) (S.2.2.2 8 25 - S.2.2.2 13 l) (S.2.2.2 13 l) with
    | some x => (true, addS S l x)
    | none => bckS S l
/-- the next row, of at most 'most' streets; the present one has d -/
def gonS (S : ms_T) (most d : Nat) : Bool × ms_T := if d < most then bckS (sB S 13 (uN (S.2.2.2 13) d 0)) (d + 1) else bckS S d
/-- a row that is tried is well laid -/
def dOK (S : ms_T) (d : Nat) : Prop := S.1 20 = nI d ∧ d ≤ 8 ∧ smT (S.2.2.2 8) ∧ S.2.2.2 8 3 ≤ 999 ∧ (∀ i, i < d → S.2.2.2 13 i ≤ S.2.2.2 8 25) ∧ ∀ i, i ≤ d → S.2.2.2 14 i < 6 ∧ S.2.2.2 15 i ≤ 9 ∧ S.2.2.2 16 i ≤ 90 * i
/-- the best so far is kept -/
def kpsS (S : ms_T) (d : Nat) : ms_T := sB (sN (sN (sF S 27 (nI (S.2.2.2 16 d))) 28 d) 29 (S.2.2.2 14 d)) 17 (va_cpy (S.2.2.2 12) (S.2.2.2 17) 0 0 d)
/-- the first row: none -/
def bgnS (S : ms_T) : ms_T := sB (sB (sB (sB (sF (sB S 8 (S.2.2.2 6)) 20 (nI 0)) 13 (uN (S.2.2.2 13) 0 0)) 14 (uN (S.2.2.2 14) 0 (S.2.2.2 6 4))) 15 (uN (S.2.2.2 15) 0 (S.2.2.2 6 1))) 16 (uN (S.2.2.2 16) 0 0)
theorem dOK_bgn {S : ms_T} (ht : smT (S.2.2.2 6)) (h3 : S.2.2.2 6 3 ≤ 999) : dOK (bgnS S) 0 := by
  refine ⟨rfl, by decide, ht, h3, fun i hi => absurd hi (by omega), fun i hi => ?_⟩
  have : i = 0 := by omega
  subst this
  exact ⟨ht.2.2.2.2.1, ht.2.1, Nat.le_refl 0⟩
theorem dOK_add {S : ms_T} {d x : Nat} (h8 : d < 8) (ht : smT (S.2.2.2 8)) (h3 : S.2.2.2 8 3 ≤ 999) (hx : x < S.2.2.2 8 25) (hn : ∀ i, i < d → S.2.2.2 13 i ≤ S.2.2.2 8 25) (ha : ∀ i, i ≤ d → S.2.2.2 14 i < 6 ∧ S.2.2.2 15 i ≤ 9 ∧ S.2.2.2 16 i ≤ 90 * i) : dOK (addS S d x) (d + 1) := by
  have hx8 : x < 8 := by have := ht.2.2.2.2.2.2.2.2.1; omega
  have hto := (ht.2.2.2.2.2.2.2.2.2 x hx8).2
  have hd := ha d (Nat.le_refl _)
  have hp := psd_le (t := S.2.2.2 8) (c := S.2.2.2 8 (26 + 2 * x + 1)) (step := S.2.2.2 8 3 + d) hd.2.1
  have hc := csd_le (step := S.2.2.2 8 3 + d) ht hto hd.2.1
  refine ⟨rfl, by omega, ht, h3, fun i hi => ?_, fun i hi => ?_⟩
  · show uN (S.2.2.2 13) d (x + 1) i ≤ S.2.2.2 8 25
    by_cases z : i = d
    · subst z; rw [uN_s]; omega
    · rw [uN_n z]; exact hn i (by omega)
  · show uN (S.2.2.2 14) (d + 1) _ i < 6 ∧ uN (S.2.2.2 15) (d + 1) _ i ≤ 9 ∧ uN (S.2.2.2 16) (d + 1) _ i ≤ 90 * i
    by_cases z : i = d + 1
    · subst z
      rw [uN_s, uN_s, uN_s]
      exact ⟨hto, hp, by omega⟩
    · rw [uN_n z, uN_n z, uN_n z]
      exact ha i (by omega)
theorem fstS_lt {t : Nat → Nat} {f : Nat} : ∀ n x y, fstS t f n x = some y → y < t 25 ∧ x ≤ y ∧ goN t y f = true := by
  intro n
  induction n with
  | zero => intro x y h; cases h
  | succ n ih =>
    intro x y h
    unfold fstS at h
    split at h
    · rename_i c
      cases h
      unfold goN at c
      simp only [Bool.and_eq_true, decide_eq_true_eq] at c
      exact ⟨c.1.1, Nat.le_refl _, by unfold goN; simp [c.1.1, c.1.2, c.2]⟩
    · obtain ⟨a, b, c⟩ := ih _ _ h
      exact ⟨a, by omega, c⟩
theorem bckS_ok {S : ms_T} (ht : smT (S.2.2.2 8)) (h3 : S.2.2.2 8 3 ≤ 999) : ∀ l, l ≤ 8 → (∀ i, i < l → S.2.2.2 13 i ≤ S.2.2.2 8 25) → (∀ i, i < l → S.2.2.2 14 i < 6 ∧ S.2.2.2 15 i ≤ 9 ∧ S.2.2.2 16 i ≤ 90 * i) → (bckS S l).1 = true → ∃ d, d < l ∧ dOK (bckS S l).2 (d + 1) := by
  intro l
  induction l with
  | zero => intro _ _ _ h; cases h
  | succ l ih =>
    intro hl hn ha h
    unfold bckS at h ⊢
    split at h
    · rename_i x e
      obtain ⟨hx, -, -⟩ := fstS_lt _ _ _ e
      exact ⟨l, by omega, dOK_add (by omega) ht h3 hx (fun i hi => hn i (by omega)) (fun i hi => ha i (by omega))⟩
    · rename_i e
      obtain ⟨d, h1, h2⟩ := ih (by omega) (fun i hi => hn i (by omega)) (fun i hi => ha i (by omega)) h
      exact ⟨d, by omega, h2⟩
theorem gonS_ok {S : ms_T} {most d : Nat} (hm : most ≤ 8) (hO : dOK S d) (h : (gonS S most d).1 = true) : ∃ d', dOK (gonS S most d).2 d' := by
  obtain ⟨h0, h8, ht, h3, hn, ha⟩ := hO
  unfold gonS at h ⊢
  split at h
  · rename_i c
    rw [if_pos c]
    obtain ⟨d', -, h2⟩ := bckS_ok (S := sB S 13 (uN (S.2.2.2 13) d 0)) ht h3 (d + 1) (by omega) (fun i hi => by
      show uN (S.2.2.2 13) d 0 i ≤ S.2.2.2 8 25
      by_cases z : i = d
      · subst z; rw [uN_s]; omega
      · rw [uN_n z]; exact hn i (by omega)) (fun i hi => ha i (by omega)) h
    exact ⟨d' + 1, h2⟩
  · rename_i c
    rw [if_neg c]
    obtain ⟨d', -, h2⟩ := bckS_ok ht h3 d h8 hn (fun i hi => ha i (by omega)) h
    exact ⟨d' + 1, h2⟩
/-- all rows, one after another: each is judged; fuel -/
def rowsL (most : Nat) (jd : Nat × ms_T → Nat → Nat × ms_T) : Nat → Nat × ms_T → Nat → Option (Nat × ms_T)
  | 0, _, _ => none
  | n + 1, a, d => if most = 0 then some (jd a d) else if (gonS (jd a d).2 most d).1 then rowsL most jd n ((jd a d).1, (gonS (jd a d).2 most d).2) ((gonS (jd a d).2 most d).2.1 20).toNatClampNeg else some ((jd a d).1, (gonS (jd a d).2 most d).2)
theorem sF_sF (S : ms_T) (j : Nat) (a b : Int32) : sF (sF S j a) j b = sF S j b := by
  unfold sF
  refine Prod.ext ?_ rfl
  funext i
  by_cases h : i = j <;> simp [h]
theorem sF_self (S : ms_T) (j : Nat) : sF S j (S.1 j) = S := by
  unfold sF
  refine Prod.ext ?_ rfl
  funext i
  by_cases h : i = j <;> simp [h]
theorem uN0_le {f : Nat → Nat} {d b : Nat} (h : ∀ i, i < d → f i ≤ b) : ∀ i, i < d + 1 → uN f d 0 i ≤ b := by
  intro i hi
  by_cases z : i = d
  · subst z; rw [uN_s]; omega
  · rw [uN_n z]; exact h i (by omega)
/-- how the four questions judge a row -/
def jdC (c : Nat) (a : Nat × ms_T) (d : Nat) : Nat × ms_T := (a.1, if a.2.2.2.2 14 d = c ∧ (a.2.1 27 = kNONE ∨ nI (a.2.2.2.2 16 d) < a.2.1 27 ∨ (nI (a.2.2.2.2 16 d) = a.2.1 27 ∧ d < a.2.2.1 28)) then kpsS a.2 d else a.2)
def jdD (n : Nat) (a : Nat × ms_T) (d : Nat) : Nat × ms_T := (a.1, if d = n ∧ a.2.1 27 < nI (a.2.2.2.2 16 d) then kpsS a.2 d else a.2)
def jdM (c n : Nat) (a : Nat × ms_T) (d : Nat) : Nat × ms_T := (a.1 ||| (if d = n ∧ a.2.2.2.2 14 d = c then 2 ^ a.2.2.2.2 15 d else 0), a.2)
def jdG (m : Nat) (a : Nat × ms_T) (d : Nat) : Nat × ms_T := (a.1, if a.2.2.2.2 15 d = m ∧ (a.2.1 27 = kNONE ∨ d < a.2.2.1 28) then kpsS a.2 d else a.2)
theorem dOK_20 {S : ms_T} {d : Nat} (h : dOK S d) : (S.1 20).toNatClampNeg = d := by
  rw [h.1]
  exact nI_clamp (by have := h.2.1; omega)
theorem rowsL_t {most n d : Nat} {jd : Nat × ms_T → Nat → Nat × ms_T} {a : Nat × ms_T} {a' : Nat} {S' : ms_T} (hm : most ≠ 0) (hj : jd a d = (a', S')) (hb : (gonS S' most d).1 = true) {d' : Nat} (hO : dOK (gonS S' most d).2 d') : rowsL most jd (n + 1) a d = rowsL most jd n (a', (gonS S' most d).2) d' := by
  rw [rowsL, if_neg hm, hj]
  simp only [hb, if_true]
  rw [dOK_20 hO]
theorem rowsL_f {most n d : Nat} {jd : Nat × ms_T → Nat → Nat × ms_T} {a : Nat × ms_T} {a' : Nat} {S' : ms_T} (hm : most ≠ 0) (hj : jd a d = (a', S')) (hb : (gonS S' most d).1 = false) : rowsL most jd (n + 1) a d = some (a', (gonS S' most d).2) := by
  rw [rowsL, if_neg hm, hj]
  simp [hb]
theorem rowsL_0 {n d : Nat} {jd : Nat × ms_T → Nat → Nat × ms_T} {a : Nat × ms_T} {a' : Nat} {S' : ms_T} (hj : jd a d = (a', S')) : rowsL 0 jd (n + 1) a d = some (a', S') := by
  rw [rowsL, if_pos rfl, hj]
theorem bckS_28 (S : ms_T) : ∀ l, (bckS S l).2.2.1 28 = S.2.1 28 := by
  intro l
  induction l with
  | zero => rfl
  | succ l ih =>
    unfold bckS
    split
    · rfl
    · exact ih
theorem gonS_28 (S : ms_T) (most d : Nat) (h : S.2.1 28 ≤ 8) : (gonS S most d).2.2.1 28 ≤ 8 := by
  unfold gonS
  split
  · rw [bckS_28]; exact h
  · rw [bckS_28]; exact h
/-- a place asked for: -2, -1, or one of a row -/
theorem key_cases {x : Int32} {lo : Int32} {b : Nat} (hl : lo = -2 ∨ lo = -1) (h : inB x lo (nI 7) = true) (hb : b ≤ 8) (hx : ¬ nI b ≤ x) : x = -1 ∨ x = -2 ∨ ∃ j, x = nI j ∧ j < b := by
  obtain ⟨h1, h2⟩ := of_decide_eq_true h
  have q1 := Int32.le_iff_toInt_le.mp h1
  have q2 := Int32.le_iff_toInt_le.mp h2
  have e7 : (nI 7).toInt = 7 := by decide +kernel
  have e1 : (-1 : Int32).toInt = -1 := by decide +kernel
  have e2 : (-2 : Int32).toInt = -2 := by decide +kernel
  have hlo : (-2 : Int) ≤ lo.toInt := by rcases hl with rfl | rfl <;> omega
  by_cases h0 : x < 0
  · have q3 := Int32.lt_iff_toInt_lt.mp h0
    have e0 : (0 : Int32).toInt = 0 := by decide +kernel
    rcases (show x.toInt = -1 ∨ x.toInt = -2 by omega) with z | z
    · exact Or.inl (Int32.toInt_inj.mp (z.trans e1.symm))
    · exact Or.inr (Or.inl (Int32.toInt_inj.mp (z.trans e2.symm)))
  · obtain ⟨j, hj, rfl⟩ := nI_of h0
    refine Or.inr (Or.inr ⟨j, rfl, ?_⟩)
    rcases Nat.lt_or_ge j b with z | z
    · exact z
    · exact absurd (nI_le z hj) hx
theorem smT_5 {t : Nat → Nat} {op : Nat} (ht : smT t) (h : op < 256) : smT (uN t 5 op) := by
  obtain ⟨r0, r1, r2, r3, r4, r5, r6, r7, r25, r26⟩ := ht
  have e : ∀ i, i ≠ 5 → uN t 5 op i = t i := fun i hi => uN_n hi
  refine ⟨by rw [e 0 (by omega)]; exact r0, by rw [e 1 (by omega)]; exact r1, by rw [e 2 (by omega)]; exact r2, by rw [e 3 (by omega)]; exact r3, by rw [e 4 (by omega)]; exact r4, by rw [uN_s]; exact h, by rw [e 6 (by omega)]; exact r6, fun c hc => ?_, by rw [e 25 (by omega)]; exact r25, fun x hx => ?_⟩
  · rw [e _ (by omega), e _ (by omega), e _ (by omega)]; exact r7 c hc
  · rw [e _ (by omega), e _ (by omega)]; exact r26 x hx
theorem dOK_fnd {S : ms_T} {op : Nat} (ht : smT (S.2.2.2 6)) (h3 : S.2.2.2 6 3 ≤ 999) (h : op < 256) : dOK (sF (sB (bgnS S) 8 (uN (S.2.2.2 6) 5 op)) 27 kNONE) 0 := by
  obtain ⟨a, b, -, -, e, f⟩ := dOK_bgn ht h3
  exact ⟨a, b, smT_5 ht h, h3, fun i hi => absurd hi (by omega), f⟩
theorem dOK_bst {S : ms_T} (ht : smT (S.2.2.2 6)) (h3 : S.2.2.2 6 3 ≤ 999) : dOK (sF (bgnS S) 27 kNONE) 0 := dOK_bgn ht h3
