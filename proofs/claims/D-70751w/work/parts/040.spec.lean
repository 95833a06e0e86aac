/-! ===== plain words: what the methods compute ===== -/
set_option maxRecDepth 100000
abbrev kNONE : Int32 := -1000000
abbrev kBAD : Int32 := -1000001
abbrev kSTATE : Int32 := -1000002
abbrev kFULL : Int32 := -1000003
theorem inB_11 {x lo hi : Int32} (h1 : ¬ x < lo) (h2 : ¬ hi < x) : nI 1 = bZ (inB x lo hi) := by
  unfold bZ inB
  rw [if_pos (decide_eq_true ⟨Int32.not_lt.mp h1, Int32.not_lt.mp h2⟩)]
theorem inB_01 {x lo hi : Int32} (h1 : x < lo) : nI 0 = bZ (inB x lo hi) := by
  unfold bZ inB
  rw [if_neg (fun z => Int32.not_lt.mpr (of_decide_eq_true z).1 h1)]
theorem inB_02 {x lo hi : Int32} (h1 : hi < x) : nI 0 = bZ (inB x lo hi) := by
  unfold bZ inB
  rw [if_neg (fun z => Int32.not_lt.mpr (of_decide_eq_true z).2 h1)]
/-- a bit of a set -/
def hasN (n k : Nat) : Bool := decide ((n / 2 ^ k) % 2 = 1)
theorem and1_lt (n : Nat) : n &&& 1 < 2 ^ 31 := Nat.lt_of_le_of_lt Nat.and_le_right (by decide)
/-- a number cut to a lane -/
def cutZ (lane v : Int32) : Int32 := if lane = 0 then (v <<< (nI 24 &&& 31)) >>> (nI 24 &&& 31) else if lane = nI 1 then (v <<< (nI 16 &&& 31)) >>> (nI 16 &&& 31) else v
/-- zeros in a part of an array -/
def zerosAt (f : Nat → Int32) (a n : Nat) : Nat → Int32 := fun i => if a ≤ i ∧ i < a + n then 0 else f i
theorem zerosAt_0 (f : Nat → Int32) (a : Nat) : zerosAt f a 0 = f := by
  funext i
  unfold zerosAt
  rw [if_neg (by omega)]
theorem zerosAt_s (f : Nat → Int32) (a n : Nat) : upd (zerosAt f a n) (a + n) (nI 0) = zerosAt f a (n + 1) := by
  funext i
  unfold upd zerosAt
  by_cases h : i = a + n
  · rw [if_pos h, if_pos (by omega)]; rfl
  · rw [if_neg h]
    by_cases h2 : a ≤ i ∧ i < a + n
    · rw [if_pos h2, if_pos (by omega)]
    · rw [if_neg h2, if_neg (by omega)]
/-- a part of a row of m items -/
def partB (m : Nat) (i n : Int32) : Bool := decide (0 ≤ i ∧ 0 ≤ n ∧ i ≤ nI m ∧ n ≤ nI m - i)
theorem partB_1 {m : Nat} {i n : Int32} (h1 : 0 ≤ i) (h2 : 0 ≤ n) (h3 : i ≤ nI m) (h4 : n ≤ nI m - i) : nI 1 = bZ (partB m i n) := by
  unfold bZ partB
  rw [if_pos (decide_eq_true ⟨h1, h2, h3, h4⟩)]
theorem partB_0 {m : Nat} {i n : Int32} (h : ¬ (0 ≤ i ∧ 0 ≤ n ∧ i ≤ nI m ∧ n ≤ nI m - i)) : nI 0 = bZ (partB m i n) := by
  unfold bZ partB
  rw [if_neg (fun z => h (of_decide_eq_true z))]
theorem cpy_0 {α : Type} (f g : Nat → α) (sp dp : Nat) : va_cpy f g sp dp 0 = g := by
  funext i
  unfold va_cpy
  rw [if_neg (by omega)]
theorem cpy_s (f g : Nat → Int32) (sp dp n : Nat) : upd (va_cpy f g sp dp n) (dp + n) (f (sp + n)) = va_cpy f g sp dp (n + 1) := by
  funext i
  unfold upd va_cpy
  by_cases h : i = dp + n
  · subst h
    rw [if_pos rfl, if_pos (by omega)]
    congr 1
    omega
  · rw [if_neg h]
    by_cases h2 : dp ≤ i ∧ i < dp + n
    · rw [if_pos h2, if_pos (by omega)]
    · rw [if_neg h2, if_neg (by omega)]
theorem cpyN_s (f g : Nat → Nat) (sp dp n : Nat) : uN (va_cpy f g sp dp n) (dp + n) (f (sp + n)) = va_cpy f g sp dp (n + 1) := by
  funext i
  unfold uN va_cpy
  by_cases h : i = dp + n
  · subst h
    rw [if_pos rfl, if_pos (by omega)]
    congr 1
    omega
  · rw [if_neg h]
    by_cases h2 : dp ≤ i ∧ i < dp + n
    · rw [if_pos h2, if_pos (by omega)]
    · rw [if_neg h2, if_neg (by omega)]
/-- the part is one of plain numbers -/
theorem partB_n {m : Nat} {i n : Int32} (hm : m < 2 ^ 30) (h : partB m i n = true) : ∃ a b : Nat, i = nI a ∧ n = nI b ∧ a + b ≤ m := by
  obtain ⟨h1, h2, h3, h4⟩ := of_decide_eq_true h
  obtain ⟨a, ha, rfl⟩ := nI_of (Int32.not_lt.mpr h1)
  obtain ⟨b, hb, rfl⟩ := nI_of (Int32.not_lt.mpr h2)
  have h3' := (nI_leI ha (by omega)).mp h3
  rw [pk_sub h3'] at h4
  have h4' := (nI_leI hb (by omega)).mp h4
  exact ⟨a, b, rfl, rfl, by omega⟩
theorem partB_t {m a b : Nat} (hm : m < 2 ^ 30) (h : a + b ≤ m) : partB m (nI a) (nI b) = true := by
  refine decide_eq_true ⟨nI_pos' (by omega), nI_pos' (by omega), (nI_leI (by omega) (by omega)).mpr (by omega), ?_⟩
  rw [pk_sub (by omega)]
  exact (nI_leI (by omega) (by omega)).mpr (by omega)
/-- a body is traced -/
def tpS (S : ms_T) (b : Nat) : ms_T := sN (sB S 18 (uN (S.2.2.2 18) (S.2.1 31) b)) 31 (S.2.1 31 + 1)
/-- an end of one of the reference's methods that answers an int -/
def pM (G : gl_T) (M : Nat → Option (Nat × va_E)) (o sz : Nat) (P : Int32 → ms_T → Prop) : Outcome → wd_T → Prop := pI (fun r w' => ∃ S', w' = (mset G M o S', sz) ∧ P r S')
theorem pM.mk {G : gl_T} {M : Nat → Option (Nat × va_E)} {o sz : Nat} {P : Int32 → ms_T → Prop} {r : Int32} {S : ms_T} (h : P r S) : pM G M o sz P (.returned (some (.int r))) (mset G M o S, sz) := ⟨r, rfl, S, rfl, h⟩
theorem pM.ret {G : gl_T} {M : Nat → Option (Nat × va_E)} {o sz : Nat} {P : Int32 → ms_T → Prop} : ∀ out w, pM G M o sz P out w → ∃ v, out = .returned v := pI.ret
theorem pM.k {G : gl_T} {M : Nat → Option (Nat × va_E)} {o sz : Nat} {P : Int32 → ms_T → Prop} {K : Option Value → wd_T → Prop} (h : ∀ r S, P r S → K (some (.int r)) (mset G M o S, sz)) : ∀ v w, pM G M o sz P (.returned v) w → K v w := pI.k (fun r w ⟨S, e, hp⟩ => by
  subst e
  exact h r S hp)
section JT
variable {G : gl_T} {k : KX} {cc : ByteArray} {own nm : String} {nL hh mc ms : Nat} {rt : Option FieldType} {post : Outcome → wd_T → Prop}
variable {w : wd_T} {lv : List (Nat × Value)} {pc ce sl : Nat} {st : List Value} {a τ n : Nat}
/-- a store into an array of plain numbers -/
theorem j_nst (C : Cx G k cc own nm nL rt hh mc ms post) {t : Nat → Nat} {i : Int32} {v : Nat} (he : w.1 a = some (τ, ai (gl_A G 0) n (fun i => nI (t i)))) (j : Nat) (hi : i = nI j) (hj : j < n) (hn : n < 2 ^ 31) (hd : decode cc pc = .ok (.iastore, 1)) (h : J G k (mu w.1 a τ (ai (gl_A G 0) n (fun i => nI (uN t j v i))), w.2) lv (pc + 1) st ce sl) : J G k w lv pc (.int (nI v) :: .int i :: .ref a :: st) ce sl := by
  refine j_iastN C he j hi hj hn hd ?_
  rw [upd_nI]
  exact h
theorem j_nst2 (C : Cx G k cc own nm nL rt hh mc ms post) {f : Nat → Option (Nat × va_E)} {s : Nat} {t : Nat → Nat} {i : Int32} {v : Nat} (j : Nat) (hi : i = nI j) (hj : j < n) (hn : n < 2 ^ 31) (hd : decode cc pc = .ok (.iastore, 1)) (h : J G k (mu f a τ (ai (gl_A G 0) n (fun i => nI (uN t j v i))), s) lv (pc + 1) st ce sl) : J G k (mu f a τ (ai (gl_A G 0) n (fun i => nI (t i))), s) lv pc (.int (nI v) :: .int i :: .ref a :: st) ce sl := by
  refine j_nst (w := (mu f a τ (ai (gl_A G 0) n (fun i => nI (t i))), s)) C mu_s j hi hj hn hd ?_
  exact J.eq h (congrArg (fun z => (z, s)) mu_mu) rfl rfl
end JT
/-! a town is a row of 42 numbers: 0 rate, 1 mood, 2 meter, 3 step, 4 at, 5 open, 6 corners, 7+3c kind, 8+3c much, 9+3c fee, 25 streets, 26+2x from, 27+2x to -/
/-- the mood of one who passes a corner -/
def psd (t : Nat → Nat) (c mood step : Nat) : Nat :=
  if t (7 + 3 * c) = 1 then min 9 (mood + t (7 + 3 * c + 1))
  else if t (7 + 3 * c) = 2 then min 9 (mood + (if 4 < mood then 2 * t (7 + 3 * c + 1) else t (7 + 3 * c + 1)))
  else if t (7 + 3 * c) = 3 then (if step % 2 = 1 then min 9 (mood + t (7 + 3 * c + 1)) else mood)
  else if t (7 + 3 * c) = 5 then (mood - t (7 + 3 * c + 1)) / 2
  else mood - t (7 + 3 * c + 1)
def csd (t : Nat → Nat) (c mood step : Nat) : Nat := (if mood < psd t c mood step then psd t c mood step - mood else mood - psd t c mood step) * t 0 + t (7 + 3 * c + 2)
/-- a street goes from a corner -/
def goB (t : Nat → Nat) (x : Int32) (f : Nat) : Bool := inB x (nI 0) (nI (t 25) - nI 1) && hasN (t 5) x.toNatClampNeg && decide (t (26 + 2 * x.toNatClampNeg) = f)
def goN (t : Nat → Nat) (x f : Nat) : Bool := decide (x < t 25) && hasN (t 5) x && decide (t (26 + 2 * x) = f)
theorem goB_n {t : Nat → Nat} {x : Int32} {f : Nat} (ht : t 25 < 2 ^ 31) (h : goB t x f = true) : ∃ j : Nat, x = nI j ∧ j < t 25 ∧ goN t j f = true := by
  unfold goB at h
  simp only [Bool.and_eq_true, decide_eq_true_eq] at h
  obtain ⟨⟨h1, h2⟩, h3⟩ := h
  obtain ⟨j, rfl, hj⟩ := inB_p ht h1
  rw [nI_clamp (by omega)] at h2 h3
  refine ⟨j, rfl, hj, ?_⟩
  simp [goN, hj, h2, h3]
theorem goB_i {t : Nat → Nat} {j f : Nat} (ht : t 25 < 2 ^ 31) (hj : j < 2 ^ 31) : goB t (nI j) f = goN t j f := by
  unfold goB goN
  rw [nI_clamp hj]
  by_cases h : j < t 25
  · rw [inB_pt ht h]; simp [h]
  · have : inB (nI j) (nI 0) (nI (t 25) - nI 1) = false := by
      cases e : inB (nI j) (nI 0) (nI (t 25) - nI 1) with
      | false => rfl
      | true =>
        obtain ⟨i, hi, hl⟩ := inB_p ht e
        have := (nI_eq hj (by omega)).mp hi
        omega
    rw [this]; simp [h]
/-- a step of the rider -/
def rdT (t : Nat → Nat) (x : Nat) : Nat → Nat :=
  uN (uN (uN (uN t 2 (min 9999 (t 2 + csd t (t (26 + 2 * x + 1)) (t 1) (t 3)))) 1 (psd t (t (26 + 2 * x + 1)) (t 1) (t 3))) 4 (t (26 + 2 * x + 1))) 3 (t 3 + 1)
/-- the numbers of a town are small -/
def smT (t : Nat → Nat) : Prop := t 0 ≤ 9 ∧ t 1 ≤ 9 ∧ t 2 ≤ 9999 ∧ t 3 ≤ 1100 ∧ t 4 < 6 ∧ t 5 < 256 ∧ t 6 ≤ 6 ∧ (∀ c, c < 6 → t (7 + 3 * c) ≤ 5 ∧ t (7 + 3 * c + 1) ≤ 9 ∧ t (7 + 3 * c + 2) ≤ 9) ∧ t 25 ≤ 8 ∧ ∀ x, x < 8 → t (26 + 2 * x) < 6 ∧ t (26 + 2 * x + 1) < 6
theorem psd_le {t : Nat → Nat} {c mood step : Nat} (hm : mood ≤ 9) : psd t c mood step ≤ 9 := by
  unfold psd
  split <;> (try split) <;> (try split) <;> (try split) <;> omega
theorem csd_le {t : Nat → Nat} {c mood step : Nat} (ht : smT t) (hc : c < 6) (hm : mood ≤ 9) : csd t c mood step ≤ 90 := by
  obtain ⟨h0, -, -, -, -, -, -, h7, -, -⟩ := ht
  have h1 := psd_le (t := t) (c := c) (step := step) hm
  have h2 := (h7 c hc).2.2
  unfold csd
  have h3 : (if mood < psd t c mood step then psd t c mood step - mood else mood - psd t c mood step) ≤ 9 := by split <;> omega
  have h4 := Nat.mul_le_mul h3 h0
  omega
theorem nI_addneg {a b : Nat} (h : b ≤ a) : nI a + -nI b = nI (a - b) := by
  rw [← pk_sub h]
  exact (Int32.sub_eq_add_neg ..).symm
theorem nI_addneg_lt {a b : Nat} (hb : b < 2 ^ 30) (h : a < b) : ¬ (0 : Int32) ≤ nI a + -nI b := by
  have e : nI a + -nI b = nI a - nI b := (Int32.sub_eq_add_neg ..).symm
  rw [e]
  exact Int32.not_le.mpr (pk_sneg hb h)
theorem tsw_out {x : Int32} {lo hi : Nat} (hl : lo < 2 ^ 31) (hh : hi < 2 ^ 31) (h : inB x (nI lo) (nI hi) = false) : x.toInt < lo ∨ (hi : Int) < x.toInt := by
  have h1 := of_decide_eq_false h
  rw [Int32.le_iff_toInt_le, Int32.le_iff_toInt_le, nI_toInt hl, nI_toInt hh] at h1
  omega
theorem psd_uN {t : Nat → Nat} {k v c m s : Nat} (hk : k < 7) : psd (uN t k v) c m s = psd t c m s := by
  unfold psd
  rw [uN_n (show 7 + 3 * c ≠ k by omega), uN_n (show 7 + 3 * c + 1 ≠ k by omega)]
theorem csd_uN {t : Nat → Nat} {k v c m s : Nat} (hk : k < 7) (h0 : k ≠ 0) : csd (uN t k v) c m s = csd t c m s := by
  unfold csd
  rw [psd_uN hk, uN_n (show 0 ≠ k by omega), uN_n (show 7 + 3 * c + 2 ≠ k by omega)]
theorem mu_self {f : Nat → Option (Nat × va_E)} {a τ : Nat} {e : va_E} (h : f a = some (τ, e)) : mu f a τ e = f := by
  funext q
  unfold mu
  by_cases z : q = a
  · rw [if_pos z, z, h]
  · rw [if_neg z]
section JL
variable {G : gl_T} {k : KX} {w : wd_T} {lv lv' : List (Nat × Value)} {pc ce sl : Nat} {st : List Value}
/-- a local's number under another word -/
theorem j_lvN (q : Nat) {i a b : Nat} (hq : lv[q]? = some (i, .int (nI a))) (e : a = b) (he : lv.set q (i, .int (nI b)) = lv') (h : J G k w lv' pc st ce sl) : J G k w lv pc st ce sl := by
  subst e
  subst he
  have e2 : lv.set q (i, Value.int (nI a)) = lv := by
    apply List.ext_getElem?
    intro n
    rw [List.getElem?_set]
    split
    · rename_i h1
      subst h1
      rw [hq]
      have := (List.getElem?_eq_some_iff.mp hq).1
      simp [this]
    · rfl
  rw [e2] at h
  exact h
theorem j_lvI (q : Nat) {i : Nat} {a b : Int32} (hq : lv[q]? = some (i, .int a)) (e : a = b) (he : lv.set q (i, .int b) = lv') (h : J G k w lv' pc st ce sl) : J G k w lv pc st ce sl := by
  subst e
  subst he
  have e2 : lv.set q (i, Value.int a) = lv := by
    apply List.ext_getElem?
    intro n
    rw [List.getElem?_set]
    split
    · rename_i h1
      subst h1
      rw [hq]
      have := (List.getElem?_eq_some_iff.mp hq).1
      simp [this]
    · rfl
  rw [e2] at h
  exact h
end JL
/-- the past, ahead of an act: the newest 24 are kept -/
def noP (S : ms_T) : Nat → Nat := if S.2.1 17 = 24 then va_cpy (S.2.2.2 6) (va_cpy (S.2.2.2 9) (S.2.2.2 9) 42 0 966) 0 (42 * (S.2.1 17 - 1)) 42 else va_cpy (S.2.2.2 6) (S.2.2.2 9) 0 (42 * S.2.1 17) 42
def noA (S : ms_T) : Nat := if S.2.1 17 = 24 then S.2.1 17 - 1 + 1 else S.2.1 17 + 1
def noS (S : ms_T) : ms_T := sN (sB S 9 (noP S)) 17 (noA S)
theorem sB_sNB (S : ms_T) (j k a b : Nat) (f g : Nat → Nat) : sN (sB (sN (sB S j f) k a) j g) k b = sN (sB S j g) k b := by
  unfold sN sB
  refine Prod.ext rfl (Prod.ext ?_ (Prod.ext rfl ?_))
  · funext i
    by_cases h : i = k <;> simp [h]
  · funext i
    by_cases h : i = j <;> simp [h]
/-- streets of which one end is a corner -/
def endsN (t : Nat → Nat) (c e : Nat) : Nat → Nat
  | 0 => 0
  | k + 1 => endsN t c e k ||| (if t (26 + 2 * k + e) = c then 2 ^ k else 0)
/-- corners that are reached: streets one by one, then again -/
def rchI (t : Nat → Nat) (s : Nat) : Nat → Nat
  | 0 => s
  | k + 1 => rchI t s k ||| (if hasN (t 5) k && hasN (rchI t s k) (t (26 + 2 * k)) then 2 ^ t (26 + 2 * k + 1) else 0)
def rchO (t : Nat → Nat) : Nat → Nat
  | 0 => 2 ^ t 4
  | k + 1 => rchI t (rchO t k) (t 25)
theorem rchI_lt {t : Nat → Nat} {s : Nat} (ht : ∀ x, x < 8 → t (26 + 2 * x + 1) < 6) (hs : s < 64) : ∀ k, k ≤ 8 → rchI t s k < 64 := by
  intro k
  induction k with
  | zero => intro _; exact hs
  | succ k ih =>
    intro hk
    unfold rchI
    refine Nat.or_lt_two_pow (n := 6) (ih (by omega)) ?_
    split
    · exact Nat.pow_lt_pow_right (by decide) (ht k (by omega))
    · decide
theorem rchO_lt {t : Nat → Nat} (h4 : t 4 < 6) (ht : ∀ x, x < 8 → t (26 + 2 * x + 1) < 6) (h25 : t 25 ≤ 8) : ∀ k, rchO t k < 64 := by
  intro k
  induction k with
  | zero => exact Nat.pow_lt_pow_right (n := 6) (by decide) h4
  | succ k ih => exact rchI_lt ht ih _ h25
/-- whether a corner of a kind is one of another -/
def asB (kind its : Nat) : Bool := decide (kind = 0 ∨ kind = its ∨ (kind = 1 ∧ its < 4) ∨ (kind = 4 ∧ its = 5))
/-- an array of plain numbers is known by its own places alone -/
theorem cell_cg {c n : Nat} {f g : Nat → Nat} (h : ∀ i, i < n → f i = g i) : vp_cell c (n, .inl (fun i => nI (f i))) = vp_cell c (n, .inl (fun i => nI (g i))) := by
  rw [vp_cell_i, vp_cell_i]
  unfold arrV
  congr 2
  funext i
  show Value.int (nI (f i.val)) = Value.int (nI (g i.val))
  rw [h i.val i.isLt]
theorem cell_cgI {c n : Nat} {f g : Nat → Int32} (h : ∀ i, i < n → f i = g i) : vp_cell c (n, .inl f) = vp_cell c (n, .inl g) := by
  rw [vp_cell_i, vp_cell_i]
  unfold arrV
  congr 2
  funext i
  show Value.int (f i.val) = Value.int (g i.val)
  rw [h i.val i.isLt]
theorem mcon_Bs (S : ms_T) (j : Nat) (v : Nat → Nat) (hj : j ∉ [0, 1, 3, 4]) (h2 : j ≤ 18) : mcon (sB S j v) j = fun i => nI (v i) := by
  have : j = 2 ∨ j = 5 ∨ j = 6 ∨ j = 7 ∨ j = 8 ∨ j = 9 ∨ j = 10 ∨ j = 11 ∨ j = 12 ∨ j = 13 ∨ j = 14 ∨ j = 15 ∨ j = 16 ∨ j = 17 ∨ j = 18 := by
    simp at hj
    omega
  rcases this with rfl | rfl | rfl | rfl | rfl | rfl | rfl | rfl | rfl | rfl | rfl | rfl | rfl | rfl | rfl <;> rfl
section JCG
variable {G : gl_T} {k : KX} {M : Nat → Option (Nat × va_E)} {sz : Nat} {lv : List (Nat × Value)} {pc ce sl : Nat} {st : List Value} {o : Nat} {S : ms_T}
theorem j_cgB (j : Nat) {g g' : Nat → Nat} (hj : j ∉ [0, 1, 3, 4]) (h2 : j ≤ 18) (hg : ∀ i, i < mlen j → g i = g' i) (h : J G k (mset G M o (sB S j g'), sz) lv pc st ce sl) : J G k (mset G M o (sB S j g), sz) lv pc st ce sl := by
  refine j_map (w := (mset G M o (sB S j g), sz)) (f := mset G M o (sB S j g')) (fun H a τ e ha => ?_) h
  have h1 : 0 < j := by
    rcases Nat.eq_zero_or_pos j with z | z
    · subst z; simp at hj
    · exact z
  by_cases z : a = o + j
  · subst z
    rw [mset_a j h1 h2] at ha
    cases ha
    refine ⟨o, _, mset_a j h1 h2, fun q => ?_⟩
    have q' : H[o + j]? = some (vp_cell (gl_A G (mcl j)) (mlen j, .inl (mcon (sB S j g) j))) := q
    show H[o + j]? = some (vp_cell (gl_A G (mcl j)) (mlen j, .inl (mcon (sB S j g') j)))
    rw [q', mcon_Bs S j g hj h2, mcon_Bs S j g' hj h2, cell_cg hg]
  · refine ⟨τ, e, ?_, fun q => q⟩
    rw [← ha]
    show mset G M o (sB S j g) a = mset G M o (sB S j g') a
    unfold mset
    by_cases z2 : a = o
    · rw [if_pos z2, if_pos z2, ← mfs_B, ← mfs_B]
    · rw [if_neg z2, if_neg z2]
      by_cases z3 : o < a ∧ a ≤ o + 18
      · rw [if_pos z3, if_pos z3, ← mcon_B S j g (a - o) (by omega), ← mcon_B S j g' (a - o) (by omega)]
      · rw [if_neg z3, if_neg z3]
end JCG
