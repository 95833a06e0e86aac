/-! ===== the class's side: towns as cells; what stays ===== -/
set_option maxRecDepth 100000
theorem mu_d1 {f : Nat → Option (Nat × va_E)} {a b τ σ υ : Nat} {e e' e2 : va_E} : mu (mu (mu f a τ e) b σ e2) a υ e' = mu (mu f b σ e2) a υ e' := by
  funext q
  by_cases h : q = a <;> simp [mu, h]
theorem mu_d2 {f : Nat → Option (Nat × va_E)} {a b c τ σ σ2 υ : Nat} {e e' e2 e3 : va_E} : mu (mu (mu (mu f a τ e) b σ e2) c σ2 e3) a υ e' = mu (mu (mu f b σ e2) c σ2 e3) a υ e' := by
  funext q
  by_cases h : q = a <;> simp [mu, h]
theorem mu_d3 {f : Nat → Option (Nat × va_E)} {a b c d τ σ σ2 σ3 υ : Nat} {e e' e2 e3 e4 : va_E} : mu (mu (mu (mu (mu f a τ e) b σ e2) c σ2 e3) d σ3 e4) a υ e' = mu (mu (mu (mu f b σ e2) c σ2 e3) d σ3 e4) a υ e' := by
  funext q
  by_cases h : q = a <;> simp [mu, h]
theorem i64_lt {x y : Int32} : x.toInt64 < y.toInt64 ↔ x < y := by
  rw [Int64.lt_iff_toInt_lt, Int32.lt_iff_toInt_lt, Int32.toInt_toInt64, Int32.toInt_toInt64]
theorem nI_min {a b : Nat} (ha : a < 2 ^ 31) (hb : b < 2 ^ 31) : (if nI b < nI a then nI b else nI a) = nI (min a b) := by
  by_cases h : b < a
  · rw [if_pos ((nI_ltI hb ha).mpr h), Nat.min_eq_right (by omega)]
  · rw [if_neg (fun z => h ((nI_ltI hb ha).mp z)), Nat.min_eq_left (by omega)]
theorem nI_max {a b : Nat} (ha : a < 2 ^ 31) (hb : b < 2 ^ 31) : (if nI a < nI b then nI b else nI a) = nI (max a b) := by
  by_cases h : a < b
  · rw [if_pos ((nI_ltI ha hb).mpr h), Nat.max_eq_right (by omega)]
  · rw [if_neg (fun z => h ((nI_ltI ha hb).mp z)), Nat.max_eq_left (by omega)]
theorem nI_max0 {a b : Nat} (ha : a < 2 ^ 30) (hb : b < 2 ^ 30) : (if nI 0 < nI a - nI b then nI a - nI b else nI 0) = nI (a - b) := by
  by_cases h : b ≤ a
  · rw [pk_sub h]
    by_cases h2 : 0 < a - b
    · rw [if_pos ((nI_ltI (by decide) (by omega)).mpr h2)]
    · rw [if_neg (fun z => h2 ((nI_ltI (by decide) (by omega)).mp z)), show a - b = 0 by omega]
  · have h1 : nI a - nI b < 0 := pk_sneg hb (by omega)
    have h2 : ¬ nI 0 < nI a - nI b := fun z => absurd (Int32.lt_trans (show (0 : Int32) < nI a - nI b from z) h1) (by decide)
    rw [if_neg h2, show a - b = 0 by omega]
theorem nI_absd {a b : Nat} (ha : a < 2 ^ 30) (hb : b < 2 ^ 30) : (if 0 ≤ nI a - nI b then nI a - nI b else 0 - (nI a - nI b)) = nI (if b < a then a - b else b - a) := by
  by_cases h : b ≤ a
  · rw [pk_sub h, if_pos (nI_pos' (by omega))]
    by_cases h2 : b < a
    · rw [if_pos h2]
    · rw [if_neg h2, show a - b = b - a by omega]
  · have h1 : nI a - nI b < 0 := pk_sneg hb (by omega)
    rw [if_neg (Int32.not_le.mpr h1), if_neg (by omega), ← pk_sub (show a ≤ b by omega)]
    rw [Int32.zero_sub, Int32.neg_sub]
/-- an array's cell is known by its own places alone -/
theorem j_cg {G : gl_T} {k : KX} {w : wd_T} {lv : List (Nat × Value)} {pc ce sl : Nat} {st : List Value} {a τ c n : Nat} {f g : Nat → Int32} (ha : w.1 a = some (τ, ai c n f)) (hg : ∀ i, i < n → f i = g i) (h : J G k (mu w.1 a τ (ai c n g), w.2) lv pc st ce sl) : J G k w lv pc st ce sl := by
  refine j_map (f := mu w.1 a τ (ai c n g)) (fun H b σ e hb => ?_) h
  by_cases z : b = a
  · subst z
    rw [mu_s] at hb
    cases hb
    refine ⟨_, _, ha, fun q => ?_⟩
    have q' : H[b]? = some (vp_cell c (n, .inl f)) := q
    show H[b]? = some (vp_cell c (n, .inl g))
    rw [q', cell_cgI hg]
  · rw [mu_n z] at hb
    exact ⟨σ, e, hb, fun q => q⟩
/-- a corner's cell; a town's own -/
abbrev CE (t : Nat → Nat) (c : Nat) : va_E := .inr (6 + t (7 + 3 * c), [.int (nI c), .int (nI (t (7 + 3 * c + 2)))])
abbrev TE (a : Nat) (t : Nat → Nat) : va_E := .inr (2, [.int (nI (t 0)), .int (nI (t 1)), .int (nI (t 4)), .int (nI (t 2)), .int (nI (t 3)), .ref (a + 1), .ref (a + 2), .int (nI (t 25)), .ref (a + 3), .ref (a + 4), .int (nI (t 5))])
/-- corners' cells are never written -/
def isC : va_E → Prop
  | .inr (k, _) => 7 ≤ k ∧ k ≤ 11
  | _ => False
theorem isC_CE {t : Nat → Nat} {c : Nat} (h1 : 1 ≤ t (7 + 3 * c)) (h2 : t (7 + 3 * c) ≤ 5) : isC (CE t c) := ⟨by omega, by omega⟩
/-- what one owner's act leaves: the others' cells, and the corners -/
def FR (τ : Nat) (w w' : wd_T) : Prop := w.2 ≤ w'.2 ∧ ∀ (b σ : Nat) (e : va_E), w.1 b = some (σ, e) → σ ≠ τ ∨ isC e → w'.1 b = some (σ, e)
theorem FR.refl (τ : Nat) (w : wd_T) : FR τ w w := ⟨Nat.le_refl _, fun _ _ _ h _ => h⟩
theorem FR.trans {τ : Nat} {w w1 w2 : wd_T} (h : FR τ w w1) (h2 : FR τ w1 w2) : FR τ w w2 := ⟨Nat.le_trans h.1 h2.1, fun b σ e hb hc => h2.2 b σ e (h.2 b σ e hb hc) hc⟩
theorem FR.upd {τ : Nat} {w : wd_T} {a : Nat} {e e1 : va_E} (ha : w.1 a = some (τ, e)) (hc : ¬ isC e) : FR τ w (mu w.1 a τ e1, w.2) := by
  refine ⟨Nat.le_refl _, fun b σ e2 hb h => ?_⟩
  by_cases z : b = a
  · subst z
    rw [hb] at ha
    cases ha
    rcases h with h | h
    · exact absurd rfl h
    · exact absurd h hc
  · exact (mu_n z).trans hb
/-- every cell of the map lies in the heap -/
def WF (w : wd_T) : Prop := ∀ (b σ : Nat) (e : va_E), w.1 b = some (σ, e) → b < w.2
theorem FR.new {τ σ : Nat} {w : wd_T} {e : va_E} (hw : WF w) : FR τ w (mu w.1 w.2 σ e, w.2 + 1) := by
  refine ⟨Nat.le_succ _, fun b σ2 e2 hb _ => ?_⟩
  have := hw b σ2 e2 hb
  exact (mu_n (by omega)).trans hb
theorem WF.new {w : wd_T} {σ : Nat} {e : va_E} (hw : WF w) : WF (mu w.1 w.2 σ e, w.2 + 1) := by
  intro b σ2 e2 hb
  by_cases z : b = w.2
  · show b < w.2 + 1
    omega
  · have := hw b σ2 e2 ((mu_n z).symm.trans hb)
    show b < w.2 + 1
    omega
theorem WF.upd {w : wd_T} {a τ : Nat} {e e1 : va_E} (hw : WF w) (ha : w.1 a = some (τ, e)) : WF (mu w.1 a τ e1, w.2) := by
  intro b σ2 e2 hb
  by_cases z : b = a
  · subst z
    exact hw b τ e ha
  · exact hw b σ2 e2 ((mu_n z).symm.trans hb)
/-- the list's array -/
def TLS (G : gl_T) (w : wd_T) (a e : Nat) (t : Nat → Nat) : Prop := (e = gl_z G 0 ∧ t 6 = 0) ∨ ∃ f : Nat → Option Nat, w.1 e = some (a, aq (gl_A G 4) 10 f) ∧ ∀ c, c < t 6 → ∃ q, f c = some q ∧ w.1 q = some (q, CE t c)
/-- **a town lies at a**: its own cell, its list with the corners, its three arrays -/
def TN (G : gl_T) (w : wd_T) (a : Nat) (t : Nat → Nat) : Prop :=
  w.1 a = some (a, TE a t) ∧ (∃ (e : Nat) (md : Int32), w.1 (a + 1) = some (a, .inr (20, [.int md, .ref e, .int (nI (t 6))])) ∧ TLS G w a e t) ∧
  (∃ f, w.1 (a + 2) = some (a, ai (gl_A G 0) 6 f) ∧ ∀ i, i < 6 → f i = nI (t (7 + 3 * i + 1))) ∧
  (∃ f, w.1 (a + 3) = some (a, ai (gl_A G 0) 8 f) ∧ ∀ i, i < 8 → f i = nI (t (26 + 2 * i))) ∧
  (∃ f, w.1 (a + 4) = some (a, ai (gl_A G 0) 8 f) ∧ ∀ i, i < 8 → f i = nI (t (26 + 2 * i + 1))) ∧
  t 6 ≤ 6 ∧ ∀ c, c < t 6 → 1 ≤ t (7 + 3 * c) ∧ t (7 + 3 * c) ≤ 5
theorem isC_TE {a : Nat} {t : Nat → Nat} : ¬ isC (TE a t) := fun h => by
  have : (7 : Nat) ≤ 2 := h.1
  omega
/-- another town's act -/
theorem TN.fr {G : gl_T} {w w' : wd_T} {a τ : Nat} {t : Nat → Nat} (h : TN G w a t) (hF : FR τ w w') (hne : a ≠ τ) : TN G w' a t := by
  obtain ⟨h0, ⟨e, md, h1, h2⟩, ⟨f, h3, h4⟩, ⟨f5, h5, h6⟩, ⟨f7, h7, h8⟩, h9, h10⟩ := h
  refine ⟨hF.2 _ _ _ h0 (Or.inl hne), ⟨e, md, hF.2 _ _ _ h1 (Or.inl hne), ?_⟩, ⟨f, hF.2 _ _ _ h3 (Or.inl hne), h4⟩, ⟨f5, hF.2 _ _ _ h5 (Or.inl hne), h6⟩, ⟨f7, hF.2 _ _ _ h7 (Or.inl hne), h8⟩, h9, h10⟩
  rcases h2 with h2 | ⟨f2, h2, h11⟩
  · exact Or.inl h2
  · refine Or.inr ⟨f2, hF.2 _ _ _ h2 (Or.inl hne), fun c hc => ?_⟩
    obtain ⟨q, hq, hcell⟩ := h11 c hc
    exact ⟨q, hq, hF.2 _ _ _ hcell (Or.inr (isC_CE (h10 c hc).1 (h10 c hc).2))⟩
/-- the scalars of a town are laid anew -/
theorem TN.sc {G : gl_T} {w : wd_T} {a : Nat} {t u : Nat → Nat} (h : TN G w a t) (h6 : u 6 = t 6) (hu : ∀ i, 7 ≤ i → i ≠ 25 → u i = t i) : TN G (mu w.1 a a (TE a u), w.2) a u := by
  obtain ⟨h0, ⟨e, md, h1, h2⟩, ⟨f, h3, h4⟩, ⟨f5, h5, h6'⟩, ⟨f7, h7, h8⟩, h9, h10⟩ := h
  have hk : ∀ c, c < t 6 → CE u c = CE t c := fun c hc => by
    show (Sum.inr (6 + u (7 + 3 * c), [.int (nI c), .int (nI (u (7 + 3 * c + 2)))]) : va_E) = _
    rw [hu (7 + 3 * c) (by omega) (by omega), hu (7 + 3 * c + 2) (by omega) (by omega)]
  refine ⟨mu_s, ⟨e, md, ?_, ?_⟩, ⟨f, (mu_n (by omega)).trans h3, fun i hi => by rw [h4 i hi, hu (7 + 3 * i + 1) (by omega) (by omega)]⟩, ⟨f5, (mu_n (by omega)).trans h5, fun i hi => by rw [h6' i hi, hu (26 + 2 * i) (by omega) (by omega)]⟩, ⟨f7, (mu_n (by omega)).trans h7, fun i hi => by rw [h8 i hi, hu (26 + 2 * i + 1) (by omega) (by omega)]⟩, by omega, fun c hc => by
    rw [hu (7 + 3 * c) (by omega) (by omega)]
    exact h10 c (by omega)⟩
  · rw [h6]
    exact (mu_n (by omega)).trans h1
  · rcases h2 with ⟨h2, h2'⟩ | ⟨f2, h2, h11⟩
    · exact Or.inl ⟨h2, by rw [h6]; exact h2'⟩
    · have hne : e ≠ a := fun z => by
        subst z
        rw [h2] at h0
        cases h0
      refine Or.inr ⟨f2, (mu_n hne).trans h2, fun c hc => ?_⟩
      obtain ⟨q, hq, hcell⟩ := h11 c (by omega)
      have hq2 : q ≠ a := fun z => by
        subst z
        rw [h0] at hcell
        have := congrArg (fun o => Option.map (fun p : Nat × va_E => match p.2 with | .inr (k, _) => k | _ => 0) o) hcell
        simp at this
        omega
      exact ⟨q, hq, by rw [hk c (by omega)]; exact (mu_n hq2).trans hcell⟩
theorem TN.lt {G : gl_T} {w : wd_T} {a : Nat} {t : Nat → Nat} (h : TN G w a t) (hw : WF w) : a + 4 < w.2 := by
  obtain ⟨-, -, -, -, ⟨f7, h7, -⟩, -⟩ := h
  exact hw _ _ _ h7
/-- the town as it stands is known by the numbers that count -/
theorem TN.cg {G : gl_T} {w : wd_T} {a : Nat} {t u : Nat → Nat} (h : TN G w a t) (h6 : ∀ i, i < 7 → u i = t i) (h25 : u 25 = t 25) (hk : ∀ c, c < t 6 → u (7 + 3 * c) = t (7 + 3 * c) ∧ u (7 + 3 * c + 2) = t (7 + 3 * c + 2)) (hm : ∀ c, c < 6 → u (7 + 3 * c + 1) = t (7 + 3 * c + 1)) (hs : ∀ c, c < 8 → u (26 + 2 * c) = t (26 + 2 * c) ∧ u (26 + 2 * c + 1) = t (26 + 2 * c + 1)) : TN G w a u := by
  obtain ⟨h0, ⟨e, md, h1, h2⟩, ⟨f, h3, h4⟩, ⟨f5, h5, h6'⟩, ⟨f7, h7, h8⟩, h9, h10⟩ := h
  have e6 := h6 6 (by omega)
  refine ⟨?_, ⟨e, md, by rw [e6]; exact h1, ?_⟩, ⟨f, h3, fun i hi => by rw [h4 i hi, hm i hi]⟩, ⟨f5, h5, fun i hi => by rw [h6' i hi, (hs i hi).1]⟩, ⟨f7, h7, fun i hi => by rw [h8 i hi, (hs i hi).2]⟩, by omega, fun c hc => by
    rw [(hk c (by omega)).1]
    exact h10 c (by omega)⟩
  · rw [h0]
    show some (a, TE a t) = some (a, TE a u)
    unfold TE
    rw [h6 0 (by omega), h6 1 (by omega), h6 2 (by omega), h6 3 (by omega), h6 4 (by omega), h6 5 (by omega), h25]
  · rcases h2 with ⟨h2, h2'⟩ | ⟨f2, h2, h11⟩
    · exact Or.inl ⟨h2, by rw [e6]; exact h2'⟩
    · refine Or.inr ⟨f2, h2, fun c hc => ?_⟩
      obtain ⟨q, hq, hcell⟩ := h11 c (by omega)
      refine ⟨q, hq, ?_⟩
      rw [hcell]
      unfold CE
      rw [(hk c (by omega)).1, (hk c (by omega)).2]
/-- a weaker start: the town's row under other words -/
theorem TN.eq {G : gl_T} {w : wd_T} {a : Nat} {t u : Nat → Nat} (h : TN G w a t) (e : t = u) : TN G w a u := e ▸ h
/-- places emptied -/
def clF (f : Nat → Option Nat) (n : Nat) : Nat → Option Nat := fun i => if i < n then none else f i
theorem clF_0 (f : Nat → Option Nat) : clF f 0 = f := by
  funext i
  simp [clF]
theorem clF_s (f : Nat → Option Nat) (n : Nat) : va_up (clF f n) n none = clF f (n + 1) := by
  funext i
  unfold va_up clF
  by_cases h : i = n
  · rw [if_pos h, if_pos (by omega)]
  · rw [if_neg h]
    by_cases h2 : i < n
    · rw [if_pos h2, if_pos (by omega)]
    · rw [if_neg h2, if_neg (by omega)]
