/-! ===== the class: its whole state ===== -/
set_option maxRecDepth 100000
/-- plain numbers (0 taped, 1 the fault's kind, 2 acts, 3 status, 4 how many the trail has, 5 where the trail lies, 6 how many riders there are); towns' rows; where things lie; rows; arrays (0 tape, 1 tried, 2 best, 3 the trail's). Towns by their places: 0 town, 1 then, 2.. past, 26.. images, 28.. riders; what shelves hold from 40 on -/
abbrev cw_T : Type := (Nat → Nat) × (Nat → Nat → Nat) × (Nat → Option Nat) × (Nat → Option (Nat × Nat × (Nat → Int32))) × (Nat → Nat → Int32)
def wN (W : cw_T) (i v : Nat) : cw_T := (uN W.1 i v, W.2)
def wT (W : cw_T) (i : Nat) (t : Nat → Nat) : cw_T := (W.1, (fun j => if j = i then t else W.2.1 j), W.2.2)
def wA (W : cw_T) (i : Nat) (o : Option Nat) : cw_T := (W.1, W.2.1, (fun j => if j = i then o else W.2.2.1 j), W.2.2.2)
def wR (W : cw_T) (i : Nat) (r : Option (Nat × Nat × (Nat → Int32))) : cw_T := (W.1, W.2.1, W.2.2.1, (fun j => if j = i then r else W.2.2.2.1 j), W.2.2.2.2)
def wB (W : cw_T) (i : Nat) (f : Nat → Int32) : cw_T := (W.1, W.2.1, W.2.2.1, W.2.2.2.1, fun j => if j = i then f else W.2.2.2.2 j)
/-- the part of the addresses that an array of towns holds -/
def adP (W : cw_T) (s n : Nat) : Nat → Option Nat := fun k => if k < n then W.2.2.1 (s + k) else none
/-- the cell of x's block -/
def xcell (G : gl_T) (x : Nat) (W : cw_T) (j : Nat) : va_E :=
  if j = 0 then .inr (0, [.ref (x + 1), .ref (x + 10), .int (nI (W.1 0)), .int (nI (W.1 1)), .ref (x + 11), .ref (x + 16), .ref (x + 21), .int (nI (W.1 2)), .ref (x + 22), .ref (W.1 5), .int (nI (W.1 3)), .ref (x + 25), .ref (x + 26), .ref (x + 27)])
  else if j = 1 then aq (gl_A G 6) 8 (fun k => some (x + 2 + k))
  else if j ≤ 9 then .inr (1, [va_rf (W.2.2.1 (38 + j))])
  else if j = 10 then ai (gl_A G 1) 120 (W.2.2.2.2 0)
  else if j = 21 then aq (gl_A G 5) 24 (adP W 2 24)
  else if j = 22 then aq (gl_A G 5) 2 (adP W 26 2)
  else if j = 25 then aq (gl_A G 5) 9 (adP W 28 9)
  else if j = 26 then ai (gl_A G 0) 8 (W.2.2.2.2 1)
  else ai (gl_A G 0) 8 (W.2.2.2.2 2)
def cr (j : Nat) : Prop := j ≤ 10 ∨ j = 21 ∨ j = 22 ∨ j = 25 ∨ j = 26 ∨ j = 27
/-- the array's class of a lane -/
def lnc (l : Nat) : Nat := if l = 0 then 1 else if l = 1 then 2 else 0
/-- what a shelf holds -/
def RW (G : gl_T) (w : wd_T) (x : Nat) (W : cw_T) (k : Nat) : Prop := (W.2.2.2.1 k = none ∧ W.2.2.1 (40 + k) = none) ∨ ∃ l n f b, W.2.2.2.1 k = some (l, n, f) ∧ W.2.2.1 (40 + k) = some b ∧ l ≤ 2 ∧ n ≤ 40 ∧ w.1 b = some (x + 2 + k, ai (gl_A G (lnc l)) n f)
/-- **the class's object lies at x**, with all that belongs to it; foreign tags O are as they were in w0 -/
def FA (G : gl_T) (w0 w : wd_T) (x : Nat) (O : Nat → Prop) (W : cw_T) : Prop :=
  WF w ∧ (∀ j, cr j → w.1 (x + j) = some (x, xcell G x W j)) ∧ (∀ i b, i < 37 → W.2.2.1 i = some b → TN G w b (W.2.1 i)) ∧
  (∀ i j b, i < 37 → j < 37 → W.2.2.1 i = some b → W.2.2.1 j = some b → i = j) ∧ W.2.2.1 0 = some (x + 11) ∧ W.2.2.1 1 = some (x + 16) ∧
  ((∀ k, k < W.1 6 → ∃ b, W.2.2.1 (28 + k) = some b) ∧ (∀ k, W.1 6 ≤ k → k < 9 → W.2.2.1 (28 + k) = none) ∧ W.1 6 ≤ 8) ∧ ((∀ k, k < W.1 2 → ∃ b, W.2.2.1 (2 + k) = some b) ∧ W.1 2 ≤ 24) ∧
  (∀ k, k < 8 → RW G w x W k) ∧ (w.1 (W.1 5) = some (W.1 5, .inr (3, [.ref (W.1 5 + 1), .int (nI (W.1 4))])) ∧ w.1 (W.1 5 + 1) = some (W.1 5, ai (gl_A G 0) 16 (W.2.2.2.2 3)) ∧ W.1 4 ≤ 16) ∧
  (∀ b σ e, O σ → w0.1 b = some (σ, e) → w.1 b = some (σ, e)) ∧ ∀ σ, O σ → σ < w.2 ∧ (σ < x ∨ x + 27 < σ) ∧ σ ≠ W.1 5 ∧ ∀ i, i < 37 → W.2.2.1 i ≠ some σ
section FAS
variable {G : gl_T} {w0 w w' : wd_T} {x : Nat} {O : Nat → Prop} {W W' : cw_T}
theorem FA.wf (h : FA G w0 w x O W) : WF w := h.1
theorem FA.cell (h : FA G w0 w x O W) (j : Nat) (hj : cr j) : w.1 (x + j) = some (x, xcell G x W j) := h.2.1 j hj
theorem FA.c0 (h : FA G w0 w x O W) : w.1 x = some (x, .inr (0, [.ref (x + 1), .ref (x + 10), .int (nI (W.1 0)), .int (nI (W.1 1)), .ref (x + 11), .ref (x + 16), .ref (x + 21), .int (nI (W.1 2)), .ref (x + 22), .ref (W.1 5), .int (nI (W.1 3)), .ref (x + 25), .ref (x + 26), .ref (x + 27)])) := h.2.1 0 (Or.inl (by omega))
theorem FA.c1 (h : FA G w0 w x O W) : w.1 (x + 1) = some (x, aq (gl_A G 6) 8 (fun k => some (x + 2 + k))) := h.2.1 1 (Or.inl (by omega))
theorem FA.sh (h : FA G w0 w x O W) (k : Nat) (hk : k < 8) : w.1 (x + 2 + k) = some (x, .inr (1, [va_rf (W.2.2.1 (40 + k))])) := by
  have := h.2.1 (2 + k) (Or.inl (by omega))
  unfold xcell at this
  rw [if_neg (by omega), if_neg (by omega), if_pos (by omega), show 38 + (2 + k) = 40 + k by omega, show x + (2 + k) = x + 2 + k by omega] at this
  exact this
theorem FA.c10 (h : FA G w0 w x O W) : w.1 (x + 10) = some (x, ai (gl_A G 1) 120 (W.2.2.2.2 0)) := h.2.1 10 (Or.inl (by omega))
theorem FA.c21 (h : FA G w0 w x O W) : w.1 (x + 21) = some (x, aq (gl_A G 5) 24 (adP W 2 24)) := h.2.1 21 (Or.inr (Or.inl rfl))
theorem FA.c22 (h : FA G w0 w x O W) : w.1 (x + 22) = some (x, aq (gl_A G 5) 2 (adP W 26 2)) := h.2.1 22 (by unfold cr; omega)
theorem FA.c25 (h : FA G w0 w x O W) : w.1 (x + 25) = some (x, aq (gl_A G 5) 9 (adP W 28 9)) := h.2.1 25 (by unfold cr; omega)
theorem FA.c26 (h : FA G w0 w x O W) : w.1 (x + 26) = some (x, ai (gl_A G 0) 8 (W.2.2.2.2 1)) := h.2.1 26 (by unfold cr; omega)
theorem FA.c27 (h : FA G w0 w x O W) : w.1 (x + 27) = some (x, ai (gl_A G 0) 8 (W.2.2.2.2 2)) := h.2.1 27 (by unfold cr; omega)
theorem FA.tn (h : FA G w0 w x O W) {i b : Nat} (hi : i < 37) (hA : W.2.2.1 i = some b) : TN G w b (W.2.1 i) := h.2.2.1 i b hi hA
theorem FA.inj (h : FA G w0 w x O W) {i j b : Nat} (hi : i < 37) (hj : j < 37) (h1 : W.2.2.1 i = some b) (h2 : W.2.2.1 j = some b) : i = j := h.2.2.2.1 i j b hi hj h1 h2
theorem FA.a0 (h : FA G w0 w x O W) : W.2.2.1 0 = some (x + 11) := h.2.2.2.2.1
theorem FA.a1 (h : FA G w0 w x O W) : W.2.2.1 1 = some (x + 16) := h.2.2.2.2.2.1
theorem FA.t0 (h : FA G w0 w x O W) : TN G w (x + 11) (W.2.1 0) := h.tn (by omega) h.a0
theorem FA.t1 (h : FA G w0 w x O W) : TN G w (x + 16) (W.2.1 1) := h.tn (by omega) h.a1
theorem FA.rid (h : FA G w0 w x O W) : (∀ k, k < W.1 6 → ∃ b, W.2.2.1 (28 + k) = some b) ∧ (∀ k, W.1 6 ≤ k → k < 9 → W.2.2.1 (28 + k) = none) ∧ W.1 6 ≤ 8 := h.2.2.2.2.2.2.1
theorem FA.past (h : FA G w0 w x O W) : (∀ k, k < W.1 2 → ∃ b, W.2.2.1 (2 + k) = some b) ∧ W.1 2 ≤ 24 := h.2.2.2.2.2.2.2.1
theorem FA.rows (h : FA G w0 w x O W) (k : Nat) (hk : k < 8) : RW G w x W k := h.2.2.2.2.2.2.2.2.1 k hk
theorem FA.tr (h : FA G w0 w x O W) : w.1 (W.1 5) = some (W.1 5, .inr (3, [.ref (W.1 5 + 1), .int (nI (W.1 4))])) ∧ w.1 (W.1 5 + 1) = some (W.1 5, ai (gl_A G 0) 16 (W.2.2.2.2 3)) ∧ W.1 4 ≤ 16 := h.2.2.2.2.2.2.2.2.2.1
theorem FA.fr0 (h : FA G w0 w x O W) : ∀ b σ e, O σ → w0.1 b = some (σ, e) → w.1 b = some (σ, e) := h.2.2.2.2.2.2.2.2.2.2.1
theorem FA.frO (h : FA G w0 w x O W) : ∀ σ, O σ → σ < w.2 ∧ (σ < x ∨ x + 27 < σ) ∧ σ ≠ W.1 5 ∧ ∀ i, i < 37 → W.2.2.1 i ≠ some σ := h.2.2.2.2.2.2.2.2.2.2.2
/-- no town lies where a cell of another kind lies -/
theorem TN.ne {a b τ : Nat} {t : Nat → Nat} {e : va_E} (h : TN G w a t) (hb : w.1 b = some (τ, e)) (he : ∀ t', e ≠ TE a t') : a ≠ b := fun z => by
  have h0 := h.1
  rw [z, hb] at h0
  cases h0
  exact he t (by rw [z])
theorem FA.tx (h : FA G w0 w x O W) {i b : Nat} (hi : i < 37) (hA : W.2.2.1 i = some b) : b ≠ x ∧ b ≠ W.1 5 ∧ ∀ k, k < 8 → b ≠ x + 2 + k := by
  have hT := h.tn hi hA
  refine ⟨fun z => ?_, fun z => ?_, fun k hk z => ?_⟩
  · have h0 := hT.1
    rw [z, h.c0] at h0
    cases h0
  · have h0 := hT.1
    rw [z, h.tr.1] at h0
    cases h0
  · have h0 := hT.1
    rw [z, h.sh k hk] at h0
    have := congrArg (fun o => Option.map (fun p : Nat × va_E => p.1) o) h0
    simp at this
    omega
theorem FA.rx (h : FA G w0 w x O W) : W.1 5 ≠ x ∧ ∀ k, k < 8 → W.1 5 ≠ x + 2 + k := by
  refine ⟨fun z => ?_, fun k hk z => ?_⟩
  · have h0 := h.tr.1
    rw [z, h.c0] at h0
    cases h0
  · have h0 := h.tr.1
    rw [z, h.sh k hk] at h0
    have := congrArg (fun o => Option.map (fun p : Nat × va_E => p.1) o) h0
    simp at this
    omega
/-- an act of one town -/
theorem FA.town (h : FA G w0 w x O W) {i b : Nat} {t : Nat → Nat} (hi : i < 37) (hA : W.2.2.1 i = some b) (hT : TN G w' b t) (hF : FR b w w') (hw : WF w') : FA G w0 w' x O (wT W i t) := by
  have hx := h.tx hi hA
  refine ⟨hw, fun j hj => hF.2 _ _ _ (h.cell j hj) (Or.inl (Ne.symm hx.1)), fun j c hj hc => ?_, h.2.2.2.1, h.a0, h.a1, h.rid, h.past, fun k hk => ?_, ⟨hF.2 _ _ _ h.tr.1 (Or.inl (Ne.symm hx.2.1)), hF.2 _ _ _ h.tr.2.1 (Or.inl (Ne.symm hx.2.1)), h.tr.2.2⟩, fun c σ e ho hc => ?_, fun σ ho => ?_⟩
  · show TN G w' c (if j = i then t else W.2.1 j)
    have hc' : W.2.2.1 j = some c := hc
    by_cases z : j = i
    · rw [if_pos z]
      rw [z, hA] at hc'
      cases hc'
      exact hT
    · rw [if_neg z]
      exact (h.tn hj hc').fr hF (fun e => z (h.inj hj hi hc' (e ▸ hA)))
  · rcases h.rows k hk with h1 | ⟨l, n, f, c, h1, h2, h3, h4, h5⟩
    · exact Or.inl h1
    · exact Or.inr ⟨l, n, f, c, h1, h2, h3, h4, hF.2 _ _ _ h5 (Or.inl (Ne.symm (hx.2.2 k hk)))⟩
  · refine hF.2 _ _ _ (h.fr0 c σ e ho hc) (Or.inl (fun z => ?_))
    exact (h.frO σ ho).2.2.2 i hi (by rw [z]; exact hA)
  · have := h.frO σ ho
    exact ⟨Nat.lt_of_lt_of_le this.1 hF.1, this.2⟩
/-- cells are new, old ones stand -/
theorem FA.ext (h : FA G w0 w x O W) (he : ∀ b σ e, w.1 b = some (σ, e) → w'.1 b = some (σ, e)) (hs : w.2 ≤ w'.2) (hw : WF w') : FA G w0 w' x O W := by
  have hF : ∀ τ, FR τ w w' := fun τ => ⟨hs, fun b σ e hb _ => he b σ e hb⟩
  refine ⟨hw, fun j hj => he _ _ _ (h.cell j hj), fun j c hj hc => ?_, h.2.2.2.1, h.a0, h.a1, h.rid, h.past, fun k hk => ?_, ⟨he _ _ _ h.tr.1, he _ _ _ h.tr.2.1, h.tr.2.2⟩, fun c σ e ho hc => he _ _ _ (h.fr0 c σ e ho hc), fun σ ho => ?_⟩
  · have hl := (h.tn hj hc).lt h.wf
    exact (h.tn hj hc).fr (hF (c + 1)) (by omega)
  · rcases h.rows k hk with h1 | ⟨l, n, f, c, h1, h2, h3, h4, h5⟩
    · exact Or.inl h1
    · exact Or.inr ⟨l, n, f, c, h1, h2, h3, h4, he _ _ _ h5⟩
  · have := h.frO σ ho
    exact ⟨by omega, this.2⟩
/-- a cell of x's own block is laid anew; the towns, the rows, the trail stay -/
theorem FA.core (h : FA G w0 w x O W) (j : Nat) (hj : cr j) (hc : ∀ i, cr i → i ≠ j → xcell G x W' i = xcell G x W i) (hT : W'.2.1 = W.2.1) (hA : W'.2.2.1 = W.2.2.1) (hR : W'.2.2.2.1 = W.2.2.2.1) (hB : W'.2.2.2.2 3 = W.2.2.2.2 3) (h4 : W'.1 4 = W.1 4) (h5 : W'.1 5 = W.1 5) (h6 : W'.1 6 = W.1 6) (h2 : W'.1 2 ≤ 24 ∧ ∀ k, k < W'.1 2 → ∃ b, W.2.2.1 (2 + k) = some b) : FA G w0 (mu w.1 (x + j) x (xcell G x W' j), w.2) x O W' := by
  have hcj := h.cell j hj
  have hnC : ¬ isC (xcell G x W j) := by
    unfold xcell
    intro z
    split at z
    · have : (7 : Nat) ≤ 0 := z.1
      omega
    · split at z
      · exact z
      · split at z
        · have : (7 : Nat) ≤ 1 := z.1
          omega
        · split at z
          · exact z
          · split at z
            · exact z
            · split at z
              · exact z
              · split at z
                · exact z
                · split at z <;> exact z
  have hF : FR x w (mu w.1 (x + j) x (xcell G x W' j), w.2) := FR.upd hcj hnC
  refine ⟨h.wf.upd hcj, fun i hi => ?_, fun i b hi hb => ?_, by rw [hA]; exact h.2.2.2.1, by rw [hA]; exact h.a0, by rw [hA]; exact h.a1, by rw [hA, h6]; exact h.rid, ⟨by rw [hA]; exact h2.2, h2.1⟩, fun k hk => ?_, ?_, fun b σ e ho hb => ?_, fun σ ho => ?_⟩
  · by_cases z : i = j
    · subst z
      exact mu_s
    · rw [hc i hi z]
      exact (mu_n (by omega)).trans (h.cell i hi)
  · rw [hT]
    rw [hA] at hb
    exact (h.tn hi hb).fr hF (h.tx hi hb).1
  · unfold RW
    rw [hA, hR]
    rcases h.rows k hk with h1 | ⟨l, n, f, c, h1, h2', h3, h4', h5'⟩
    · exact Or.inl h1
    · exact Or.inr ⟨l, n, f, c, h1, h2', h3, h4', hF.2 _ _ _ h5' (Or.inl (by omega))⟩
  · rw [h4, h5, hB]
    exact ⟨hF.2 _ _ _ h.tr.1 (Or.inl h.rx.1), hF.2 _ _ _ h.tr.2.1 (Or.inl h.rx.1), h.tr.2.2⟩
  · refine hF.2 _ _ _ (h.fr0 b σ e ho hb) (Or.inl (fun z => ?_))
    have := (h.frO σ ho).2.1
    omega
  · have := h.frO σ ho
    rw [h5, hA]
    exact this
/-- a plain number of x's: 0 taped, 1 the fault's kind, 3 status -/
theorem FA.num (h : FA G w0 w x O W) (i v : Nat) (hi : i = 0 ∨ i = 1 ∨ i = 3) : FA G w0 (mu w.1 x x (xcell G x (wN W i v) 0), w.2) x O (wN W i v) := by
  have e : ∀ k, k ≠ i → (wN W i v).1 k = W.1 k := fun k hk => uN_n hk
  exact FA.core (W' := wN W i v) h 0 (Or.inl (by omega)) (fun j _ hj => by
    unfold xcell
    rw [if_neg hj, if_neg hj]
    rfl) rfl rfl rfl rfl (e 4 (by omega)) (e 5 (by omega)) (e 6 (by omega)) ⟨by rw [e 2 (by omega)]; exact h.past.2, by rw [e 2 (by omega)]; exact h.past.1⟩
/-- acts -/
theorem FA.act (h : FA G w0 w x O W) (v : Nat) (hv : v ≤ 24) (hp : ∀ k, k < v → ∃ b, W.2.2.1 (2 + k) = some b) : FA G w0 (mu w.1 x x (xcell G x (wN W 2 v) 0), w.2) x O (wN W 2 v) := by
  have e : ∀ k, k ≠ 2 → (wN W 2 v).1 k = W.1 k := fun k hk => uN_n hk
  have e2 : (wN W 2 v).1 2 = v := (uN_s : uN W.1 2 v 2 = v)
  exact FA.core (W' := wN W 2 v) h 0 (Or.inl (by omega)) (fun j _ hj => by
    unfold xcell
    rw [if_neg hj, if_neg hj]
    rfl) rfl rfl rfl rfl (e 4 (by omega)) (e 5 (by omega)) (e 6 (by omega)) ⟨by rw [e2]; exact hv, by rw [e2]; exact hp⟩
/-- an array of x's own: 0 tape, 1 tried, 2 best -/
theorem FA.arr (h : FA G w0 w x O W) (i : Nat) (f : Nat → Int32) (j : Nat) (hi : (i = 0 ∧ j = 10) ∨ (i = 1 ∧ j = 26) ∨ (i = 2 ∧ j = 27)) : FA G w0 (mu w.1 (x + j) x (xcell G x (wB W i f) j), w.2) x O (wB W i f) := by
  refine FA.core (W' := wB W i f) h j (by unfold cr; omega) (fun q hq hj => ?_) rfl rfl rfl ?_ rfl rfl rfl ⟨h.past.2, h.past.1⟩
  · unfold xcell
    rcases hi with ⟨rfl, rfl⟩ | ⟨rfl, rfl⟩ | ⟨rfl, rfl⟩
    · rcases hq with hq | rfl | rfl | rfl | rfl | rfl <;> first | rfl | skip
      rcases (show q = 0 ∨ q = 1 ∨ (2 ≤ q ∧ q ≤ 9) by omega) with rfl | rfl | ⟨h1, h2⟩
      · rfl
      · rfl
      · rw [if_neg (by omega), if_neg (by omega), if_pos h2, if_neg (by omega), if_neg (by omega), if_pos h2]
        rfl
    · rcases hq with hq | rfl | rfl | rfl | rfl | rfl <;> first | rfl | skip
      · rcases (show q = 0 ∨ q = 1 ∨ (2 ≤ q ∧ q ≤ 9) ∨ q = 10 by omega) with rfl | rfl | ⟨h1, h2⟩ | rfl
        · rfl
        · rfl
        · rw [if_neg (by omega), if_neg (by omega), if_pos h2, if_neg (by omega), if_neg (by omega), if_pos h2]
          rfl
        · rfl
      · exact absurd rfl hj
    · rcases hq with hq | rfl | rfl | rfl | rfl | rfl <;> first | rfl | skip
      · rcases (show q = 0 ∨ q = 1 ∨ (2 ≤ q ∧ q ≤ 9) ∨ q = 10 by omega) with rfl | rfl | ⟨h1, h2⟩ | rfl
        · rfl
        · rfl
        · rw [if_neg (by omega), if_neg (by omega), if_pos h2, if_neg (by omega), if_neg (by omega), if_pos h2]
          rfl
        · rfl
      · exact absurd rfl hj
  · show (if 3 = i then f else W.2.2.2.2 3) = W.2.2.2.2 3
    rw [if_neg (by omega)]
/-- an address of an array of towns is laid anew: a new town -/
theorem FA.addT (h : FA G w0 w x O W) {b i s n j k : Nat} {t : Nat → Nat} (hj : (j = 21 ∧ s = 2 ∧ n = 24) ∨ (j = 22 ∧ s = 26 ∧ n = 2) ∨ (j = 25 ∧ s = 28 ∧ n = 9)) (hi : i = s + k) (hk : k < n) (hN : W.2.2.1 i = none) (hT : TN G w b t) (hb : ∀ q, q < 37 → W.2.2.1 q ≠ some b) (hO : ¬ O b) (h6 : j = 25 → k = W.1 6 ∧ k < 8) (W' : cw_T) (hW : W' = wT (wA W i (some b)) i t ∨ (j = 25 ∧ W' = wN (wT (wA W i (some b)) i t) 6 (W.1 6 + 1))) (hW6 : j = 25 → W'.1 6 = W.1 6 + 1) : FA G w0 (mu w.1 (x + j) x (aq (gl_A G 5) n (va_up (adP W s n) k (some b))), w.2) x O W' := by
  have eT : W'.2.1 = fun q => if q = i then t else W.2.1 q := by
    rcases hW with rfl | ⟨-, rfl⟩ <;> rfl
  have eA : W'.2.2.1 = fun q => if q = i then some b else W.2.2.1 q := by
    rcases hW with rfl | ⟨-, rfl⟩ <;> rfl
  have eR : W'.2.2.2 = W.2.2.2 := by
    rcases hW with rfl | ⟨-, rfl⟩ <;> rfl
  have e1 : ∀ q, q ≠ 6 → W'.1 q = W.1 q := by
    intro q hq
    rcases hW with rfl | ⟨-, rfl⟩
    · rfl
    · exact uN_n hq
  have e6 : j ≠ 25 → W'.1 6 = W.1 6 := by
    intro hq
    rcases hW with rfl | ⟨z, -⟩
    · rfl
    · exact absurd z hq
  have hi37 : i < 37 := by omega
  have hcj := h.cell j (by unfold cr; omega)
  have hxc : xcell G x W j = aq (gl_A G 5) n (adP W s n) := by
    rcases hj with ⟨rfl, rfl, rfl⟩ | ⟨rfl, rfl, rfl⟩ | ⟨rfl, rfl, rfl⟩ <;> rfl
  rw [hxc] at hcj
  have hF : FR x w (mu w.1 (x + j) x (aq (gl_A G 5) n (va_up (adP W s n) k (some b))), w.2) := FR.upd hcj (fun z => z)
  have hbx : b ≠ x := fun z => by
    have h0 := hT.1
    rw [z, h.c0] at h0
    cases h0
  have adn : ∀ s' n', (i < s' ∨ s' + n' ≤ i) → adP W' s' n' = adP W s' n' := by
    intro s' n' hd
    funext q
    unfold adP
    by_cases z : q < n'
    · rw [if_pos z, if_pos z, eA]
      show (if s' + q = i then _ else _) = _
      rw [if_neg (by omega)]
    · rw [if_neg z, if_neg z]
  have ads : adP W' s n = va_up (adP W s n) k (some b) := by
    funext q
    unfold adP va_up
    rw [eA]
    show (if q < n then (if s + q = i then some b else W.2.2.1 (s + q)) else none) = _
    by_cases z : q = k
    · rw [z, if_pos hk, if_pos (by omega), if_pos rfl]
    · rw [if_neg z]
      show (if q < n then (if s + q = i then some b else W.2.2.1 (s + q)) else none) = (if q < n then W.2.2.1 (s + q) else none)
      by_cases z2 : q < n
      · rw [if_pos z2, if_pos z2, if_neg (by omega)]
      · rw [if_neg z2, if_neg z2]
  refine ⟨h.wf.upd hcj, fun q hq => ?_, fun q c hq hc => ?_, fun q r c hq hr h1 h2 => ?_, ?_, ?_, ⟨fun q hq => ?_, fun q hq hq9 => ?_, ?_⟩, ⟨fun q hq => ?_, by rw [e1 2 (by omega)]; exact h.past.2⟩, fun q hq => ?_, ?_, fun c σ e ho hc => ?_, fun σ ho => ?_⟩
  · by_cases z : q = j
    · subst z
      rw [show xcell G x W' q = aq (gl_A G 5) n (adP W' s n) by rcases hj with ⟨rfl, rfl, rfl⟩ | ⟨rfl, rfl, rfl⟩ | ⟨rfl, rfl, rfl⟩ <;> rfl, ads]
      exact mu_s
    · have : xcell G x W' q = xcell G x W q := by
        unfold xcell
        rw [e1 0 (by omega), e1 1 (by omega), e1 2 (by omega), e1 3 (by omega), e1 5 (by omega), eR, eA]
        by_cases z0 : q = 0
        · rw [if_pos z0, if_pos z0]
        · rw [if_neg z0, if_neg z0]
          by_cases z1 : q = 1
          · rw [if_pos z1, if_pos z1]
          · rw [if_neg z1, if_neg z1]
            by_cases z9 : q ≤ 9
            · rw [if_pos z9, if_pos z9]
              show (Sum.inr (1, [va_rf (if 38 + q = i then some b else W.2.2.1 (38 + q))]) : va_E) = _
              rw [if_neg (by omega)]
            · rw [if_neg z9, if_neg z9]
              by_cases z10 : q = 10
              · rw [if_pos z10, if_pos z10]
              · rw [if_neg z10, if_neg z10]
                by_cases z21 : q = 21
                · rw [if_pos z21, if_pos z21, adn 2 24 (by omega)]
                · rw [if_neg z21, if_neg z21]
                  by_cases z22 : q = 22
                  · rw [if_pos z22, if_pos z22, adn 26 2 (by omega)]
                  · rw [if_neg z22, if_neg z22]
                    by_cases z25 : q = 25
                    · rw [if_pos z25, if_pos z25, adn 28 9 (by omega)]
                    · rw [if_neg z25, if_neg z25]
      rw [this]
      exact (mu_n (by omega)).trans (h.cell q hq)
  · rw [eT]
    rw [eA] at hc
    show TN G _ c (if q = i then t else W.2.1 q)
    have hc' : (if q = i then some b else W.2.2.1 q) = some c := hc
    by_cases z : q = i
    · rw [if_pos z] at hc' ⊢
      cases hc'
      exact hT.fr hF hbx
    · rw [if_neg z] at hc' ⊢
      exact (h.tn hq hc').fr hF (h.tx hq hc').1
  · rw [eA] at h1 h2
    have h1' : (if q = i then some b else W.2.2.1 q) = some c := h1
    have h2' : (if r = i then some b else W.2.2.1 r) = some c := h2
    by_cases z : q = i
    · rw [if_pos z] at h1'
      cases h1'
      by_cases z2 : r = i
      · omega
      · rw [if_neg z2] at h2'
        exact absurd h2' (hb r hr)
    · rw [if_neg z] at h1'
      by_cases z2 : r = i
      · rw [if_pos z2] at h2'
        cases h2'
        exact absurd h1' (hb q hq)
      · rw [if_neg z2] at h2'
        exact h.inj hq hr h1' h2'
  · rw [eA]
    show (if 0 = i then _ else _) = _
    rw [if_neg (by omega)]
    exact h.a0
  · rw [eA]
    show (if 1 = i then _ else _) = _
    rw [if_neg (by omega)]
    exact h.a1
  · rw [eA]
    show ∃ c, (if 28 + q = i then some b else W.2.2.1 (28 + q)) = some c
    by_cases z : 28 + q = i
    · exact ⟨b, if_pos z⟩
    · rw [if_neg z]
      refine h.rid.1 q ?_
      by_cases z25 : j = 25
      · have := hW6 z25
        have := h6 z25
        omega
      · rw [e6 z25] at hq
        exact hq
  · rw [eA]
    show (if 28 + q = i then some b else W.2.2.1 (28 + q)) = none
    by_cases z25 : j = 25
    · have h7 := hW6 z25
      have h8 := h6 z25
      rw [if_neg (by omega)]
      exact h.rid.2.1 q (by omega) hq9
    · rw [e6 z25] at hq
      rw [if_neg (by omega)]
      exact h.rid.2.1 q hq hq9
  · by_cases z25 : j = 25
    · have h7 := hW6 z25
      have h8 := h6 z25
      omega
    · rw [e6 z25]
      exact h.rid.2.2
  · rw [eA]
    rw [e1 2 (by omega)] at hq
    show ∃ c, (if 2 + q = i then some b else W.2.2.1 (2 + q)) = some c
    by_cases z : 2 + q = i
    · exact ⟨b, if_pos z⟩
    · rw [if_neg z]
      exact h.past.1 q hq
  · unfold RW
    rw [eA, eR]
    have hqi : ¬ 40 + q = i := by omega
    simp only [if_neg hqi]
    rcases h.rows q hq with h1 | ⟨l, n', f, c, h1, h2', h3, h4', h5'⟩
    · exact Or.inl h1
    · exact Or.inr ⟨l, n', f, c, h1, h2', h3, h4', hF.2 _ _ _ h5' (Or.inl (by omega))⟩
  · rw [e1 4 (by omega), e1 5 (by omega), eR]
    exact ⟨hF.2 _ _ _ h.tr.1 (Or.inl h.rx.1), hF.2 _ _ _ h.tr.2.1 (Or.inl h.rx.1), h.tr.2.2⟩
  · refine hF.2 _ _ _ (h.fr0 c σ e ho hc) (Or.inl (fun z => ?_))
    have := (h.frO σ ho).2.1
    omega
  · have := h.frO σ ho
    rw [e1 5 (by omega), eA]
    refine ⟨this.1, this.2.1, this.2.2.1, fun q hq => ?_⟩
    show (if q = i then some b else W.2.2.1 q) ≠ some σ
    by_cases z : q = i
    · rw [if_pos z]
      intro z2
      cases z2
      exact hO ho
    · rw [if_neg z]
      exact this.2.2.2 q hq
end FAS
