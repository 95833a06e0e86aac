/-! ===== the class: its constructor, stage by stage ===== -/
set_option maxRecDepth 100000
def STC (G : gl_T) (x j : Nat) (w : wd_T) : Prop :=
  (j = 1 → w.1 (x + 1) = some (x, aq (gl_A G 6) 8 (fun k => some (x + 2 + k)))) ∧ (2 ≤ j → j ≤ 9 → w.1 (x + j) = some (x, .inr (1, [.null]))) ∧ (j = 10 → w.1 (x + 10) = some (x, ai (gl_A G 1) 120 (fun _ => 0))) ∧ (j = 11 → TN G w (x + 11) (fun _ => 0)) ∧ (j = 16 → TN G w (x + 16) (fun _ => 0)) ∧
  (j = 21 → w.1 (x + 21) = some (x, aq (gl_A G 5) 24 (fun _ => none))) ∧ (j = 22 → w.1 (x + 22) = some (x, aq (gl_A G 5) 2 (fun _ => none))) ∧ (j = 23 → w.1 (x + 23) = some (x + 23, .inr (3, [.ref (x + 24), .int (nI 0)]))) ∧ (j = 24 → w.1 (x + 24) = some (x + 23, ai (gl_A G 0) 16 (fun _ => 0))) ∧ (j = 25 → w.1 (x + 25) = some (x, aq (gl_A G 5) 9 (fun _ => none))) ∧ (j = 26 → w.1 (x + 26) = some (x, ai (gl_A G 0) 8 (fun _ => 0))) ∧ (j = 27 → w.1 (x + 27) = some (x, ai (gl_A G 0) 8 (fun _ => 0)))
/-- n cells of the object's block are laid -/
def ST (G : gl_T) (f0 : Nat → Option (Nat × va_E)) (x : Nat) (fs : List Value) (n : Nat) (w : wd_T) : Prop := w.2 = x + n ∧ WF w ∧ (∀ c σ e, c ≠ x → f0 c = some (σ, e) → w.1 c = some (σ, e)) ∧ w.1 x = some (x, .inr (0, fs)) ∧ ∀ j, 1 ≤ j → j < n → STC G x j w
theorem STC.keep {G : gl_T} {x j : Nat} {w w' : wd_T} (h : STC G x j w) (hj : 1 ≤ j) {fs : List Value} (hx : w.1 x = some (x, .inr (0, fs))) (hk : ∀ c σ e, c ≠ x → w.1 c = some (σ, e) → w'.1 c = some (σ, e)) : STC G x j w' := by
  obtain ⟨a1, a2, a3, a4, a5, a6, a7, a8, a9, a10, a11, a12⟩ := h
  have tk : ∀ b, b ≠ x → (∀ i, i ≤ 4 → b + i ≠ x) → TN G w b (fun _ => 0) → TN G w' b (fun _ => 0) := by
    intro b hb hbi hT
    obtain ⟨h0, ⟨e, md, h1, h2⟩, ⟨f, h3, h4⟩, ⟨f5, h5, h6⟩, ⟨f7, h7, h8⟩, h9, h10⟩ := hT
    refine ⟨hk _ _ _ hb h0, ⟨e, md, hk _ _ _ (hbi 1 (by omega)) h1, ?_⟩, ⟨f, hk _ _ _ (hbi 2 (by omega)) h3, h4⟩, ⟨f5, hk _ _ _ (hbi 3 (by omega)) h5, h6⟩, ⟨f7, hk _ _ _ (hbi 4 (by omega)) h7, h8⟩, h9, h10⟩
    rcases h2 with h2 | ⟨g, h2, -⟩
    · exact Or.inl h2
    · exact Or.inr ⟨g, hk _ _ _ (fun z => by rw [z, hx] at h2; cases h2) h2, fun c hc => absurd hc (Nat.not_lt_zero c)⟩
  exact ⟨fun z => hk _ _ _ (by omega) (a1 z), fun z1 z2 => hk _ _ _ (by omega) (a2 z1 z2), fun z => hk _ _ _ (by omega) (a3 z), fun z => tk _ (by omega) (fun i hi => by omega) (a4 z), fun z => tk _ (by omega) (fun i hi => by omega) (a5 z), fun z => hk _ _ _ (by omega) (a6 z), fun z => hk _ _ _ (by omega) (a7 z), fun z => hk _ _ _ (by omega) (a8 z), fun z => hk _ _ _ (by omega) (a9 z), fun z => hk _ _ _ (by omega) (a10 z), fun z => hk _ _ _ (by omega) (a11 z), fun z => hk _ _ _ (by omega) (a12 z)⟩
theorem ST.put {G : gl_T} {f0 : Nat → Option (Nat × va_E)} {x n : Nat} {fs fs' : List Value} {w : wd_T} (h : ST G f0 x fs n w) : ST G f0 x fs' n (mu w.1 x x (.inr (0, fs')), w.2) :=
  ⟨h.1, h.2.1.upd h.2.2.2.1, fun c σ e hc hf => (mu_n hc).trans (h.2.2.1 c σ e hc hf), mu_s, fun j h1 h2 => (h.2.2.2.2 j h1 h2).keep h1 h.2.2.2.1 (fun c σ e hc hw => (mu_n hc).trans hw)⟩
theorem ST.new {G : gl_T} {f0 : Nat → Option (Nat × va_E)} {x n τ : Nat} {fs : List Value} {w : wd_T} {e : va_E} (hn : 1 ≤ n) (h : ST G f0 x fs n w) (hc : STC G x n (mu w.1 w.2 τ e, w.2 + 1)) : ST G f0 x fs (n + 1) (mu w.1 w.2 τ e, w.2 + 1) := by
  have kp : ∀ c σ e', w.1 c = some (σ, e') → (mu w.1 w.2 τ e, w.2 + 1).1 c = some (σ, e') := fun c σ e' hw => (mu_n (Nat.ne_of_lt (h.2.1 c σ e' hw))).trans hw
  refine ⟨by show w.2 + 1 = x + (n + 1); rw [h.1]; omega, h.2.1.new, fun c σ e' hcx hf => kp _ _ _ (h.2.2.1 c σ e' hcx hf), kp _ _ _ h.2.2.2.1, fun j h1 h2 => ?_⟩
  by_cases z : j = n
  · subst z
    exact hc
  · exact (h.2.2.2.2 j h1 (by omega)).keep h1 h.2.2.2.1 (fun c σ e' _ hw => kp c σ e' hw)
theorem ST.town {G : gl_T} {f0 : Nat → Option (Nat × va_E)} {x n : Nat} {fs : List Value} {w w1 : wd_T} {e0 : va_E} (hn : n = 11 ∨ n = 16) (h : ST G f0 x fs n w) (hp : TN G w1 w.2 (fun _ => 0) ∧ w1.2 = w.2 + 5 ∧ (∀ c σ e, c ≠ w.2 → (mu w.1 w.2 w.2 e0, w.2 + 1).1 c = some (σ, e) → w1.1 c = some (σ, e)) ∧ WF w1) : ST G f0 x fs (n + 5) w1 := by
  have kp : ∀ c σ e', w.1 c = some (σ, e') → w1.1 c = some (σ, e') := fun c σ e' hw => hp.2.2.1 c σ e' (Nat.ne_of_lt (h.2.1 c σ e' hw)) ((mu_n (Nat.ne_of_lt (h.2.1 c σ e' hw))).trans hw)
  refine ⟨by rw [hp.2.1, h.1]; omega, hp.2.2.2, fun c σ e' hcx hf => kp _ _ _ (h.2.2.1 c σ e' hcx hf), kp _ _ _ h.2.2.2.1, fun j h1 h2 => ?_⟩
  by_cases z : j < n
  · exact (h.2.2.2.2 j h1 z).keep h1 h.2.2.2.1 (fun c σ e' _ hw => kp c σ e' hw)
  · have hT := hp.1
    rw [h.1] at hT
    refine ⟨fun z => ?_, fun z1 z2 => ?_, fun z => ?_, fun z => ?_, fun z => ?_, fun z => ?_, fun z => ?_, fun z => ?_, fun z => ?_, fun z => ?_, fun z => ?_, fun z => ?_⟩ <;> first | (exfalso; omega) | skip
    · have : n = 11 := by omega
      rw [this] at hT
      exact hT
    · have : n = 16 := by omega
      rw [this] at hT
      exact hT
/-- born -/
theorem ST.born {G : gl_T} {f0 : Nat → Option (Nat × va_E)} {x : Nat} {w w0 : wd_T} {O : Nat → Prop} (h : ST G f0 x [.ref (x + 1), .ref (x + 10), .int (nI 0), .int (nI 0), .ref (x + 11), .ref (x + 16), .ref (x + 21), .int (nI 0), .ref (x + 22), .ref (x + 23), .int (nI 0), .ref (x + 25), .ref (x + 26), .ref (x + 27)] 28 w) (hf : ∀ b σ e, O σ → w0.1 b = some (σ, e) → f0 b = some (σ, e) ∧ b ≠ x) (hO : ∀ σ, O σ → σ < x) : FX G w0 w x O cV0 cZ0 := by
  obtain ⟨h1, h2, h3, h4, h5⟩ := h
  refine ⟨cW0 x, FA.init h2 h4 ((h5 1 (by omega) (by omega)).1 rfl) (fun j a b => (h5 j (by omega) (by omega)).2.1 a b) ((h5 10 (by omega) (by omega)).2.2.1 rfl) ((h5 11 (by omega) (by omega)).2.2.2.1 rfl) ((h5 16 (by omega) (by omega)).2.2.2.2.1 rfl) ((h5 21 (by omega) (by omega)).2.2.2.2.2.1 rfl) ((h5 22 (by omega) (by omega)).2.2.2.2.2.2.1 rfl) ((h5 23 (by omega) (by omega)).2.2.2.2.2.2.2.1 rfl) ((h5 24 (by omega) (by omega)).2.2.2.2.2.2.2.2.1 rfl) ((h5 25 (by omega) (by omega)).2.2.2.2.2.2.2.2.2.1 rfl) ((h5 26 (by omega) (by omega)).2.2.2.2.2.2.2.2.2.2.1 rfl) ((h5 27 (by omega) (by omega)).2.2.2.2.2.2.2.2.2.2.2 rfl) (fun b σ e ho hb => h3 b σ e (hf b σ e ho hb).2 (hf b σ e ho hb).1) (fun σ ho => ⟨by have := hO σ ho; omega, Or.inl (hO σ ho)⟩), cV0_W⟩
