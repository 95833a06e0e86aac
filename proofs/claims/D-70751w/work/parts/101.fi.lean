/-! ===== the class: as it is born ===== -/
set_option maxRecDepth 100000
def cW0 (x : Nat) : cw_T := (fun i => if i = 5 then x + 23 else 0, fun _ _ => 0, fun i => if i = 0 then some (x + 11) else if i = 1 then some (x + 16) else none, fun _ => none, fun _ _ => 0)
def cV0 : fv_T := (fun _ => 0, fun _ => 0, fun _ _ => 0, fun _ => none, fun _ => none, fun _ => 0, fun _ => 0)
def cZ0 : fz_T := (fun _ => 0, 0, fun _ _ => 0, fun _ => 0, fun _ => 0)
theorem cW0_A {x i : Nat} (h : 2 ≤ i) : (cW0 x).2.2.1 i = none := by
  show (if i = 0 then _ else if i = 1 then _ else none) = none
  rw [if_neg (by omega), if_neg (by omega)]
theorem cW0_P {x s n : Nat} (h : 2 ≤ s) : adP (cW0 x) s n = fun _ => none := by
  funext k
  unfold adP
  rw [cW0_A (by omega)]
  split <;> rfl
theorem cV0_W {x : Nat} : VW (cW0 x) cV0 cZ0 := by
  refine ⟨fun i hi => ?_, rfl, fun k hk => ?_, fun k hk => Or.inl ⟨cW0_A (by omega), rfl⟩, fun _ _ => rfl, fun _ _ => rfl, fun _ _ => rfl, rfl, rfl, fun k hk => rfl, fun _ _ => rfl, fun _ _ => rfl⟩
  · show (if i = 5 then x + 23 else 0) = 0
    rw [if_neg (by omega)]
  · rfl
theorem FA.init {G : gl_T} {w0 w : wd_T} {x : Nat} {O : Nat → Prop} (hw : WF w) (c0 : w.1 x = some (x, .inr (0, [.ref (x + 1), .ref (x + 10), .int (nI 0), .int (nI 0), .ref (x + 11), .ref (x + 16), .ref (x + 21), .int (nI 0), .ref (x + 22), .ref (x + 23), .int (nI 0), .ref (x + 25), .ref (x + 26), .ref (x + 27)])))
    (c1 : w.1 (x + 1) = some (x, aq (gl_A G 6) 8 (fun k => some (x + 2 + k)))) (csh : ∀ j, 2 ≤ j → j ≤ 9 → w.1 (x + j) = some (x, .inr (1, [.null]))) (c10 : w.1 (x + 10) = some (x, ai (gl_A G 1) 120 (fun _ => 0))) (t0 : TN G w (x + 11) (fun _ => 0)) (t1 : TN G w (x + 16) (fun _ => 0))
    (c21 : w.1 (x + 21) = some (x, aq (gl_A G 5) 24 (fun _ => none))) (c22 : w.1 (x + 22) = some (x, aq (gl_A G 5) 2 (fun _ => none))) (c23 : w.1 (x + 23) = some (x + 23, .inr (3, [.ref (x + 24), .int (nI 0)]))) (c24 : w.1 (x + 24) = some (x + 23, ai (gl_A G 0) 16 (fun _ => 0))) (c25 : w.1 (x + 25) = some (x, aq (gl_A G 5) 9 (fun _ => none))) (c26 : w.1 (x + 26) = some (x, ai (gl_A G 0) 8 (fun _ => 0))) (c27 : w.1 (x + 27) = some (x, ai (gl_A G 0) 8 (fun _ => 0)))
    (hf : ∀ b σ e, O σ → w0.1 b = some (σ, e) → w.1 b = some (σ, e)) (hO : ∀ σ, O σ → σ < w.2 ∧ (σ < x ∨ x + 27 < σ)) : FA G w0 w x O (cW0 x) := by
  refine ⟨hw, fun j hj => ?_, fun i b hi hb => ?_, fun i j b hi hj h1 h2 => ?_, rfl, rfl, ⟨fun k hk => ?_, fun k _ _ => cW0_A (by omega), by show (0 : Nat) ≤ 8; omega⟩, ⟨fun k hk => ?_, by show (0 : Nat) ≤ 24; omega⟩, fun k hk => Or.inl ⟨rfl, cW0_A (by omega)⟩, ⟨c23, c24, by show (0 : Nat) ≤ 16; omega⟩, hf, fun σ ho => ⟨(hO σ ho).1, (hO σ ho).2, ?_, fun i hi z => ?_⟩⟩
  · unfold xcell
    by_cases z0 : j = 0
    · subst z0
      exact c0
    · rw [if_neg z0]
      by_cases z1 : j = 1
      · subst z1
        exact c1
      · rw [if_neg z1]
        by_cases z9 : j ≤ 9
        · rw [if_pos z9, cW0_A (by omega)]
          exact csh j (by omega) z9
        · rw [if_neg z9]
          by_cases z10 : j = 10
          · subst z10
            exact c10
          · rw [if_neg z10]
            rcases hj with h | rfl | rfl | rfl | rfl | rfl
            · omega
            · rw [if_pos rfl, cW0_P (by omega)]
              exact c21
            · rw [if_neg (by omega), if_pos rfl, cW0_P (by omega)]
              exact c22
            · rw [if_neg (by omega), if_neg (by omega), if_pos rfl, cW0_P (by omega)]
              exact c25
            · exact c26
            · exact c27
  · by_cases z0 : i = 0
    · subst z0
      cases hb
      exact t0
    · by_cases z1 : i = 1
      · subst z1
        cases hb
        exact t1
      · rw [cW0_A (by omega)] at hb
        cases hb
  · by_cases zi : 2 ≤ i
    · rw [cW0_A zi] at h1
      cases h1
    · by_cases zj : 2 ≤ j
      · rw [cW0_A zj] at h2
        cases h2
      · rcases (show (i = 0 ∨ i = 1) ∧ (j = 0 ∨ j = 1) by omega) with ⟨rfl | rfl, rfl | rfl⟩
        · rfl
        · have h3 : some (x + 11) = some b := h1
          have h4 : some (x + 16) = some b := h2
          rw [← h3] at h4
          have := Option.some.inj h4
          omega
        · have h3 : some (x + 16) = some b := h1
          have h4 : some (x + 11) = some b := h2
          rw [← h3] at h4
          have := Option.some.inj h4
          omega
        · rfl
  · have : k < 0 := hk
    omega
  · have : k < 0 := hk
    omega
  · show σ ≠ x + 23
    have := (hO σ ho).2
    omega
  · have h2 := (hO σ ho).2
    by_cases zi : 2 ≤ i
    · rw [cW0_A zi] at z
      cases z
    · rcases (show i = 0 ∨ i = 1 by omega) with rfl | rfl
      · have h3 : some (x + 11) = some σ := z
        have := Option.some.inj h3
        omega
      · have h3 : some (x + 16) = some σ := z
        have := Option.some.inj h3
        omega
/-- an array of references is known by its own places alone -/
theorem cell_cgQ {c n : Nat} {f g : Nat → Option Nat} (h : ∀ i, i < n → f i = g i) : vp_cell c (n, .inr (.inr (.inr (.inr f)))) = vp_cell c (n, .inr (.inr (.inr (.inr g)))) := by
  rw [vp_cell_q, vp_cell_q]
  unfold arrV
  congr 2
  funext i
  show va_rf (f i.val) = va_rf (g i.val)
  rw [h i.val i.isLt]
theorem j_cgQ {G : gl_T} {k : KX} {w : wd_T} {lv : List (Nat × Value)} {pc ce sl : Nat} {st : List Value} {a τ c n : Nat} {f g : Nat → Option Nat} (ha : w.1 a = some (τ, aq c n f)) (hg : ∀ i, i < n → f i = g i) (h : J G k (mu w.1 a τ (aq c n g), w.2) lv pc st ce sl) : J G k w lv pc st ce sl := by
  refine j_map (f := mu w.1 a τ (aq c n g)) (fun H b σ e hb => ?_) h
  by_cases z : b = a
  · subst z
    rw [mu_s] at hb
    cases hb
    refine ⟨_, _, ha, fun q => ?_⟩
    have q' : H[b]? = some (vp_cell c (n, .inr (.inr (.inr (.inr f))))) := q
    show H[b]? = some (vp_cell c (n, .inr (.inr (.inr (.inr g)))))
    rw [q', cell_cgQ hg]
  · rw [mu_n z] at hb
    exact ⟨σ, e, hb, fun q => q⟩
