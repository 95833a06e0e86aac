/-! ===== the class: its state as it is seen (V), its scratch (Z) ===== -/
set_option maxRecDepth 100000
theorem wN_n {W : cw_T} {i v j : Nat} (h : j ≠ i) : (wN W i v).1 j = W.1 j := uN_n h
theorem wN_s {W : cw_T} {i v : Nat} : (wN W i v).1 i = v := (uN_s : uN W.1 i v i = v)
/-- plain numbers (0 taped, 1 the fault's kind, 2 acts, 3 status, 4 how many the trail has), the town, the past, images, rows, tape, the trail's bodies -/
abbrev fv_T : Type := (Nat → Nat) × (Nat → Nat) × (Nat → Nat → Nat) × (Nat → Option (Nat → Nat)) × (Nat → Option (Nat × Nat × (Nat → Int32))) × (Nat → Int32) × (Nat → Nat)
/-- the town laid aside, how many riders there are, they, what is tried, the best -/
abbrev fz_T : Type := (Nat → Nat) × Nat × (Nat → Nat → Nat) × (Nat → Nat) × (Nat → Nat)
def vN (V : fv_T) (i v : Nat) : fv_T := (uN V.1 i v, V.2)
def vT (V : fv_T) (t : Nat → Nat) : fv_T := (V.1, t, V.2.2)
def vP (V : fv_T) (p : Nat → Nat → Nat) : fv_T := (V.1, V.2.1, p, V.2.2.2)
def vI (V : fv_T) (k : Nat) (t : Nat → Nat) : fv_T := (V.1, V.2.1, V.2.2.1, (fun j => if j = k then some t else V.2.2.2.1 j), V.2.2.2.2)
def vR (V : fv_T) (k : Nat) (r : Option (Nat × Nat × (Nat → Int32))) : fv_T := (V.1, V.2.1, V.2.2.1, V.2.2.2.1, (fun j => if j = k then r else V.2.2.2.2.1 j), V.2.2.2.2.2)
def vTp (V : fv_T) (f : Nat → Int32) : fv_T := (V.1, V.2.1, V.2.2.1, V.2.2.2.1, V.2.2.2.2.1, f, V.2.2.2.2.2.2)
def vB (V : fv_T) (f : Nat → Nat) : fv_T := (V.1, V.2.1, V.2.2.1, V.2.2.2.1, V.2.2.2.2.1, V.2.2.2.2.2.1, f)
def zT (Z : fz_T) (t : Nat → Nat) : fz_T := (t, Z.2)
def zR (Z : fz_T) (k : Nat) (t : Nat → Nat) : fz_T := (Z.1, Z.2.1, (fun j => if j = k then t else Z.2.2.1 j), Z.2.2.2)
def zD (Z : fz_T) (d : Nat) : fz_T := (Z.1, d, Z.2.2)
def zU (Z : fz_T) (f : Nat → Nat) : fz_T := (Z.1, Z.2.1, Z.2.2.1, f, Z.2.2.2.2)
def zV (Z : fz_T) (f : Nat → Nat) : fz_T := (Z.1, Z.2.1, Z.2.2.1, Z.2.2.2.1, f)
/-- what of the cells' state is seen -/
def VW (W : cw_T) (V : fv_T) (Z : fz_T) : Prop :=
  (∀ i, i < 5 → W.1 i = V.1 i) ∧ W.2.1 0 = V.2.1 ∧ (∀ k, k < V.1 2 → W.2.1 (2 + k) = V.2.2.1 k) ∧ (∀ k, k < 2 → (W.2.2.1 (26 + k) = none ∧ V.2.2.2.1 k = none) ∨ ((∃ b, W.2.2.1 (26 + k) = some b) ∧ V.2.2.2.1 k = some (W.2.1 (26 + k)))) ∧
  (∀ k, k < 8 → W.2.2.2.1 k = V.2.2.2.2.1 k) ∧ (∀ i, i < 120 → W.2.2.2.2 0 i = V.2.2.2.2.2.1 i) ∧ (∀ i, i < V.1 4 → W.2.2.2.2 3 i = nI (V.2.2.2.2.2.2 i)) ∧
  W.2.1 1 = Z.1 ∧ W.1 6 = Z.2.1 ∧ (∀ k, k < Z.2.1 → W.2.1 (28 + k) = Z.2.2.1 k) ∧ (∀ i, i < 8 → W.2.2.2.2 1 i = nI (Z.2.2.2.1 i)) ∧ (∀ i, i < 8 → W.2.2.2.2 2 i = nI (Z.2.2.2.2 i))
/-- **the class's object lies at x and is as V and Z say** -/
def FX (G : gl_T) (w0 w : wd_T) (x : Nat) (O : Nat → Prop) (V : fv_T) (Z : fz_T) : Prop := ∃ W, FA G w0 w x O W ∧ VW W V Z
section FXS
variable {G : gl_T} {w0 w w' : wd_T} {x : Nat} {O : Nat → Prop} {W : cw_T} {V : fv_T} {Z : fz_T}
theorem VW.n (h : VW W V Z) (i : Nat) (hi : i < 5) : W.1 i = V.1 i := h.1 i hi
theorem VW.t (h : VW W V Z) : W.2.1 0 = V.2.1 := h.2.1
theorem VW.p (h : VW W V Z) (k : Nat) (hk : k < V.1 2) : W.2.1 (2 + k) = V.2.2.1 k := h.2.2.1 k hk
theorem VW.i (h : VW W V Z) (k : Nat) (hk : k < 2) : (W.2.2.1 (26 + k) = none ∧ V.2.2.2.1 k = none) ∨ ((∃ b, W.2.2.1 (26 + k) = some b) ∧ V.2.2.2.1 k = some (W.2.1 (26 + k))) := h.2.2.2.1 k hk
theorem VW.r (h : VW W V Z) (k : Nat) (hk : k < 8) : W.2.2.2.1 k = V.2.2.2.2.1 k := h.2.2.2.2.1 k hk
theorem VW.tp (h : VW W V Z) (i : Nat) (hi : i < 120) : W.2.2.2.2 0 i = V.2.2.2.2.2.1 i := h.2.2.2.2.2.1 i hi
theorem VW.b (h : VW W V Z) (i : Nat) (hi : i < V.1 4) : W.2.2.2.2 3 i = nI (V.2.2.2.2.2.2 i) := h.2.2.2.2.2.2.1 i hi
theorem VW.z (h : VW W V Z) : W.2.1 1 = Z.1 := h.2.2.2.2.2.2.2.1
theorem VW.d (h : VW W V Z) : W.1 6 = Z.2.1 := h.2.2.2.2.2.2.2.2.1
theorem VW.k (h : VW W V Z) (k : Nat) (hk : k < Z.2.1) : W.2.1 (28 + k) = Z.2.2.1 k := h.2.2.2.2.2.2.2.2.2.1 k hk
theorem VW.u (h : VW W V Z) (i : Nat) (hi : i < 8) : W.2.2.2.2 1 i = nI (Z.2.2.2.1 i) := h.2.2.2.2.2.2.2.2.2.2.1 i hi
theorem VW.v (h : VW W V Z) (i : Nat) (hi : i < 8) : W.2.2.2.2 2 i = nI (Z.2.2.2.2 i) := h.2.2.2.2.2.2.2.2.2.2.2 i hi
/-- the cells, under V's words -/
theorem FA.d0 (h : FA G w0 w x O W) (v : VW W V Z) : w.1 x = some (x, .inr (0, [.ref (x + 1), .ref (x + 10), .int (nI (V.1 0)), .int (nI (V.1 1)), .ref (x + 11), .ref (x + 16), .ref (x + 21), .int (nI (V.1 2)), .ref (x + 22), .ref (W.1 5), .int (nI (V.1 3)), .ref (x + 25), .ref (x + 26), .ref (x + 27)])) := by
  rw [← v.n 0 (by omega), ← v.n 1 (by omega), ← v.n 2 (by omega), ← v.n 3 (by omega)]
  exact h.c0
theorem FA.s0 (h : FA G w0 w x O W) (v : VW W V Z) : TN G w (x + 11) V.2.1 := h.t0.eq v.t
theorem FA.s1 (h : FA G w0 w x O W) (v : VW W V Z) : TN G w (x + 16) Z.1 := h.t1.eq v.z
/-- the town acts -/
theorem FX.t0 (h : FA G w0 w x O W) (v : VW W V Z) {t : Nat → Nat} (hT : TN G w' (x + 11) t) (hF : FR (x + 11) w w') (hw : WF w') : FX G w0 w' x O (vT V t) Z := by
  refine ⟨wT W 0 t, h.town (by omega) h.a0 hT hF hw, v.1, rfl, fun k hk => ?_, fun k hk => ?_, v.r, v.tp, v.b, ?_, v.d, fun k hk => ?_, v.u, v.v⟩
  · show (if 2 + k = 0 then t else W.2.1 (2 + k)) = _
    rw [if_neg (by omega)]
    exact v.p k hk
  · have e : (wT W 0 t).2.1 (26 + k) = W.2.1 (26 + k) := if_neg (by omega)
    rw [e]
    exact v.i k hk
  · show (if 1 = 0 then t else W.2.1 1) = _
    rw [if_neg (by omega)]
    exact v.z
  · show (if 28 + k = 0 then t else W.2.1 (28 + k)) = _
    rw [if_neg (by omega)]
    exact v.k k hk
/-- the town laid aside acts -/
theorem FX.t1 (h : FA G w0 w x O W) (v : VW W V Z) {t : Nat → Nat} (hT : TN G w' (x + 16) t) (hF : FR (x + 16) w w') (hw : WF w') : FX G w0 w' x O V (zT Z t) := by
  refine ⟨wT W 1 t, h.town (by omega) h.a1 hT hF hw, v.1, v.t, fun k hk => ?_, fun k hk => ?_, v.r, v.tp, v.b, rfl, v.d, fun k hk => ?_, v.u, v.v⟩
  · show (if 2 + k = 1 then t else W.2.1 (2 + k)) = _
    rw [if_neg (by omega)]
    exact v.p k hk
  · have e : (wT W 1 t).2.1 (26 + k) = W.2.1 (26 + k) := if_neg (by omega)
    rw [e]
    exact v.i k hk
  · show (if 28 + k = 1 then t else W.2.1 (28 + k)) = _
    rw [if_neg (by omega)]
    exact v.k k hk
/-- a rider acts -/
theorem FX.tk (h : FA G w0 w x O W) (v : VW W V Z) {b k : Nat} {t : Nat → Nat} (hk : k < Z.2.1) (hb : W.2.2.1 (28 + k) = some b) (hT : TN G w' b t) (hF : FR b w w') (hw : WF w') : FX G w0 w' x O V (zR Z k t) := by
  have h9 := h.rid.2.2
  rw [v.d] at h9
  refine ⟨wT W (28 + k) t, h.town (by omega) hb hT hF hw, v.1, ?_, fun j hj => ?_, fun j hj => ?_, v.r, v.tp, v.b, ?_, v.d, fun j hj => ?_, v.u, v.v⟩
  · show (if 0 = 28 + k then t else W.2.1 0) = _
    rw [if_neg (by omega)]
    exact v.t
  · show (if 2 + j = 28 + k then t else W.2.1 (2 + j)) = _
    have := h.past.2
    have := v.n 2 (by omega)
    rw [if_neg (by omega)]
    exact v.p j hj
  · have e : (wT W (28 + k) t).2.1 (26 + j) = W.2.1 (26 + j) := if_neg (by omega)
    rw [e]
    exact v.i j hj
  · show (if 1 = 28 + k then t else W.2.1 1) = _
    rw [if_neg (by omega)]
    exact v.z
  · show (if 28 + j = 28 + k then t else W.2.1 (28 + j)) = (if j = k then t else Z.2.2.1 j)
    by_cases z : j = k
    · rw [if_pos (by omega), if_pos z]
    · rw [if_neg (by omega), if_neg z]
      exact v.k j hj
/-- a plain number -/
theorem FX.num (h : FA G w0 w x O W) (v : VW W V Z) (i u : Nat) (hi : i = 0 ∨ i = 1 ∨ i = 3) : FX G w0 (mu w.1 x x (.inr (0, [.ref (x + 1), .ref (x + 10), .int (nI (uN V.1 i u 0)), .int (nI (uN V.1 i u 1)), .ref (x + 11), .ref (x + 16), .ref (x + 21), .int (nI (uN V.1 i u 2)), .ref (x + 22), .ref (W.1 5), .int (nI (uN V.1 i u 3)), .ref (x + 25), .ref (x + 26), .ref (x + 27)])), w.2) x O (vN V i u) Z := by
  have hn : ∀ j, j < 5 → (wN W i u).1 j = uN V.1 i u j := fun j hj => by
    show uN W.1 i u j = uN V.1 i u j
    unfold uN
    by_cases z : j = i
    · rw [if_pos z, if_pos z]
    · rw [if_neg z, if_neg z, v.n j hj]
  have e2 : uN V.1 i u 2 = V.1 2 := uN_n (by omega)
  have e4 : uN V.1 i u 4 = V.1 4 := uN_n (by omega)
  refine ⟨wN W i u, ?_, hn, v.t, fun k hk => v.p k (by rw [← e2]; exact hk), v.i, v.r, v.tp, fun j hj => v.b j (by rw [← e4]; exact hj), v.z, (uN_n (by omega) : uN W.1 i u 6 = W.1 6).trans v.d, v.k, v.u, v.v⟩
  have := h.num i u hi
  unfold xcell at this
  rw [if_pos rfl, hn 0 (by omega), hn 1 (by omega), hn 2 (by omega), hn 3 (by omega), wN_n (show 5 ≠ i by omega)] at this
  exact this
/-- acts fewer -/
theorem FX.act (h : FA G w0 w x O W) (v : VW W V Z) (u : Nat) (hu : u ≤ V.1 2) : FX G w0 (mu w.1 x x (.inr (0, [.ref (x + 1), .ref (x + 10), .int (nI (V.1 0)), .int (nI (V.1 1)), .ref (x + 11), .ref (x + 16), .ref (x + 21), .int (nI u), .ref (x + 22), .ref (W.1 5), .int (nI (V.1 3)), .ref (x + 25), .ref (x + 26), .ref (x + 27)])), w.2) x O (vN V 2 u) Z := by
  have h2 := v.n 2 (by omega)
  have hp := h.past
  have := h.act u (by omega) (fun k hk => hp.1 k (by omega))
  unfold xcell at this
  rw [if_pos rfl, wN_n (W := W) (v := u) (show 0 ≠ 2 by omega), wN_n (W := W) (v := u) (show 1 ≠ 2 by omega), wN_s (W := W) (i := 2) (v := u), wN_n (W := W) (v := u) (show 3 ≠ 2 by omega), wN_n (W := W) (v := u) (show 5 ≠ 2 by omega), v.n 0 (by omega), v.n 1 (by omega), v.n 3 (by omega)] at this
  refine ⟨wN W 2 u, this, fun j hj => ?_, v.t, fun k hk => v.p k ?_, v.i, v.r, v.tp, fun j hj => v.b j ?_, v.z, (uN_n (by omega) : uN W.1 2 u 6 = W.1 6).trans v.d, v.k, v.u, v.v⟩
  · show uN W.1 2 u j = uN V.1 2 u j
    unfold uN
    by_cases z : j = 2
    · rw [if_pos z, if_pos z]
    · rw [if_neg z, if_neg z, v.n j hj]
  · have : uN V.1 2 u 2 = u := uN_s
    have hk' : k < uN V.1 2 u 2 := hk
    omega
  · have : uN V.1 2 u 4 = V.1 4 := uN_n (by omega)
    have hj' : j < uN V.1 2 u 4 := hj
    omega
/-- tried; the best; the tape -/
theorem FX.tri (h : FA G w0 w x O W) (v : VW W V Z) {f : Nat → Int32} {g : Nat → Nat} (hf : ∀ i, i < 8 → f i = nI (g i)) : FX G w0 (mu w.1 (x + 26) x (ai (gl_A G 0) 8 f), w.2) x O V (zU Z g) :=
  ⟨wB W 1 f, h.arr 1 f 26 (by omega), v.1, v.t, v.p, v.i, v.r, v.tp, v.b, v.z, v.d, v.k, fun i hi => hf i hi, v.v⟩
theorem FX.bst (h : FA G w0 w x O W) (v : VW W V Z) {f : Nat → Int32} {g : Nat → Nat} (hf : ∀ i, i < 8 → f i = nI (g i)) : FX G w0 (mu w.1 (x + 27) x (ai (gl_A G 0) 8 f), w.2) x O V (zV Z g) :=
  ⟨wB W 2 f, h.arr 2 f 27 (by omega), v.1, v.t, v.p, v.i, v.r, v.tp, v.b, v.z, v.d, v.k, v.u, fun i hi => hf i hi⟩
theorem FX.tap (h : FA G w0 w x O W) (v : VW W V Z) {f g : Nat → Int32} (hf : ∀ i, i < 120 → f i = g i) : FX G w0 (mu w.1 (x + 10) x (ai (gl_A G 1) 120 f), w.2) x O (vTp V g) Z :=
  ⟨wB W 0 f, h.arr 0 f 10 (by omega), v.1, v.t, v.p, v.i, v.r, hf, v.b, v.z, v.d, v.k, v.u, v.v⟩
/-- cells are new -/
theorem FX.ext (h : FX G w0 w x O V Z) (he : ∀ b σ e, w.1 b = some (σ, e) → w'.1 b = some (σ, e)) (hs : w.2 ≤ w'.2) (hw : WF w') : FX G w0 w' x O V Z := by
  obtain ⟨W, h, v⟩ := h
  exact ⟨W, h.ext he hs hw, v⟩
end FXS
/-- ends -/
def fI (G : gl_T) (w0 : wd_T) (x : Nat) (O : Nat → Prop) (r : Int32) (V : fv_T) (Z : fz_T) : Outcome → wd_T → Prop := pI (fun r' w' => r' = r ∧ FX G w0 w' x O V Z)
def fV (G : gl_T) (w0 : wd_T) (x : Nat) (O : Nat → Prop) (V : fv_T) (Z : fz_T) : Outcome → wd_T → Prop := pV (fun w' => FX G w0 w' x O V Z)
/-- by cases; the scratch is anything -/
def fC (G : gl_T) (w0 : wd_T) (x : Nat) (O : Nat → Prop) (P : Int32 → fv_T → Prop) : Outcome → wd_T → Prop := pI (fun r w' => ∃ V Z, FX G w0 w' x O V Z ∧ P r V)
theorem fC.mk {G : gl_T} {w0 w : wd_T} {x : Nat} {O : Nat → Prop} {P : Int32 → fv_T → Prop} {r : Int32} {V : fv_T} {Z : fz_T} (h : FX G w0 w x O V Z) (hp : P r V) : fC G w0 x O P (.returned (some (.int r))) w := ⟨r, rfl, V, Z, h, hp⟩
/-- the town's streets end at corners of it -/
def wfT (t : Nat → Nat) : Prop := smT t ∧ (∀ x, x < t 25 → t (26 + 2 * x) < t 6 ∧ t (26 + 2 * x + 1) < t 6) ∧ (0 < t 0 → t 4 < t 6)
