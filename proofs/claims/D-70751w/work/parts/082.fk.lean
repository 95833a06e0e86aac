/-! ===== the class: what is kept ===== -/
set_option maxRecDepth 100000
theorem wT_s {W : cw_T} {i : Nat} {t : Nat → Nat} : (wT W i t).2.1 i = t := if_pos rfl
theorem wAT_s {W : cw_T} {i : Nat} {o : Option Nat} {t : Nat → Nat} : (wT (wA W i o) i t).2.2.1 i = o := if_pos rfl
section FKS
variable {G : gl_T} {w0 w w1 : wd_T} {x : Nat} {O : Nat → Prop} {W : cw_T} {V : fv_T} {Z : fz_T}
/-- a town's row beyond the acts is nobody's -/
theorem VW.setP (v : VW W V Z) {k : Nat} {t : Nat → Nat} (hk : V.1 2 ≤ k) (hk2 : k < 24) : VW (wT W (2 + k) t) V Z := by
  refine ⟨v.1, ?_, fun j hj => ?_, fun j hj => ?_, v.r, v.tp, v.b, ?_, v.d, fun j hj => ?_, v.u, v.v⟩
  · exact (if_neg (by omega)).trans v.t
  · exact (if_neg (by omega)).trans (v.p j hj)
  · have e : (wT W (2 + k) t).2.1 (26 + j) = W.2.1 (26 + j) := if_neg (by omega)
    rw [e]
    exact v.i j hj
  · exact (if_neg (by omega)).trans v.z
  · exact (if_neg (by omega)).trans (v.k j hj)
theorem VW.addP (v : VW W V Z) {k : Nat} {t : Nat → Nat} {b : Option Nat} (hk : V.1 2 ≤ k) (hk2 : k < 24) : VW (wT (wA W (2 + k) b) (2 + k) t) V Z := by
  have v2 : VW (wA W (2 + k) b) V Z := by
    refine ⟨v.1, v.t, v.p, fun j hj => ?_, v.r, v.tp, v.b, v.z, v.d, v.k, v.u, v.v⟩
    have e : (wA W (2 + k) b).2.2.1 (26 + j) = W.2.2.1 (26 + j) := if_neg (by omega)
    rw [e]
    exact v.i j hj
  exact v2.setP hk hk2
def kpA (V : fv_T) : fv_T := vN (vP V (fun j => if j = V.1 2 then V.2.1 else V.2.2.1 j)) 2 (V.1 2 + 1)
theorem FX.kept (h : FA G w0 w x O W) (v : VW W V Z) {b : Nat} (hk : V.1 2 < 24) (hb : W.2.2.1 (2 + V.1 2) = some b) (ht : W.2.1 (2 + V.1 2) = V.2.1) : FX G w0 (mu w.1 x x (.inr (0, [.ref (x + 1), .ref (x + 10), .int (nI (V.1 0)), .int (nI (V.1 1)), .ref (x + 11), .ref (x + 16), .ref (x + 21), .int (nI (V.1 2 + 1)), .ref (x + 22), .ref (W.1 5), .int (nI (V.1 3)), .ref (x + 25), .ref (x + 26), .ref (x + 27)])), w.2) x O (kpA V) Z := by
  have h2 := v.n 2 (by omega)
  have hp := h.past
  have := h.act (V.1 2 + 1) (by omega) (fun k hk' => by
    by_cases z : k = V.1 2
    · rw [z]
      exact ⟨b, hb⟩
    · exact hp.1 k (by omega))
  unfold xcell at this
  rw [if_pos rfl, wN_n (W := W) (v := V.1 2 + 1) (show 0 ≠ 2 by omega), wN_n (W := W) (v := V.1 2 + 1) (show 1 ≠ 2 by omega), wN_s (W := W) (i := 2) (v := V.1 2 + 1), wN_n (W := W) (v := V.1 2 + 1) (show 3 ≠ 2 by omega), wN_n (W := W) (v := V.1 2 + 1) (show 5 ≠ 2 by omega), v.n 0 (by omega), v.n 1 (by omega), v.n 3 (by omega)] at this
  refine ⟨wN W 2 (V.1 2 + 1), this, fun j hj => ?_, v.t, fun k hk' => ?_, v.i, v.r, v.tp, fun j hj => v.b j ?_, v.z, (uN_n (by omega) : uN W.1 2 (V.1 2 + 1) 6 = W.1 6).trans v.d, v.k, v.u, v.v⟩
  · show uN W.1 2 (V.1 2 + 1) j = uN V.1 2 (V.1 2 + 1) j
    unfold uN
    by_cases z : j = 2
    · rw [if_pos z, if_pos z]
    · rw [if_neg z, if_neg z, v.n j hj]
  · have hk2 : k < uN V.1 2 (V.1 2 + 1) 2 := hk'
    rw [uN_s] at hk2
    show W.2.1 (2 + k) = (if k = V.1 2 then V.2.1 else V.2.2.1 k)
    by_cases z : k = V.1 2
    · rw [if_pos z, z]
      exact ht
    · rw [if_neg z]
      exact v.p k (by omega)
  · have hj' : j < uN V.1 2 (V.1 2 + 1) 4 := hj
    rw [uN_n (by omega)] at hj'
    exact hj'
/-- a new town beside x -/
theorem FA.newT (h : FA G w0 w x O W) {e0 : va_E} (hp : TN G w1 w.2 (fun _ => 0) ∧ w1.2 = w.2 + 5 ∧ (∀ c σ e, c ≠ w.2 → (mu w.1 w.2 w.2 e0, w.2 + 1).1 c = some (σ, e) → w1.1 c = some (σ, e)) ∧ WF w1) : FA G w0 w1 x O W ∧ (∀ q, q < 37 → W.2.2.1 q ≠ some w.2) ∧ ¬ O w.2 := by
  refine ⟨h.ext (fun b σ e hb => ?_) (by omega) hp.2.2.2, fun q hq z => ?_, fun z => ?_⟩
  · have hl := h.wf b σ e hb
    exact hp.2.2.1 b σ e (by omega) ((mu_n (by omega)).trans hb)
  · have := (h.tn hq z).lt h.wf
    omega
  · have := (h.frO _ z).1
    omega
/-- the oldest goes to the end -/
def rotF (f : Nat → Option Nat) : Nat → Option Nat := fun k => if k < 23 then f (k + 1) else if k = 23 then f 0 else f k
def rotG (f : Nat → Option Nat) (i : Nat) : Nat → Option Nat := fun j => if j + 1 < i then f (j + 1) else f j
def rotI (i : Nat) : Nat := if 2 ≤ i ∧ i < 25 then i + 1 else if i = 25 then 2 else i
def rotW (W : cw_T) : cw_T := (W.1, (fun i => W.2.1 (rotI i)), (fun i => W.2.2.1 (rotI i)), W.2.2.2)
theorem rotG_1 (f : Nat → Option Nat) : rotG f 1 = f := by
  funext j
  unfold rotG
  rw [if_neg (by omega)]
theorem rotG_s (f : Nat → Option Nat) {k b : Nat} (h1 : 1 ≤ k) (hb : f k = some b) : va_up (rotG f k) (k - 1) (some b) = rotG f (k + 1) := by
  funext j
  unfold va_up rotG
  by_cases z : j = k - 1
  · rw [if_pos z, if_pos (by omega), ← hb]
    congr 1
    omega
  · rw [if_neg z]
    by_cases z2 : j + 1 < k
    · rw [if_pos z2, if_pos (by omega)]
    · rw [if_neg z2, if_neg (by omega)]
theorem rotG_e (f : Nat → Option Nat) {b : Nat} (hb : f 0 = some b) : va_up (rotG f 24) 23 (some b) = rotF f := by
  funext j
  unfold va_up rotG rotF
  by_cases z : j = 23
  · rw [if_pos z, if_neg (by omega), if_pos z, hb]
  · rw [if_neg z]
    by_cases z2 : j < 23
    · rw [if_pos (by omega), if_pos z2]
    · rw [if_neg (by omega), if_neg z2, if_neg z]
theorem rotI_inj {i j : Nat} (h : rotI i = rotI j) : i = j := by
  unfold rotI at h
  split at h <;> split at h <;> (try split at h) <;> (try split at h) <;> omega
theorem FA.rot (h : FA G w0 w x O W) (hA : W.1 2 = 24) : FA G w0 (mu w.1 (x + 21) x (aq (gl_A G 5) 24 (rotF (adP W 2 24))), w.2) x O (rotW W) := by
  have hF : FR x w (mu w.1 (x + 21) x (aq (gl_A G 5) 24 (rotF (adP W 2 24))), w.2) := FR.upd h.c21 (fun z => z)
  have rI : ∀ i, i < 37 → rotI i < 37 := fun i hi => by
    unfold rotI
    split
    · omega
    · split <;> omega
  have rO : ∀ i, (i < 2 ∨ 26 ≤ i) → rotI i = i := fun i hi => by
    unfold rotI
    rw [if_neg (by omega), if_neg (by omega)]
  have adR : adP (rotW W) 2 24 = rotF (adP W 2 24) := by
    funext k
    unfold adP rotF
    show (if k < 24 then W.2.2.1 (rotI (2 + k)) else none) = _
    by_cases z : k < 23
    · rw [if_pos (by omega), if_pos z]
      show W.2.2.1 (rotI (2 + k)) = (if k + 1 < 24 then W.2.2.1 (2 + (k + 1)) else none)
      rw [if_pos (by omega), show rotI (2 + k) = 2 + (k + 1) by unfold rotI; rw [if_pos (by omega)]; omega]
    · rw [if_neg z]
      by_cases z2 : k = 23
      · rw [if_pos (by omega), if_pos z2, z2]
        rfl
      · rw [if_neg (by omega), if_neg z2]
        show none = (if k < 24 then W.2.2.1 (2 + k) else none)
        rw [if_neg (by omega)]
  have adn : ∀ s n, 26 ≤ s → adP (rotW W) s n = adP W s n := fun s n hs => by
    funext k
    unfold adP
    show (if k < n then W.2.2.1 (rotI (s + k)) else none) = _
    rw [rO (s + k) (by omega)]
  refine ⟨h.wf.upd h.c21, fun q hq => ?_, fun i b hi hb => (h.tn (rI i hi) hb).fr hF (h.tx (rI i hi) hb).1, fun i j b hi hj h1 h2 => rotI_inj (h.inj (rI i hi) (rI j hj) h1 h2), ?_, ?_, ⟨fun k hk => ?_, fun k hk hk9 => ?_, h.rid.2.2⟩, ⟨fun k hk => ?_, h.past.2⟩, fun k hk => ?_, ⟨hF.2 _ _ _ h.tr.1 (Or.inl h.rx.1), hF.2 _ _ _ h.tr.2.1 (Or.inl h.rx.1), h.tr.2.2⟩, fun b σ e ho hb => ?_, fun σ ho => ?_⟩
  · by_cases z : q = 21
    · subst z
      rw [show xcell G x (rotW W) 21 = aq (gl_A G 5) 24 (adP (rotW W) 2 24) from rfl, adR]
      exact mu_s
    · have : xcell G x (rotW W) q = xcell G x W q := by
        unfold xcell
        by_cases z0 : q = 0
        · rw [if_pos z0, if_pos z0]
          rfl
        · rw [if_neg z0, if_neg z0]
          by_cases z1 : q = 1
          · rw [if_pos z1, if_pos z1]
          · rw [if_neg z1, if_neg z1]
            by_cases z9 : q ≤ 9
            · rw [if_pos z9, if_pos z9]
              show (Sum.inr (1, [va_rf (W.2.2.1 (rotI (38 + q)))]) : va_E) = _
              rw [rO (38 + q) (by omega)]
            · rw [if_neg z9, if_neg z9]
              by_cases z10 : q = 10
              · rw [if_pos z10, if_pos z10]
                rfl
              · rw [if_neg z10, if_neg z10, if_neg z, if_neg z, adn 26 2 (by omega), adn 28 9 (by omega)]
                rfl
      rw [this]
      exact (mu_n (by omega)).trans (h.cell q hq)
  · show W.2.2.1 (rotI 0) = _
    rw [rO 0 (by omega)]
    exact h.a0
  · show W.2.2.1 (rotI 1) = _
    rw [rO 1 (by omega)]
    exact h.a1
  · show ∃ b, W.2.2.1 (rotI (28 + k)) = some b
    rw [rO (28 + k) (by omega)]
    exact h.rid.1 k hk
  · show W.2.2.1 (rotI (28 + k)) = none
    rw [rO (28 + k) (by omega)]
    exact h.rid.2.1 k hk hk9
  · have hk2 : k < W.1 2 := hk
    show ∃ b, W.2.2.1 (rotI (2 + k)) = some b
    unfold rotI
    by_cases z : 2 + k < 25
    · rw [if_pos (by omega)]
      have := h.past.1 (k + 1) (by omega)
      rw [show 2 + (k + 1) = 2 + k + 1 by omega] at this
      exact this
    · rw [if_neg (by omega), if_pos (by omega)]
      exact h.past.1 0 (by omega)
  · unfold RW
    show (W.2.2.2.1 k = none ∧ W.2.2.1 (rotI (40 + k)) = none) ∨ ∃ l n f b, W.2.2.2.1 k = some (l, n, f) ∧ W.2.2.1 (rotI (40 + k)) = some b ∧ _
    rw [rO (40 + k) (by omega)]
    rcases h.rows k hk with h1 | ⟨l, n, f, c, h1, h2', h3, h4', h5'⟩
    · exact Or.inl h1
    · exact Or.inr ⟨l, n, f, c, h1, h2', h3, h4', hF.2 _ _ _ h5' (Or.inl (by omega))⟩
  · refine hF.2 _ _ _ (h.fr0 b σ e ho hb) (Or.inl (fun z => ?_))
    have := (h.frO σ ho).2.1
    omega
  · have := h.frO σ ho
    exact ⟨this.1, this.2.1, this.2.2.1, fun i hi => this.2.2.2 (rotI i) (rI i hi)⟩
/-- rotated, with one act fewer -/
def kpR (V : fv_T) : fv_T := vN (vP V (fun k => V.2.2.1 (k + 1))) 2 23
theorem FX.rot (h : FA G w0 w x O W) (v : VW W V Z) (hA : V.1 2 = 24) : FX G w0 (mu (mu w.1 (x + 21) x (aq (gl_A G 5) 24 (rotF (adP W 2 24)))) x x (.inr (0, [.ref (x + 1), .ref (x + 10), .int (nI (V.1 0)), .int (nI (V.1 1)), .ref (x + 11), .ref (x + 16), .ref (x + 21), .int (nI 23), .ref (x + 22), .ref (W.1 5), .int (nI (V.1 3)), .ref (x + 25), .ref (x + 26), .ref (x + 27)])), w.2) x O (kpR V) Z ∧ True := by
  refine ⟨?_, trivial⟩
  have h2 := v.n 2 (by omega)
  have hr := h.rot (by omega)
  have := hr.act 23 (by omega) (fun k hk => hr.past.1 k (by show k < W.1 2; omega))
  unfold xcell at this
  rw [if_pos rfl, wN_n (W := rotW W) (v := 23) (show 0 ≠ 2 by omega), wN_n (W := rotW W) (v := 23) (show 1 ≠ 2 by omega), wN_s (W := rotW W) (i := 2) (v := 23), wN_n (W := rotW W) (v := 23) (show 3 ≠ 2 by omega), wN_n (W := rotW W) (v := 23) (show 5 ≠ 2 by omega), show (rotW W).1 0 = V.1 0 from v.n 0 (by omega), show (rotW W).1 1 = V.1 1 from v.n 1 (by omega), show (rotW W).1 3 = V.1 3 from v.n 3 (by omega)] at this
  have rO : ∀ i, (i < 2 ∨ 26 ≤ i) → rotI i = i := fun i hi => by
    unfold rotI
    rw [if_neg (by omega), if_neg (by omega)]
  refine ⟨wN (rotW W) 2 23, this, fun j hj => ?_, ?_, fun k hk' => ?_, fun k hk => ?_, v.r, v.tp, fun j hj => v.b j ?_, ?_, (uN_n (by omega) : uN W.1 2 23 6 = W.1 6).trans v.d, fun k hk => ?_, v.u, v.v⟩
  · show uN W.1 2 23 j = uN V.1 2 23 j
    unfold uN
    by_cases z : j = 2
    · rw [if_pos z, if_pos z]
    · rw [if_neg z, if_neg z, v.n j hj]
  · show W.2.1 (rotI 0) = V.2.1
    rw [rO 0 (by omega)]
    exact v.t
  · have hk2 : k < uN V.1 2 23 2 := hk'
    rw [uN_s] at hk2
    show W.2.1 (rotI (2 + k)) = V.2.2.1 (k + 1)
    have := v.p (k + 1) (by omega)
    rw [← this, show rotI (2 + k) = 2 + (k + 1) by unfold rotI; rw [if_pos (by omega)]; omega]
  · have e1 : (wN (rotW W) 2 23).2.2.1 (26 + k) = W.2.2.1 (26 + k) := by
      show W.2.2.1 (rotI (26 + k)) = _
      rw [rO (26 + k) (by omega)]
    have e2 : (wN (rotW W) 2 23).2.1 (26 + k) = W.2.1 (26 + k) := by
      show W.2.1 (rotI (26 + k)) = _
      rw [rO (26 + k) (by omega)]
    rw [e1, e2]
    exact v.i k hk
  · have hj' : j < uN V.1 2 23 4 := hj
    rw [uN_n (by omega)] at hj'
    exact hj'
  · show W.2.1 (rotI 1) = _
    rw [rO 1 (by omega)]
    exact v.z
  · show W.2.1 (rotI (28 + k)) = _
    rw [rO (28 + k) (by omega)]
    exact v.k k hk
end FKS
/-- what is kept: the newest 24 -/
def kpV (V : fv_T) : fv_T := if V.1 2 = 24 then kpA (kpR V) else kpA V
