/-! ===== the class: acts, plain words ===== -/
set_option maxRecDepth 100000
theorem kpV_t {V : fv_T} : (kpV V).2.1 = V.2.1 := by
  unfold kpV
  split <;> rfl
theorem rdT_n {t : Nat → Nat} {j i : Nat} (h : 7 ≤ i) : rdT t j i = t i := by
  unfold rdT
  rw [uN_n (by omega), uN_n (by omega), uN_n (by omega), uN_n (by omega)]
theorem RD_sc {G : gl_T} {w : wd_T} {a : Nat} {t : Nat → Nat} {j : Nat} (h : TN G w a t) : TN G (mu w.1 a a (TE a (rdT t j)), w.2) a (rdT t j) := h.sc rfl (fun _ h1 _ => rdT_n h1)
section FMS
variable {G : gl_T} {w0 w w' : wd_T} {x : Nat} {O : Nat → Prop} {W : cw_T} {V : fv_T} {Z : fz_T}
/-- acts fewer, the cells' state told -/
theorem FX.act' (h : FA G w0 w x O W) (v : VW W V Z) (u : Nat) (hu : u ≤ V.1 2) : FA G w0 (mu w.1 x x (.inr (0, [.ref (x + 1), .ref (x + 10), .int (nI (V.1 0)), .int (nI (V.1 1)), .ref (x + 11), .ref (x + 16), .ref (x + 21), .int (nI u), .ref (x + 22), .ref (W.1 5), .int (nI (V.1 3)), .ref (x + 25), .ref (x + 26), .ref (x + 27)])), w.2) x O (wN W 2 u) ∧ VW (wN W 2 u) (vN V 2 u) Z := by
  have h2 := v.n 2 (by omega)
  have hp := h.past
  have := h.act u (by omega) (fun k hk => hp.1 k (by omega))
  unfold xcell at this
  rw [if_pos rfl, wN_n (W := W) (v := u) (show 0 ≠ 2 by omega), wN_n (W := W) (v := u) (show 1 ≠ 2 by omega), wN_s (W := W) (i := 2) (v := u), wN_n (W := W) (v := u) (show 3 ≠ 2 by omega), wN_n (W := W) (v := u) (show 5 ≠ 2 by omega), v.n 0 (by omega), v.n 1 (by omega), v.n 3 (by omega)] at this
  refine ⟨this, fun j hj => ?_, v.t, fun k hk => v.p k ?_, v.i, v.r, v.tp, fun j hj => v.b j ?_, v.z, (uN_n (by omega) : uN W.1 2 u 6 = W.1 6).trans v.d, v.k, v.u, v.v⟩
  · show uN W.1 2 u j = uN V.1 2 u j
    unfold uN
    by_cases z : j = 2
    · rw [if_pos z, if_pos z]
    · rw [if_neg z, if_neg z, v.n j hj]
  · have : uN V.1 2 u 2 = u := uN_s
    have hk' : k < uN V.1 2 u 2 := hk
    omega
  · have : uN V.1 2 u 4 = V.1 4 := uN_n (by omega)
    have hj' : j < uN V.1 2 u 4 := hj
    omega
/-- an image acts -/
theorem FX.img (h : FA G w0 w x O W) (v : VW W V Z) {b k : Nat} {t : Nat → Nat} (hk : k < 2) (hb : W.2.2.1 (26 + k) = some b) (hT : TN G w' b t) (hF : FR b w w') (hw : WF w') : FX G w0 w' x O (vI V k t) Z := by
  refine ⟨wT W (26 + k) t, h.town (by omega) hb hT hF hw, v.1, ?_, fun j hj => ?_, fun j hj => ?_, v.r, v.tp, v.b, ?_, v.d, fun j hj => ?_, v.u, v.v⟩
  · exact (if_neg (by omega)).trans v.t
  · have := h.past.2
    have := v.n 2 (by omega)
    have hj2 : j < V.1 2 := hj
    exact (if_neg (by omega)).trans (v.p j hj)
  · show _ ∨ (∃ c, W.2.2.1 (26 + j) = some c) ∧ (if j = k then some t else V.2.2.2.1 j) = some (if 26 + j = 26 + k then t else W.2.1 (26 + j))
    by_cases z : j = k
    · subst z
      exact Or.inr ⟨⟨b, hb⟩, by rw [if_pos rfl, if_pos rfl]⟩
    · rw [if_neg z, if_neg (by omega)]
      rcases v.i j hj with h1 | h1
      · refine Or.inl ⟨h1.1, ?_⟩
        show (if j = k then some t else V.2.2.2.1 j) = none
        rw [if_neg z]
        exact h1.2
      · exact Or.inr h1
  · exact (if_neg (by omega)).trans v.z
  · exact (if_neg (by omega)).trans (v.k j hj)
theorem VW.addI (v : VW W V Z) {k b : Nat} {t : Nat → Nat} (hk : k < 2) (ha : W.1 2 ≤ 24) : VW (wT (wA W (26 + k) (some b)) (26 + k) t) (vI V k t) Z := by
  refine ⟨v.1, ?_, fun j hj => ?_, fun j hj => ?_, v.r, v.tp, v.b, ?_, v.d, fun j hj => ?_, v.u, v.v⟩
  · exact (if_neg (by omega)).trans v.t
  · have := v.n 2 (by omega)
    have hj2 : j < V.1 2 := hj
    exact (if_neg (by omega)).trans (v.p j hj)
  · show ((if 26 + j = 26 + k then some b else W.2.2.1 (26 + j)) = none ∧ (if j = k then some t else V.2.2.2.1 j) = none) ∨ (∃ c, (if 26 + j = 26 + k then some b else W.2.2.1 (26 + j)) = some c) ∧ (if j = k then some t else V.2.2.2.1 j) = some (if 26 + j = 26 + k then t else W.2.1 (26 + j))
    by_cases z : j = k
    · subst z
      rw [if_pos rfl, if_pos rfl, if_pos rfl]
      exact Or.inr ⟨⟨b, rfl⟩, rfl⟩
    · rw [if_neg (by omega), if_neg z, if_neg (by omega)]
      exact v.i j hj
  · exact (if_neg (by omega)).trans v.z
  · exact (if_neg (by omega)).trans (v.k j hj)
theorem vI_vI (V : fv_T) (k : Nat) (t u : Nat → Nat) : vI (vI V k t) k u = vI V k u := by
  unfold vI
  refine Prod.ext rfl (Prod.ext rfl (Prod.ext rfl (Prod.ext ?_ rfl)))
  funext j
  show (if j = k then some u else if j = k then some t else V.2.2.2.1 j) = (if j = k then some u else V.2.2.2.1 j)
  by_cases z : j = k
  · rw [if_pos z, if_pos z]
  · rw [if_neg z, if_neg z, if_neg z]
/-- rows that are there -/
def cntR (R : Nat → Option (Nat × Nat × (Nat → Int32))) : Nat → Nat
  | 0 => 0
  | k + 1 => cntR R k + (if R k = none then 0 else 1)
theorem RW.nul (h : FA G w0 w x O W) (v : VW W V Z) {k : Nat} (hk : k < 8) : (W.2.2.1 (40 + k) = none ∧ V.2.2.2.2.1 k = none) ∨ ∃ b, W.2.2.1 (40 + k) = some b ∧ V.2.2.2.2.1 k ≠ none := by
  rw [← v.r k hk]
  rcases h.rows k hk with h1 | ⟨l, n, f, b, h1, h2, -⟩
  · exact Or.inl ⟨h1.2, h1.1⟩
  · exact Or.inr ⟨b, h2, by rw [h1]; intro z; cases z⟩
end FMS
