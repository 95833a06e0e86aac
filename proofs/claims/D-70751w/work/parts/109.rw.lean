/-! ===== the class: rows laid anew ===== -/
set_option maxRecDepth 100000
/-- it threw a; the world is w -/
def qT (a : Nat) (w : wd_T) : Outcome → wd_T → Prop := fun o w' => o = .threw a ∧ w' = w
theorem qT.mk {a : Nat} {w : wd_T} : qT a w (.threw a) w := ⟨rfl, rfl⟩
theorem qT.no {a : Nat} {w w' : wd_T} {v : Option Value} {P : Prop} (h : qT a w (.returned v) w') : P := by
  cases h.1
/-- a number cut to a lane -/
theorem sx_8 (v : BitVec 32) : (v.signExtend 8).signExtend 32 = (v <<< 24).sshiftRight 24 := by
  ext i hi
  simp only [BitVec.getElem_signExtend, BitVec.getElem_sshiftRight, BitVec.getElem_shiftLeft, BitVec.msb_eq_getLsbD_last, BitVec.getLsbD_signExtend, BitVec.getLsbD_shiftLeft]
  by_cases h8 : i < 8
  · simp [h8, hi, show 24 + i < 32 by omega, show 24 + i - 24 = i by omega, show ¬ 24 + i < 24 by omega]
  · simp [h8, show ¬ 24 + i < 32 by omega]
theorem sx_16 (v : BitVec 32) : (v.signExtend 16).signExtend 32 = (v <<< 16).sshiftRight 16 := by
  ext i hi
  simp only [BitVec.getElem_signExtend, BitVec.getElem_sshiftRight, BitVec.getElem_shiftLeft, BitVec.msb_eq_getLsbD_last, BitVec.getLsbD_signExtend, BitVec.getLsbD_shiftLeft]
  by_cases h8 : i < 16
  · simp [h8, hi, show 16 + i < 32 by omega, show 16 + i - 16 = i by omega, show ¬ 16 + i < 16 by omega]
  · simp [h8, show ¬ 16 + i < 32 by omega]
theorem cut_sh (v : Int32) (a : Int32) (n : Nat) (h : (a &&& 31).toBitVec.smod 32 = BitVec.ofNat 32 n) (hn : n < 32) : ((v <<< (a &&& 31)) >>> (a &&& 31)).toBitVec = (v.toBitVec <<< n).sshiftRight n := by
  have e : ((v <<< (a &&& 31)) >>> (a &&& 31)).toBitVec = (v.toBitVec <<< ((a &&& 31).toBitVec.smod 32)).sshiftRight' ((a &&& 31).toBitVec.smod 32) := rfl
  rw [e, h]
  have e2 : (BitVec.ofNat 32 n).toNat = n := by
    rw [BitVec.toNat_ofNat]
    exact Nat.mod_eq_of_lt (by omega)
  show (v.toBitVec <<< (BitVec.ofNat 32 n).toNat).sshiftRight (BitVec.ofNat 32 n).toNat = _
  rw [e2]
theorem cut_0 (v : Int32) : vp_nar .byte v.toInt8.toInt32 = cutZ (nI 0) v := by
  have e : vp_nar .byte v.toInt8.toInt32 = v.toInt8.toInt32.toInt8.toInt32 := rfl
  rw [e, Int8.toInt8_toInt32]
  unfold cutZ
  rw [if_pos (show nI 0 = (0 : Int32) from rfl)]
  apply Int32.toBitVec_inj.mp
  rw [cut_sh v (nI 24) 24 (by decide) (by decide), ← sx_8]
  rfl
theorem cut_1 (v : Int32) : vp_nar .short v.toInt16.toInt32 = cutZ (nI 1) v := by
  have e : vp_nar .short v.toInt16.toInt32 = v.toInt16.toInt32.toInt16.toInt32 := rfl
  rw [e, Int16.toInt16_toInt32]
  unfold cutZ
  rw [if_neg (by decide), if_pos rfl]
  apply Int32.toBitVec_inj.mp
  rw [cut_sh v (nI 16) 16 (by decide) (by decide), ← sx_16]
  rfl
theorem cut_2 (v : Int32) : v = cutZ (nI 2) v := by
  unfold cutZ
  rw [if_neg (by decide), if_neg (by decide)]
section RWS
variable {G : gl_T} {w0 w w' : wd_T} {x : Nat} {O : Nat → Prop} {W : cw_T} {V : fv_T} {Z : fz_T}
/-- a row as it lies -/
theorem RW.full (h : FA G w0 w x O W) (v : VW W V Z) {k : Nat} (hk : k < 8) : (V.2.2.2.2.1 k = none ∧ w.1 (x + 2 + k) = some (x, .inr (1, [.null]))) ∨ ∃ l n f b, V.2.2.2.2.1 k = some (l, n, f) ∧ w.1 (x + 2 + k) = some (x, .inr (1, [.ref b])) ∧ w.1 b = some (x + 2 + k, ai (gl_A G (lnc l)) n f) ∧ l ≤ 2 ∧ n ≤ 40 ∧ W.2.2.1 (40 + k) = some b := by
  rw [← v.r k hk]
  rcases h.rows k hk with h1 | ⟨l, n, f, b, h1, h2, h3, h4, h5⟩
  · exact Or.inl ⟨h1.1, h.shN hk h1.2⟩
  · exact Or.inr ⟨l, n, f, b, h1, h.shS hk h2, h5, h3, h4, h2⟩
/-- a shelf's own cell is laid anew -/
theorem FA.shelf (h : FA G w0 w x O W) {k : Nat} (hk : k < 8) (o : Option Nat) (r : Option (Nat × Nat × (Nat → Int32))) (hr : (r = none ∧ o = none) ∨ ∃ l n f b, r = some (l, n, f) ∧ o = some b ∧ l ≤ 2 ∧ n ≤ 40 ∧ w.1 b = some (x + 2 + k, ai (gl_A G (lnc l)) n f)) : FA G w0 (mu w.1 (x + 2 + k) x (.inr (1, [va_rf o])), w.2) x O (wR (wA W (40 + k) o) k r) := by
  have hc := h.sh k hk
  have hF : FR x w (mu w.1 (x + 2 + k) x (.inr (1, [va_rf o])), w.2) := FR.upd hc (fun z => by
    have : (7 : Nat) ≤ 1 := z.1
    omega)
  have eA : ∀ i, i ≠ 40 + k → (wR (wA W (40 + k) o) k r).2.2.1 i = W.2.2.1 i := fun i hi => if_neg hi
  have eAk : (wR (wA W (40 + k) o) k r).2.2.1 (40 + k) = o := if_pos rfl
  have eR : ∀ i, i ≠ k → (wR (wA W (40 + k) o) k r).2.2.2.1 i = W.2.2.2.1 i := fun i hi => if_neg hi
  have eRk : (wR (wA W (40 + k) o) k r).2.2.2.1 k = r := if_pos rfl
  have ad : ∀ s n, s + n ≤ 40 → adP (wR (wA W (40 + k) o) k r) s n = adP W s n := by
    intro s n hs
    funext q
    unfold adP
    by_cases z : q < n
    · rw [if_pos z, if_pos z, eA (s + q) (by omega)]
    · rw [if_neg z, if_neg z]
  refine ⟨h.wf.upd hc, fun j hj => ?_, fun i b hi hb => ?_, fun i j b hi hj h1 h2 => ?_, ?_, ?_, ⟨fun q hq => ?_, fun q hq h9 => ?_, h.rid.2.2⟩, ⟨fun q hq => ?_, h.past.2⟩, fun q hq => ?_, ⟨hF.2 _ _ _ h.tr.1 (Or.inl h.rx.1), hF.2 _ _ _ h.tr.2.1 (Or.inl h.rx.1), h.tr.2.2⟩, fun b σ e ho hb => ?_, fun σ ho => ?_⟩
  · by_cases z : j = 2 + k
    · subst z
      have : xcell G x (wR (wA W (40 + k) o) k r) (2 + k) = .inr (1, [va_rf o]) := by
        unfold xcell
        rw [if_neg (by omega), if_neg (by omega), if_pos (by omega), show 38 + (2 + k) = 40 + k by omega, eAk]
      rw [this, show x + (2 + k) = x + 2 + k by omega]
      exact mu_s
    · have : xcell G x (wR (wA W (40 + k) o) k r) j = xcell G x W j := by
        unfold xcell
        by_cases z0 : j = 0
        · rw [if_pos z0, if_pos z0]
          rfl
        · rw [if_neg z0, if_neg z0]
          by_cases z1 : j = 1
          · rw [if_pos z1, if_pos z1]
          · rw [if_neg z1, if_neg z1]
            by_cases z9 : j ≤ 9
            · rw [if_pos z9, if_pos z9, eA (38 + j) (by omega)]
            · rw [if_neg z9, if_neg z9, ad 2 24 (by omega), ad 26 2 (by omega), ad 28 9 (by omega)]
              rfl
      rw [this]
      exact (mu_n (by omega)).trans (h.cell j hj)
  · rw [eA i (by omega)] at hb
    exact (h.tn hi hb).fr hF (h.tx hi hb).1
  · rw [eA i (by omega)] at h1
    rw [eA j (by omega)] at h2
    exact h.inj hi hj h1 h2
  · rw [eA 0 (by omega)]
    exact h.a0
  · rw [eA 1 (by omega)]
    exact h.a1
  · have h8 := h.rid.2.2
    have hq' : q < W.1 6 := hq
    rw [eA (28 + q) (by omega)]
    exact h.rid.1 q hq
  · rw [eA (28 + q) (by omega)]
    exact h.rid.2.1 q hq h9
  · have h8 := h.past.2
    have hq' : q < W.1 2 := hq
    rw [eA (2 + q) (by omega)]
    exact h.past.1 q hq
  · unfold RW
    by_cases z : q = k
    · subst z
      rw [eAk, eRk]
      rcases hr with hr | ⟨l, n, f, b, h1, h2, h3, h4, h5⟩
      · exact Or.inl hr
      · refine Or.inr ⟨l, n, f, b, h1, h2, h3, h4, hF.2 _ _ _ h5 (Or.inl (by omega))⟩
    · rw [eA (40 + q) (by omega), eR q z]
      rcases h.rows q hq with h1 | ⟨l, n, f, c, h1, h2', h3, h4', h5'⟩
      · exact Or.inl h1
      · exact Or.inr ⟨l, n, f, c, h1, h2', h3, h4', hF.2 _ _ _ h5' (Or.inl (by omega))⟩
  · refine hF.2 _ _ _ (h.fr0 b σ e ho hb) (Or.inl (fun z => ?_))
    have := (h.frO σ ho).2.1
    omega
  · have := h.frO σ ho
    refine ⟨this.1, this.2.1, this.2.2.1, fun i hi => ?_⟩
    rw [eA i (by omega)]
    exact this.2.2.2 i hi
theorem VW.row (v : VW W V Z) {k : Nat} (o : Option Nat) (r : Option (Nat × Nat × (Nat → Int32))) : VW (wR (wA W (40 + k) o) k r) (vR V k r) Z := by
  refine ⟨v.1, v.t, v.p, fun j hj => ?_, fun j hj => ?_, v.tp, v.b, v.z, v.d, v.k, v.u, v.v⟩
  · have e : (wR (wA W (40 + k) o) k r).2.2.1 (26 + j) = W.2.2.1 (26 + j) := if_neg (by omega)
    rw [e]
    exact v.i j hj
  · show (if j = k then r else W.2.2.2.1 j) = (if j = k then r else V.2.2.2.2.1 j)
    rw [v.r j hj]
theorem FX.rowN (h : FA G w0 w x O W) (v : VW W V Z) {k : Nat} (hk : k < 8) : FX G w0 (mu w.1 (x + 2 + k) x (.inr (1, [.null])), w.2) x O (vR V k none) Z := ⟨_, h.shelf hk none none (Or.inl ⟨rfl, rfl⟩), v.row none none⟩
theorem FX.rowS (h : FA G w0 w x O W) (v : VW W V Z) {k l n b : Nat} {f : Nat → Int32} (hk : k < 8) (hl : l ≤ 2) (hn : n ≤ 40) (hb : w.1 b = some (x + 2 + k, ai (gl_A G (lnc l)) n f)) : FX G w0 (mu w.1 (x + 2 + k) x (.inr (1, [.ref b])), w.2) x O (vR V k (some (l, n, f))) Z := ⟨_, h.shelf hk (some b) (some (l, n, f)) (Or.inr ⟨l, n, f, b, rfl, rfl, hl, hn, hb⟩), v.row (some b) (some (l, n, f))⟩
/-- a row's numbers are laid anew -/
theorem FX.rowA (h : FA G w0 w x O W) (v : VW W V Z) {k l n b : Nat} {f g : Nat → Int32} (hk : k < 8) (hV : V.2.2.2.2.1 k = some (l, n, f)) (hA : W.2.2.1 (40 + k) = some b) (hb : w.1 b = some (x + 2 + k, ai (gl_A G (lnc l)) n f)) : FX G w0 (mu w.1 b (x + 2 + k) (ai (gl_A G (lnc l)) n g), w.2) x O (vR V k (some (l, n, g))) Z := by
  have hF : FR (x + 2 + k) w (mu w.1 b (x + 2 + k) (ai (gl_A G (lnc l)) n g), w.2) := FR.upd hb (fun z => z)
  have eR : ∀ i, i ≠ k → (wR W k (some (l, n, g))).2.2.2.1 i = W.2.2.2.1 i := fun i hi => if_neg hi
  have eRk : (wR W k (some (l, n, g))).2.2.2.1 k = some (l, n, g) := if_pos rfl
  refine ⟨wR W k (some (l, n, g)), ⟨h.wf.upd hb, fun j hj => hF.2 _ _ _ (h.cell j hj) (Or.inl (by omega)), fun i c hi hc => (h.tn hi hc).fr hF ((h.tx hi hc).2.2 k hk), h.2.2.2.1, h.a0, h.a1, h.rid, h.past, fun q hq => ?_, ⟨hF.2 _ _ _ h.tr.1 (Or.inl (h.rx.2 k hk)), hF.2 _ _ _ h.tr.2.1 (Or.inl (h.rx.2 k hk)), h.tr.2.2⟩, fun c σ e ho hc => ?_, h.2.2.2.2.2.2.2.2.2.2.2⟩, v.1, v.t, v.p, v.i, fun j hj => ?_, v.tp, v.b, v.z, v.d, v.k, v.u, v.v⟩
  · unfold RW
    rw [← v.r k hk] at hV
    by_cases z : q = k
    · subst z
      rw [eRk]
      rcases h.rows q hq with h1 | ⟨l', n', f', c, h1, h2', h3, h4', h5'⟩
      · rw [h1.1] at hV
        cases hV
      · rw [hV] at h1
        cases h1
        exact Or.inr ⟨l, n, g, b, rfl, hA, h3, h4', mu_s⟩
    · rw [eR q z]
      rcases h.rows q hq with h1 | ⟨l', n', f', c, h1, h2', h3, h4', h5'⟩
      · exact Or.inl h1
      · exact Or.inr ⟨l', n', f', c, h1, h2', h3, h4', hF.2 _ _ _ h5' (Or.inl (by omega))⟩
  · refine hF.2 _ _ _ (h.fr0 c σ e ho hc) (Or.inl (fun z => ?_))
    have := (h.frO σ ho).2.1
    omega
  · show (if j = k then some (l, n, g) else W.2.2.2.1 j) = (if j = k then some (l, n, g) else V.2.2.2.2.1 j)
    rw [v.r j hj]
/-- one more cell of somebody else's -/
theorem FX.newc (h : FX G w0 w x O V Z) (n τ : Nat) (e : va_E) : FX G w0 (mu w.1 (w.2 + n) τ e, w.2 + n + 1) x O V Z := by
  have hw : WF w := by
    obtain ⟨W, hA, -⟩ := h
    exact hA.wf
  refine h.ext (fun b σ e2 hb => ?_) (by show w.2 ≤ w.2 + n + 1; omega) (fun b σ e2 hb => ?_)
  · have := hw b σ e2 hb
    exact (mu_n (by omega)).trans hb
  · show b < w.2 + n + 1
    by_cases z : b = w.2 + n
    · omega
    · have := hw b σ e2 ((mu_n z).symm.trans hb)
      omega
end RWS
