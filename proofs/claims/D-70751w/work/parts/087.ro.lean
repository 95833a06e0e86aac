/-! ===== rows of streets, by own recursion: plain words ===== -/
set_option maxRecDepth 100000
/-- what is judged, the best, what is tried, how many riders there are -/
abbrev ro_T (α : Type) : Type := α × (Nat → Nat) × (Nat → Nat) × Nat
def vis {α : Type} (bt : (Nat → Nat) → Nat → Nat → α → Bool × α) (many cost : Nat) (t : Nat → Nat) (q : ro_T α) : ro_T α := ((bt t many cost q.1).2, (if (bt t many cost q.1).1 then q.2.2.1 else q.2.1), q.2.2.1, q.2.2.2)
def rwL {α : Type} (f : Nat → ro_T α → ro_T α) : Nat → ro_T α → ro_T α
  | 0, q => q
  | k + 1, q => f k (rwL f k q)
def rwF {α : Type} (bt : (Nat → Nat) → Nat → Nat → α → Bool × α) : Nat → Nat → Nat → (Nat → Nat) → ro_T α → ro_T α
  | 0, many, cost, t, q => vis bt many cost t q
  | m + 1, many, cost, t, q => rwL (fun s q => if goN t s (t 4) then rwF bt m (many + 1) (cost + csd t (t (26 + 2 * s + 1)) (t 1) (t 3)) (rdT t s) (q.1, q.2.1, uN q.2.2.1 many s, q.2.2.2) else q) (t 25) ((vis bt many cost t q).1, (vis bt many cost t q).2.1, (vis bt many cost t q).2.2.1, max q.2.2.2 (many + 1))
theorem smT_rdT {t : Nat → Nat} {j : Nat} (h : smT t) (h3 : t 3 + 1 ≤ 1100) (hj : j < 8) : smT (rdT t j) := by
  obtain ⟨r0, r1, r2, r3, r4, r5, r6, r7, r25, r26⟩ := id h
  have hp := psd_le (t := t) (c := t (26 + 2 * j + 1)) (step := t 3) r1
  refine ⟨r0, hp, Nat.min_le_left _ _, h3, (r26 j hj).2, r5, r6, fun c hc => ?_, ?_, fun c hc => ?_⟩
  · rw [rdT_n (by omega), rdT_n (by omega), rdT_n (by omega)]
    exact r7 c hc
  · rw [rdT_n (by omega)]
    exact r25
  · rw [rdT_n (by omega), rdT_n (by omega)]
    exact r26 c hc
section ROS
variable {α : Type} {bt : (Nat → Nat) → Nat → Nat → α → Bool × α}
theorem rwL_d {f : Nat → ro_T α → ro_T α} {u : Nat} (hf : ∀ s q, q.2.2.2 ≤ u → q.2.2.2 ≤ (f s q).2.2.2 ∧ (f s q).2.2.2 ≤ u) : ∀ k q, q.2.2.2 ≤ u → q.2.2.2 ≤ (rwL f k q).2.2.2 ∧ (rwL f k q).2.2.2 ≤ u := by
  intro k
  induction k with
  | zero => intro q hq; exact ⟨Nat.le_refl _, hq⟩
  | succ k ih =>
    intro q hq
    have h1 := ih q hq
    have h2 := hf k (rwL f k q) h1.2
    exact ⟨Nat.le_trans h1.1 h2.1, h2.2⟩
theorem rwF_d : ∀ m many cost (t : Nat → Nat) (q : ro_T α) u, many + m ≤ u → q.2.2.2 ≤ u → q.2.2.2 ≤ (rwF bt m many cost t q).2.2.2 ∧ (rwF bt m many cost t q).2.2.2 ≤ u := by
  intro m
  induction m with
  | zero => intro many cost t q u hu hq; exact ⟨Nat.le_refl _, hq⟩
  | succ m ih =>
    intro many cost t q u hu hq
    have h := rwL_d (u := u) (f := fun s q => if goN t s (t 4) then rwF bt m (many + 1) (cost + csd t (t (26 + 2 * s + 1)) (t 1) (t 3)) (rdT t s) (q.1, q.2.1, uN q.2.2.1 many s, q.2.2.2) else q) (fun s q hq => by
      show q.2.2.2 ≤ (if _ then _ else _ : ro_T α).2.2.2 ∧ _
      by_cases z : goN t s (t 4) = true
      · simp only [z, if_true]
        exact ih (many + 1) _ (rdT t s) (q.1, q.2.1, uN q.2.2.1 many s, q.2.2.2) u (by omega) hq
      · simp only [z]
        exact ⟨Nat.le_refl _, hq⟩) (t 25) ((vis bt many cost t q).1, (vis bt many cost t q).2.1, (vis bt many cost t q).2.2.1, max q.2.2.2 (many + 1)) (by show max _ _ ≤ u; omega)
    refine ⟨Nat.le_trans ?_ h.1, h.2⟩
    show q.2.2.2 ≤ max q.2.2.2 (many + 1)
    omega
theorem rwL_ok {ok : α → Prop} {f : Nat → ro_T α → ro_T α} {n : Nat} (hf : ∀ s q, s < n → ok q.1 → ok (f s q).1) : ∀ k q, k ≤ n → ok q.1 → ok (rwL f k q).1 := by
  intro k
  induction k with
  | zero => intro q _ hq; exact hq
  | succ k ih =>
    intro q hk hq
    exact hf k _ (by omega) (ih q (by omega) hq)
theorem rwF_ok {ok : α → Prop} (hok : ∀ (t : Nat → Nat) (n c : Nat) (p : α), ok p → n ≤ 8 → c ≤ 2000 → t 1 ≤ 9 → t 4 < 6 → ok (bt t n c p).2) : ∀ m many cost (t : Nat → Nat) (q : ro_T α), many + m ≤ 8 → cost ≤ 90 * many → smT t → t 3 + m ≤ 1100 → ok q.1 → ok (rwF bt m many cost t q).1 := by
  intro m
  induction m with
  | zero => intro many cost t q hm hc ht h3 hq; exact hok t many cost q.1 hq (by omega) (by omega) ht.2.1 ht.2.2.2.2.1
  | succ m ih =>
    intro many cost t q hm hc ht h3 hq
    have r25 := ht.2.2.2.2.2.2.2.2.1
    have r26 := ht.2.2.2.2.2.2.2.2.2
    refine rwL_ok (ok := ok) (n := t 25) (fun s q hs hq => ?_) (t 25) _ (Nat.le_refl _) (hok t many cost q.1 hq (by omega) (by omega) ht.2.1 ht.2.2.2.2.1)
    show ok (if _ then _ else _ : ro_T α).1
    by_cases z : goN t s (t 4) = true
    · simp only [z, if_true]
      have hcs := csd_le (t := t) (c := t (26 + 2 * s + 1)) (step := t 3) ht (r26 s (by omega)).2 ht.2.1
      exact ih (many + 1) _ (rdT t s) _ (by omega) (by omega) (smT_rdT ht (by omega) (by omega)) (by show t 3 + 1 + m ≤ 1100; omega) hq
    · simp only [z]
      exact hq
end ROS
section ROX
variable {G : gl_T} {w0 w w' : wd_T} {x : Nat} {O : Nat → Prop} {W : cw_T} {V : fv_T} {Z : fz_T}
theorem far_ne {b a τ ci cj : Nat} {fs gs : List Value} (hb : w.1 b = some (b, .inr (ci, fs))) (ha : w.1 a = some (τ, .inr (cj, gs))) (h : ci ≠ cj) : b ≠ a := fun z => by
  rw [z, ha] at hb
  have := congrArg (fun o => Option.map (fun p : Nat × va_E => match p.2 with | .inr (k, _) => k | _ => 0) o) hb
  simp at this
  omega
theorem far_tn {b a ci : Nat} {fs : List Value} {t : Nat → Nat} (hb : w.1 b = some (b, .inr (ci, fs))) (ha : TN G w a t) (h : 12 ≤ ci) : b ≠ a := far_ne hb ha.1 (by omega)
/-- a foreign object acts -/
theorem FA.far (h : FA G w0 w x O W) {b ci : Nat} {fs : List Value} {e : va_E} (hb : w.1 b = some (b, .inr (ci, fs))) (hci : 12 ≤ ci) (hO : ¬ O b) : FA G w0 (mu w.1 b b e, w.2) x O W := by
  have hF : FR b w (mu w.1 b b e, w.2) := FR.upd hb (fun z => by have : ci ≤ 11 := z.2; omega)
  have hx : b ≠ x := far_ne hb h.c0 (by omega)
  refine ⟨h.wf.upd hb, fun j hj => hF.2 _ _ _ (h.cell j hj) (Or.inl (Ne.symm hx)), fun i c hi hc => (h.tn hi hc).fr hF (Ne.symm (far_tn hb (h.tn hi hc) hci)), h.2.2.2.1, h.a0, h.a1, h.rid, h.past, fun k hk => ?_, ?_, fun c σ e2 ho hc => ?_, h.frO⟩
  · rcases h.rows k hk with h1 | ⟨l, n, f, c, h1, h2, h3, h4, h5⟩
    · exact Or.inl h1
    · exact Or.inr ⟨l, n, f, c, h1, h2, h3, h4, hF.2 _ _ _ h5 (Or.inl (fun z => by
        have h6 := h.sh k hk
        rw [z] at h6
        rw [hb] at h6
        have := congrArg (fun o => Option.map (fun p : Nat × va_E => p.1) o) h6
        simp at this
        exact hx this))⟩
  · have hr : b ≠ W.1 5 := far_ne hb h.tr.1 (by omega)
    exact ⟨hF.2 _ _ _ h.tr.1 (Or.inl (Ne.symm hr)), hF.2 _ _ _ h.tr.2.1 (Or.inl (Ne.symm hr)), h.tr.2.2⟩
  · exact hF.2 _ _ _ (h.fr0 c σ e2 ho hc) (Or.inl (fun z => hO (by rw [← z]; exact ho)))
theorem VW.addK (v : VW W V Z) {k b : Nat} {t : Nat → Nat} (hk : k = Z.2.1) (h8 : k < 8) (ha : W.1 2 ≤ 24) : VW (wN (wT (wA W (28 + k) (some b)) (28 + k) t) 6 (k + 1)) V (zD (zR Z k t) (k + 1)) := by
  have h2 := v.n 2 (by omega)
  refine ⟨fun i hi => (wN_n (by omega)).trans (v.1 i hi), ?_, fun j hj => ?_, fun j hj => ?_, v.r, v.tp, v.b, ?_, wN_s, fun j hj => ?_, v.u, v.v⟩
  · exact (if_neg (by omega)).trans v.t
  · exact (if_neg (by omega)).trans (v.p j hj)
  · have e1 : (wN (wT (wA W (28 + k) (some b)) (28 + k) t) 6 (k + 1)).2.2.1 (26 + j) = W.2.2.1 (26 + j) := if_neg (by omega)
    have e2 : (wN (wT (wA W (28 + k) (some b)) (28 + k) t) 6 (k + 1)).2.1 (26 + j) = W.2.1 (26 + j) := if_neg (by omega)
    rw [e1, e2]
    exact v.i j hj
  · exact (if_neg (by omega)).trans v.z
  · have hj2 : j < k + 1 := hj
    show (if 28 + j = 28 + k then t else W.2.1 (28 + j)) = (if j = k then t else Z.2.2.1 j)
    by_cases z : j = k
    · rw [if_pos (by omega), if_pos z]
    · rw [if_neg (by omega), if_neg z]
      exact v.k j (by omega)
end ROX
/-- the row of one who rides as another: what he has besides stays -/
theorem rAs_eq {t u r : Nat → Nat} (h : ∀ i, ¬ (1 ≤ i ∧ i ≤ 5) → u i = t i) (hr : ∀ i, 1 ≤ i → i ≤ 5 → r i = t i) : rAs u r = t := by
  funext i
  unfold rAs
  by_cases z : 1 ≤ i ∧ i ≤ 5
  · rw [if_pos z]
    exact hr i z.1 z.2
  · rw [if_neg z]
    exact h i z
theorem TN.ras {G : gl_T} {w : wd_T} {a : Nat} {t u : Nat → Nat} (h : TN G w a t) : TN G (mu w.1 a a (TE a (rAs t u)), w.2) a (rAs t u) := h.sc rfl (fun i h1 h2 => by
  unfold rAs
  rw [if_neg (by omega)])
section ROL
variable {α : Type} {bt : (Nat → Nat) → Nat → Nat → α → Bool × α}
/-- a street of a row: the rows that go on by it; the start of the streets -/
def rwG (bt : (Nat → Nat) → Nat → Nat → α → Bool × α) (m many cost : Nat) (t : Nat → Nat) : Nat → ro_T α → ro_T α := fun s q => if goN t s (t 4) then rwF bt m (many + 1) (cost + csd t (t (26 + 2 * s + 1)) (t 1) (t 3)) (rdT t s) (q.1, q.2.1, uN q.2.2.1 many s, q.2.2.2) else q
def rw0 (bt : (Nat → Nat) → Nat → Nat → α → Bool × α) (many cost : Nat) (t : Nat → Nat) (q : ro_T α) : ro_T α := ((vis bt many cost t q).1, (vis bt many cost t q).2.1, (vis bt many cost t q).2.2.1, max q.2.2.2 (many + 1))
theorem rwF_s {m many cost : Nat} {t : Nat → Nat} {q : ro_T α} : rwF bt (m + 1) many cost t q = rwL (rwG bt m many cost t) (t 25) (rw0 bt many cost t q) := rfl
theorem vis_t {many cost : Nat} {t : Nat → Nat} {q : ro_T α} (h : (bt t many cost q.1).1 = true) : (vis bt many cost t q).2.1 = q.2.2.1 := by
  unfold vis
  simp [h]
theorem vis_f {many cost : Nat} {t : Nat → Nat} {q : ro_T α} (h : (bt t many cost q.1).1 = false) : (vis bt many cost t q).2.1 = q.2.1 := by
  unfold vis
  simp [h]
theorem rwG_d {m many cost u : Nat} {t : Nat → Nat} (hu : many + 1 + m ≤ u) : ∀ s (q : ro_T α), q.2.2.2 ≤ u → q.2.2.2 ≤ (rwG bt m many cost t s q).2.2.2 ∧ (rwG bt m many cost t s q).2.2.2 ≤ u := by
  intro s q hq
  unfold rwG
  by_cases z : goN t s (t 4) = true
  · simp only [z, if_true]
    exact rwF_d m (many + 1) _ (rdT t s) (q.1, q.2.1, uN q.2.2.1 many s, q.2.2.2) u hu hq
  · simp only [z]
    exact ⟨Nat.le_refl _, hq⟩
theorem rwL_m {f : Nat → ro_T α → ro_T α} {u : Nat} (hf : ∀ s q, q.2.2.2 ≤ u → q.2.2.2 ≤ (f s q).2.2.2 ∧ (f s q).2.2.2 ≤ u) {q : ro_T α} (hq : q.2.2.2 ≤ u) {k : Nat} : ∀ j, k ≤ j → (rwL f k q).2.2.2 ≤ (rwL f j q).2.2.2 := by
  intro j
  induction j with
  | zero => intro h; rw [show k = 0 by omega]; exact Nat.le_refl _
  | succ j ih =>
    intro h
    by_cases z : k = j + 1
    · rw [z]
      exact Nat.le_refl _
    · exact Nat.le_trans (ih (by omega)) (hf j _ (rwL_d hf j q hq).2).1
theorem rdT_o {t : Nat → Nat} {j i : Nat} (h : ¬ (1 ≤ i ∧ i ≤ 5)) : rdT t j i = t i := by
  unfold rdT
  rw [uN_n (by omega), uN_n (by omega), uN_n (by omega), uN_n (by omega)]
end ROL
theorem rdT_wf {t : Nat → Nat} {s : Nat} (hwf : ∀ y, y < t 25 → t (26 + 2 * y + 1) < t 6) : ∀ y, y < rdT t s 25 → rdT t s (26 + 2 * y + 1) < rdT t s 6 := by
  intro y hy
  have h1 : rdT t s 25 = t 25 := rdT_n (by omega)
  have h2 : rdT t s 6 = t 6 := rdT_o (by omega)
  rw [rdT_n (show 7 ≤ 26 + 2 * y + 1 by omega), h2]
  rw [h1] at hy
  exact hwf y hy
