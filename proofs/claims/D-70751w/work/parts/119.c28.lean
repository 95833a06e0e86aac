/-! ===== the class: a new trail; the trail grows ===== -/
set_option maxRecDepth 100000
def tpN (q : Nat × (Nat → Nat)) (b : Nat) : Nat × (Nat → Nat) := (q.1 + 1, uN q.2 q.1 b)
def rlP (p : Nat × (Nat → Int32)) (q : Nat × (Nat → Nat)) : Prop := p.1 = q.1 ∧ ∀ i, i < q.1 → p.2 i = nI (q.2 i)
theorem rlP.tp {p : Nat × (Nat → Int32)} {q : Nat × (Nat → Nat)} {b : Nat} (h : rlP p q) : rlP (tpV p b) (tpN q b) := by
  refine ⟨congrArg (· + 1) h.1, fun i hi => ?_⟩
  have hi : i < q.1 + 1 := hi
  show upd p.2 p.1 (nI b) i = nI (uN q.2 q.1 b i)
  rw [h.1]
  by_cases z : i = q.1
  · subst z
    rw [uN_s]
    simp [upd]
  · rw [uN_n z, show upd p.2 q.1 (nI b) i = p.2 i by simp [upd, z]]
    exact h.2 i (by omega)
/-- the trail as q says -/
def vQ (V : fv_T) (q : Nat × (Nat → Nat)) : fv_T := vB (vN V 4 q.1) q.2
def jmQ (t : Nat → Nat) (c : Nat) (q : Nat × (Nat → Nat)) : Nat × (Nat → Nat) := tpN (tpN (if t (7 + 3 * c) = 1 then q else tpN q (if t (7 + 3 * c) = 2 then 24 else 22)) 21) 20
def gzQ (t : Nat → Nat) (c : Nat) (q : Nat × (Nat → Nat)) : Nat × (Nat → Nat) := tpN (tpN (if t (7 + 3 * c) = 5 then tpN q 14 else q) 13) 10
def jzQ (t : Nat → Nat) (c : Nat) (q : Nat × (Nat → Nat)) : Nat × (Nat → Nat) := jmQ t c (tpN (tpN (if t (7 + 3 * c) = 2 then tpN q 12 else q) 11) 10)
def gmQ (t : Nat → Nat) (c : Nat) (q : Nat × (Nat → Nat)) : Nat × (Nat → Nat) := gzQ t c (tpN (tpN q 23) 20)
theorem trW_self {G : gl_T} {w : wd_T} {tr d τ : Nat} {p : Nat × (Nat → Int32)} (h1 : w.1 tr = some (τ, .inr (3, [.ref d, .int (nI p.1)]))) (h2 : w.1 d = some (τ, ai (gl_A G 0) 16 p.2)) : w = trW G w tr d τ p := by
  unfold trW
  refine Prod.ext ?_ rfl
  funext b
  show w.1 b = mu (mu w.1 tr τ _) d τ _ b
  by_cases z : b = d
  · subst z
    rw [mu_s]
    exact h2
  · rw [mu_n z]
    by_cases z1 : b = tr
    · subst z1
      rw [mu_s]
      exact h1
    · rw [mu_n z1]
section AK
variable {G : gl_T} {w0 w : wd_T} {x : Nat} {O : Nat → Prop} {W : cw_T} {V : fv_T} {Z : fz_T} {p : Nat × (Nat → Int32)} {q : Nat × (Nat → Nat)}
theorem trW_FR {tr d τ : Nat} {e1 e2 : va_E} (h1 : w.1 tr = some (τ, e1)) (h2 : w.1 d = some (τ, e2)) (n1 : ¬ isC e1) (n2 : ¬ isC e2) (h : tr ≠ d) : FR τ w (trW G w tr d τ p) := by
  have a := FR.upd (e1 := .inr (3, [.ref d, .int (nI p.1)])) h1 n1
  refine a.trans (FR.upd (e := e2) ?_ n2)
  exact (mu_n (Ne.symm h)).trans h2
theorem FA.trP (h : FA G w0 w x O W) (hp : p.1 ≤ 16) : FA G w0 (trW G w (W.1 5) (W.1 5 + 1) (W.1 5) p) x O (wB (wN W 4 p.1) 3 p.2) := by
  have ht := h.tr
  have hF : FR (W.1 5) w (trW G w (W.1 5) (W.1 5 + 1) (W.1 5) p) := trW_FR ht.1 ht.2.1 (fun z => by have : (7 : Nat) ≤ 3 := z.1; omega) (fun z => z) (by omega)
  have e : ∀ k, k ≠ 4 → (wB (wN W 4 p.1) 3 p.2).1 k = W.1 k := fun k hk => uN_n hk
  have e4 : (wB (wN W 4 p.1) 3 p.2).1 4 = p.1 := (uN_s : uN W.1 4 p.1 4 = p.1)
  have eb : ∀ k, k ≠ 3 → (wB (wN W 4 p.1) 3 p.2).2.2.2.2 k = W.2.2.2.2 k := fun k hk => if_neg hk
  have ec : ∀ j, xcell G x (wB (wN W 4 p.1) 3 p.2) j = xcell G x W j := fun j => by
    unfold xcell
    rw [e 0 (by omega), e 1 (by omega), e 2 (by omega), e 3 (by omega), e 5 (by omega), eb 0 (by omega), eb 1 (by omega), eb 2 (by omega)]
    rfl
  have hwf : WF (trW G w (W.1 5) (W.1 5 + 1) (W.1 5) p) := by
    have h1 := h.wf.upd (e1 := .inr (3, [.ref (W.1 5 + 1), .int (nI p.1)])) ht.1
    exact h1.upd (a := W.1 5 + 1) (τ := W.1 5) (e := ai (gl_A G 0) 16 (W.2.2.2.2 3)) ((mu_n (by omega)).trans ht.2.1)
  refine ⟨hwf, fun j hj => ?_, fun i b hi hb => ?_, h.2.2.2.1, h.a0, h.a1, by rw [e 6 (by omega)]; exact h.rid, by rw [e 2 (by omega)]; exact h.past, fun k hk => ?_, ?_, fun b σ e ho hb => ?_, fun σ ho => ?_⟩
  · rw [ec]
    exact hF.2 _ _ _ (h.cell j hj) (Or.inl (Ne.symm h.rx.1))
  · exact (h.tn hi hb).fr hF (h.tx hi hb).2.1
  · rcases h.rows k hk with h1 | ⟨l, n, f, c, h1, h2, h3, h4, h5⟩
    · exact Or.inl h1
    · exact Or.inr ⟨l, n, f, c, h1, h2, h3, h4, hF.2 _ _ _ h5 (Or.inl (Ne.symm (h.rx.2 k hk)))⟩
  · rw [e 5 (by omega), e4]
    exact ⟨trW_t (by omega), trW_d, hp⟩
  · exact hF.2 _ _ _ (h.fr0 b σ e ho hb) (Or.inl (h.frO σ ho).2.2.1)
  · rw [e 5 (by omega)]
    exact h.frO σ ho
theorem FX.trP (h : FA G w0 w x O W) (v : VW W V Z) (hp : q.1 ≤ 16) (hr : rlP p q) : FX G w0 (trW G w (W.1 5) (W.1 5 + 1) (W.1 5) p) x O (vQ V q) Z := by
  have e : ∀ k, k ≠ 4 → (wB (wN W 4 p.1) 3 p.2).1 k = W.1 k := fun k hk => uN_n hk
  have e4 : (wB (wN W 4 p.1) 3 p.2).1 4 = p.1 := (uN_s : uN W.1 4 p.1 4 = p.1)
  have eb : ∀ k, k ≠ 3 → (wB (wN W 4 p.1) 3 p.2).2.2.2.2 k = W.2.2.2.2 k := fun k hk => if_neg hk
  have f4 : (vQ V q).1 4 = q.1 := (uN_s : uN V.1 4 q.1 4 = q.1)
  have f2 : (vQ V q).1 2 = V.1 2 := (uN_n (by omega) : uN V.1 4 q.1 2 = V.1 2)
  refine ⟨_, h.trP (by rw [hr.1]; exact hp), fun i hi => ?_, v.t, fun k hk => v.p k (by rw [← f2]; exact hk), v.i, v.r, fun i hi => by rw [eb 0 (by omega)]; exact v.tp i hi, fun i hi => ?_, v.z, (e 6 (by omega)).trans v.d, v.k, fun i hi => by rw [eb 1 (by omega)]; exact v.u i hi, fun i hi => by rw [eb 2 (by omega)]; exact v.v i hi⟩
  · by_cases z : i = 4
    · subst z
      rw [e4, f4]
      exact hr.1
    · rw [e i z]
      exact (v.n i hi).trans (uN_n z : uN V.1 4 q.1 i = V.1 i).symm
  · show (if 3 = 3 then p.2 else W.2.2.2.2 3) i = nI (q.2 i)
    rw [if_pos rfl]
    exact hr.2 i (by rw [← f4]; exact hi)
/-- a new trail -/
theorem FX.trN (h : FA G w0 w x O W) (v : VW W V Z) : FX G w0 (mu (mu (mu w.1 (w.2 + 1) w.2 (ai (gl_A G 0) 16 (fun _ => 0))) w.2 w.2 (.inr (3, [.ref (w.2 + 1), .int (nI 0)]))) x x (.inr (0, [.ref (x + 1), .ref (x + 10), .int (nI (V.1 0)), .int (nI (V.1 1)), .ref (x + 11), .ref (x + 16), .ref (x + 21), .int (nI (V.1 2)), .ref (x + 22), .ref w.2, .int (nI (V.1 3)), .ref (x + 25), .ref (x + 26), .ref (x + 27)])), w.2 + 2) x O (vN V 4 0) Z := by
  have hx : x < w.2 := h.wf _ _ _ h.c0
  have old : ∀ b σ e, w.1 b = some (σ, e) → b < w.2 := h.wf
  have keep : ∀ b σ e, w.1 b = some (σ, e) → b ≠ x → (mu (mu (mu w.1 (w.2 + 1) w.2 (ai (gl_A G 0) 16 (fun _ => 0))) w.2 w.2 (.inr (3, [.ref (w.2 + 1), .int (nI 0)]))) x x (.inr (0, [.ref (x + 1), .ref (x + 10), .int (nI (V.1 0)), .int (nI (V.1 1)), .ref (x + 11), .ref (x + 16), .ref (x + 21), .int (nI (V.1 2)), .ref (x + 22), .ref w.2, .int (nI (V.1 3)), .ref (x + 25), .ref (x + 26), .ref (x + 27)]))) b = some (σ, e) := fun b σ e hb hn => by
    have := old b σ e hb
    rw [mu_n hn, mu_n (by omega), mu_n (by omega)]
    exact hb
  have hF : FR x w (mu (mu (mu w.1 (w.2 + 1) w.2 (ai (gl_A G 0) 16 (fun _ => 0))) w.2 w.2 (.inr (3, [.ref (w.2 + 1), .int (nI 0)]))) x x (.inr (0, [.ref (x + 1), .ref (x + 10), .int (nI (V.1 0)), .int (nI (V.1 1)), .ref (x + 11), .ref (x + 16), .ref (x + 21), .int (nI (V.1 2)), .ref (x + 22), .ref w.2, .int (nI (V.1 3)), .ref (x + 25), .ref (x + 26), .ref (x + 27)])), w.2 + 2) := by
    refine ⟨by show w.2 ≤ w.2 + 2; omega, fun b σ e hb hc => keep b σ e hb (fun z => ?_)⟩
    subst z
    rw [h.c0] at hb
    cases hb
    rcases hc with hc | hc
    · exact hc rfl
    · have : (7 : Nat) ≤ 0 := hc.1
      omega
  have e : ∀ k, k ≠ 4 → k ≠ 5 → (wB (wN (wN W 5 w.2) 4 0) 3 (fun _ => 0)).1 k = W.1 k := fun k hk h5 => (uN_n hk).trans (uN_n h5)
  have e4 : (wB (wN (wN W 5 w.2) 4 0) 3 (fun _ => 0)).1 4 = 0 := (uN_s : uN (uN W.1 5 w.2) 4 0 4 = 0)
  have e5 : (wB (wN (wN W 5 w.2) 4 0) 3 (fun _ => 0)).1 5 = w.2 := (uN_n (by omega) : uN (uN W.1 5 w.2) 4 0 5 = _).trans uN_s
  have eb : ∀ k, k ≠ 3 → (wB (wN (wN W 5 w.2) 4 0) 3 (fun _ => 0)).2.2.2.2 k = W.2.2.2.2 k := fun k hk => if_neg hk
  have f2 : (vN V 4 0).1 2 = V.1 2 := (uN_n (by omega) : uN V.1 4 0 2 = V.1 2)
  have f4 : (vN V 4 0).1 4 = 0 := (uN_s : uN V.1 4 0 4 = 0)
  refine ⟨wB (wN (wN W 5 w.2) 4 0) 3 (fun _ => 0), ⟨?_, fun j hj => ?_, fun i b hi hb => ?_, h.2.2.2.1, h.a0, h.a1, by rw [e 6 (by omega) (by omega)]; exact h.rid, by rw [e 2 (by omega) (by omega)]; exact h.past, fun k hk => ?_, ?_, fun b σ e' ho hb => ?_, fun σ ho => ?_⟩, fun i hi => ?_, v.t, fun k hk => v.p k (by rw [← f2]; exact hk), v.i, v.r, fun i hi => by rw [eb 0 (by omega)]; exact v.tp i hi, fun i hi => ?_, v.z, (e 6 (by omega) (by omega)).trans v.d, v.k, fun i hi => by rw [eb 1 (by omega)]; exact v.u i hi, fun i hi => by rw [eb 2 (by omega)]; exact v.v i hi⟩
  · intro b σ e' hb
    show b < w.2 + 2
    have hb : mu (mu (mu w.1 (w.2 + 1) w.2 _) w.2 w.2 _) x x _ b = some (σ, e') := hb
    by_cases z1 : b = x
    · omega
    · rw [mu_n z1] at hb
      by_cases z2 : b = w.2
      · omega
      · rw [mu_n z2] at hb
        by_cases z3 : b = w.2 + 1
        · omega
        · rw [mu_n z3] at hb
          have := old b σ e' hb
          omega
  · by_cases z : j = 0
    · subst z
      show mu _ x x _ x = _
      rw [mu_s]
      unfold xcell
      rw [if_pos rfl, e 0 (by omega) (by omega), e 1 (by omega) (by omega), e 2 (by omega) (by omega), e 3 (by omega) (by omega), e5, v.n 0 (by omega), v.n 1 (by omega), v.n 2 (by omega), v.n 3 (by omega)]
    · have hc : xcell G x (wB (wN (wN W 5 w.2) 4 0) 3 (fun _ => 0)) j = xcell G x W j := by
        unfold xcell
        rw [if_neg z, if_neg z, eb 0 (by omega), eb 1 (by omega), eb 2 (by omega)]
        rfl
      rw [hc]
      exact keep _ _ _ (h.cell j hj) (by omega)
  · exact (h.tn hi hb).fr hF (h.tx hi hb).1
  · rcases h.rows k hk with h1 | ⟨l, n, f, c, h1, h2, h3, h4, h5⟩
    · exact Or.inl h1
    · exact Or.inr ⟨l, n, f, c, h1, h2, h3, h4, hF.2 _ _ _ h5 (Or.inl (by omega))⟩
  · rw [e5, e4]
    refine ⟨?_, ?_, by omega⟩
    · show mu _ x x _ w.2 = _
      rw [mu_n (by omega), mu_s]
    · show mu _ x x _ (w.2 + 1) = some (w.2, ai (gl_A G 0) 16 (if 3 = 3 then (fun _ => 0) else W.2.2.2.2 3))
      rw [mu_n (by omega), mu_n (by omega), mu_s, if_pos rfl]
  · have hO := h.frO σ ho
    refine hF.2 _ _ _ (h.fr0 b σ e' ho hb) (Or.inl (fun z => ?_))
    omega
  · have hO := h.frO σ ho
    rw [e5]
    exact ⟨by show σ < w.2 + 2; omega, hO.2.1, by omega, hO.2.2.2⟩
  · by_cases z : i = 4
    · subst z
      rw [e4, f4]
    · by_cases z5 : i = 5
      · omega
      · rw [e i z z5]
        exact (v.n i hi).trans (uN_n z : uN V.1 4 0 i = V.1 i).symm
  · rw [f4] at hi
    omega
theorem vQ_vN (V : fv_T) (q : Nat × (Nat → Nat)) (n : Nat) : vQ (vN V 4 n) q = vQ V q := by
  have e : uN (uN V.1 4 n) 4 q.1 = uN V.1 4 q.1 := by
    funext i
    by_cases z : i = 4
    · subst z
      rw [uN_s, uN_s]
    · rw [uN_n z, uN_n z, uN_n z]
  show ((uN (uN V.1 4 n) 4 q.1, _) : fv_T) = _
  rw [e]
  rfl
end AK
theorem nI_mulA (a b : Nat) : nI a * nI b = nI (a * b) := by
  unfold nI
  apply Int32.toBitVec_inj.mp
  simp
/-! ===== the class: ask ===== -/
set_option maxRecDepth 100000
set_option maxHeartbeats 2000000 in
theorem kX0_ask (G : gl_T) (hG : GH G) (w0 w : wd_T) (x : Nat) (O : Nat → Prop) (V : fv_T) (Z : fz_T) (hF : FX G w0 w x O V Z) (hD : GD G) (y z : Int32) (h6 : V.2.1 6 ≤ 6) (P : Int32 → fv_T → Prop) (h1 : inB y (nI 0) (nI (V.2.1 6) - nI 1) = false ∨ inB z (nI 0) (nI 1) = false → P kBAD V) (g0 : ∀ j, y = nI j → j < V.2.1 6 → z = nI 0 → 4 ≤ V.2.1 (7 + 3 * j) → P (gzV V.2.1 j) (vQ V (gzQ V.2.1 j (0, V.2.2.2.2.2.2)))) (g1 : ∀ j, y = nI j → j < V.2.1 6 → z = nI 0 → V.2.1 (7 + 3 * j) < 4 → P (jzV V.2.1 j) (vQ V (jzQ V.2.1 j (0, V.2.2.2.2.2.2)))) (g2 : ∀ j, y = nI j → j < V.2.1 6 → z = nI 1 → 4 ≤ V.2.1 (7 + 3 * j) → P (gmV V.2.1 j) (vQ V (gmQ V.2.1 j (0, V.2.2.2.2.2.2)))) (g3 : ∀ j, y = nI j → j < V.2.1 6 → z = nI 1 → V.2.1 (7 + 3 * j) < 4 → P (jmV V.2.1 j) (vQ V (jmQ V.2.1 j (0, V.2.2.2.2.2.2)))) : Mt G yX0_ask cX0_ask 5 (some .int) 6 [.ref x, .int y, .int z] w (fC G w0 x O P) 3 20 := by
  refine Mt.start (by decide) (Nat.le_of_ble_eq_true rfl) (fun k C => ?_)
  have C : Cx G k cX0_ask "MoodFare" "ask" 5 (some .int) 6 3 20 _ := C
  obtain ⟨W, hA, hv⟩ := id hF
  have hxw : x < w.2 := hA.wf _ _ _ hA.c0
  refine j_aload_n C dX0_ask_0 rfl 0 rfl ?_
  refine j_iload_n C dX0_ask_1 rfl 1 rfl ?_
  refine j_callV (w := w) C (kX0_isCorner G hG w0 w x O V Z ⟨W, hA, hv⟩ y) pI.ret (ci := 0) (T := TX0) (hA.d0 hv) rfl 1 q956 q958 qs20 q66 q959 (by decide +kernel) rfl (by decide) (by decide) (Nat.le_of_ble_eq_true rfl) rfl dX0_ask_2 (by omega) (by omega) (qI.k ?_)
  refine j_if_eqB C 15 dX0_ask_5 (by decide) (fun c5 => ?_) (fun c5 => ?_)
  · refine j_ldc C q391 dX0_ask_15 ?_
    exact j_iret C (by omega) (by omega) (fC.mk ⟨W, hA, hv⟩ (h1 (Or.inl c5))) dX0_ask_17
  · obtain ⟨j, rfl, hj⟩ := inB_p (by omega) c5
    refine j_iload_n C dX0_ask_8 rfl 2 rfl ?_
    refine j_callS (w := w) C (kX0_isHalf G w z) pI.ret 1 q974 q975 q66 q976 (by decide +kernel) rfl (by decide) (by decide) (Nat.le_of_ble_eq_true rfl) rfl dX0_ask_9 (by omega) (by omega) (qI.k ?_)
    refine j_if_neB C 18 dX0_ask_12 (by decide) (fun c12 => ?_) (fun c12 => ?_)
    · obtain ⟨u, rfl, -, hu⟩ := inB_n (by decide) c12 (by decide)
      refine j_aload_n C dX0_ask_18 rfl 0 rfl ?_
      refine j_new (w := w) C w.2 (fs := [.null, .int (nI 0)]) (ty := tyX3) in_X3 tyX3_ok (ci := 3) (T := TX3) rfl q230 q231 q72 (by decide) (by omega) (by omega) dX0_ask_19 ?_
      refine j_dup C dX0_ask_22 rfl ?_
      refine j_callIN (w := ((mu w.1 w.2 w.2 (.inr (3, [.null, .int (nI 0)]))), w.2 + 1)) C (kX3_init G ((mu w.1 w.2 w.2 (.inr (3, [.null, .int (nI 0)]))), w.2 + 1) w.2 w.2 0 .null mu_s (by show w.2 < w.2 + 1; omega)) pV.ret 0 (C.nw hG q232 rfl) q233 q72 q234 rfl (by decide +kernel) rfl (by decide) (by decide) (Nat.le_of_ble_eq_true rfl) rfl dX0_ask_23 (by omega) (by omega) (qV.k ?_)
      refine J.eq (w' := ((mu (mu w.1 (w.2 + 1) w.2 (ai (gl_A G 0) 16 (fun _ => 0))) w.2 w.2 (.inr (3, [.ref (w.2 + 1), .int (nI 0)]))), w.2 + 2)) ?_ (congrArg (fun z => (z, w.2 + 2)) mu_d1) rfl rfl
      refine j_put (w := ((mu (mu w.1 (w.2 + 1) w.2 (ai (gl_A G 0) 16 (fun _ => 0))) w.2 w.2 (.inr (3, [.ref (w.2 + 1), .int (nI 0)]))), w.2 + 2)) C (ty0 := tyX0) in_X0 tyX0_ok nmX0 (ci := 0) (T := TX0) rfl ((mu_n (by omega)).trans ((mu_n (by omega)).trans (hA.d0 hv))) 9 (by decide) q259 (fun _ z => z) rfl rfl rfl (fs' := [.ref (x + 1), .ref (x + 10), .int (nI (V.1 0)), .int (nI (V.1 1)), .ref (x + 11), .ref (x + 16), .ref (x + 21), .int (nI (V.1 2)), .ref (x + 22), .ref w.2, .int (nI (V.1 3)), .ref (x + 25), .ref (x + 26), .ref (x + 27)]) (Nat.le_of_ble_eq_true rfl) rfl dX0_ask_26 ?_
      refine J.eq (w' := (mu (mu (mu w.1 (w.2 + 1) w.2 (ai (gl_A G 0) 16 (fun _ => 0))) w.2 w.2 (.inr (3, [.ref (w.2 + 1), .int (nI 0)]))) x x (.inr (0, [.ref (x + 1), .ref (x + 10), .int (nI (V.1 0)), .int (nI (V.1 1)), .ref (x + 11), .ref (x + 16), .ref (x + 21), .int (nI (V.1 2)), .ref (x + 22), .ref w.2, .int (nI (V.1 3)), .ref (x + 25), .ref (x + 26), .ref (x + 27)])), w.2 + 2)) ?_ rfl rfl rfl
      refine j_abs (P := fun w' => FX G w0 w' x O (vN V 4 0) Z) (FX.trN hA hv) (fun w1 h1 => ?_)
      obtain ⟨W1, hA1, hv1⟩ := h1
      have hxw1 : x < w1.2 := hA1.wf _ _ _ hA1.c0
      refine j_aload_n C dX0_ask_29 rfl 0 rfl ?_
      refine j_get (w := w1) C in_X0 (ci := 0) (T := TX0) rfl (hA1.d0 hv1) 4 (by decide) q251 (fun _ z => z) (v := .ref (x + 11)) rfl dX0_ask_30 ?_
      refine j_get (w := w1) C in_X2 (ci := 2) (T := TX2) rfl ((hA1.s0 (V := vN V 4 0) hv1).eq (show (vN V 4 0).2.1 = V.2.1 from rfl)).1 5 (by decide) q187 (fun _ z => z) (v := .ref (x + 11 + 1)) rfl dX0_ask_33 ?_
      refine j_iload_n C dX0_ask_36 rfl 1 rfl ?_
      obtain ⟨o0_1h0, ⟨o0_1e, o0_1md, o0_1h1, o0_1h2⟩, ⟨o0_1fm, o0_1hm, o0_1vm⟩, ⟨o0_1ff, o0_1hf, o0_1vf⟩, ⟨o0_1ft, o0_1ho, o0_1vo⟩, o0_1h6, o0_1hk⟩ := id ((hA1.s0 (V := vN V 4 0) hv1).eq (show (vN V 4 0).2.1 = V.2.1 from rfl))
      obtain ⟨q1, hq1, gq1⟩ := tn_get ((hA1.s0 (V := vN V 4 0) hv1).eq (show (vN V 4 0).2.1 = V.2.1 from rfl)) j (by omega)
      refine j_callF (w := w1) C (gq1) pA.ret (ci := 20) (T := TJ2) o0_1h1 rfl 1 (C.fw hG ⟨q856, q855, q860, q858, q697, by decide⟩) q987 q857 q859 q71 q861 (by decide +kernel) rfl (by decide) (by decide) (Nat.le_of_ble_eq_true rfl) rfl dX0_ask_37 (by omega) (by omega) (qA.k ?_)
      refine j_castC (w := w1) C hG hq1 (((hA1.s0 (V := vN V 4 0) hv1).eq (show (vN V 4 0).2.1 = V.2.1 from rfl)).2.2.2.2.2.2 j (by omega)).1 (((hA1.s0 (V := vN V 4 0) hv1).eq (show (vN V 4 0).2.1 = V.2.1 from rfl)).2.2.2.2.2.2 j (by omega)).2 q988 dX0_ask_42 ?_
      refine j_astore_n (lv' := [(3, .ref q1), (0, .ref x), (1, .int (nI j)), (2, .int (nI u))]) C dX0_ask_45 rfl (by decide) rfl ?_
      refine j_new (w := w1) C w1.2 (fs := [.int (nI 0), .null]) (ty := tyX20) in_X20 tyX20_ok (ci := 19) (T := TX20) rfl q1345 q1346 q108 (by decide) (by omega) (by omega) dX0_ask_46 ?_
      refine j_dup C dX0_ask_49 rfl ?_
      refine j_aload_n C dX0_ask_50 rfl 1 rfl ?_
      refine j_iload_n C dX0_ask_51 rfl 2 rfl ?_
      refine j_callI (w := ((mu w1.1 w1.2 w1.2 (.inr (19, [.int (nI 0), .null]))), w1.2 + 1)) C (kX20_init G ((mu w1.1 w1.2 w1.2 (.inr (19, [.int (nI 0), .null]))), w1.2 + 1) w1.2 w1.2 x j mu_s) pV.ret 2 q1347 q1348 q108 q1349 rfl (by decide +kernel) rfl (by decide) (by decide) (Nat.le_of_ble_eq_true rfl) rfl dX0_ask_52 (by omega) (by omega) (qV.k ?_)
      refine J.eq (w' := ((mu w1.1 w1.2 w1.2 (.inr (19, [.int (nI j), .ref x]))), w1.2 + 1)) ?_ (congrArg (fun z => (z, w1.2 + 1)) mu_mu) rfl rfl
      refine j_astore (lv' := [(4, .ref w1.2), (3, .ref q1), (0, .ref x), (1, .int (nI j)), (2, .int (nI u))]) C dX0_ask_55 (by decide) rfl ?_
      refine j_iload_n C dX0_ask_57 rfl 4 rfl ?_
      refine j_if_neN C 74 dX0_ask_58 (by decide) (by omega) (fun c58 => ?_) (fun c58 => ?_)
      · refine j_aload_n C dX0_ask_74 rfl 1 rfl ?_
        refine j_aload_n C dX0_ask_75 rfl 2 rfl ?_
        refine j_get (w := ((mu w1.1 w1.2 w1.2 (.inr (19, [.int (nI j), .ref x]))), w1.2 + 1)) C in_X0 (ci := 0) (T := TX0) rfl ((mu_n (by omega)).trans (hA1.d0 hv1)) 9 (by decide) q259 (fun _ z => z) (v := .ref (W1.1 5)) rfl dX0_ask_76 ?_
        refine j_aload C dX0_ask_79 0 rfl ?_
        have hkd := ((hA1.s0 (V := vN V 4 0) hv1).eq (show (vN V 4 0).2.1 = V.2.1 from rfl)).2.2.2.2.2.2 j (by omega)
        refine j_abs (P := fun w' => FA G w0 w' x O W1 ∧ w'.1 w1.2 = some (w1.2, .inr (19, [.int (nI j), .ref x])) ∧ w'.2 = w1.2 + 1 ∧ w'.1 q1 = some (q1, CE V.2.1 j)) ⟨hA1.ext (fun b σ e hb => (mu_n (by have := hA1.wf b σ e hb; omega)).trans hb) (by show w1.2 ≤ w1.2 + 1; omega) hA1.wf.new, mu_s, rfl, (mu_n (by have := hA1.wf _ _ _ hq1; omega)).trans hq1⟩ (fun wz hwz => ?_)
        obtain ⟨hAz, htb, hsz, hqz⟩ := hwz
        have hB := FA.rebase (O' := fun σ => O σ ∨ σ = w1.2) hAz (fun σ h => by rcases h with h | h; exact Or.inl h; exact Or.inr ⟨by omega, by have := hA1.fresh (σ := σ) (by omega); exact this⟩)
        have h40 : W1.1 4 = 0 := (hv1.n 4 (by omega)).trans (uN_s : uN V.1 4 0 4 = 0)
        have htr := hAz.tr
        rw [h40] at htr
        have hm : ∀ p : Nat × (Nat → Int32), p.1 ≤ 16 → gdP p → Mt G yX20_much cX20_much 1 (some .int) 0 [.ref w1.2] (trW G wz (W1.1 5) (W1.1 5 + 1) (W1.1 5) p) (qI (nI (V.2.1 (7 + 3 * j + 1))) (trW G wz (W1.1 5) (W1.1 5 + 1) (W1.1 5) p)) 0 0 := by
          intro p hp16 hg
          obtain ⟨g, hg⟩ := hg
          have hX := FX.trP (q := (p.1, g)) hB hv1 hp16 ⟨rfl, hg⟩
          exact kX20_much G hG wz (trW G wz (W1.1 5) (W1.1 5 + 1) (W1.1 5) p) x _ _ _ hX (w1.2) j (by omega) (trW_o htb (by have := hA1.fresh (σ := w1.2) (by omega); omega) (by intro z; have z1 := htr.2.1; rw [← z, htb] at z1; injection z1 with z1; injection z1 with z2 z3; cases z3))
        refine J.eq (w' := trW G wz (W1.1 5) (W1.1 5 + 1) (W1.1 5) (0, W1.2.2.2.2 3)) ?_ (trW_self htr.1 htr.2.1) rfl rfl
        rcases (show V.2.1 (7 + 3 * j) = 1 ∨ V.2.1 (7 + 3 * j) = 2 ∨ V.2.1 (7 + 3 * j) = 3 ∨ V.2.1 (7 + 3 * j) = 4 ∨ V.2.1 (7 + 3 * j) = 5 by omega) with kq1 | kq1 | kq1 | kq1 | kq1
        · have hqk : wz.1 q1 = some (q1, .inr (7, [.int (nI j), .int (nI (V.2.1 (7 + 3 * j + 2)))])) := by have z := hqz; unfold CE at z; rw [kq1] at z; exact z
          refine j_in (w := trW G wz (W1.1 5) (W1.1 5 + 1) (W1.1 5) (0, W1.2.2.2.2 3)) C (iv_U C hD (ci := 7) (Tt := TX8) (trW_o hqk (by intro z; have z1 := htr.1; rw [← z, hqk] at z1; cases z1) (by intro z; have z1 := htr.2.1; rw [← z, hqk] at z1; cases z1)) rfl (Or.inr ⟨rfl, q1408⟩) (List.mem_of_getElem? (show defaultWords_1[6]? = some _ from rfl)) (List.mem_of_getElem? (show defaultWords_1[5]? = some _ from rfl)) q1410 q1452 q1395 q1411 (As := [.ref (W1.1 5), .ref (w1.2)]) rfl rfl dX0_ask_81) (kX8_mark_7 G wz hG hD q1 (W1.1 5) (W1.1 5 + 1) (W1.1 5) q1 (w1.2) (w1.2) (nI j) (nI (V.2.1 (7 + 3 * j + 2))) (nI (V.2.1 (7 + 3 * j + 1))) _ (0, W1.2.2.2.2 3) hqk (by intro z; have z1 := htr.1; rw [← z, hqk] at z1; cases z1) (by intro z; have z1 := htr.2.1; rw [← z, hqk] at z1; cases z1) (by omega) htb (by have := hA1.fresh (σ := w1.2) (by omega); omega) (by intro z; have z1 := htr.2.1; rw [← z, htb] at z1; injection z1 with z1; injection z1 with z2 z3; cases z3) hm (by show 0 + 2 ≤ 16; omega) ⟨fun _ => 0, fun i hi => absurd hi (Nat.not_lt_zero i)⟩).mb (Or.inr ⟨rfl, q1408⟩) (by decide +kernel) (by decide) (by decide) (Nat.le_of_ble_eq_true rfl) (by omega) (by omega) (qI.k ?_) (fun _ _ h => pI.nt h)
          have rl0 : rlP (0, W1.2.2.2.2 3) (0, V.2.2.2.2.2.2) := ⟨rfl, fun i hi => absurd hi (Nat.not_lt_zero i)⟩
          have hX := FX.trP hB hv1 (by show 0 + 2 ≤ 16; omega) (rlP.tp (b := 20) (rlP.tp (b := 21) rl0))
          rw [vQ_vN] at hX
          obtain ⟨W5, hA5, hv5⟩ := hX
          have hP := g3 j rfl (by omega) (by rw [show u = 1 by omega]) (by omega)
          refine j_iret C (by omega) (by omega) (fC.mk ⟨W5, hAz.unbase hA5 (fun σ h => Or.inl h), hv5⟩ ?_) dX0_ask_84
          simpa [jmV, jmQ, kq1, nI_add, nI_mulA] using hP
        · have hqk : wz.1 q1 = some (q1, .inr (8, [.int (nI j), .int (nI (V.2.1 (7 + 3 * j + 2)))])) := by have z := hqz; unfold CE at z; rw [kq1] at z; exact z
          refine j_in (w := trW G wz (W1.1 5) (W1.1 5 + 1) (W1.1 5) (0, W1.2.2.2.2 3)) C (iv_U C hD (ci := 8) (Tt := TX9) (trW_o hqk (by intro z; have z1 := htr.1; rw [← z, hqk] at z1; cases z1) (by intro z; have z1 := htr.2.1; rw [← z, hqk] at z1; cases z1)) rfl (Or.inr ⟨rfl, q1405⟩) (List.mem_of_getElem? (show defaultWords_1[6]? = some _ from rfl)) (List.mem_of_getElem? (show defaultWords_1[5]? = some _ from rfl)) q1410 q1453 q1404 q1411 (As := [.ref (W1.1 5), .ref (w1.2)]) rfl rfl dX0_ask_81) (kX9_mark_8 G wz hG hD q1 (W1.1 5) (W1.1 5 + 1) (W1.1 5) q1 (w1.2) (w1.2) (nI j) (nI (V.2.1 (7 + 3 * j + 2))) (nI (V.2.1 (7 + 3 * j + 1))) _ (0, W1.2.2.2.2 3) hqk (by intro z; have z1 := htr.1; rw [← z, hqk] at z1; cases z1) (by intro z; have z1 := htr.2.1; rw [← z, hqk] at z1; cases z1) (by omega) htb (by have := hA1.fresh (σ := w1.2) (by omega); omega) (by intro z; have z1 := htr.2.1; rw [← z, htb] at z1; injection z1 with z1; injection z1 with z2 z3; cases z3) hm (by show 0 + 3 ≤ 16; omega) ⟨fun _ => 0, fun i hi => absurd hi (Nat.not_lt_zero i)⟩).mb (Or.inr ⟨rfl, q1405⟩) (by decide +kernel) (by decide) (by decide) (Nat.le_of_ble_eq_true rfl) (by omega) (by omega) (qI.k ?_) (fun _ _ h => pI.nt h)
          have rl0 : rlP (0, W1.2.2.2.2 3) (0, V.2.2.2.2.2.2) := ⟨rfl, fun i hi => absurd hi (Nat.not_lt_zero i)⟩
          have hX := FX.trP hB hv1 (by show 0 + 3 ≤ 16; omega) (rlP.tp (b := 20) (rlP.tp (b := 21) (rlP.tp (b := 24) rl0)))
          rw [vQ_vN] at hX
          obtain ⟨W5, hA5, hv5⟩ := hX
          have hP := g3 j rfl (by omega) (by rw [show u = 1 by omega]) (by omega)
          refine j_iret C (by omega) (by omega) (fC.mk ⟨W5, hAz.unbase hA5 (fun σ h => Or.inl h), hv5⟩ ?_) dX0_ask_84
          simpa [jmV, jmQ, kq1, nI_add, nI_mulA] using hP
        · have hqk : wz.1 q1 = some (q1, .inr (9, [.int (nI j), .int (nI (V.2.1 (7 + 3 * j + 2)))])) := by have z := hqz; unfold CE at z; rw [kq1] at z; exact z
          refine j_in (w := trW G wz (W1.1 5) (W1.1 5 + 1) (W1.1 5) (0, W1.2.2.2.2 3)) C (iv_U C hD (ci := 9) (Tt := TX10) (trW_o hqk (by intro z; have z1 := htr.1; rw [← z, hqk] at z1; cases z1) (by intro z; have z1 := htr.2.1; rw [← z, hqk] at z1; cases z1)) rfl (Or.inr ⟨rfl, q1400⟩) (List.mem_of_getElem? (show defaultWords_1[6]? = some _ from rfl)) (List.mem_of_getElem? (show defaultWords_1[5]? = some _ from rfl)) q1410 q1451 q1399 q1411 (As := [.ref (W1.1 5), .ref (w1.2)]) rfl rfl dX0_ask_81) (kX10_mark_9 G wz hG hD q1 (W1.1 5) (W1.1 5 + 1) (W1.1 5) q1 (w1.2) (w1.2) (nI j) (nI (V.2.1 (7 + 3 * j + 2))) (nI (V.2.1 (7 + 3 * j + 1))) _ (0, W1.2.2.2.2 3) hqk (by intro z; have z1 := htr.1; rw [← z, hqk] at z1; cases z1) (by intro z; have z1 := htr.2.1; rw [← z, hqk] at z1; cases z1) (by omega) htb (by have := hA1.fresh (σ := w1.2) (by omega); omega) (by intro z; have z1 := htr.2.1; rw [← z, htb] at z1; injection z1 with z1; injection z1 with z2 z3; cases z3) hm (by show 0 + 3 ≤ 16; omega) ⟨fun _ => 0, fun i hi => absurd hi (Nat.not_lt_zero i)⟩).mb (Or.inr ⟨rfl, q1400⟩) (by decide +kernel) (by decide) (by decide) (Nat.le_of_ble_eq_true rfl) (by omega) (by omega) (qI.k ?_) (fun _ _ h => pI.nt h)
          have rl0 : rlP (0, W1.2.2.2.2 3) (0, V.2.2.2.2.2.2) := ⟨rfl, fun i hi => absurd hi (Nat.not_lt_zero i)⟩
          have hX := FX.trP hB hv1 (by show 0 + 3 ≤ 16; omega) (rlP.tp (b := 20) (rlP.tp (b := 21) (rlP.tp (b := 22) rl0)))
          rw [vQ_vN] at hX
          obtain ⟨W5, hA5, hv5⟩ := hX
          have hP := g3 j rfl (by omega) (by rw [show u = 1 by omega]) (by omega)
          refine j_iret C (by omega) (by omega) (fC.mk ⟨W5, hAz.unbase hA5 (fun σ h => Or.inl h), hv5⟩ ?_) dX0_ask_84
          simpa [jmV, jmQ, kq1, nI_add, nI_mulA] using hP
        · have hqk : wz.1 q1 = some (q1, .inr (10, [.int (nI j), .int (nI (V.2.1 (7 + 3 * j + 2)))])) := by have z := hqz; unfold CE at z; rw [kq1] at z; exact z
          refine j_in (w := trW G wz (W1.1 5) (W1.1 5 + 1) (W1.1 5) (0, W1.2.2.2.2 3)) C (iv_U C hD (ci := 10) (Tt := TX11) (trW_o hqk (by intro z; have z1 := htr.1; rw [← z, hqk] at z1; cases z1) (by intro z; have z1 := htr.2.1; rw [← z, hqk] at z1; cases z1)) rfl (Or.inr ⟨rfl, q1449⟩) (List.mem_of_getElem? (show defaultWords_1[6]? = some _ from rfl)) (List.mem_of_getElem? (show defaultWords_1[5]? = some _ from rfl)) q1410 q1447 q1448 q1411 (As := [.ref (W1.1 5), .ref (w1.2)]) rfl rfl dX0_ask_81) (kX11_mark_10 G wz hG hD q1 (W1.1 5) (W1.1 5 + 1) (W1.1 5) q1 (w1.2) (w1.2) (nI j) (nI (V.2.1 (7 + 3 * j + 2))) (nI (V.2.1 (7 + 3 * j + 1))) _ (0, W1.2.2.2.2 3) hqk (by intro z; have z1 := htr.1; rw [← z, hqk] at z1; cases z1) (by intro z; have z1 := htr.2.1; rw [← z, hqk] at z1; cases z1) (by omega) htb (by have := hA1.fresh (σ := w1.2) (by omega); omega) (by intro z; have z1 := htr.2.1; rw [← z, htb] at z1; injection z1 with z1; injection z1 with z2 z3; cases z3) hm (by show 0 + 4 ≤ 16; omega) ⟨fun _ => 0, fun i hi => absurd hi (Nat.not_lt_zero i)⟩).mb (Or.inr ⟨rfl, q1449⟩) (by decide +kernel) (by decide) (by decide) (Nat.le_of_ble_eq_true rfl) (by omega) (by omega) (qI.k ?_) (fun _ _ h => pI.nt h)
          have rl0 : rlP (0, W1.2.2.2.2 3) (0, V.2.2.2.2.2.2) := ⟨rfl, fun i hi => absurd hi (Nat.not_lt_zero i)⟩
          have hX := FX.trP hB hv1 (by show 0 + 4 ≤ 16; omega) (rlP.tp (b := 10) (rlP.tp (b := 13) (rlP.tp (b := 20) (rlP.tp (b := 23) rl0))))
          rw [vQ_vN] at hX
          obtain ⟨W5, hA5, hv5⟩ := hX
          have hP := g2 j rfl (by omega) (by rw [show u = 1 by omega]) (by omega)
          refine j_iret C (by omega) (by omega) (fC.mk ⟨W5, hAz.unbase hA5 (fun σ h => Or.inl h), hv5⟩ ?_) dX0_ask_84
          simpa [gmV, gzV, gmQ, gzQ, kq1, nI_add, nI_mulA] using hP
        · have hqk : wz.1 q1 = some (q1, .inr (11, [.int (nI j), .int (nI (V.2.1 (7 + 3 * j + 2)))])) := by have z := hqz; unfold CE at z; rw [kq1] at z; exact z
          refine j_in (w := trW G wz (W1.1 5) (W1.1 5 + 1) (W1.1 5) (0, W1.2.2.2.2 3)) C (iv_U C hD (ci := 11) (Tt := TX12) (trW_o hqk (by intro z; have z1 := htr.1; rw [← z, hqk] at z1; cases z1) (by intro z; have z1 := htr.2.1; rw [← z, hqk] at z1; cases z1)) rfl (Or.inr ⟨rfl, q1449⟩) (List.mem_of_getElem? (show defaultWords_1[6]? = some _ from rfl)) (List.mem_of_getElem? (show defaultWords_1[5]? = some _ from rfl)) q1410 q1454 q1448 q1411 (As := [.ref (W1.1 5), .ref (w1.2)]) rfl rfl dX0_ask_81) (kX11_mark_11 G wz hG hD q1 (W1.1 5) (W1.1 5 + 1) (W1.1 5) q1 (w1.2) (w1.2) (nI j) (nI (V.2.1 (7 + 3 * j + 2))) (nI (V.2.1 (7 + 3 * j + 1))) _ (0, W1.2.2.2.2 3) hqk (by intro z; have z1 := htr.1; rw [← z, hqk] at z1; cases z1) (by intro z; have z1 := htr.2.1; rw [← z, hqk] at z1; cases z1) (by omega) htb (by have := hA1.fresh (σ := w1.2) (by omega); omega) (by intro z; have z1 := htr.2.1; rw [← z, htb] at z1; injection z1 with z1; injection z1 with z2 z3; cases z3) hm (by show 0 + 5 ≤ 16; omega) ⟨fun _ => 0, fun i hi => absurd hi (Nat.not_lt_zero i)⟩).mb (Or.inr ⟨rfl, q1449⟩) (by decide +kernel) (by decide) (by decide) (Nat.le_of_ble_eq_true rfl) (by omega) (by omega) (qI.k ?_) (fun _ _ h => pI.nt h)
          have rl0 : rlP (0, W1.2.2.2.2 3) (0, V.2.2.2.2.2.2) := ⟨rfl, fun i hi => absurd hi (Nat.not_lt_zero i)⟩
          have hX := FX.trP hB hv1 (by show 0 + 5 ≤ 16; omega) (rlP.tp (b := 10) (rlP.tp (b := 13) (rlP.tp (b := 14) (rlP.tp (b := 20) (rlP.tp (b := 23) rl0)))))
          rw [vQ_vN] at hX
          obtain ⟨W5, hA5, hv5⟩ := hX
          have hP := g2 j rfl (by omega) (by rw [show u = 1 by omega]) (by omega)
          refine j_iret C (by omega) (by omega) (fC.mk ⟨W5, hAz.unbase hA5 (fun σ h => Or.inl h), hv5⟩ ?_) dX0_ask_84
          simpa [gmV, gzV, gmQ, gzQ, kq1, nI_add, nI_mulA] using hP
      · refine j_aload_n C dX0_ask_61 rfl 1 rfl ?_
        refine j_aload_n C dX0_ask_62 rfl 2 rfl ?_
        refine j_get (w := ((mu w1.1 w1.2 w1.2 (.inr (19, [.int (nI j), .ref x]))), w1.2 + 1)) C in_X0 (ci := 0) (T := TX0) rfl ((mu_n (by omega)).trans (hA1.d0 hv1)) 9 (by decide) q259 (fun _ z => z) (v := .ref (W1.1 5)) rfl dX0_ask_63 ?_
        refine j_aload C dX0_ask_66 0 rfl ?_
        have hkd := ((hA1.s0 (V := vN V 4 0) hv1).eq (show (vN V 4 0).2.1 = V.2.1 from rfl)).2.2.2.2.2.2 j (by omega)
        refine j_abs (P := fun w' => FA G w0 w' x O W1 ∧ w'.1 w1.2 = some (w1.2, .inr (19, [.int (nI j), .ref x])) ∧ w'.2 = w1.2 + 1 ∧ w'.1 q1 = some (q1, CE V.2.1 j)) ⟨hA1.ext (fun b σ e hb => (mu_n (by have := hA1.wf b σ e hb; omega)).trans hb) (by show w1.2 ≤ w1.2 + 1; omega) hA1.wf.new, mu_s, rfl, (mu_n (by have := hA1.wf _ _ _ hq1; omega)).trans hq1⟩ (fun wz hwz => ?_)
        obtain ⟨hAz, htb, hsz, hqz⟩ := hwz
        have hB := FA.rebase (O' := fun σ => O σ ∨ σ = w1.2) hAz (fun σ h => by rcases h with h | h; exact Or.inl h; exact Or.inr ⟨by omega, by have := hA1.fresh (σ := σ) (by omega); exact this⟩)
        have h40 : W1.1 4 = 0 := (hv1.n 4 (by omega)).trans (uN_s : uN V.1 4 0 4 = 0)
        have htr := hAz.tr
        rw [h40] at htr
        have hm : ∀ p : Nat × (Nat → Int32), p.1 ≤ 16 → gdP p → Mt G yX20_much cX20_much 1 (some .int) 0 [.ref w1.2] (trW G wz (W1.1 5) (W1.1 5 + 1) (W1.1 5) p) (qI (nI (V.2.1 (7 + 3 * j + 1))) (trW G wz (W1.1 5) (W1.1 5 + 1) (W1.1 5) p)) 0 0 := by
          intro p hp16 hg
          obtain ⟨g, hg⟩ := hg
          have hX := FX.trP (q := (p.1, g)) hB hv1 hp16 ⟨rfl, hg⟩
          exact kX20_much G hG wz (trW G wz (W1.1 5) (W1.1 5 + 1) (W1.1 5) p) x _ _ _ hX (w1.2) j (by omega) (trW_o htb (by have := hA1.fresh (σ := w1.2) (by omega); omega) (by intro z; have z1 := htr.2.1; rw [← z, htb] at z1; injection z1 with z1; injection z1 with z2 z3; cases z3))
        refine J.eq (w' := trW G wz (W1.1 5) (W1.1 5 + 1) (W1.1 5) (0, W1.2.2.2.2 3)) ?_ (trW_self htr.1 htr.2.1) rfl rfl
        rcases (show V.2.1 (7 + 3 * j) = 1 ∨ V.2.1 (7 + 3 * j) = 2 ∨ V.2.1 (7 + 3 * j) = 3 ∨ V.2.1 (7 + 3 * j) = 4 ∨ V.2.1 (7 + 3 * j) = 5 by omega) with kq1 | kq1 | kq1 | kq1 | kq1
        · have hqk : wz.1 q1 = some (q1, .inr (7, [.int (nI j), .int (nI (V.2.1 (7 + 3 * j + 2)))])) := by have z := hqz; unfold CE at z; rw [kq1] at z; exact z
          refine j_in (w := trW G wz (W1.1 5) (W1.1 5 + 1) (W1.1 5) (0, W1.2.2.2.2 3)) C (iv_U C hD (ci := 7) (Tt := TX8) (trW_o hqk (by intro z; have z1 := htr.1; rw [← z, hqk] at z1; cases z1) (by intro z; have z1 := htr.2.1; rw [← z, hqk] at z1; cases z1)) rfl (Or.inr ⟨rfl, q1392⟩) (List.mem_of_getElem? (show defaultWords_1[0]? = some _ from rfl)) (List.mem_of_getElem? (show defaultWords_1[1]? = some _ from rfl)) q1367 q1437 q1391 q1368 (As := [.ref (W1.1 5), .ref (w1.2)]) rfl rfl dX0_ask_68) (kX8_size_7 G wz hG hD q1 (W1.1 5) (W1.1 5 + 1) (W1.1 5) q1 (w1.2) (w1.2) (nI j) (nI (V.2.1 (7 + 3 * j + 2))) (nI (V.2.1 (7 + 3 * j + 1))) _ (0, W1.2.2.2.2 3) hqk (by intro z; have z1 := htr.1; rw [← z, hqk] at z1; cases z1) (by intro z; have z1 := htr.2.1; rw [← z, hqk] at z1; cases z1) (by omega) htb (by have := hA1.fresh (σ := w1.2) (by omega); omega) (by intro z; have z1 := htr.2.1; rw [← z, htb] at z1; injection z1 with z1; injection z1 with z2 z3; cases z3) hm (by show 0 + 4 ≤ 16; omega) ⟨fun _ => 0, fun i hi => absurd hi (Nat.not_lt_zero i)⟩).mb (Or.inr ⟨rfl, q1392⟩) (by decide +kernel) (by decide) (by decide) (Nat.le_of_ble_eq_true rfl) (by omega) (by omega) (qI.k ?_) (fun _ _ h => pI.nt h)
          refine j_goto C 84 dX0_ask_71 (by decide) ?_
          have rl0 : rlP (0, W1.2.2.2.2 3) (0, V.2.2.2.2.2.2) := ⟨rfl, fun i hi => absurd hi (Nat.not_lt_zero i)⟩
          have hX := FX.trP hB hv1 (by show 0 + 4 ≤ 16; omega) (rlP.tp (b := 20) (rlP.tp (b := 21) (rlP.tp (b := 10) (rlP.tp (b := 11) rl0))))
          rw [vQ_vN] at hX
          obtain ⟨W5, hA5, hv5⟩ := hX
          have hP := g1 j rfl (by omega) (by rw [show u = 0 by omega]) (by omega)
          refine j_iret C (by omega) (by omega) (fC.mk ⟨W5, hAz.unbase hA5 (fun σ h => Or.inl h), hv5⟩ ?_) dX0_ask_84
          simpa [jzV, jmV, jzQ, jmQ, kq1, nI_add, nI_mulA] using hP
        · have hqk : wz.1 q1 = some (q1, .inr (8, [.int (nI j), .int (nI (V.2.1 (7 + 3 * j + 2)))])) := by have z := hqz; unfold CE at z; rw [kq1] at z; exact z
          refine j_in (w := trW G wz (W1.1 5) (W1.1 5 + 1) (W1.1 5) (0, W1.2.2.2.2 3)) C (iv_U C hD (ci := 8) (Tt := TX9) (trW_o hqk (by intro z; have z1 := htr.1; rw [← z, hqk] at z1; cases z1) (by intro z; have z1 := htr.2.1; rw [← z, hqk] at z1; cases z1)) rfl (Or.inr ⟨rfl, q1440⟩) (List.mem_of_getElem? (show defaultWords_1[0]? = some _ from rfl)) (List.mem_of_getElem? (show defaultWords_1[1]? = some _ from rfl)) q1367 q1438 q1439 q1368 (As := [.ref (W1.1 5), .ref (w1.2)]) rfl rfl dX0_ask_68) (kX9_size_8 G wz hG hD q1 (W1.1 5) (W1.1 5 + 1) (W1.1 5) q1 (w1.2) (w1.2) (nI j) (nI (V.2.1 (7 + 3 * j + 2))) (nI (V.2.1 (7 + 3 * j + 1))) _ (0, W1.2.2.2.2 3) hqk (by intro z; have z1 := htr.1; rw [← z, hqk] at z1; cases z1) (by intro z; have z1 := htr.2.1; rw [← z, hqk] at z1; cases z1) (by omega) htb (by have := hA1.fresh (σ := w1.2) (by omega); omega) (by intro z; have z1 := htr.2.1; rw [← z, htb] at z1; injection z1 with z1; injection z1 with z2 z3; cases z3) hm (by show 0 + 6 ≤ 16; omega) ⟨fun _ => 0, fun i hi => absurd hi (Nat.not_lt_zero i)⟩).mb (Or.inr ⟨rfl, q1440⟩) (by decide +kernel) (by decide) (by decide) (Nat.le_of_ble_eq_true rfl) (by omega) (by omega) (qI.k ?_) (fun _ _ h => pI.nt h)
          refine j_goto C 84 dX0_ask_71 (by decide) ?_
          have rl0 : rlP (0, W1.2.2.2.2 3) (0, V.2.2.2.2.2.2) := ⟨rfl, fun i hi => absurd hi (Nat.not_lt_zero i)⟩
          have hX := FX.trP hB hv1 (by show 0 + 6 ≤ 16; omega) (rlP.tp (b := 20) (rlP.tp (b := 21) (rlP.tp (b := 24) (rlP.tp (b := 10) (rlP.tp (b := 11) (rlP.tp (b := 12) rl0))))))
          rw [vQ_vN] at hX
          obtain ⟨W5, hA5, hv5⟩ := hX
          have hP := g1 j rfl (by omega) (by rw [show u = 0 by omega]) (by omega)
          refine j_iret C (by omega) (by omega) (fC.mk ⟨W5, hAz.unbase hA5 (fun σ h => Or.inl h), hv5⟩ ?_) dX0_ask_84
          simpa [jzV, jmV, jzQ, jmQ, kq1, nI_add, nI_mulA] using hP
        · have hqk : wz.1 q1 = some (q1, .inr (9, [.int (nI j), .int (nI (V.2.1 (7 + 3 * j + 2)))])) := by have z := hqz; unfold CE at z; rw [kq1] at z; exact z
          refine j_in (w := trW G wz (W1.1 5) (W1.1 5 + 1) (W1.1 5) (0, W1.2.2.2.2 3)) C (iv_U C hD (ci := 9) (Tt := TX10) (trW_o hqk (by intro z; have z1 := htr.1; rw [← z, hqk] at z1; cases z1) (by intro z; have z1 := htr.2.1; rw [← z, hqk] at z1; cases z1)) rfl (Or.inr ⟨rfl, q1392⟩) (List.mem_of_getElem? (show defaultWords_1[0]? = some _ from rfl)) (List.mem_of_getElem? (show defaultWords_1[1]? = some _ from rfl)) q1367 q1390 q1391 q1368 (As := [.ref (W1.1 5), .ref (w1.2)]) rfl rfl dX0_ask_68) (kX8_size_9 G wz hG hD q1 (W1.1 5) (W1.1 5 + 1) (W1.1 5) q1 (w1.2) (w1.2) (nI j) (nI (V.2.1 (7 + 3 * j + 2))) (nI (V.2.1 (7 + 3 * j + 1))) _ (0, W1.2.2.2.2 3) hqk (by intro z; have z1 := htr.1; rw [← z, hqk] at z1; cases z1) (by intro z; have z1 := htr.2.1; rw [← z, hqk] at z1; cases z1) (by omega) htb (by have := hA1.fresh (σ := w1.2) (by omega); omega) (by intro z; have z1 := htr.2.1; rw [← z, htb] at z1; injection z1 with z1; injection z1 with z2 z3; cases z3) hm (by show 0 + 5 ≤ 16; omega) ⟨fun _ => 0, fun i hi => absurd hi (Nat.not_lt_zero i)⟩).mb (Or.inr ⟨rfl, q1392⟩) (by decide +kernel) (by decide) (by decide) (Nat.le_of_ble_eq_true rfl) (by omega) (by omega) (qI.k ?_) (fun _ _ h => pI.nt h)
          refine j_goto C 84 dX0_ask_71 (by decide) ?_
          have rl0 : rlP (0, W1.2.2.2.2 3) (0, V.2.2.2.2.2.2) := ⟨rfl, fun i hi => absurd hi (Nat.not_lt_zero i)⟩
          have hX := FX.trP hB hv1 (by show 0 + 5 ≤ 16; omega) (rlP.tp (b := 20) (rlP.tp (b := 21) (rlP.tp (b := 22) (rlP.tp (b := 10) (rlP.tp (b := 11) rl0)))))
          rw [vQ_vN] at hX
          obtain ⟨W5, hA5, hv5⟩ := hX
          have hP := g1 j rfl (by omega) (by rw [show u = 0 by omega]) (by omega)
          refine j_iret C (by omega) (by omega) (fC.mk ⟨W5, hAz.unbase hA5 (fun σ h => Or.inl h), hv5⟩ ?_) dX0_ask_84
          simpa [jzV, jmV, jzQ, jmQ, kq1, nI_add, nI_mulA] using hP
        · have hqk : wz.1 q1 = some (q1, .inr (10, [.int (nI j), .int (nI (V.2.1 (7 + 3 * j + 2)))])) := by have z := hqz; unfold CE at z; rw [kq1] at z; exact z
          refine j_in (w := trW G wz (W1.1 5) (W1.1 5 + 1) (W1.1 5) (0, W1.2.2.2.2 3)) C (iv_U C hD (ci := 10) (Tt := TX11) (trW_o hqk (by intro z; have z1 := htr.1; rw [← z, hqk] at z1; cases z1) (by intro z; have z1 := htr.2.1; rw [← z, hqk] at z1; cases z1)) rfl (Or.inr ⟨rfl, q1362⟩) (List.mem_of_getElem? (show defaultWords_1[0]? = some _ from rfl)) (List.mem_of_getElem? (show defaultWords_1[1]? = some _ from rfl)) q1367 q1360 q1361 q1368 (As := [.ref (W1.1 5), .ref (w1.2)]) rfl rfl dX0_ask_68) (kX11_size_10 G wz hG hD q1 (W1.1 5) (W1.1 5 + 1) (W1.1 5) q1 (w1.2) (w1.2) (nI j) (nI (V.2.1 (7 + 3 * j + 2))) (nI (V.2.1 (7 + 3 * j + 1))) _ (0, W1.2.2.2.2 3) hqk (by intro z; have z1 := htr.1; rw [← z, hqk] at z1; cases z1) (by intro z; have z1 := htr.2.1; rw [← z, hqk] at z1; cases z1) (by omega) htb (by have := hA1.fresh (σ := w1.2) (by omega); omega) (by intro z; have z1 := htr.2.1; rw [← z, htb] at z1; injection z1 with z1; injection z1 with z2 z3; cases z3) hm (by show 0 + 2 ≤ 16; omega) ⟨fun _ => 0, fun i hi => absurd hi (Nat.not_lt_zero i)⟩).mb (Or.inr ⟨rfl, q1362⟩) (by decide +kernel) (by decide) (by decide) (Nat.le_of_ble_eq_true rfl) (by omega) (by omega) (qI.k ?_) (fun _ _ h => pI.nt h)
          refine j_goto C 84 dX0_ask_71 (by decide) ?_
          have rl0 : rlP (0, W1.2.2.2.2 3) (0, V.2.2.2.2.2.2) := ⟨rfl, fun i hi => absurd hi (Nat.not_lt_zero i)⟩
          have hX := FX.trP hB hv1 (by show 0 + 2 ≤ 16; omega) (rlP.tp (b := 10) (rlP.tp (b := 13) rl0))
          rw [vQ_vN] at hX
          obtain ⟨W5, hA5, hv5⟩ := hX
          have hP := g0 j rfl (by omega) (by rw [show u = 0 by omega]) (by omega)
          refine j_iret C (by omega) (by omega) (fC.mk ⟨W5, hAz.unbase hA5 (fun σ h => Or.inl h), hv5⟩ ?_) dX0_ask_84
          simpa [gzV, gzQ, kq1, nI_add, nI_mulA] using hP
        · have hqk : wz.1 q1 = some (q1, .inr (11, [.int (nI j), .int (nI (V.2.1 (7 + 3 * j + 2)))])) := by have z := hqz; unfold CE at z; rw [kq1] at z; exact z
          refine j_in (w := trW G wz (W1.1 5) (W1.1 5 + 1) (W1.1 5) (0, W1.2.2.2.2 3)) C (iv_U C hD (ci := 11) (Tt := TX12) (trW_o hqk (by intro z; have z1 := htr.1; rw [← z, hqk] at z1; cases z1) (by intro z; have z1 := htr.2.1; rw [← z, hqk] at z1; cases z1)) rfl (Or.inr ⟨rfl, q1444⟩) (List.mem_of_getElem? (show defaultWords_1[0]? = some _ from rfl)) (List.mem_of_getElem? (show defaultWords_1[1]? = some _ from rfl)) q1367 q1442 q1443 q1368 (As := [.ref (W1.1 5), .ref (w1.2)]) rfl rfl dX0_ask_68) (kX12_size_11 G wz hG hD q1 (W1.1 5) (W1.1 5 + 1) (W1.1 5) q1 (w1.2) (w1.2) (nI j) (nI (V.2.1 (7 + 3 * j + 2))) (nI (V.2.1 (7 + 3 * j + 1))) _ (0, W1.2.2.2.2 3) hqk (by intro z; have z1 := htr.1; rw [← z, hqk] at z1; cases z1) (by intro z; have z1 := htr.2.1; rw [← z, hqk] at z1; cases z1) (by omega) htb (by have := hA1.fresh (σ := w1.2) (by omega); omega) (by intro z; have z1 := htr.2.1; rw [← z, htb] at z1; injection z1 with z1; injection z1 with z2 z3; cases z3) hm (by show 0 + 3 ≤ 16; omega) ⟨fun _ => 0, fun i hi => absurd hi (Nat.not_lt_zero i)⟩).mb (Or.inr ⟨rfl, q1444⟩) (by decide +kernel) (by decide) (by decide) (Nat.le_of_ble_eq_true rfl) (by omega) (by omega) (qI.k ?_) (fun _ _ h => pI.nt h)
          refine j_goto C 84 dX0_ask_71 (by decide) ?_
          have rl0 : rlP (0, W1.2.2.2.2 3) (0, V.2.2.2.2.2.2) := ⟨rfl, fun i hi => absurd hi (Nat.not_lt_zero i)⟩
          have hX := FX.trP hB hv1 (by show 0 + 3 ≤ 16; omega) (rlP.tp (b := 10) (rlP.tp (b := 13) (rlP.tp (b := 14) rl0)))
          rw [vQ_vN] at hX
          obtain ⟨W5, hA5, hv5⟩ := hX
          have hP := g0 j rfl (by omega) (by rw [show u = 0 by omega]) (by omega)
          refine j_iret C (by omega) (by omega) (fC.mk ⟨W5, hAz.unbase hA5 (fun σ h => Or.inl h), hv5⟩ ?_) dX0_ask_84
          simpa [gzV, gzQ, kq1, nI_add, nI_mulA] using hP
    · refine j_ldc C q391 dX0_ask_15 ?_
      exact j_iret C (by omega) (by omega) (fC.mk ⟨W, hA, hv⟩ (h1 (Or.inr c12))) dX0_ask_17
