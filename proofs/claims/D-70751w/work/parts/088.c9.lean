/-! ===== the class: riders, rows of streets ===== -/
set_option maxRecDepth 100000
set_option maxHeartbeats 400000 in
theorem kX0_rider_o (G : gl_T) (hG : GH G) (w0 w : wd_T) (x : Nat) (O : Nat → Prop) (W : cw_T) (V : fv_T) (Z : fz_T) (hA : FA G w0 w x O W) (hv : VW W V Z) (kk b : Nat) (hk : kk < 9) (hb : W.2.2.1 (28 + kk) = some b) : Mt G yX0_rider cX0_rider 2 (some (.object "MoodFare$Town")) 4 [.ref x, .int (nI kk)] w (qA (.ref b) w) 0 0 := by
  refine Mt.start (by decide) (Nat.le_of_ble_eq_true rfl) (fun k C => ?_)
  have C : Cx G k cX0_rider "MoodFare" "rider" 2 (some (.object "MoodFare$Town")) 4 0 0 _ := C
  refine j_aload_n C dX0_rider_0 rfl 0 rfl ?_
  refine j_get (w := w) C in_X0 (ci := 0) (T := TX0) rfl (hA.d0 hv) 11 (by decide) q261 (fun _ z => z) (v := .ref (x + 25)) rfl dX0_rider_1 ?_
  refine j_iload_n C dX0_rider_4 rfl 1 rfl ?_
  refine j_aald (w := w) C 5 hA.c25 rfl (kk) rfl (by omega) (by decide) dX0_rider_5 ?_
  refine j_asv (y := .ref b) (by unfold adP; rw [if_pos (by omega), hb]; rfl) ?_
  refine j_ifnonnull C 22 dX0_rider_6 (by decide) ?_
  refine j_aload_n C dX0_rider_22 rfl 0 rfl ?_
  refine j_get (w := w) C in_X0 (ci := 0) (T := TX0) rfl (hA.d0 hv) 11 (by decide) q261 (fun _ z => z) (v := .ref (x + 25)) rfl dX0_rider_23 ?_
  refine j_iload_n C dX0_rider_26 rfl 1 rfl ?_
  refine j_aald (w := w) C 5 hA.c25 rfl (kk) rfl (by omega) (by decide) dX0_rider_27 ?_
  refine j_asv (y := .ref b) (by unfold adP; rw [if_pos (by omega), hb]; rfl) ?_
  exact j_aret C (by first | exact Or.inl ⟨_, rfl⟩ | exact Or.inr ⟨_, rfl⟩) (by first | exact Or.inl rfl | exact Or.inr ⟨_, rfl⟩) (by omega) (by omega) (pA.mk ⟨rfl, rfl⟩) dX0_rider_28
set_option maxHeartbeats 400000 in
theorem kX0_rider_n (G : gl_T) (hG : GH G) (w0 w : wd_T) (x : Nat) (O : Nat → Prop) (W : cw_T) (V : fv_T) (Z : fz_T) (hA : FA G w0 w x O W) (hv : VW W V Z) (kk : Nat) (hk : kk < 8) (hkd : kk = Z.2.1) : Mt G yX0_rider cX0_rider 2 (some (.object "MoodFare$Town")) 4 [.ref x, .int (nI kk)] w (pA (fun r w' => r = .ref w.2 ∧ ∃ W', FA G w0 w' x O W' ∧ VW W' V (zD (zR Z kk (fun _ => 0)) (kk + 1)) ∧ W'.2.2.1 (28 + kk) = some w.2 ∧ ∀ c σ e, w.1 c = some (σ, e) → σ ≠ x → w'.1 c = some (σ, e))) 5 36 := by
  refine Mt.start (by decide) (Nat.le_of_ble_eq_true rfl) (fun k C => ?_)
  have C : Cx G k cX0_rider "MoodFare" "rider" 2 (some (.object "MoodFare$Town")) 4 5 36 _ := C
  refine j_aload_n C dX0_rider_0 rfl 0 rfl ?_
  refine j_get (w := w) C in_X0 (ci := 0) (T := TX0) rfl (hA.d0 hv) 11 (by decide) q261 (fun _ z => z) (v := .ref (x + 25)) rfl dX0_rider_1 ?_
  refine j_iload_n C dX0_rider_4 rfl 1 rfl ?_
  refine j_aald (w := w) C 5 hA.c25 rfl (kk) rfl (by omega) (by decide) dX0_rider_5 ?_
  refine j_asv (y := .null) (by unfold adP; rw [if_pos (by omega), hA.rid.2.1 kk (by rw [hv.d]; omega) (by omega)]; rfl) ?_
  refine j_ifnonnullN C dX0_rider_6 ?_
  refine j_aload_n C dX0_rider_9 rfl 0 rfl ?_
  refine j_get (w := w) C in_X0 (ci := 0) (T := TX0) rfl (hA.d0 hv) 11 (by decide) q261 (fun _ z => z) (v := .ref (x + 25)) rfl dX0_rider_10 ?_
  refine j_iload_n C dX0_rider_13 rfl 1 rfl ?_
  refine j_new (w := w) C w.2 (fs := [.int (nI 0), .int (nI 0), .int (nI 0), .int (nI 0), .int (nI 0), .null, .null, .int (nI 0), .null, .null, .int (nI 0)]) (ty := tyX2) in_X2 tyX2_ok (ci := 2) (T := TX2) rfl q132 q133 q68 (by decide) (by omega) (by omega) dX0_rider_14 ?_
  refine j_dup C dX0_rider_17 rfl ?_
  refine j_callIN (w := ((mu w.1 w.2 w.2 (.inr (2, [.int (nI 0), .int (nI 0), .int (nI 0), .int (nI 0), .int (nI 0), .null, .null, .int (nI 0), .null, .null, .int (nI 0)]))), w.2 + 1)) C (kX2_init G ((mu w.1 w.2 w.2 (.inr (2, [.int (nI 0), .int (nI 0), .int (nI 0), .int (nI 0), .int (nI 0), .null, .null, .int (nI 0), .null, .null, .int (nI 0)]))), w.2 + 1) hG w.2 mu_s rfl (hA.wf.new)) pV.ret 0 (C.nw hG q134 rfl) q135 q68 q136 rfl (by decide +kernel) rfl (by decide) (by decide) (Nat.le_of_ble_eq_true rfl) rfl dX0_rider_18 (by omega) (by omega) (pV.k (fun w1 hp1 => ?_))
  obtain ⟨hA2, hn2, hO2⟩ := hA.newT hp1
  have hT2 := hp1.1
  refine j_aast (w := w1) C 5 (r := (RX2, TX2, 11)) hA2.c25 rfl hT2.1 (ci := 2) rfl (kk) rfl (by omega) (by decide) dX0_rider_21 ?_
  have hfr3 : ∀ c σ e, w.1 c = some (σ, e) → σ ≠ x → (mu w1.1 (x + 25) x (aq (gl_A G 5) 9 (va_up (adP W 28 9) kk (some w.2)))) c = some (σ, e) := fun c σ e hc hs => (mu_n (fun z => hs (by rw [z, hA.c25] at hc; cases hc; rfl))).trans (hp1.2.2.1 c σ e (Nat.ne_of_lt (hA.wf c σ e hc)) ((mu_n (Nat.ne_of_lt (hA.wf c σ e hc))).trans hc))
  refine j_abs (P := fun w' => FA G w0 w' x O (wN (wT (wA W (28 + kk) (some w.2)) (28 + kk) (fun _ => 0)) 6 (kk + 1)) ∧ ∀ c σ e, w.1 c = some (σ, e) → σ ≠ x → w'.1 c = some (σ, e)) ⟨hA2.addT (Or.inr (Or.inr ⟨rfl, rfl, rfl⟩)) rfl (by omega) (hA.rid.2.1 kk (by rw [hv.d]; omega) (by omega)) hT2 hn2 hO2 (fun z => ⟨by rw [hv.d]; omega, hk⟩) _ (Or.inr ⟨rfl, by rw [show W.1 6 = kk by rw [hv.d]; omega]⟩) (fun z => wN_s.trans (by rw [hv.d]; omega)), hfr3⟩ (fun w3 h3 => ?_)
  obtain ⟨hA3, hfx3⟩ := h3
  have hv3 : VW (wN (wT (wA W (28 + kk) (some w.2)) (28 + kk) (fun _ => 0)) 6 (kk + 1)) V (zD (zR Z kk (fun _ => 0)) (kk + 1)) := hv.addK hkd hk hA.past.2
  have hb3 : (wN (wT (wA W (28 + kk) (some w.2)) (28 + kk) (fun _ => 0)) 6 (kk + 1)).2.2.1 (28 + kk) = some w.2 := wAT_s
  refine j_aload_n C dX0_rider_22 rfl 0 rfl ?_
  refine j_get (w := w3) C in_X0 (ci := 0) (T := TX0) rfl (hA3.d0 hv3) 11 (by decide) q261 (fun _ z => z) (v := .ref (x + 25)) rfl dX0_rider_23 ?_
  refine j_iload_n C dX0_rider_26 rfl 1 rfl ?_
  refine j_aald (w := w3) C 5 hA3.c25 rfl (kk) rfl (by omega) (by decide) dX0_rider_27 ?_
  refine j_asv (y := .ref w.2) (by unfold adP; rw [if_pos (by omega), hb3]; rfl) ?_
  exact j_aret C (by first | exact Or.inl ⟨_, rfl⟩ | exact Or.inr ⟨_, rfl⟩) (by first | exact Or.inl rfl | exact Or.inr ⟨_, rfl⟩) (by omega) (by omega) (pA.mk ⟨rfl, _, hA3, hv3, hb3, hfx3⟩) dX0_rider_28
set_option maxHeartbeats 1000000 in
theorem kX0_rowsOf (G : gl_T) (hG : GH G) (w0 : wd_T) (x : Nat) (O : Nat → Prop) (V : fv_T) (b ci : Nat) {α : Type} (fs : α → List Value) (ok : α → Prop) (bt : (Nat → Nat) → Nat → Nat → α → Bool × α) (hWO : WO G ci fs ok bt) (hci : 12 ≤ ci) (hO : ¬ O b) : ∀ (m : Nat) (w : wd_T) (Z : fz_T) (many most cost : Nat) (p : α), many + m = most → most ≤ 8 → cost ≤ 90 * many → many ≤ Z.2.1 → smT Z.1 → Z.1 3 + m ≤ 1100 → (∀ y, y < Z.1 25 → Z.1 (26 + 2 * y + 1) < Z.1 6) → V.2.1 25 = Z.1 25 → FX G w0 w x O V Z → w.1 b = some (b, .inr (ci, fs p)) → ok p → Mt G yX0_rowsOf cX0_rowsOf 6 none (8 + m) [.ref x, .int (nI many), .int (nI most), .int (nI cost), .ref b] w (pV (fun w' => ∃ Z', FX G w0 w' x O V Z' ∧ w'.1 b = some (b, .inr (ci, fs (rwF bt m many cost Z.1 (p, Z.2.2.2.2, Z.2.2.2.1, Z.2.1)).1)) ∧ Z'.1 = Z.1 ∧ Z'.2.1 = (rwF bt m many cost Z.1 (p, Z.2.2.2.2, Z.2.2.2.1, Z.2.1)).2.2.2 ∧ Z'.2.2.2.1 = (rwF bt m many cost Z.1 (p, Z.2.2.2.2, Z.2.2.2.1, Z.2.1)).2.2.1 ∧ Z'.2.2.2.2 = (rwF bt m many cost Z.1 (p, Z.2.2.2.2, Z.2.2.2.1, Z.2.1)).2.1 ∧ ∀ kk, kk < many → Z'.2.2.1 kk = Z.2.2.1 kk)) (5 * ((rwF bt m many cost Z.1 (p, Z.2.2.2.2, Z.2.2.2.1, Z.2.1)).2.2.2 - Z.2.1)) (36 * ((rwF bt m many cost Z.1 (p, Z.2.2.2.2, Z.2.2.2.1, Z.2.1)).2.2.2 - Z.2.1)) := by
  intro m
  induction m with
  | zero =>
    intro w Z many most cost p hm h8 hc hd ht h3 hwf h25 hF hb hp
    refine Mt.start (by decide) (Nat.le_of_ble_eq_true rfl) (fun k C => ?_)
    have C : Cx G k cX0_rowsOf "MoodFare" "rowsOf" 6 none (8 + 0) _ _ _ := C
    obtain ⟨D, T, N, y, bytes, maxL, hj, hFw, hsel, hinst, hini, hcode, hmL, hok, hM⟩ := id hWO
    obtain ⟨W, hA, hv⟩ := id hF
    obtain ⟨r0, r1, r2, r3, r4, r5, r6, r7, r25, r26⟩ := id ht
    have ht1 := r1
    have ht4 := r4
    refine j_aload C dX0_rowsOf_0 4 rfl ?_
    refine j_aload_n C dX0_rowsOf_2 rfl 0 rfl ?_
    refine j_get (w := w) C in_X0 (ci := 0) (T := TX0) rfl (hA.d0 hv) 5 (by decide) q255 (fun _ z => z) (v := .ref (x + 16)) rfl dX0_rowsOf_3 ?_
    refine j_iload_n C dX0_rowsOf_6 rfl 1 rfl ?_
    refine j_iload_n C dX0_rowsOf_7 rfl 3 rfl ?_
    refine j_callF (w := w) C (hM w b (x + 16) Z.1 many cost p hb (hA.s1 (Z := Z) hv).1 (far_tn hb (hA.s1 (Z := Z) hv) hci) hp (by omega) (by omega) ht1 ht4) pI.ret hb hj 3 (C.fw hG hFw) q1046 hsel hinst hini hcode (by decide +kernel) rfl (by omega) (by omega) (Nat.le_of_ble_eq_true rfl) rfl dX0_rowsOf_8 (by omega) (by omega) (qI.k ?_)
    refine j_abs (P := fun w' => FX G w0 w' x O V Z ∧ w'.1 b = some (b, .inr (ci, fs ((bt Z.1 many cost p).2)))) ⟨⟨W, hA.far hb hci hO, hv⟩, mu_s⟩ (fun w1 h1 => ?_)
    obtain ⟨⟨W1, hA1, hv1⟩, hb1⟩ := h1
    refine j_if_eqB C 31 dX0_rowsOf_13 (by decide) (fun c13 => ?_) (fun c13 => ?_)
    · refine j_iload_n C dX0_rowsOf_31 rfl 1 rfl ?_
      refine j_iload_n C dX0_rowsOf_32 rfl 2 rfl ?_
      refine j_icmp_neN C 37 dX0_rowsOf_33 (by decide) (by omega) (by omega) (fun c33 => ?_) (fun c33 => ?_)
      · exfalso; omega
      · exact j_vret C (by omega) (by omega) (pV.mk ⟨Z, ⟨W1, hA1, hv1⟩, hb1, rfl, rfl, rfl, (vis_f (bt := bt) (many := many) (cost := cost) (t := Z.1) (q := (p, Z.2.2.2.2, Z.2.2.2.1, Z.2.1)) c13).symm, fun _ _ => rfl⟩) dX0_rowsOf_36
    · refine j_aload_n C dX0_rowsOf_16 rfl 0 rfl ?_
      refine j_get (w := w1) C in_X0 (ci := 0) (T := TX0) rfl (hA1.d0 hv1) 12 (by decide) q262 (fun _ z => z) (v := .ref (x + 26)) rfl dX0_rowsOf_17 ?_
      refine j_iconst (v := nI 0) C dX0_rowsOf_20 rfl ?_
      refine j_aload_n C dX0_rowsOf_21 rfl 0 rfl ?_
      refine j_get (w := w1) C in_X0 (ci := 0) (T := TX0) rfl (hA1.d0 hv1) 13 (by decide) q263 (fun _ z => z) (v := .ref (x + 27)) rfl dX0_rowsOf_22 ?_
      refine j_iconst (v := nI 0) C dX0_rowsOf_25 rfl ?_
      refine j_bipush (v := nI 8) C dX0_rowsOf_26 rfl ?_
      refine j_copyi (w := w1) C 0 hA1.c26 hA1.c27 rfl rfl q483 q485 q484 q83 (0) (0) (8) rfl rfl rfl (by omega) (by omega) (by decide) (by decide) (fun _ _ => rfl) (Nat.le_of_ble_eq_true rfl) dX0_rowsOf_28 ?_
      refine j_abs (P := fun w' => FX G w0 w' x O V (zV Z (Z.2.2.2.1)) ∧ w'.1 b = some (b, .inr (ci, fs ((bt Z.1 many cost p).2)))) ⟨(FX.bst hA1 hv1 (g := Z.2.2.2.1) (fun i hi => (cpy_in hi).trans (hv1.u i hi))), ((mu_n (tag_ne hb1 hA1.c27 (far_ne hb1 hA1.c0 (by omega)))).trans hb1)⟩ (fun w2 h2 => ?_)
      obtain ⟨⟨W2, hA2, hv2⟩, hb2⟩ := h2
      refine j_iload_n C dX0_rowsOf_31 rfl 1 rfl ?_
      refine j_iload_n C dX0_rowsOf_32 rfl 2 rfl ?_
      refine j_icmp_neN C 37 dX0_rowsOf_33 (by decide) (by omega) (by omega) (fun c33 => ?_) (fun c33 => ?_)
      · exfalso; omega
      · exact j_vret C (by omega) (by omega) (pV.mk ⟨zV Z (Z.2.2.2.1), ⟨W2, hA2, hv2⟩, hb2, rfl, rfl, rfl, (vis_t (bt := bt) (many := many) (cost := cost) (t := Z.1) (q := (p, Z.2.2.2.2, Z.2.2.2.1, Z.2.1)) c13).symm, fun _ _ => rfl⟩) dX0_rowsOf_36
  | succ m ihm =>
    intro w Z many most cost p hm h8 hc hd ht h3 hwf h25 hF hb hp
    refine Mt.start (by decide) (Nat.le_of_ble_eq_true rfl) (fun k C => ?_)
    have C : Cx G k cX0_rowsOf "MoodFare" "rowsOf" 6 none (8 + (m + 1)) _ _ _ := C
    obtain ⟨D, T, N, y, bytes, maxL, hj, hFw, hsel, hinst, hini, hcode, hmL, hok, hM⟩ := id hWO
    obtain ⟨W, hA, hv⟩ := id hF
    obtain ⟨r0, r1, r2, r3, r4, r5, r6, r7, r25, r26⟩ := id ht
    have ht1 := r1
    have ht4 := r4
    have hq0 : (rw0 bt many cost Z.1 (p, Z.2.2.2.2, Z.2.2.2.1, Z.2.1)).2.2.2 = max Z.2.1 (many + 1) := rfl
    have hq00 : (rwL (rwG bt m many cost Z.1) 0 (rw0 bt many cost Z.1 (p, Z.2.2.2.2, Z.2.2.2.1, Z.2.1))).2.2.2 = max Z.2.1 (many + 1) := rfl
    have h9 := hA.rid.2.2
    rw [hv.d] at h9
    have hmon : ∀ s, s < Z.1 25 → Z.2.1 ≤ (rwL (rwG bt m many cost Z.1) s (rw0 bt many cost Z.1 (p, Z.2.2.2.2, Z.2.2.2.1, Z.2.1))).2.2.2 ∧ many + 1 ≤ (rwL (rwG bt m many cost Z.1) s (rw0 bt many cost Z.1 (p, Z.2.2.2.2, Z.2.2.2.1, Z.2.1))).2.2.2 ∧ (rwL (rwG bt m many cost Z.1) s (rw0 bt many cost Z.1 (p, Z.2.2.2.2, Z.2.2.2.1, Z.2.1))).2.2.2 ≤ (rwL (rwG bt m many cost Z.1) (s + 1) (rw0 bt many cost Z.1 (p, Z.2.2.2.2, Z.2.2.2.1, Z.2.1))).2.2.2 ∧ (rwL (rwG bt m many cost Z.1) (s + 1) (rw0 bt many cost Z.1 (p, Z.2.2.2.2, Z.2.2.2.1, Z.2.1))).2.2.2 ≤ (rwF bt (m + 1) many cost Z.1 (p, Z.2.2.2.2, Z.2.2.2.1, Z.2.1)).2.2.2 ∧ (rwF bt (m + 1) many cost Z.1 (p, Z.2.2.2.2, Z.2.2.2.1, Z.2.1)).2.2.2 ≤ 8 := by
      intro s hs
      have g := rwG_d (bt := bt) (cost := cost) (t := Z.1) (m := m) (many := many) (u := 8) (by omega)
      have g0 : (rw0 bt many cost Z.1 (p, Z.2.2.2.2, Z.2.2.2.1, Z.2.1)).2.2.2 ≤ 8 := by omega
      have a1 := (rwL_d g s (rw0 bt many cost Z.1 (p, Z.2.2.2.2, Z.2.2.2.1, Z.2.1)) g0).1
      have a2 := rwL_m g g0 (k := s) (s + 1) (by omega)
      have a3 := rwL_m g g0 (k := s + 1) (Z.1 25) (by omega)
      have a4 := (rwL_d g (Z.1 25) (rw0 bt many cost Z.1 (p, Z.2.2.2.2, Z.2.2.2.1, Z.2.1)) g0).2
      rw [rwF_s]
      omega
    have hmon2 : ∀ s, s ≤ Z.1 25 → Z.2.1 ≤ (rwL (rwG bt m many cost Z.1) s (rw0 bt many cost Z.1 (p, Z.2.2.2.2, Z.2.2.2.1, Z.2.1))).2.2.2 ∧ many + 1 ≤ (rwL (rwG bt m many cost Z.1) s (rw0 bt many cost Z.1 (p, Z.2.2.2.2, Z.2.2.2.1, Z.2.1))).2.2.2 ∧ (rwL (rwG bt m many cost Z.1) s (rw0 bt many cost Z.1 (p, Z.2.2.2.2, Z.2.2.2.1, Z.2.1))).2.2.2 ≤ (rwF bt (m + 1) many cost Z.1 (p, Z.2.2.2.2, Z.2.2.2.1, Z.2.1)).2.2.2 := by
      intro s hs
      have g := rwG_d (bt := bt) (cost := cost) (t := Z.1) (m := m) (many := many) (u := 8) (by omega)
      have g0 : (rw0 bt many cost Z.1 (p, Z.2.2.2.2, Z.2.2.2.1, Z.2.1)).2.2.2 ≤ 8 := by omega
      have a1 := (rwL_d g s (rw0 bt many cost Z.1 (p, Z.2.2.2.2, Z.2.2.2.1, Z.2.1)) g0).1
      have a3 := rwL_m g g0 (k := s) (Z.1 25) hs
      rw [rwF_s]
      omega
    have hokq : ∀ s, s ≤ Z.1 25 → ok (rwL (rwG bt m many cost Z.1) s (rw0 bt many cost Z.1 (p, Z.2.2.2.2, Z.2.2.2.1, Z.2.1))).1 := by
      intro s hs
      refine rwL_ok (ok := ok) (n := Z.1 25) (fun s q hs hq => ?_) s (rw0 bt many cost Z.1 (p, Z.2.2.2.2, Z.2.2.2.1, Z.2.1)) hs (hok Z.1 many cost p hp (by omega) (by omega) r1 r4)
      show ok (rwG bt m many cost Z.1 s q).1
      unfold rwG
      by_cases z : goN Z.1 s (Z.1 4) = true
      · simp only [z, if_true]
        have hcs := csd_le (t := Z.1) (c := Z.1 (26 + 2 * s + 1)) (step := Z.1 3) ht (r26 s (by omega)).2 r1
        exact rwF_ok hok m (many + 1) _ (rdT Z.1 s) _ (by omega) (by omega) (smT_rdT ht (by omega) (by omega)) (by show Z.1 3 + 1 + m ≤ 1100; omega) hq
      · simp only [z]
        exact hq
    have hm0 := hmon2 0 (by omega)
    have lp : ∀ (n s : Nat) (w5 : wd_T) (Z5 : fz_T), s ≤ Z.1 25 → Z.1 25 < s + n → FX G w0 w5 x O V Z5 → w5.1 b = some (b, .inr (ci, fs (rwL (rwG bt m many cost Z.1) s (rw0 bt many cost Z.1 (p, Z.2.2.2.2, Z.2.2.2.1, Z.2.1))).1)) → (∀ i, ¬ (1 ≤ i ∧ i ≤ 5) → Z5.1 i = Z.1 i) → Z5.2.1 = (rwL (rwG bt m many cost Z.1) s (rw0 bt many cost Z.1 (p, Z.2.2.2.2, Z.2.2.2.1, Z.2.1))).2.2.2 → Z5.2.2.2.1 = (rwL (rwG bt m many cost Z.1) s (rw0 bt many cost Z.1 (p, Z.2.2.2.2, Z.2.2.2.1, Z.2.1))).2.2.1 → Z5.2.2.2.2 = (rwL (rwG bt m many cost Z.1) s (rw0 bt many cost Z.1 (p, Z.2.2.2.2, Z.2.2.2.1, Z.2.1))).2.1 → (∀ i, 1 ≤ i → i ≤ 5 → Z5.2.2.1 many i = Z.1 i) → (∀ kk, kk < many → Z5.2.2.1 kk = Z.2.2.1 kk) → J G k w5 [(5, .int (nI s)), (0, .ref x), (1, .int (nI many)), (2, .int (nI most)), (3, .int (nI cost)), (4, .ref b)] 52 [] (5 * ((rwL (rwG bt m many cost Z.1) s (rw0 bt many cost Z.1 (p, Z.2.2.2.2, Z.2.2.2.1, Z.2.1))).2.2.2 - Z.2.1)) (36 * ((rwL (rwG bt m many cost Z.1) s (rw0 bt many cost Z.1 (p, Z.2.2.2.2, Z.2.2.2.1, Z.2.1))).2.2.2 - Z.2.1)) := by
      intro n
      induction n with
      | zero => intro s w5 Z5 a1 a2; omega
      | succ n ih =>
        intro s w5 Z5 hs1 hs2 hX5 hb5 ho5 e5d e5t e5b hr5 hk5
        obtain ⟨W5, hA5, hv5⟩ := id hX5
        have hm2 := hmon2 s hs1
        have hmz : many < Z5.2.1 := by omega
        refine j_iload C dX0_rowsOf_52 0 rfl ?_
        refine j_aload_n C dX0_rowsOf_54 rfl 1 rfl ?_
        refine j_get (w := w5) C in_X0 (ci := 0) (T := TX0) rfl (hA5.d0 hv5) 4 (by decide) q251 (fun _ z => z) (v := .ref (x + 11)) rfl dX0_rowsOf_55 ?_
        refine j_get (w := w5) C in_X2 (ci := 2) (T := TX2) rfl (hA5.s0 (V := V) hv5).1 7 (by decide) q195 (fun _ z => z) (v := .int (nI (V.2.1 25))) rfl dX0_rowsOf_58 ?_
        refine j_icmp_geN C 126 dX0_rowsOf_61 (by decide) (by omega) (by omega) (fun c61 => ?_) (fun c61 => ?_)
        · obtain rfl : s = Z.1 25 := by have z : V.2.1 25 ≤ s := c61; omega
          refine j_aload_n C dX0_rowsOf_126 rfl 1 rfl ?_
          refine j_get (w := w5) C in_X0 (ci := 0) (T := TX0) rfl (hA5.d0 hv5) 5 (by decide) q255 (fun _ z => z) (v := .ref (x + 16)) rfl dX0_rowsOf_127 ?_
          refine j_aload_n C dX0_rowsOf_130 rfl 1 rfl ?_
          refine j_iload_n C dX0_rowsOf_131 rfl 2 rfl ?_
          obtain ⟨bk, hbk⟩ := hA5.rid.1 many (by rw [hv5.d]; exact hmz)
          refine j_callV (w := w5) C (kX0_rider_o G hG w0 w5 x O W5 V Z5 hA5 hv5 many bk (by omega) hbk) pA.ret (ci := 0) (T := TX0) (hA5.d0 hv5) rfl 1 q1074 q1076 qs26 q66 q1077 (by decide +kernel) rfl (by omega) (by omega) (Nat.le_of_ble_eq_true rfl) rfl dX0_rowsOf_132 (by omega) (by omega) (qA.k ?_)
          have hras : rAs Z5.1 (W5.2.1 (28 + many)) = Z.1 := rAs_eq ho5 (fun i h1 h5 => by rw [hv5.k many hmz]; exact hr5 i h1 h5)
          refine j_callV (w := w5) C (kX2_rideAs G w5 (x + 16) bk Z5.1 (W5.2.1 (28 + many)) (hA5.s1 (Z := Z5) hv5).1 (hA5.tn (by omega) hbk).1 (fun z => by have := hA5.inj (i := 1) (j := 28 + many) (by omega) (by omega) hA5.a1 (by rw [← z]; exact hbk); omega)) pV.ret (ci := 2) (T := TX2) (hA5.s1 (Z := Z5) hv5).1 rfl 1 q1078 q876 q877 q68 q878 (by decide +kernel) rfl (by omega) (by omega) (Nat.le_of_ble_eq_true rfl) rfl dX0_rowsOf_135 (by omega) (by omega) (qV.k ?_)
          refine j_abs (P := fun w' => FX G w0 w' x O V (zT Z5 Z.1) ∧ w'.1 b = some (b, .inr (ci, fs ((rwL (rwG bt m many cost Z.1) (Z.1 25) (rw0 bt many cost Z.1 (p, Z.2.2.2.2, Z.2.2.2.1, Z.2.1))).1)))) ⟨(FX.t1 hA5 hv5 ((TN.ras (u := (W5.2.1 (28 + many))) (hA5.s1 (Z := Z5) hv5)).eq hras) (FR.upd (hA5.s1 (Z := Z5) hv5).1 isC_TE) (hA5.wf.upd (hA5.s1 (Z := Z5) hv5).1)), ((mu_n (far_tn hb5 (hA5.s1 (Z := Z5) hv5) hci)).trans hb5)⟩ (fun w1 h1 => ?_)
          obtain ⟨⟨W1, hA1, hv1⟩, hb1⟩ := h1
          exact j_vret C (by omega) (by omega) (pV.mk ⟨zT Z5 Z.1, ⟨W1, hA1, hv1⟩, hb1, rfl, e5d, e5t, e5b, fun kk hk => hk5 kk hk⟩) dX0_rowsOf_138
        · refine j_aload_n C dX0_rowsOf_64 rfl 1 rfl ?_
          refine j_get (w := w5) C in_X0 (ci := 0) (T := TX0) rfl (hA5.d0 hv5) 5 (by decide) q255 (fun _ z => z) (v := .ref (x + 16)) rfl dX0_rowsOf_65 ?_
          refine j_aload_n C dX0_rowsOf_68 rfl 1 rfl ?_
          refine j_iload_n C dX0_rowsOf_69 rfl 2 rfl ?_
          obtain ⟨bk, hbk⟩ := hA5.rid.1 many (by rw [hv5.d]; exact hmz)
          refine j_callV (w := w5) C (kX0_rider_o G hG w0 w5 x O W5 V Z5 hA5 hv5 many bk (by omega) hbk) pA.ret (ci := 0) (T := TX0) (hA5.d0 hv5) rfl 1 q1074 q1076 qs26 q66 q1077 (by decide +kernel) rfl (by omega) (by omega) (Nat.le_of_ble_eq_true rfl) rfl dX0_rowsOf_70 (by omega) (by omega) (qA.k ?_)
          have hras : rAs Z5.1 (W5.2.1 (28 + many)) = Z.1 := rAs_eq ho5 (fun i h1 h5 => by rw [hv5.k many hmz]; exact hr5 i h1 h5)
          refine j_callV (w := w5) C (kX2_rideAs G w5 (x + 16) bk Z5.1 (W5.2.1 (28 + many)) (hA5.s1 (Z := Z5) hv5).1 (hA5.tn (by omega) hbk).1 (fun z => by have := hA5.inj (i := 1) (j := 28 + many) (by omega) (by omega) hA5.a1 (by rw [← z]; exact hbk); omega)) pV.ret (ci := 2) (T := TX2) (hA5.s1 (Z := Z5) hv5).1 rfl 1 q1078 q876 q877 q68 q878 (by decide +kernel) rfl (by omega) (by omega) (Nat.le_of_ble_eq_true rfl) rfl dX0_rowsOf_73 (by omega) (by omega) (qV.k ?_)
          refine j_abs (P := fun w' => FX G w0 w' x O V (zT Z5 Z.1) ∧ w'.1 b = some (b, .inr (ci, fs ((rwL (rwG bt m many cost Z.1) s (rw0 bt many cost Z.1 (p, Z.2.2.2.2, Z.2.2.2.1, Z.2.1))).1)))) ⟨(FX.t1 hA5 hv5 ((TN.ras (u := (W5.2.1 (28 + many))) (hA5.s1 (Z := Z5) hv5)).eq hras) (FR.upd (hA5.s1 (Z := Z5) hv5).1 isC_TE) (hA5.wf.upd (hA5.s1 (Z := Z5) hv5).1)), ((mu_n (far_tn hb5 (hA5.s1 (Z := Z5) hv5) hci)).trans hb5)⟩ (fun w2 h2 => ?_)
          obtain ⟨⟨W2, hA2, hv2⟩, hb2⟩ := h2
          refine j_aload_n C dX0_rowsOf_76 rfl 1 rfl ?_
          refine j_get (w := w2) C in_X0 (ci := 0) (T := TX0) rfl (hA2.d0 hv2) 5 (by decide) q255 (fun _ z => z) (v := .ref (x + 16)) rfl dX0_rowsOf_77 ?_
          refine j_iload C dX0_rowsOf_80 0 rfl ?_
          refine j_callV (w := w2) C (kX2_isWay G w2 hG (x + 16) Z.1 (hA2.s1 (Z := zT Z5 Z.1) hv2) ht (nI s)) pI.ret (ci := 2) (T := TX2) (hA2.s1 (Z := zT Z5 Z.1) hv2).1 rfl 1 q891 q892 q893 q68 q894 (by decide +kernel) rfl (by omega) (by omega) (Nat.le_of_ble_eq_true rfl) rfl dX0_rowsOf_82 (by omega) (by omega) (qI.k ?_)
          refine j_if_neB C 91 dX0_rowsOf_85 (by decide) (fun c85 => ?_) (fun c85 => ?_)
          · have hgo : goN Z.1 s (Z.1 4) = true := by rw [← goB_i (by omega) (by omega)]; exact c85
            refine j_aload_n C dX0_rowsOf_91 rfl 1 rfl ?_
            refine j_get (w := w2) C in_X0 (ci := 0) (T := TX0) rfl (hA2.d0 hv2) 12 (by decide) q262 (fun _ z => z) (v := .ref (x + 26)) rfl dX0_rowsOf_92 ?_
            refine j_iload_n C dX0_rowsOf_95 rfl 2 rfl ?_
            refine j_iload C dX0_rowsOf_96 0 rfl ?_
            refine j_iastN (w := w2) C hA2.c26 (many) rfl (by omega) (by decide) dX0_rowsOf_98 ?_
            refine j_abs (P := fun w' => FX G w0 w' x O V (zU (zT Z5 Z.1) (uN ((zT Z5 Z.1).2.2.2.1) many s)) ∧ w'.1 b = some (b, .inr (ci, fs ((rwL (rwG bt m many cost Z.1) s (rw0 bt many cost Z.1 (p, Z.2.2.2.2, Z.2.2.2.1, Z.2.1))).1)))) ⟨(FX.tri hA2 hv2 (g := uN ((zT Z5 Z.1).2.2.2.1) many s) (fun i hi => upd_nIr (hv2.u) i hi)), ((mu_n (tag_ne hb2 hA2.c26 (far_ne hb2 hA2.c0 (by omega)))).trans hb2)⟩ (fun w3 h3 => ?_)
            obtain ⟨⟨W3, hA3, hv3⟩, hb3⟩ := h3
            refine j_aload_n C dX0_rowsOf_99 rfl 1 rfl ?_
            refine j_iload_n C dX0_rowsOf_100 rfl 2 rfl ?_
            refine j_iconst (v := nI 1) C dX0_rowsOf_101 rfl ?_
            refine j_iaddN C dX0_rowsOf_102 ?_
            refine j_iload_n C dX0_rowsOf_103 rfl 3 rfl ?_
            refine j_iload_n C dX0_rowsOf_104 rfl 4 rfl ?_
            refine j_aload_n C dX0_rowsOf_105 rfl 1 rfl ?_
            refine j_get (w := w3) C in_X0 (ci := 0) (T := TX0) rfl (hA3.d0 hv3) 5 (by decide) q255 (fun _ z => z) (v := .ref (x + 16)) rfl dX0_rowsOf_106 ?_
            refine j_iload C dX0_rowsOf_109 0 rfl ?_
            refine j_callV (w := w3) C (kX2_ride G w3 hG (x + 16) Z.1 (hA3.s1 (Z := zU (zT Z5 Z.1) (uN ((zT Z5 Z.1).2.2.2.1) many s)) hv3) ht s (by omega) (hwf s (by omega))) pI.ret (ci := 2) (T := TX2) (hA3.s1 (Z := zU (zT Z5 Z.1) (uN ((zT Z5 Z.1).2.2.2.1) many s)) hv3).1 rfl 1 q904 q905 q906 q68 q907 (by decide +kernel) rfl (by omega) (by omega) (Nat.le_of_ble_eq_true rfl) rfl dX0_rowsOf_111 (by omega) (by omega) (qI.k ?_)
            refine j_abs (P := fun w' => FX G w0 w' x O V (zT (zU (zT Z5 Z.1) (uN ((zT Z5 Z.1).2.2.2.1) many s)) (rdT Z.1 s)) ∧ w'.1 b = some (b, .inr (ci, fs ((rwL (rwG bt m many cost Z.1) s (rw0 bt many cost Z.1 (p, Z.2.2.2.2, Z.2.2.2.1, Z.2.1))).1)))) ⟨(FX.t1 hA3 hv3 (RD_sc (hA3.s1 (Z := zU (zT Z5 Z.1) (uN ((zT Z5 Z.1).2.2.2.1) many s)) hv3)) (FR.upd (hA3.s1 (Z := zU (zT Z5 Z.1) (uN ((zT Z5 Z.1).2.2.2.1) many s)) hv3).1 isC_TE) (hA3.wf.upd (hA3.s1 (Z := zU (zT Z5 Z.1) (uN ((zT Z5 Z.1).2.2.2.1) many s)) hv3).1)), ((mu_n (far_tn hb3 (hA3.s1 (Z := zU (zT Z5 Z.1) (uN ((zT Z5 Z.1).2.2.2.1) many s)) hv3) hci)).trans hb3)⟩ (fun w4 h4 => ?_)
            obtain ⟨⟨W4, hA4, hv4⟩, hb4⟩ := h4
            refine j_iaddN C dX0_rowsOf_114 ?_
            refine j_aload C dX0_rowsOf_115 5 rfl ?_
            have eQ : rwF bt m (many + 1) (cost + (csd Z.1 (Z.1 (26 + 2 * s + 1)) (Z.1 1) (Z.1 3))) (zT (zU (zT Z5 Z.1) (uN ((zT Z5 Z.1).2.2.2.1) many s)) (rdT Z.1 s)).1 ((rwL (rwG bt m many cost Z.1) s (rw0 bt many cost Z.1 (p, Z.2.2.2.2, Z.2.2.2.1, Z.2.1))).1, (zT (zU (zT Z5 Z.1) (uN ((zT Z5 Z.1).2.2.2.1) many s)) (rdT Z.1 s)).2.2.2.2, (zT (zU (zT Z5 Z.1) (uN ((zT Z5 Z.1).2.2.2.1) many s)) (rdT Z.1 s)).2.2.2.1, (zT (zU (zT Z5 Z.1) (uN ((zT Z5 Z.1).2.2.2.1) many s)) (rdT Z.1 s)).2.1) = (rwL (rwG bt m many cost Z.1) (s + 1) (rw0 bt many cost Z.1 (p, Z.2.2.2.2, Z.2.2.2.1, Z.2.1))) := by
              show rwF bt m (many + 1) _ (rdT Z.1 s) ((rwL (rwG bt m many cost Z.1) s (rw0 bt many cost Z.1 (p, Z.2.2.2.2, Z.2.2.2.1, Z.2.1))).1, Z5.2.2.2.2, uN Z5.2.2.2.1 many s, Z5.2.1) = (rwG bt m many cost Z.1) s (rwL (rwG bt m many cost Z.1) s (rw0 bt many cost Z.1 (p, Z.2.2.2.2, Z.2.2.2.1, Z.2.1)))
              rw [e5b, e5t, e5d]; unfold rwG; rw [if_pos hgo]
            have eQd : (rwF bt m (many + 1) (cost + (csd Z.1 (Z.1 (26 + 2 * s + 1)) (Z.1 1) (Z.1 3))) (zT (zU (zT Z5 Z.1) (uN ((zT Z5 Z.1).2.2.2.1) many s)) (rdT Z.1 s)).1 ((rwL (rwG bt m many cost Z.1) s (rw0 bt many cost Z.1 (p, Z.2.2.2.2, Z.2.2.2.1, Z.2.1))).1, (zT (zU (zT Z5 Z.1) (uN ((zT Z5 Z.1).2.2.2.1) many s)) (rdT Z.1 s)).2.2.2.2, (zT (zU (zT Z5 Z.1) (uN ((zT Z5 Z.1).2.2.2.1) many s)) (rdT Z.1 s)).2.2.2.1, (zT (zU (zT Z5 Z.1) (uN ((zT Z5 Z.1).2.2.2.1) many s)) (rdT Z.1 s)).2.1)).2.2.2 = (rwL (rwG bt m many cost Z.1) (s + 1) (rw0 bt many cost Z.1 (p, Z.2.2.2.2, Z.2.2.2.1, Z.2.1))).2.2.2 := by rw [eQ]
            have ed : (zT (zU (zT Z5 Z.1) (uN ((zT Z5 Z.1).2.2.2.1) many s)) (rdT Z.1 s)).2.1 = Z5.2.1 := rfl
            have q5 := hmon s (by omega)
            have hcs := csd_le (t := Z.1) (c := Z.1 (26 + 2 * s + 1)) (step := Z.1 3) ht (r26 s (by omega)).2 r1
            refine j_callV (w := w4) C (ihm w4 (zT (zU (zT Z5 Z.1) (uN ((zT Z5 Z.1).2.2.2.1) many s)) (rdT Z.1 s)) (many + 1) most (cost + (csd Z.1 (Z.1 (26 + 2 * s + 1)) (Z.1 1) (Z.1 3))) (rwL (rwG bt m many cost Z.1) s (rw0 bt many cost Z.1 (p, Z.2.2.2.2, Z.2.2.2.1, Z.2.1))).1 (by omega) (by omega) (by omega) (by show many + 1 ≤ Z5.2.1; omega) (smT_rdT ht (by omega) (by omega)) (by show Z.1 3 + 1 + m ≤ 1100; omega) (rdT_wf hwf) (h25.trans (rdT_n (t := Z.1) (j := s) (i := 25) (by omega)).symm) ⟨W4, hA4, hv4⟩ hb4 (hokq s (by omega))) pV.ret (ci := 0) (T := TX0) (hA4.d0 hv4) rfl 4 q1041 q1043 qs25 q66 q1044 (by decide +kernel) rfl (by omega) (by omega) (Nat.le_of_ble_eq_true rfl) rfl dX0_rowsOf_117 (by omega) (by omega) (pV.k (fun w7 h7 => ?_))
            obtain ⟨Z7, hX7, hb7, e71, e7d, e7t, e7b, e7k⟩ := h7
            rw [eQ] at hb7 e7d e7t e7b
            refine j_iincN (lv' := [(5, .int (nI (s + 1))), (0, .ref x), (1, .int (nI many)), (2, .int (nI most)), (3, .int (nI cost)), (4, .ref b)]) C dX0_rowsOf_120 0 rfl (by decide) rfl ?_
            refine j_goto C 52 dX0_rowsOf_123 (by decide) ?_
            refine j_lv [0, 1, 2, 3, 4, 5] (lv' := [(5, .int (nI (s + 1))), (0, .ref x), (1, .int (nI many)), (2, .int (nI most)), (3, .int (nI cost)), (4, .ref b)]) rfl ?_
            refine j_wide (ce' := 5 * ((rwL (rwG bt m many cost Z.1) (s + 1) (rw0 bt many cost Z.1 (p, Z.2.2.2.2, Z.2.2.2.1, Z.2.1))).2.2.2 - Z.2.1)) (sl' := 36 * ((rwL (rwG bt m many cost Z.1) (s + 1) (rw0 bt many cost Z.1 (p, Z.2.2.2.2, Z.2.2.2.1, Z.2.1))).2.2.2 - Z.2.1)) (by omega) (by omega) ?_
            exact ih (s + 1) w7 Z7 (by omega) (by omega) hX7 hb7 (fun i hi => by rw [e71]; exact rdT_o hi) e7d e7t e7b (fun i h1 h5 => by rw [e7k many (by omega)]; exact hr5 i h1 h5) (fun kk hk => by rw [e7k kk (by omega)]; exact hk5 kk hk)
          · have hgo : goN Z.1 s (Z.1 4) = false := by rw [← goB_i (by omega) (by omega)]; exact c85
            refine j_goto C 120 dX0_rowsOf_88 (by decide) ?_
            refine j_iincN (lv' := [(5, .int (nI (s + 1))), (0, .ref x), (1, .int (nI many)), (2, .int (nI most)), (3, .int (nI cost)), (4, .ref b)]) C dX0_rowsOf_120 0 rfl (by decide) rfl ?_
            refine j_goto C 52 dX0_rowsOf_123 (by decide) ?_
            refine j_lv [0, 1, 2, 3, 4, 5] (lv' := [(5, .int (nI (s + 1))), (0, .ref x), (1, .int (nI many)), (2, .int (nI most)), (3, .int (nI cost)), (4, .ref b)]) rfl ?_
            have eS : (rwL (rwG bt m many cost Z.1) (s + 1) (rw0 bt many cost Z.1 (p, Z.2.2.2.2, Z.2.2.2.1, Z.2.1))) = (rwL (rwG bt m many cost Z.1) s (rw0 bt many cost Z.1 (p, Z.2.2.2.2, Z.2.2.2.1, Z.2.1))) := by show rwG bt m many cost Z.1 s _ = _; unfold rwG; rw [hgo]; rfl
            rw [← eS]
            exact ih (s + 1) w2 (zT Z5 Z.1) (by omega) (by omega) ⟨W2, hA2, hv2⟩ (by rw [eS]; exact hb2) (fun _ _ => rfl) (by rw [eS]; exact e5d) (by rw [eS]; exact e5t) (by rw [eS]; exact e5b) hr5 hk5
    refine j_aload C dX0_rowsOf_0 4 rfl ?_
    refine j_aload_n C dX0_rowsOf_2 rfl 0 rfl ?_
    refine j_get (w := w) C in_X0 (ci := 0) (T := TX0) rfl (hA.d0 hv) 5 (by decide) q255 (fun _ z => z) (v := .ref (x + 16)) rfl dX0_rowsOf_3 ?_
    refine j_iload_n C dX0_rowsOf_6 rfl 1 rfl ?_
    refine j_iload_n C dX0_rowsOf_7 rfl 3 rfl ?_
    refine j_callF (w := w) C (hM w b (x + 16) Z.1 many cost p hb (hA.s1 (Z := Z) hv).1 (far_tn hb (hA.s1 (Z := Z) hv) hci) hp (by omega) (by omega) ht1 ht4) pI.ret hb hj 3 (C.fw hG hFw) q1046 hsel hinst hini hcode (by decide +kernel) rfl (by omega) (by omega) (Nat.le_of_ble_eq_true rfl) rfl dX0_rowsOf_8 (by omega) (by omega) (qI.k ?_)
    refine j_abs (P := fun w' => FX G w0 w' x O V Z ∧ w'.1 b = some (b, .inr (ci, fs ((bt Z.1 many cost p).2)))) ⟨⟨W, hA.far hb hci hO, hv⟩, mu_s⟩ (fun w5 h5 => ?_)
    obtain ⟨⟨W5, hA5, hv5⟩, hb5⟩ := h5
    refine j_if_eqB C 31 dX0_rowsOf_13 (by decide) (fun c13 => ?_) (fun c13 => ?_)
    · refine j_iload_n C dX0_rowsOf_31 rfl 1 rfl ?_
      refine j_iload_n C dX0_rowsOf_32 rfl 2 rfl ?_
      refine j_icmp_neN C 37 dX0_rowsOf_33 (by decide) (by omega) (by omega) (fun c33 => ?_) (fun c33 => ?_)
      · refine j_aload_n C dX0_rowsOf_37 rfl 0 rfl ?_
        refine j_iload_n C dX0_rowsOf_38 rfl 1 rfl ?_
        rcases (show many < Z.2.1 ∨ many = Z.2.1 by omega) with hmd | hmd
        · obtain ⟨bk, hbk⟩ := hA5.rid.1 many (by rw [hv5.d]; exact hmd)
          have hrr : W5.2.1 (28 + many) = Z.2.2.1 many := hv5.k many hmd
          refine j_callV (w := w5) C (kX0_rider_o G hG w0 w5 x O W5 V Z hA5 hv5 many bk (by omega) hbk) pA.ret (ci := 0) (T := TX0) (hA5.d0 hv5) rfl 1 q1074 q1076 qs26 q66 q1077 (by decide +kernel) rfl (by omega) (by omega) (Nat.le_of_ble_eq_true rfl) rfl dX0_rowsOf_39 (by omega) (by omega) (qA.k ?_)
          refine j_aload_n C dX0_rowsOf_42 rfl 0 rfl ?_
          refine j_get (w := w5) C in_X0 (ci := 0) (T := TX0) rfl (hA5.d0 hv5) 5 (by decide) q255 (fun _ z => z) (v := .ref (x + 16)) rfl dX0_rowsOf_43 ?_
          have hmz : many < Z.2.1 := by exact hmd
          refine j_callV (w := w5) C (kX2_rideAs G w5 bk (x + 16) (W5.2.1 (28 + many)) Z.1 (hA5.tn (by omega) hbk).1 (hA5.s1 (Z := Z) hv5).1 (fun z => by have := hA5.inj (i := 1) (j := 28 + many) (by omega) (by omega) hA5.a1 (by rw [z]; exact hbk); omega)) pV.ret (ci := 2) (T := TX2) (hA5.tn (by omega) hbk).1 rfl 1 q1078 q876 q877 q68 q878 (by decide +kernel) rfl (by omega) (by omega) (Nat.le_of_ble_eq_true rfl) rfl dX0_rowsOf_46 (by omega) (by omega) (qV.k ?_)
          refine j_abs (P := fun w' => FX G w0 w' x O V (zR Z many (rAs (W5.2.1 (28 + many)) Z.1)) ∧ w'.1 b = some (b, .inr (ci, fs ((bt Z.1 many cost p).2)))) ⟨(FX.tk hA5 hv5 (k := many) (by show many < _; exact hmz) hbk (TN.ras (hA5.tn (by omega) hbk)) (FR.upd (hA5.tn (by omega) hbk).1 isC_TE) (hA5.wf.upd (hA5.tn (by omega) hbk).1)), ((mu_n (far_tn hb5 (hA5.tn (by omega) hbk) hci)).trans hb5)⟩ (fun w6 h6 => ?_)
          obtain ⟨⟨W6, hA6, hv6⟩, hb6⟩ := h6
          refine j_iconst (v := nI 0) C dX0_rowsOf_49 rfl ?_
          refine j_istore (lv' := [(5, .int (nI 0)), (0, .ref x), (1, .int (nI many)), (2, .int (nI most)), (3, .int (nI cost)), (4, .ref b)]) C dX0_rowsOf_50 (by decide) rfl ?_
          refine j_lv [0, 1, 2, 3, 4, 5] (lv' := [(5, .int (nI 0)), (0, .ref x), (1, .int (nI many)), (2, .int (nI most)), (3, .int (nI cost)), (4, .ref b)]) rfl ?_
          refine j_wide (ce' := 5 * (max Z.2.1 (many + 1) - Z.2.1)) (sl' := 36 * (max Z.2.1 (many + 1) - Z.2.1)) (by omega) (by omega) ?_
          exact lp (Z.1 25 + 1) 0 w6 (zR Z many (rAs (W5.2.1 (28 + many)) Z.1)) (by omega) (by omega) ⟨W6, hA6, hv6⟩ hb6 (fun _ _ => rfl) (by show Z.2.1 = max Z.2.1 (many + 1); omega) rfl (vis_f (bt := bt) (many := many) (cost := cost) (t := Z.1) (q := (p, Z.2.2.2.2, Z.2.2.2.1, Z.2.1)) c13).symm (fun i h1 h5 => by show (if many = many then rAs _ _ else _) i = _; rw [if_pos rfl]; unfold rAs; rw [if_pos ⟨h1, h5⟩]) (fun k hk => by first | exact if_neg (by omega) | exact (if_neg (by omega)).trans (if_neg (by omega)))
        · refine j_callV (w := w5) C (kX0_rider_n G hG w0 w5 x O W5 V Z hA5 hv5 many (by omega) hmd) pA.ret (ci := 0) (T := TX0) (hA5.d0 hv5) rfl 1 q1074 q1076 qs26 q66 q1077 (by decide +kernel) rfl (by omega) (by omega) (Nat.le_of_ble_eq_true rfl) rfl dX0_rowsOf_39 (by omega) (by omega) (pA.k (fun r7 w7 h7 => ?_))
          obtain ⟨rfl, W7, hA7, hv7, hbk, hfx⟩ := h7
          have hb7 := hfx b b _ hb5 (far_ne hb5 hA5.c0 (by omega))
          obtain ⟨bk, hbe⟩ : ∃ bk, bk = w5.2 := ⟨_, rfl⟩
          rw [← hbe] at hbk
          refine j_asv (y := .ref bk) (by rw [hbe]) ?_
          refine j_aload_n C dX0_rowsOf_42 rfl 0 rfl ?_
          refine j_get (w := w7) C in_X0 (ci := 0) (T := TX0) rfl (hA7.d0 hv7) 5 (by decide) q255 (fun _ z => z) (v := .ref (x + 16)) rfl dX0_rowsOf_43 ?_
          have hmz : many < (zD (zR Z many (fun _ => 0)) (many + 1)).2.1 := by exact Nat.lt_succ_self many
          refine j_callV (w := w7) C (kX2_rideAs G w7 bk (x + 16) (W7.2.1 (28 + many)) Z.1 (hA7.tn (by omega) hbk).1 (hA7.s1 (Z := zD (zR Z many (fun _ => 0)) (many + 1)) hv7).1 (fun z => by have := hA7.inj (i := 1) (j := 28 + many) (by omega) (by omega) hA7.a1 (by rw [z]; exact hbk); omega)) pV.ret (ci := 2) (T := TX2) (hA7.tn (by omega) hbk).1 rfl 1 q1078 q876 q877 q68 q878 (by decide +kernel) rfl (by omega) (by omega) (Nat.le_of_ble_eq_true rfl) rfl dX0_rowsOf_46 (by omega) (by omega) (qV.k ?_)
          refine j_abs (P := fun w' => FX G w0 w' x O V (zR (zD (zR Z many (fun _ => 0)) (many + 1)) many (rAs (W7.2.1 (28 + many)) Z.1)) ∧ w'.1 b = some (b, .inr (ci, fs ((bt Z.1 many cost p).2)))) ⟨(FX.tk hA7 hv7 (k := many) (by show many < _; exact hmz) hbk (TN.ras (hA7.tn (by omega) hbk)) (FR.upd (hA7.tn (by omega) hbk).1 isC_TE) (hA7.wf.upd (hA7.tn (by omega) hbk).1)), ((mu_n (far_tn hb7 (hA7.tn (by omega) hbk) hci)).trans hb7)⟩ (fun w8 h8 => ?_)
          obtain ⟨⟨W8, hA8, hv8⟩, hb8⟩ := h8
          refine j_iconst (v := nI 0) C dX0_rowsOf_49 rfl ?_
          refine j_istore (lv' := [(5, .int (nI 0)), (0, .ref x), (1, .int (nI many)), (2, .int (nI most)), (3, .int (nI cost)), (4, .ref b)]) C dX0_rowsOf_50 (by decide) rfl ?_
          refine j_lv [0, 1, 2, 3, 4, 5] (lv' := [(5, .int (nI 0)), (0, .ref x), (1, .int (nI many)), (2, .int (nI most)), (3, .int (nI cost)), (4, .ref b)]) rfl ?_
          refine j_wide (ce' := 5 * (max Z.2.1 (many + 1) - Z.2.1)) (sl' := 36 * (max Z.2.1 (many + 1) - Z.2.1)) (by omega) (by omega) ?_
          exact lp (Z.1 25 + 1) 0 w8 (zR (zD (zR Z many (fun _ => 0)) (many + 1)) many (rAs (W7.2.1 (28 + many)) Z.1)) (by omega) (by omega) ⟨W8, hA8, hv8⟩ hb8 (fun _ _ => rfl) (by show many + 1 = max Z.2.1 (many + 1); omega) rfl (vis_f (bt := bt) (many := many) (cost := cost) (t := Z.1) (q := (p, Z.2.2.2.2, Z.2.2.2.1, Z.2.1)) c13).symm (fun i h1 h5 => by show (if many = many then rAs _ _ else _) i = _; rw [if_pos rfl]; unfold rAs; rw [if_pos ⟨h1, h5⟩]) (fun k hk => by first | exact if_neg (by omega) | exact (if_neg (by omega)).trans (if_neg (by omega)))
      · exfalso; omega
    · refine j_aload_n C dX0_rowsOf_16 rfl 0 rfl ?_
      refine j_get (w := w5) C in_X0 (ci := 0) (T := TX0) rfl (hA5.d0 hv5) 12 (by decide) q262 (fun _ z => z) (v := .ref (x + 26)) rfl dX0_rowsOf_17 ?_
      refine j_iconst (v := nI 0) C dX0_rowsOf_20 rfl ?_
      refine j_aload_n C dX0_rowsOf_21 rfl 0 rfl ?_
      refine j_get (w := w5) C in_X0 (ci := 0) (T := TX0) rfl (hA5.d0 hv5) 13 (by decide) q263 (fun _ z => z) (v := .ref (x + 27)) rfl dX0_rowsOf_22 ?_
      refine j_iconst (v := nI 0) C dX0_rowsOf_25 rfl ?_
      refine j_bipush (v := nI 8) C dX0_rowsOf_26 rfl ?_
      refine j_copyi (w := w5) C 0 hA5.c26 hA5.c27 rfl rfl q483 q485 q484 q83 (0) (0) (8) rfl rfl rfl (by omega) (by omega) (by decide) (by decide) (fun _ _ => rfl) (Nat.le_of_ble_eq_true rfl) dX0_rowsOf_28 ?_
      refine j_abs (P := fun w' => FX G w0 w' x O V (zV Z (Z.2.2.2.1)) ∧ w'.1 b = some (b, .inr (ci, fs ((bt Z.1 many cost p).2)))) ⟨(FX.bst hA5 hv5 (g := Z.2.2.2.1) (fun i hi => (cpy_in hi).trans (hv5.u i hi))), ((mu_n (tag_ne hb5 hA5.c27 (far_ne hb5 hA5.c0 (by omega)))).trans hb5)⟩ (fun w9 h9 => ?_)
      obtain ⟨⟨W9, hA9, hv9⟩, hb9⟩ := h9
      refine j_iload_n C dX0_rowsOf_31 rfl 1 rfl ?_
      refine j_iload_n C dX0_rowsOf_32 rfl 2 rfl ?_
      refine j_icmp_neN C 37 dX0_rowsOf_33 (by decide) (by omega) (by omega) (fun c33 => ?_) (fun c33 => ?_)
      · refine j_aload_n C dX0_rowsOf_37 rfl 0 rfl ?_
        refine j_iload_n C dX0_rowsOf_38 rfl 1 rfl ?_
        rcases (show many < Z.2.1 ∨ many = Z.2.1 by omega) with hmd | hmd
        · obtain ⟨bk, hbk⟩ := hA9.rid.1 many (by rw [hv9.d]; exact hmd)
          have hrr : W9.2.1 (28 + many) = (zV Z (Z.2.2.2.1)).2.2.1 many := hv9.k many hmd
          refine j_callV (w := w9) C (kX0_rider_o G hG w0 w9 x O W9 V (zV Z (Z.2.2.2.1)) hA9 hv9 many bk (by omega) hbk) pA.ret (ci := 0) (T := TX0) (hA9.d0 hv9) rfl 1 q1074 q1076 qs26 q66 q1077 (by decide +kernel) rfl (by omega) (by omega) (Nat.le_of_ble_eq_true rfl) rfl dX0_rowsOf_39 (by omega) (by omega) (qA.k ?_)
          refine j_aload_n C dX0_rowsOf_42 rfl 0 rfl ?_
          refine j_get (w := w9) C in_X0 (ci := 0) (T := TX0) rfl (hA9.d0 hv9) 5 (by decide) q255 (fun _ z => z) (v := .ref (x + 16)) rfl dX0_rowsOf_43 ?_
          have hmz : many < (zV Z (Z.2.2.2.1)).2.1 := by exact hmd
          refine j_callV (w := w9) C (kX2_rideAs G w9 bk (x + 16) (W9.2.1 (28 + many)) Z.1 (hA9.tn (by omega) hbk).1 (hA9.s1 (Z := zV Z (Z.2.2.2.1)) hv9).1 (fun z => by have := hA9.inj (i := 1) (j := 28 + many) (by omega) (by omega) hA9.a1 (by rw [z]; exact hbk); omega)) pV.ret (ci := 2) (T := TX2) (hA9.tn (by omega) hbk).1 rfl 1 q1078 q876 q877 q68 q878 (by decide +kernel) rfl (by omega) (by omega) (Nat.le_of_ble_eq_true rfl) rfl dX0_rowsOf_46 (by omega) (by omega) (qV.k ?_)
          refine j_abs (P := fun w' => FX G w0 w' x O V (zR (zV Z (Z.2.2.2.1)) many (rAs (W9.2.1 (28 + many)) Z.1)) ∧ w'.1 b = some (b, .inr (ci, fs ((bt Z.1 many cost p).2)))) ⟨(FX.tk hA9 hv9 (k := many) (by show many < _; exact hmz) hbk (TN.ras (hA9.tn (by omega) hbk)) (FR.upd (hA9.tn (by omega) hbk).1 isC_TE) (hA9.wf.upd (hA9.tn (by omega) hbk).1)), ((mu_n (far_tn hb9 (hA9.tn (by omega) hbk) hci)).trans hb9)⟩ (fun w10 h10 => ?_)
          obtain ⟨⟨W10, hA10, hv10⟩, hb10⟩ := h10
          refine j_iconst (v := nI 0) C dX0_rowsOf_49 rfl ?_
          refine j_istore (lv' := [(5, .int (nI 0)), (0, .ref x), (1, .int (nI many)), (2, .int (nI most)), (3, .int (nI cost)), (4, .ref b)]) C dX0_rowsOf_50 (by decide) rfl ?_
          refine j_lv [0, 1, 2, 3, 4, 5] (lv' := [(5, .int (nI 0)), (0, .ref x), (1, .int (nI many)), (2, .int (nI most)), (3, .int (nI cost)), (4, .ref b)]) rfl ?_
          refine j_wide (ce' := 5 * (max Z.2.1 (many + 1) - Z.2.1)) (sl' := 36 * (max Z.2.1 (many + 1) - Z.2.1)) (by omega) (by omega) ?_
          exact lp (Z.1 25 + 1) 0 w10 (zR (zV Z (Z.2.2.2.1)) many (rAs (W9.2.1 (28 + many)) Z.1)) (by omega) (by omega) ⟨W10, hA10, hv10⟩ hb10 (fun _ _ => rfl) (by show Z.2.1 = max Z.2.1 (many + 1); omega) rfl (vis_t (bt := bt) (many := many) (cost := cost) (t := Z.1) (q := (p, Z.2.2.2.2, Z.2.2.2.1, Z.2.1)) c13).symm (fun i h1 h5 => by show (if many = many then rAs _ _ else _) i = _; rw [if_pos rfl]; unfold rAs; rw [if_pos ⟨h1, h5⟩]) (fun k hk => by first | exact if_neg (by omega) | exact (if_neg (by omega)).trans (if_neg (by omega)))
        · refine j_callV (w := w9) C (kX0_rider_n G hG w0 w9 x O W9 V (zV Z (Z.2.2.2.1)) hA9 hv9 many (by omega) hmd) pA.ret (ci := 0) (T := TX0) (hA9.d0 hv9) rfl 1 q1074 q1076 qs26 q66 q1077 (by decide +kernel) rfl (by omega) (by omega) (Nat.le_of_ble_eq_true rfl) rfl dX0_rowsOf_39 (by omega) (by omega) (pA.k (fun r11 w11 h11 => ?_))
          obtain ⟨rfl, W11, hA11, hv11, hbk, hfx⟩ := h11
          have hb11 := hfx b b _ hb9 (far_ne hb9 hA9.c0 (by omega))
          obtain ⟨bk, hbe⟩ : ∃ bk, bk = w9.2 := ⟨_, rfl⟩
          rw [← hbe] at hbk
          refine j_asv (y := .ref bk) (by rw [hbe]) ?_
          refine j_aload_n C dX0_rowsOf_42 rfl 0 rfl ?_
          refine j_get (w := w11) C in_X0 (ci := 0) (T := TX0) rfl (hA11.d0 hv11) 5 (by decide) q255 (fun _ z => z) (v := .ref (x + 16)) rfl dX0_rowsOf_43 ?_
          have hmz : many < (zD (zR (zV Z (Z.2.2.2.1)) many (fun _ => 0)) (many + 1)).2.1 := by exact Nat.lt_succ_self many
          refine j_callV (w := w11) C (kX2_rideAs G w11 bk (x + 16) (W11.2.1 (28 + many)) Z.1 (hA11.tn (by omega) hbk).1 (hA11.s1 (Z := zD (zR (zV Z (Z.2.2.2.1)) many (fun _ => 0)) (many + 1)) hv11).1 (fun z => by have := hA11.inj (i := 1) (j := 28 + many) (by omega) (by omega) hA11.a1 (by rw [z]; exact hbk); omega)) pV.ret (ci := 2) (T := TX2) (hA11.tn (by omega) hbk).1 rfl 1 q1078 q876 q877 q68 q878 (by decide +kernel) rfl (by omega) (by omega) (Nat.le_of_ble_eq_true rfl) rfl dX0_rowsOf_46 (by omega) (by omega) (qV.k ?_)
          refine j_abs (P := fun w' => FX G w0 w' x O V (zR (zD (zR (zV Z (Z.2.2.2.1)) many (fun _ => 0)) (many + 1)) many (rAs (W11.2.1 (28 + many)) Z.1)) ∧ w'.1 b = some (b, .inr (ci, fs ((bt Z.1 many cost p).2)))) ⟨(FX.tk hA11 hv11 (k := many) (by show many < _; exact hmz) hbk (TN.ras (hA11.tn (by omega) hbk)) (FR.upd (hA11.tn (by omega) hbk).1 isC_TE) (hA11.wf.upd (hA11.tn (by omega) hbk).1)), ((mu_n (far_tn hb11 (hA11.tn (by omega) hbk) hci)).trans hb11)⟩ (fun w12 h12 => ?_)
          obtain ⟨⟨W12, hA12, hv12⟩, hb12⟩ := h12
          refine j_iconst (v := nI 0) C dX0_rowsOf_49 rfl ?_
          refine j_istore (lv' := [(5, .int (nI 0)), (0, .ref x), (1, .int (nI many)), (2, .int (nI most)), (3, .int (nI cost)), (4, .ref b)]) C dX0_rowsOf_50 (by decide) rfl ?_
          refine j_lv [0, 1, 2, 3, 4, 5] (lv' := [(5, .int (nI 0)), (0, .ref x), (1, .int (nI many)), (2, .int (nI most)), (3, .int (nI cost)), (4, .ref b)]) rfl ?_
          refine j_wide (ce' := 5 * (max Z.2.1 (many + 1) - Z.2.1)) (sl' := 36 * (max Z.2.1 (many + 1) - Z.2.1)) (by omega) (by omega) ?_
          exact lp (Z.1 25 + 1) 0 w12 (zR (zD (zR (zV Z (Z.2.2.2.1)) many (fun _ => 0)) (many + 1)) many (rAs (W11.2.1 (28 + many)) Z.1)) (by omega) (by omega) ⟨W12, hA12, hv12⟩ hb12 (fun _ _ => rfl) (by show many + 1 = max Z.2.1 (many + 1); omega) rfl (vis_t (bt := bt) (many := many) (cost := cost) (t := Z.1) (q := (p, Z.2.2.2.2, Z.2.2.2.1, Z.2.1)) c13).symm (fun i h1 h5 => by show (if many = many then rAs _ _ else _) i = _; rw [if_pos rfl]; unfold rAs; rw [if_pos ⟨h1, h5⟩]) (fun k hk => by first | exact if_neg (by omega) | exact (if_neg (by omega)).trans (if_neg (by omega)))
      · exfalso; omega
