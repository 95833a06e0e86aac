/-! ===== a town is read ===== -/
set_option maxRecDepth 100000
section TWN
variable {G : gl_T} {w0 w w' : wd_T} {x r mt : Nat} {O : Nat → Prop} {W : cw_T}
theorem TN.fr2 {b : Nat} {t : Nat → Nat} {fs fs' : List Value} (h : TN G w b t) (hF : FR2 r mt w w') (hr : w.1 r = some (r, .inr (5, fs))) (hm : w.1 mt = some (mt, .inr (2, fs'))) (n1 : b ≠ r) (n2 : b ≠ mt) : TN G w' b t := by
  obtain ⟨h0, ⟨e, md, h1, h2⟩, ⟨f, h3, h4⟩, ⟨f5, h5, h6⟩, ⟨f7, h7, h8⟩, h9, h10⟩ := h
  refine ⟨hF.2 _ _ _ h0 n1 n2, ⟨e, md, hF.2 _ _ _ h1 n1 n2, ?_⟩, ⟨f, hF.2 _ _ _ h3 n1 n2, h4⟩, ⟨f5, hF.2 _ _ _ h5 n1 n2, h6⟩, ⟨f7, hF.2 _ _ _ h7 n1 n2, h8⟩, h9, h10⟩
  rcases h2 with h2 | ⟨f2, h2, h11⟩
  · exact Or.inl h2
  · refine Or.inr ⟨f2, hF.2 _ _ _ h2 n1 n2, fun c hc => ?_⟩
    obtain ⟨q, hq, hcell⟩ := h11 c hc
    refine ⟨q, hq, hF.2 _ _ _ hcell (fun z => ?_) (fun z => ?_)⟩
    · subst z
      exact CE_ne hcell hr (h10 c hc).1 (by omega) (h10 c hc).2
    · subst z
      exact CE_ne hcell hm (h10 c hc).1 (by omega) (h10 c hc).2
theorem FA.fr2 {fs fs' : List Value} (h : FA G w0 w x O W) (hF : FR2 r mt w w') (hw : WF w') (hr : w.1 r = some (r, .inr (5, fs))) (hm : w.1 mt = some (mt, .inr (2, fs'))) (a1 : x + 27 < r ∧ r ≠ W.1 5 ∧ ∀ i, i < 37 → W.2.2.1 i ≠ some r) (a2 : x + 27 < mt ∧ mt ≠ W.1 5 ∧ ∀ i, i < 37 → W.2.2.1 i ≠ some mt) (o1 : ¬ O r) (o2 : ¬ O mt) : FA G w0 w' x O W := by
  refine ⟨hw, fun j hj => hF.2 _ _ _ (h.cell j hj) (by omega) (by omega), fun j c hj hc => (h.tn hj hc).fr2 hF hr hm (fun z => a1.2.2 j hj (by rw [← z]; exact hc)) (fun z => a2.2.2 j hj (by rw [← z]; exact hc)), h.2.2.2.1, h.a0, h.a1, h.rid, h.past, fun k hk => ?_, ⟨hF.2 _ _ _ h.tr.1 (Ne.symm a1.2.1) (Ne.symm a2.2.1), hF.2 _ _ _ h.tr.2.1 (Ne.symm a1.2.1) (Ne.symm a2.2.1), h.tr.2.2⟩, fun c σ e ho hc => hF.2 _ _ _ (h.fr0 c σ e ho hc) (fun z => o1 (z ▸ ho)) (fun z => o2 (z ▸ ho)), fun σ ho => ?_⟩
  · rcases h.rows k hk with h1 | ⟨l, n, f, c, h1, h2, h3, h4, h5⟩
    · exact Or.inl h1
    · exact Or.inr ⟨l, n, f, c, h1, h2, h3, h4, hF.2 _ _ _ h5 (by omega) (by omega)⟩
  · have := h.frO σ ho
    exact ⟨Nat.lt_of_lt_of_le this.1 hF.1, this.2⟩
end TWN
/-! ===== the class: town ===== -/
set_option maxRecDepth 100000
set_option maxHeartbeats 400000 in
theorem kX5_init (G : gl_T) (w : wd_T) (hG : GH G) (r ta n : Nat) (hr : w.1 r = some (r, .inr (5, [.null, .int (nI 0), .int (nI 0), .int (nI 0), .int (nI 0), .int (nI 0), .null]))) (hw : WF w) : Mt G yX5_init cX5_init 3 none 4 [.ref r, .ref ta, .int (nI n)] w (pV (fun w' => w'.1 r = some (r, rdE ta n 0 0 0 0 w.2) ∧ TN G w' w.2 tz ∧ w'.2 = w.2 + 5 ∧ (∀ c σ e, c ≠ r → w.1 c = some (σ, e) → w'.1 c = some (σ, e)) ∧ WF w')) 5 36 := by
  refine Mt.start (by decide) (Nat.le_of_ble_eq_true rfl) (fun k C => ?_)
  have C : Cx G k cX5_init "MoodFare$Reader" "<init>" 3 none 4 5 36 _ := C
  have hrw : r < w.2 := hw _ _ _ hr
  refine j_aload_n C dX5_init_0 rfl 0 rfl ?_
  refine j_objInit (w := w) C q510 q115 q116 (Nat.le_of_ble_eq_true rfl) dX5_init_1 ?_
  refine j_aload_n C dX5_init_4 rfl 0 rfl ?_
  refine j_new (w := w) C w.2 (fs := [.int (nI 0), .int (nI 0), .int (nI 0), .int (nI 0), .int (nI 0), .null, .null, .int (nI 0), .null, .null, .int (nI 0)]) (ty := tyX2) in_X2 tyX2_ok (ci := 2) (T := TX2) rfl q511 q133 q68 (by decide) (by omega) (by omega) dX5_init_5 ?_
  refine j_dup C dX5_init_8 rfl ?_
  refine j_callIN (w := ((mu w.1 w.2 w.2 (.inr (2, [.int (nI 0), .int (nI 0), .int (nI 0), .int (nI 0), .int (nI 0), .null, .null, .int (nI 0), .null, .null, .int (nI 0)]))), w.2 + 1)) C (kX2_init G ((mu w.1 w.2 w.2 (.inr (2, [.int (nI 0), .int (nI 0), .int (nI 0), .int (nI 0), .int (nI 0), .null, .null, .int (nI 0), .null, .null, .int (nI 0)]))), w.2 + 1) hG w.2 mu_s rfl hw.new) pV.ret 0 (C.nw hG q512 rfl) q135 q68 q136 rfl (by decide +kernel) rfl (by decide) (by decide) (Nat.le_of_ble_eq_true rfl) rfl dX5_init_9 (by omega) (by omega) (pV.k (fun w3 hp3 => ?_))
  obtain ⟨h3T, h3s, h3k, h3w⟩ := hp3
  have h3r := h3k r r _ (by omega) ((mu_n (by omega)).trans hr)
  refine j_putF (w := w3) C (ty0 := tyX5) in_X5 tyX5_ok nmX5 (ci := 5) (T := TX5) rfl h3r 6 (by decide) q519 (fun _ z => z) rfl rfl rfl rfl (fs' := [.null, .int (nI 0), .int (nI 0), .int (nI 0), .int (nI 0), .int (nI 0), .ref w.2]) (Nat.le_of_ble_eq_true rfl) rfl dX5_init_12 ?_
  refine j_aload_n C dX5_init_15 rfl 0 rfl ?_
  refine j_aload_n C dX5_init_16 rfl 1 rfl ?_
  refine j_putF (w := ((mu w3.1 r r (.inr (5, [.null, .int (nI 0), .int (nI 0), .int (nI 0), .int (nI 0), .int (nI 0), .ref w.2]))), w3.2)) C (ty0 := tyX5) in_X5 tyX5_ok nmX5 (ci := 5) (T := TX5) rfl mu_s 0 (by decide) q513 (fun _ z => z) rfl rfl rfl rfl (fs' := [.ref ta, .int (nI 0), .int (nI 0), .int (nI 0), .int (nI 0), .int (nI 0), .ref w.2]) (Nat.le_of_ble_eq_true rfl) rfl dX5_init_17 ?_
  refine J.eq (w' := ((mu w3.1 r r (.inr (5, [.ref ta, .int (nI 0), .int (nI 0), .int (nI 0), .int (nI 0), .int (nI 0), .ref w.2]))), w3.2)) ?_ (congrArg (fun z => (z, w3.2)) mu_mu) rfl rfl
  refine j_aload_n C dX5_init_20 rfl 0 rfl ?_
  refine j_iload_n C dX5_init_21 rfl 2 rfl ?_
  refine j_putF (w := ((mu w3.1 r r (.inr (5, [.ref ta, .int (nI 0), .int (nI 0), .int (nI 0), .int (nI 0), .int (nI 0), .ref w.2]))), w3.2)) C (ty0 := tyX5) in_X5 tyX5_ok nmX5 (ci := 5) (T := TX5) rfl mu_s 1 (by decide) q514 (fun _ z => z) rfl rfl rfl rfl (fs' := [.ref ta, .int (nI n), .int (nI 0), .int (nI 0), .int (nI 0), .int (nI 0), .ref w.2]) (Nat.le_of_ble_eq_true rfl) rfl dX5_init_22 ?_
  refine J.eq (w' := ((mu w3.1 r r (.inr (5, [.ref ta, .int (nI n), .int (nI 0), .int (nI 0), .int (nI 0), .int (nI 0), .ref w.2]))), w3.2)) ?_ (congrArg (fun z => (z, w3.2)) mu_mu) rfl rfl
  exact j_vret C (by omega) (by omega) (pV.mk ⟨mu_s, h3T.fr (FR.upd h3r (fun z => by have : (7 : Nat) ≤ 5 := z.1; omega)) (by omega), h3s, fun c σ e hc h => (mu_n hc).trans (h3k c σ e (by have := hw c σ e h; omega) ((mu_n (by have := hw c σ e h; omega)).trans h)), h3w.upd h3r⟩) dX5_init_25
set_option maxHeartbeats 2000000 in
theorem kX0_town (G : gl_T) (hG : GH G) (w0 w : wd_T) (x : Nat) (O : Nat → Prop) (V : fv_T) (Z : fz_T) (hF : FX G w0 w x O V Z) (hE : GE G) (hS : GS G) (S R1 R2 : ms_T) (nc nx : Nat) (hC : rcL nc (twG S) = some R1) (hX : rsL nx R1 = some R2) (h0 : pOK0 S) (h6 : S.2.1 6 = V.1 0) (h120 : V.1 0 ≤ 120) (htp : ∀ i, i < S.2.1 6 → V.2.2.2.2.2.1 i &&& nI 255 = nI (S.2.2.2 5 i)) (P : Int32 → fv_T → Prop) (g1 : ∀ pl, ¬ (twH R2).1 8 < 0 → (twH R2).1 8 = nI pl → P ((-1000100) - nI pl) (vN (vN V 1 ((twH R2).2.1 7)) 0 0)) (g2 : (twH R2).1 8 < 0 → P (nI ((twH R2).2.2.2 7 25)) (vN (vT (vN V 0 0) ((twH R2).2.2.2 7)) 2 0)) : Mb G yX0_town cX0_town 5 (some .int) [(16, 20, 28, 152), (16, 20, 52, 0), (28, 45, 52, 0), (52, 54, 52, 0)] 7 [.ref x] w (fC G w0 x O P) 151 1177 := by
  refine ⟨Nat.le_of_ble_eq_true rfl, fun k C hx => ?_⟩
  have C : Cx G k cX0_town "MoodFare" "town" 5 (some .int) 7 151 1177 _ := C
  obtain ⟨W, hA, hv⟩ := id hF
  have hxw : x + 27 < w.2 := (hA.fresh (Nat.le_refl _)).1
  refine j_new (w := w) C w.2 (fs := [.null, .int (nI 0), .int (nI 0), .int (nI 0), .int (nI 0), .int (nI 0), .null]) (ty := tyX5) in_X5 tyX5_ok (ci := 5) (T := TX5) rfl q505 q506 q84 (by decide) (by omega) (by omega) dX0_town_0 ?_
  refine j_dup C dX0_town_3 rfl ?_
  refine j_aload_n C dX0_town_4 rfl 0 rfl ?_
  refine j_get (w := ((mu w.1 w.2 w.2 (.inr (5, [.null, .int (nI 0), .int (nI 0), .int (nI 0), .int (nI 0), .int (nI 0), .null]))), w.2 + 1)) C in_X0 (ci := 0) (T := TX0) rfl ((mu_n (by omega)).trans (hA.d0 hv)) 1 (by decide) q246 (fun _ z => z) (v := .ref (x + 10)) rfl dX0_town_5 ?_
  refine j_aload_n C dX0_town_8 rfl 0 rfl ?_
  refine j_get (w := ((mu w.1 w.2 w.2 (.inr (5, [.null, .int (nI 0), .int (nI 0), .int (nI 0), .int (nI 0), .int (nI 0), .null]))), w.2 + 1)) C in_X0 (ci := 0) (T := TX0) rfl ((mu_n (by omega)).trans (hA.d0 hv)) 2 (by decide) q247 (fun _ z => z) (v := .int (nI (V.1 0))) rfl dX0_town_9 ?_
  refine j_as (y := nI (S.2.1 6)) (by rw [h6]) ?_
  refine j_callI (w := ((mu w.1 w.2 w.2 (.inr (5, [.null, .int (nI 0), .int (nI 0), .int (nI 0), .int (nI 0), .int (nI 0), .null]))), w.2 + 1)) C (kX5_init G ((mu w.1 w.2 w.2 (.inr (5, [.null, .int (nI 0), .int (nI 0), .int (nI 0), .int (nI 0), .int (nI 0), .null]))), w.2 + 1) hG w.2 (x + 10) (S.2.1 6) mu_s hA.wf.new) pV.ret 2 q507 q508 q84 q509 rfl (by decide +kernel) rfl (by decide) (by decide) (Nat.le_of_ble_eq_true rfl) rfl dX0_town_12 (by omega) (by omega) (pV.k (fun w2 hp2 => ?_))
  obtain ⟨h2r, h2T, h2s, h2k, h2w⟩ := hp2
  have h2s' : w2.2 = w.2 + 6 := h2s
  have hA2 : FA G w0 w2 x O W := hA.ext (fun b σ e hb => h2k b σ e (by have := hA.wf b σ e hb; omega) ((mu_n (by have := hA.wf b σ e hb; omega)).trans hb)) (by omega) h2w
  have hfr := hA.fresh (σ := w.2) (Nat.le_refl _)
  have hfm := hA.fresh (σ := w.2 + 1) (by omega)
  have hOr : ¬ O w.2 := fun z => by have := (hA.frO _ z).1; omega
  have hOm : ¬ O (w.2 + 1) := fun z => by have := (hA.frO _ z).1; omega
  refine j_astore_n (lv' := [(1, .ref w.2), (0, .ref x)]) C dX0_town_15 rfl (by decide) rfl ?_
  refine j_aload_n C dX0_town_16 rfl 0 rfl ?_
  refine j_in (w := w2) C (iv_V C (ci := 5) (Tt := TX5) h2r rfl (Or.inr ⟨rfl, q539⟩) 0 q536 q537 q538 (by decide +kernel) rfl rfl dX0_town_17) (kX5_all G hG hE hS w2 w.2 (w.2 + 1) (x + 10) S R1 R2 nc nx x (W.2.2.2.2 0) hC hX h2w h2r h2T hA2.c10 (by omega) (by omega) (fun i hi => by rw [hv.tp i (by omega)]; exact htp i hi) h0) (Or.inr ⟨rfl, q539⟩) (by decide +kernel) (by decide) (by decide) (Nat.le_of_ble_eq_true rfl) (by omega) (by omega) ?_ ?_
  · refine rdP.k (fun w3 h83 hR3 hF3 => ?_)
    have hA3 := hA2.fr2 hF3 hR3.1 h2r h2T.1 hfr hfm hOr hOm
    have hT3 := hR3.2.2.1
    have hr3 := hR3.2.1
    generalize hrow : (twH R2).2.2.2 7 = row at hT3
    refine j_aload_n C dX0_town_20 rfl 1 rfl ?_
    refine j_iconst (v := nI 0) C dX0_town_21 rfl ?_
    refine j_put (w := w3) C (ty0 := tyX0) in_X0 tyX0_ok nmX0 (ci := 0) (T := TX0) rfl (hA3.d0 hv) 2 (by decide) q247 (fun _ z => z) rfl rfl rfl (fs' := [.ref (x + 1), .ref (x + 10), .int (nI 0), .int (nI (V.1 1)), .ref (x + 11), .ref (x + 16), .ref (x + 21), .int (nI (V.1 2)), .ref (x + 22), .ref (W.1 5), .int (nI (V.1 3)), .ref (x + 25), .ref (x + 26), .ref (x + 27)]) (Nat.le_of_ble_eq_true rfl) rfl dX0_town_22 ?_
    refine j_abs (P := fun w' => FX G w0 w' x O (vN V 0 0) Z ∧ TN G w' (w.2 + 1) row ∧ w'.1 w.2 = some (w.2, rdS (x + 10) (w.2 + 1) (twH R2))) ⟨FX.num hA3 hv 0 0 (by omega), hT3.fr (FR.upd hA3.c0 (fun z => by have : (7 : Nat) ≤ 0 := z.1; omega)) (by omega), (mu_n (by omega)).trans hr3⟩ (fun w1 h1 => ?_)
    obtain ⟨h1, hT4, hr4⟩ := h1
    obtain ⟨W1, hA1, hv1⟩ := h1
    refine j_goto C 62 dX0_town_25 (by decide) ?_
    refine j_aload_n C dX0_town_62 rfl 1 rfl ?_
    refine j_get (w := w1) C in_X0 (ci := 0) (T := TX0) rfl (hA1.d0 hv1) 4 (by decide) q251 (fun _ z => z) (v := .ref (x + 11)) rfl dX0_town_63 ?_
    refine j_aload_n C dX0_town_66 rfl 0 rfl ?_
    refine j_get (w := w1) C in_X5 (ci := 5) (T := TX5) rfl hr4 6 (by decide) q520 (fun _ z => z) (v := .ref (w.2 + 1)) rfl dX0_town_67 ?_
    refine j_callV (w := w1) C (kX2_become G w1 hG (x + 11) (w.2 + 1) _ _ ((hA1.s0 (V := vN V 0 0) hv1).eq (show (vN V 0 0).2.1 = V.2.1 from rfl)) hT4 (by omega) hA1.wf) pV.ret (ci := 2) (T := TX2) ((hA1.s0 (V := vN V 0 0) hv1).eq (show (vN V 0 0).2.1 = V.2.1 from rfl)).1 rfl 1 q839 q840 q841 q68 q842 (by decide +kernel) rfl (by decide) (by decide) (Nat.le_of_ble_eq_true rfl) rfl dX0_town_70 (by omega) (by omega) (pV.k (fun w2 hp2 => ?_))
    have h2 : FX G w0 w2 x O (vT (vN V 0 0) row) Z := FX.t0 hA1 hv1 hp2.1 hp2.2.1 hp2.2.2
    obtain ⟨W2, hA2, hv2⟩ := h2
    refine j_aload_n C dX0_town_73 rfl 1 rfl ?_
    refine j_iconst (v := nI 0) C dX0_town_74 rfl ?_
    refine j_put (w := w2) C (ty0 := tyX0) in_X0 tyX0_ok nmX0 (ci := 0) (T := TX0) rfl (hA2.d0 hv2) 7 (by decide) q257 (fun _ z => z) rfl rfl rfl (fs' := [.ref (x + 1), .ref (x + 10), .int (nI 0), .int (nI (V.1 1)), .ref (x + 11), .ref (x + 16), .ref (x + 21), .int (nI 0), .ref (x + 22), .ref (W2.1 5), .int (nI (V.1 3)), .ref (x + 25), .ref (x + 26), .ref (x + 27)]) (Nat.le_of_ble_eq_true rfl) rfl dX0_town_75 ?_
    refine j_abs (P := fun w' => FX G w0 w' x O (vN (vT (vN V 0 0) row) 2 0) Z) (FX.act hA2 hv2 0 (by omega)) (fun w3 h3 => ?_)
    obtain ⟨W3, hA3, hv3⟩ := h3
    refine j_aload_n C dX0_town_78 rfl 1 rfl ?_
    refine j_get (w := w3) C in_X0 (ci := 0) (T := TX0) rfl (hA3.d0 hv3) 4 (by decide) q251 (fun _ z => z) (v := .ref (x + 11)) rfl dX0_town_79 ?_
    refine j_get (w := w3) C in_X2 (ci := 2) (T := TX2) rfl (hA3.s0 (V := vN (vT (vN V 0 0) row) 2 0) hv3).1 7 (by decide) q195 (fun _ z => z) (v := .int (nI (row 25))) rfl dX0_town_82 ?_
    exact j_iret C (by omega) (by omega) (fC.mk ⟨W3, hA3, hv3⟩ (by have := g2 h83; rw [hrow] at this; exact this)) dX0_town_85
  · intro a1 w3 h3
    rcases h3 with ⟨-, h, -⟩ | ⟨h83, a2, pl, h2, hpl, hfl, hw3, hF3⟩
    · cases h
    cases h2
    have hA3 := hA2.fr2 hF3 hw3 h2r h2T.1 hfr hfm hOr hOm
    refine jt_catch C hx (ci := 6) hfl rfl 28 (Or.inr (Or.inl ⟨by decide, rfl, Or.inr ⟨by decide, _, q504, CA.of (C.nw hG q564 rfl)⟩⟩)) ?_
    generalize hkd : (twH R2).2.1 7 = kd at hfl
    have hax : a1 ≠ x := by intro z; rw [z, hA3.c0] at hfl; cases hfl
    refine j_astore_n (lv' := [(2, .ref a1), (1, .ref w.2), (0, .ref x)]) C dX0_town_28 rfl (by decide) rfl ?_
    refine j_aload_n C dX0_town_29 rfl 2 rfl ?_
    refine j_aload_n C dX0_town_30 rfl 0 rfl ?_
    refine j_get (w := w3) C in_X6 (ci := 6) (T := TX6) rfl hfl 6 (by decide) q581 (fun _ z => z) (v := .int (nI kd)) rfl dX0_town_31 ?_
    refine j_put (w := w3) C (ty0 := tyX0) in_X0 tyX0_ok nmX0 (ci := 0) (T := TX0) rfl (hA3.d0 hv) 3 (by decide) q248 (fun _ z => z) rfl rfl rfl (fs' := [.ref (x + 1), .ref (x + 10), .int (nI (V.1 0)), .int (nI kd), .ref (x + 11), .ref (x + 16), .ref (x + 21), .int (nI (V.1 2)), .ref (x + 22), .ref (W.1 5), .int (nI (V.1 3)), .ref (x + 25), .ref (x + 26), .ref (x + 27)]) (Nat.le_of_ble_eq_true rfl) rfl dX0_town_34 ?_
    refine j_abs (P := fun w' => FX G w0 w' x O (vN V 1 kd) Z ∧ w'.1 a1 = some (a1, fltE kd pl)) ⟨FX.num hA3 hv 1 kd (by omega), (mu_n hax).trans hfl⟩ (fun w4 h4 => ?_)
    obtain ⟨h4, hfl4⟩ := h4
    obtain ⟨W4, hA4, hv4⟩ := h4
    refine j_ldc C q838 dX0_town_37 ?_
    refine j_aload_n C dX0_town_39 rfl 0 rfl ?_
    refine j_get (w := w4) C in_X6 (ci := 6) (T := TX6) rfl hfl4 7 (by decide) q583 (fun _ z => z) (v := .int (nI pl)) rfl dX0_town_40 ?_
    refine j_isub C dX0_town_43 ?_
    refine j_istore_n (lv' := [(3, .int (((-1000100)) - (nI pl))), (2, .ref a1), (1, .ref w.2), (0, .ref x)]) C dX0_town_44 rfl (by decide) rfl ?_
    refine j_aload_n C dX0_town_45 rfl 3 rfl ?_
    refine j_iconst (v := nI 0) C dX0_town_46 rfl ?_
    refine j_put (w := w4) C (ty0 := tyX0) in_X0 tyX0_ok nmX0 (ci := 0) (T := TX0) rfl (hA4.d0 hv4) 2 (by decide) q247 (fun _ z => z) rfl rfl rfl (fs' := [.ref (x + 1), .ref (x + 10), .int (nI 0), .int (nI kd), .ref (x + 11), .ref (x + 16), .ref (x + 21), .int (nI (V.1 2)), .ref (x + 22), .ref (W4.1 5), .int (nI (V.1 3)), .ref (x + 25), .ref (x + 26), .ref (x + 27)]) (Nat.le_of_ble_eq_true rfl) rfl dX0_town_47 ?_
    refine j_abs (P := fun w' => FX G w0 w' x O (vN (vN V 1 kd) 0 0) Z) (FX.num hA4 hv4 0 0 (by omega)) (fun w5 h5 => ?_)
    obtain ⟨W5, hA5, hv5⟩ := h5
    refine j_iload_n C dX0_town_50 rfl 0 rfl ?_
    exact j_iret C (by omega) (by omega) (fC.mk ⟨W5, hA5, hv5⟩ (by have := g1 pl h83 hpl; rw [hkd] at this; exact this)) dX0_town_51
