/-! ===== the class: acts ===== -/
set_option maxRecDepth 100000
set_option maxHeartbeats 400000 in
theorem kX0_keep (G : gl_T) (hG : GH G) (w0 w : wd_T) (x : Nat) (O : Nat → Prop) (V : fv_T) (Z : fz_T) (hF : FX G w0 w x O V Z)  : Mt G yX0_keep cX0_keep 3 none 6 [.ref x] w (fV G w0 x O (kpV V) Z) 6 46 := by
  refine Mt.start (by decide) (Nat.le_of_ble_eq_true rfl) (fun k C => ?_)
  have C : Cx G k cX0_keep "MoodFare" "keep" 3 none 6 6 46 _ := C
  obtain ⟨W, hA, hv⟩ := id hF
  have hac := hA.past.2
  rw [hv.n 2 (by omega)] at hac
  refine j_aload_n C dX0_keep_0 rfl 0 rfl ?_
  refine j_get (w := w) C in_X0 (ci := 0) (T := TX0) rfl (hA.d0 hv) 7 (by decide) q257 (fun _ z => z) (v := .int (nI (V.1 2))) rfl dX0_keep_1 ?_
  refine j_bipush (v := nI 24) C dX0_keep_4 rfl ?_
  refine j_icmp_neN C 62 dX0_keep_6 (by decide) (by omega) (by omega) (fun c6 => ?_) (fun c6 => ?_)
  · refine j_aload_n C dX0_keep_62 rfl 0 rfl ?_
    refine j_get (w := w) C in_X0 (ci := 0) (T := TX0) rfl (hA.d0 hv) 6 (by decide) q256 (fun _ z => z) (v := .ref (x + 21)) rfl dX0_keep_63 ?_
    refine j_aload_n C dX0_keep_66 rfl 0 rfl ?_
    refine j_get (w := w) C in_X0 (ci := 0) (T := TX0) rfl (hA.d0 hv) 7 (by decide) q257 (fun _ z => z) (v := .int (nI (V.1 2))) rfl dX0_keep_67 ?_
    cases hb : W.2.2.1 (2 + (V.1 2)) with
    | none =>
      refine j_aald (w := w) C 5 hA.c21 rfl (V.1 2) rfl (by omega) (by decide) dX0_keep_70 ?_
      refine j_asv (y := .null) (by unfold adP; rw [if_pos (by omega), hb]; rfl) ?_
      refine j_ifnonnullN C dX0_keep_71 ?_
      refine j_aload_n C dX0_keep_74 rfl 0 rfl ?_
      refine j_get (w := w) C in_X0 (ci := 0) (T := TX0) rfl (hA.d0 hv) 6 (by decide) q256 (fun _ z => z) (v := .ref (x + 21)) rfl dX0_keep_75 ?_
      refine j_aload_n C dX0_keep_78 rfl 0 rfl ?_
      refine j_get (w := w) C in_X0 (ci := 0) (T := TX0) rfl (hA.d0 hv) 7 (by decide) q257 (fun _ z => z) (v := .int (nI (V.1 2))) rfl dX0_keep_79 ?_
      refine j_new (w := w) C w.2 (fs := [.int (nI 0), .int (nI 0), .int (nI 0), .int (nI 0), .int (nI 0), .null, .null, .int (nI 0), .null, .null, .int (nI 0)]) (ty := tyX2) in_X2 tyX2_ok (ci := 2) (T := TX2) rfl q132 q133 q68 (by decide) (by omega) (by omega) dX0_keep_82 ?_
      refine j_dup C dX0_keep_85 rfl ?_
      refine j_callIN (w := ((mu w.1 w.2 w.2 (.inr (2, [.int (nI 0), .int (nI 0), .int (nI 0), .int (nI 0), .int (nI 0), .null, .null, .int (nI 0), .null, .null, .int (nI 0)]))), w.2 + 1)) C (kX2_init G ((mu w.1 w.2 w.2 (.inr (2, [.int (nI 0), .int (nI 0), .int (nI 0), .int (nI 0), .int (nI 0), .null, .null, .int (nI 0), .null, .null, .int (nI 0)]))), w.2 + 1) hG w.2 mu_s rfl (hA.wf.new)) pV.ret 0 (C.nw hG q134 rfl) q135 q68 q136 rfl (by decide +kernel) rfl (by decide) (by decide) (Nat.le_of_ble_eq_true rfl) rfl dX0_keep_86 (by omega) (by omega) (pV.k (fun w1 hp1 => ?_))
      obtain ⟨hA2, hn2, hO2⟩ := hA.newT hp1
      have hT2 := hp1.1
      refine j_aast (w := w1) C 5 (r := (RX2, TX2, 11)) hA2.c21 rfl hT2.1 (ci := 2) rfl (V.1 2) rfl (by omega) (by decide) dX0_keep_89 ?_
      refine j_abs (P := fun w' => FA G w0 w' x O (wT (wA W (2 + (V.1 2)) (some w.2)) (2 + (V.1 2)) (fun _ => 0))) (hA2.addT (Or.inl ⟨rfl, rfl, rfl⟩) rfl (by omega) hb hT2 hn2 hO2 (fun z => by omega) _ (Or.inl rfl) (fun z => by omega)) (fun w3 hA3 => ?_)
      have hv3 : VW (wT (wA W (2 + (V.1 2)) (some w.2)) (2 + (V.1 2)) (fun _ => 0)) V Z := hv.addP (by omega) (by omega)
      have hb3 : (wT (wA W (2 + (V.1 2)) (some w.2)) (2 + (V.1 2)) (fun _ => 0)).2.2.1 (2 + (V.1 2)) = some w.2 := wAT_s
      refine j_aload_n C dX0_keep_90 rfl 0 rfl ?_
      refine j_get (w := w3) C in_X0 (ci := 0) (T := TX0) rfl (hA3.d0 hv3) 6 (by decide) q256 (fun _ z => z) (v := .ref (x + 21)) rfl dX0_keep_91 ?_
      refine j_aload_n C dX0_keep_94 rfl 0 rfl ?_
      refine j_get (w := w3) C in_X0 (ci := 0) (T := TX0) rfl (hA3.d0 hv3) 7 (by decide) q257 (fun _ z => z) (v := .int (nI (V.1 2))) rfl dX0_keep_95 ?_
      refine j_aald (w := w3) C 5 hA3.c21 rfl (V.1 2) rfl (by omega) (by decide) dX0_keep_98 ?_
      refine j_asv (y := .ref w.2) (by unfold adP; rw [if_pos (by omega), hb3]; rfl) ?_
      refine j_aload_n C dX0_keep_99 rfl 0 rfl ?_
      refine j_get (w := w3) C in_X0 (ci := 0) (T := TX0) rfl (hA3.d0 hv3) 4 (by decide) q251 (fun _ z => z) (v := .ref (x + 11)) rfl dX0_keep_100 ?_
      refine j_callV (w := w3) C (kX2_become G w3 hG w.2 (x + 11) _ _ (hA3.tn (by omega) hb3) (hA3.s0 (V := V) hv3) (fun z => by have := hA3.inj (i := 0) (j := 2 + (V.1 2)) (by omega) (by omega) hA3.a0 (by rw [z]; exact hb3); omega) hA3.wf) pV.ret (ci := 2) (T := TX2) (hA3.tn (by omega) hb3).1 rfl 1 q839 q840 q841 q68 q842 (by decide +kernel) rfl (by decide) (by decide) (Nat.le_of_ble_eq_true rfl) rfl dX0_keep_103 (by omega) (by omega) (pV.k (fun w4 hp4 => ?_))
      have hA4 := hA3.town (by omega) hb3 hp4.1 hp4.2.1 hp4.2.2
      have hv4 : VW (wT (wT (wA W (2 + (V.1 2)) (some w.2)) (2 + (V.1 2)) (fun _ => 0)) (2 + (V.1 2)) V.2.1) V Z := hv3.setP (by omega) (by omega)
      have hb4 : (wT (wT (wA W (2 + (V.1 2)) (some w.2)) (2 + (V.1 2)) (fun _ => 0)) (2 + (V.1 2)) V.2.1).2.2.1 (2 + (V.1 2)) = some w.2 := hb3
      have ht4 : (wT (wT (wA W (2 + (V.1 2)) (some w.2)) (2 + (V.1 2)) (fun _ => 0)) (2 + (V.1 2)) V.2.1).2.1 (2 + (V.1 2)) = V.2.1 := wT_s
      refine j_aload_n C dX0_keep_106 rfl 0 rfl ?_
      refine j_dup C dX0_keep_107 rfl ?_
      refine j_get (w := w4) C in_X0 (ci := 0) (T := TX0) rfl (hA4.d0 hv4) 7 (by decide) q257 (fun _ z => z) (v := .int (nI (V.1 2))) rfl dX0_keep_108 ?_
      refine j_iconst (v := nI 1) C dX0_keep_111 rfl ?_
      refine j_iaddN C dX0_keep_112 ?_
      refine j_put (w := w4) C (ty0 := tyX0) in_X0 tyX0_ok nmX0 (ci := 0) (T := TX0) rfl (hA4.d0 hv4) 7 (by decide) q257 (fun _ z => z) rfl rfl rfl (fs' := [.ref (x + 1), .ref (x + 10), .int (nI (V.1 0)), .int (nI (V.1 1)), .ref (x + 11), .ref (x + 16), .ref (x + 21), .int (nI ((V.1 2) + 1)), .ref (x + 22), .ref ((wT (wT (wA W (2 + (V.1 2)) (some w.2)) (2 + (V.1 2)) (fun _ => 0)) (2 + (V.1 2)) V.2.1).1 5), .int (nI (V.1 3)), .ref (x + 25), .ref (x + 26), .ref (x + 27)]) (Nat.le_of_ble_eq_true rfl) rfl dX0_keep_113 ?_
      refine j_abs (P := fun w' => FX G w0 w' x O (kpA V) Z) (FX.kept hA4 hv4 (by omega) hb4 ht4) (fun w5 h5 => ?_)
      obtain ⟨W5, hA5, hv5⟩ := h5
      exact j_vret C (by omega) (by omega) (pV.mk (by unfold kpV; rw [if_neg (by omega)]; exact ⟨W5, hA5, hv5⟩)) dX0_keep_116
    | some b =>
      refine j_aald (w := w) C 5 hA.c21 rfl (V.1 2) rfl (by omega) (by decide) dX0_keep_70 ?_
      refine j_asv (y := .ref b) (by unfold adP; rw [if_pos (by omega), hb]; rfl) ?_
      refine j_ifnonnull C 90 dX0_keep_71 (by decide) ?_
      refine j_aload_n C dX0_keep_90 rfl 0 rfl ?_
      refine j_get (w := w) C in_X0 (ci := 0) (T := TX0) rfl (hA.d0 hv) 6 (by decide) q256 (fun _ z => z) (v := .ref (x + 21)) rfl dX0_keep_91 ?_
      refine j_aload_n C dX0_keep_94 rfl 0 rfl ?_
      refine j_get (w := w) C in_X0 (ci := 0) (T := TX0) rfl (hA.d0 hv) 7 (by decide) q257 (fun _ z => z) (v := .int (nI (V.1 2))) rfl dX0_keep_95 ?_
      refine j_aald (w := w) C 5 hA.c21 rfl (V.1 2) rfl (by omega) (by decide) dX0_keep_98 ?_
      refine j_asv (y := .ref b) (by unfold adP; rw [if_pos (by omega), hb]; rfl) ?_
      refine j_aload_n C dX0_keep_99 rfl 0 rfl ?_
      refine j_get (w := w) C in_X0 (ci := 0) (T := TX0) rfl (hA.d0 hv) 4 (by decide) q251 (fun _ z => z) (v := .ref (x + 11)) rfl dX0_keep_100 ?_
      refine j_callV (w := w) C (kX2_become G w hG b (x + 11) _ _ (hA.tn (by omega) hb) (hA.s0 (V := V) hv) (fun z => by have := hA.inj (i := 0) (j := 2 + (V.1 2)) (by omega) (by omega) hA.a0 (by rw [z]; exact hb); omega) hA.wf) pV.ret (ci := 2) (T := TX2) (hA.tn (by omega) hb).1 rfl 1 q839 q840 q841 q68 q842 (by decide +kernel) rfl (by decide) (by decide) (Nat.le_of_ble_eq_true rfl) rfl dX0_keep_103 (by omega) (by omega) (pV.k (fun w6 hp6 => ?_))
      have hA6 := hA.town (by omega) hb hp6.1 hp6.2.1 hp6.2.2
      have hv6 : VW (wT W (2 + (V.1 2)) V.2.1) V Z := hv.setP (by omega) (by omega)
      have hb6 : (wT W (2 + (V.1 2)) V.2.1).2.2.1 (2 + (V.1 2)) = some b := hb
      have ht6 : (wT W (2 + (V.1 2)) V.2.1).2.1 (2 + (V.1 2)) = V.2.1 := wT_s
      refine j_aload_n C dX0_keep_106 rfl 0 rfl ?_
      refine j_dup C dX0_keep_107 rfl ?_
      refine j_get (w := w6) C in_X0 (ci := 0) (T := TX0) rfl (hA6.d0 hv6) 7 (by decide) q257 (fun _ z => z) (v := .int (nI (V.1 2))) rfl dX0_keep_108 ?_
      refine j_iconst (v := nI 1) C dX0_keep_111 rfl ?_
      refine j_iaddN C dX0_keep_112 ?_
      refine j_put (w := w6) C (ty0 := tyX0) in_X0 tyX0_ok nmX0 (ci := 0) (T := TX0) rfl (hA6.d0 hv6) 7 (by decide) q257 (fun _ z => z) rfl rfl rfl (fs' := [.ref (x + 1), .ref (x + 10), .int (nI (V.1 0)), .int (nI (V.1 1)), .ref (x + 11), .ref (x + 16), .ref (x + 21), .int (nI ((V.1 2) + 1)), .ref (x + 22), .ref ((wT W (2 + (V.1 2)) V.2.1).1 5), .int (nI (V.1 3)), .ref (x + 25), .ref (x + 26), .ref (x + 27)]) (Nat.le_of_ble_eq_true rfl) rfl dX0_keep_113 ?_
      refine j_abs (P := fun w' => FX G w0 w' x O (kpA V) Z) (FX.kept hA6 hv6 (by omega) hb6 ht6) (fun w7 h7 => ?_)
      obtain ⟨W7, hA7, hv7⟩ := h7
      exact j_vret C (by omega) (by omega) (pV.mk (by unfold kpV; rw [if_neg (by omega)]; exact ⟨W7, hA7, hv7⟩)) dX0_keep_116
  · refine j_aload_n C dX0_keep_9 rfl 0 rfl ?_
    refine j_get (w := w) C in_X0 (ci := 0) (T := TX0) rfl (hA.d0 hv) 6 (by decide) q256 (fun _ z => z) (v := .ref (x + 21)) rfl dX0_keep_10 ?_
    refine j_iconst (v := nI 0) C dX0_keep_13 rfl ?_
    have hall := hA.past.1
    have h24 : W.1 2 = 24 := by rw [hv.n 2 (by omega)]; omega
    obtain ⟨b0, hb0⟩ := hall 0 (by omega)
    refine j_aald (w := w) C 5 hA.c21 rfl 0 rfl (by omega) (by decide) dX0_keep_14 ?_
    refine j_asv (y := .ref b0) (by unfold adP; rw [if_pos (by omega), show 2 + 0 = 2 from rfl, show W.2.2.1 2 = some b0 from hb0]; rfl) ?_
    refine j_astore_n (lv' := [(1, .ref b0), (0, .ref x)]) C dX0_keep_15 rfl (by decide) rfl ?_
    refine j_iconst (v := nI 1) C dX0_keep_16 rfl ?_
    refine j_istore_n (lv' := [(2, .int (nI 1)), (1, .ref b0), (0, .ref x)]) C dX0_keep_17 rfl (by decide) rfl ?_
    have lp : ∀ (n_lp i : Nat), 1 ≤ i → i ≤ 24 → 24 < i + n_lp → J G k ((mu w.1 (x + 21) x (aq (gl_A G 5) 24 (rotG (adP W 2 24) i))), w.2) [(2, .int (nI i)), (1, .ref b0), (0, .ref x)] 18 [] 0 0 := by
      intro n_lp
      induction n_lp with
      | zero => intro i h0_lp h1_lp h2_lp; omega
      | succ n_lp ih_lp =>
        intro i h0_lp h1_lp h2_lp
        refine j_iload_n C dX0_keep_18 rfl 0 rfl ?_
        refine j_bipush (v := nI 24) C dX0_keep_19 rfl ?_
        refine j_icmp_geN C 44 dX0_keep_21 (by decide) (by omega) (by omega) (fun c21 => ?_) (fun c21 => ?_)
        · obtain rfl : 24 = i := by omega
          refine j_aload_n C dX0_keep_44 rfl 2 rfl ?_
          refine j_get (w := ((mu w.1 (x + 21) x (aq (gl_A G 5) 24 (rotG (adP W 2 24) 24))), w.2)) C in_X0 (ci := 0) (T := TX0) rfl ((mu_n (by omega)).trans (hA.d0 hv)) 6 (by decide) q256 (fun _ z => z) (v := .ref (x + 21)) rfl dX0_keep_45 ?_
          refine j_bipush (v := nI 23) C dX0_keep_48 rfl ?_
          refine j_aload_n C dX0_keep_50 rfl 1 rfl ?_
          refine j_aast (w := ((mu w.1 (x + 21) x (aq (gl_A G 5) 24 (rotG (adP W 2 24) 24))), w.2)) C 5 (r := (RX2, TX2, 11)) mu_s rfl ((mu_n (fun z => by have h0 := (hA.tn (i := 2) (by omega) hb0).1; rw [z, hA.c21] at h0; cases h0)).trans (hA.tn (i := 2) (by omega) hb0).1) (ci := 2) rfl (23) rfl (by omega) (by decide) dX0_keep_51 ?_
          refine J.eq (w' := ((mu w.1 (x + 21) x (aq (gl_A G 5) 24 (va_up (rotG (adP W 2 24) 24) 23 (some b0)))), w.2)) ?_ (congrArg (fun z => (z, w.2)) mu_mu) rfl rfl
          refine j_aload_n C dX0_keep_52 rfl 2 rfl ?_
          refine j_dup C dX0_keep_53 rfl ?_
          refine j_get (w := ((mu w.1 (x + 21) x (aq (gl_A G 5) 24 (va_up (rotG (adP W 2 24) 24) 23 (some b0)))), w.2)) C in_X0 (ci := 0) (T := TX0) rfl ((mu_n (by omega)).trans (hA.d0 hv)) 7 (by decide) q257 (fun _ z => z) (v := .int (nI (V.1 2))) rfl dX0_keep_54 ?_
          refine j_iconst (v := nI 1) C dX0_keep_57 rfl ?_
          refine j_isubN C dX0_keep_58 (by omega) ?_
          refine j_put (w := ((mu w.1 (x + 21) x (aq (gl_A G 5) 24 (va_up (rotG (adP W 2 24) 24) 23 (some b0)))), w.2)) C (ty0 := tyX0) in_X0 tyX0_ok nmX0 (ci := 0) (T := TX0) rfl ((mu_n (by omega)).trans (hA.d0 hv)) 7 (by decide) q257 (fun _ z => z) rfl rfl rfl (fs' := [.ref (x + 1), .ref (x + 10), .int (nI (V.1 0)), .int (nI (V.1 1)), .ref (x + 11), .ref (x + 16), .ref (x + 21), .int (nI ((V.1 2) - 1)), .ref (x + 22), .ref (W.1 5), .int (nI (V.1 3)), .ref (x + 25), .ref (x + 26), .ref (x + 27)]) (Nat.le_of_ble_eq_true rfl) rfl dX0_keep_59 ?_
          refine j_abs (P := fun w' => FX G w0 w' x O (kpR V) Z) (by have q := (FX.rot hA hv (by omega)).1; rw [show (23 : Nat) = V.1 2 - 1 by omega] at q; rw [← rotG_e _ (show adP W 2 24 0 = some b0 from hb0)] at q; exact q) (fun w8 h8 => ?_)
          have e2 : (kpR V).1 2 = 23 := (uN_s : uN V.1 2 23 2 = 23)
          obtain ⟨W8, hA8, hv8⟩ := h8
          refine j_aload_n C dX0_keep_62 rfl 2 rfl ?_
          refine j_get (w := w8) C in_X0 (ci := 0) (T := TX0) rfl (hA8.d0 hv8) 6 (by decide) q256 (fun _ z => z) (v := .ref (x + 21)) rfl dX0_keep_63 ?_
          refine j_aload_n C dX0_keep_66 rfl 2 rfl ?_
          refine j_get (w := w8) C in_X0 (ci := 0) (T := TX0) rfl (hA8.d0 hv8) 7 (by decide) q257 (fun _ z => z) (v := .int (nI ((kpR V).1 2))) rfl dX0_keep_67 ?_
          cases hb : W8.2.2.1 (2 + ((kpR V).1 2)) with
          | none =>
            refine j_aald (w := w8) C 5 hA8.c21 rfl ((kpR V).1 2) rfl (by omega) (by decide) dX0_keep_70 ?_
            refine j_asv (y := .null) (by unfold adP; rw [if_pos (by omega), hb]; rfl) ?_
            refine j_ifnonnullN C dX0_keep_71 ?_
            refine j_aload_n C dX0_keep_74 rfl 2 rfl ?_
            refine j_get (w := w8) C in_X0 (ci := 0) (T := TX0) rfl (hA8.d0 hv8) 6 (by decide) q256 (fun _ z => z) (v := .ref (x + 21)) rfl dX0_keep_75 ?_
            refine j_aload_n C dX0_keep_78 rfl 2 rfl ?_
            refine j_get (w := w8) C in_X0 (ci := 0) (T := TX0) rfl (hA8.d0 hv8) 7 (by decide) q257 (fun _ z => z) (v := .int (nI ((kpR V).1 2))) rfl dX0_keep_79 ?_
            refine j_new (w := w8) C w8.2 (fs := [.int (nI 0), .int (nI 0), .int (nI 0), .int (nI 0), .int (nI 0), .null, .null, .int (nI 0), .null, .null, .int (nI 0)]) (ty := tyX2) in_X2 tyX2_ok (ci := 2) (T := TX2) rfl q132 q133 q68 (by decide) (by omega) (by omega) dX0_keep_82 ?_
            refine j_dup C dX0_keep_85 rfl ?_
            refine j_callIN (w := ((mu w8.1 w8.2 w8.2 (.inr (2, [.int (nI 0), .int (nI 0), .int (nI 0), .int (nI 0), .int (nI 0), .null, .null, .int (nI 0), .null, .null, .int (nI 0)]))), w8.2 + 1)) C (kX2_init G ((mu w8.1 w8.2 w8.2 (.inr (2, [.int (nI 0), .int (nI 0), .int (nI 0), .int (nI 0), .int (nI 0), .null, .null, .int (nI 0), .null, .null, .int (nI 0)]))), w8.2 + 1) hG w8.2 mu_s rfl (hA8.wf.new)) pV.ret 0 (C.nw hG q134 rfl) q135 q68 q136 rfl (by decide +kernel) rfl (by decide) (by decide) (Nat.le_of_ble_eq_true rfl) rfl dX0_keep_86 (by omega) (by omega) (pV.k (fun w9 hp9 => ?_))
            obtain ⟨hA10, hn10, hO10⟩ := hA8.newT hp9
            have hT10 := hp9.1
            refine j_aast (w := w9) C 5 (r := (RX2, TX2, 11)) hA10.c21 rfl hT10.1 (ci := 2) rfl ((kpR V).1 2) rfl (by omega) (by decide) dX0_keep_89 ?_
            refine j_abs (P := fun w' => FA G w0 w' x O (wT (wA W8 (2 + ((kpR V).1 2)) (some w8.2)) (2 + ((kpR V).1 2)) (fun _ => 0))) (hA10.addT (Or.inl ⟨rfl, rfl, rfl⟩) rfl (by omega) hb hT10 hn10 hO10 (fun z => by omega) _ (Or.inl rfl) (fun z => by omega)) (fun w11 hA11 => ?_)
            have hv11 : VW (wT (wA W8 (2 + ((kpR V).1 2)) (some w8.2)) (2 + ((kpR V).1 2)) (fun _ => 0)) (kpR V) Z := hv8.addP (by omega) (by omega)
            have hb11 : (wT (wA W8 (2 + ((kpR V).1 2)) (some w8.2)) (2 + ((kpR V).1 2)) (fun _ => 0)).2.2.1 (2 + ((kpR V).1 2)) = some w8.2 := wAT_s
            refine j_aload_n C dX0_keep_90 rfl 2 rfl ?_
            refine j_get (w := w11) C in_X0 (ci := 0) (T := TX0) rfl (hA11.d0 hv11) 6 (by decide) q256 (fun _ z => z) (v := .ref (x + 21)) rfl dX0_keep_91 ?_
            refine j_aload_n C dX0_keep_94 rfl 2 rfl ?_
            refine j_get (w := w11) C in_X0 (ci := 0) (T := TX0) rfl (hA11.d0 hv11) 7 (by decide) q257 (fun _ z => z) (v := .int (nI ((kpR V).1 2))) rfl dX0_keep_95 ?_
            refine j_aald (w := w11) C 5 hA11.c21 rfl ((kpR V).1 2) rfl (by omega) (by decide) dX0_keep_98 ?_
            refine j_asv (y := .ref w8.2) (by unfold adP; rw [if_pos (by omega), hb11]; rfl) ?_
            refine j_aload_n C dX0_keep_99 rfl 2 rfl ?_
            refine j_get (w := w11) C in_X0 (ci := 0) (T := TX0) rfl (hA11.d0 hv11) 4 (by decide) q251 (fun _ z => z) (v := .ref (x + 11)) rfl dX0_keep_100 ?_
            refine j_callV (w := w11) C (kX2_become G w11 hG w8.2 (x + 11) _ _ (hA11.tn (by omega) hb11) (hA11.s0 (V := kpR V) hv11) (fun z => by have := hA11.inj (i := 0) (j := 2 + ((kpR V).1 2)) (by omega) (by omega) hA11.a0 (by rw [z]; exact hb11); omega) hA11.wf) pV.ret (ci := 2) (T := TX2) (hA11.tn (by omega) hb11).1 rfl 1 q839 q840 q841 q68 q842 (by decide +kernel) rfl (by decide) (by decide) (Nat.le_of_ble_eq_true rfl) rfl dX0_keep_103 (by omega) (by omega) (pV.k (fun w12 hp12 => ?_))
            have hA12 := hA11.town (by omega) hb11 hp12.1 hp12.2.1 hp12.2.2
            have hv12 : VW (wT (wT (wA W8 (2 + ((kpR V).1 2)) (some w8.2)) (2 + ((kpR V).1 2)) (fun _ => 0)) (2 + ((kpR V).1 2)) ((kpR V).2.1)) (kpR V) Z := hv11.setP (by omega) (by omega)
            have hb12 : (wT (wT (wA W8 (2 + ((kpR V).1 2)) (some w8.2)) (2 + ((kpR V).1 2)) (fun _ => 0)) (2 + ((kpR V).1 2)) ((kpR V).2.1)).2.2.1 (2 + ((kpR V).1 2)) = some w8.2 := hb11
            have ht12 : (wT (wT (wA W8 (2 + ((kpR V).1 2)) (some w8.2)) (2 + ((kpR V).1 2)) (fun _ => 0)) (2 + ((kpR V).1 2)) ((kpR V).2.1)).2.1 (2 + ((kpR V).1 2)) = (kpR V).2.1 := wT_s
            refine j_aload_n C dX0_keep_106 rfl 2 rfl ?_
            refine j_dup C dX0_keep_107 rfl ?_
            refine j_get (w := w12) C in_X0 (ci := 0) (T := TX0) rfl (hA12.d0 hv12) 7 (by decide) q257 (fun _ z => z) (v := .int (nI ((kpR V).1 2))) rfl dX0_keep_108 ?_
            refine j_iconst (v := nI 1) C dX0_keep_111 rfl ?_
            refine j_iaddN C dX0_keep_112 ?_
            refine j_put (w := w12) C (ty0 := tyX0) in_X0 tyX0_ok nmX0 (ci := 0) (T := TX0) rfl (hA12.d0 hv12) 7 (by decide) q257 (fun _ z => z) rfl rfl rfl (fs' := [.ref (x + 1), .ref (x + 10), .int (nI ((kpR V).1 0)), .int (nI ((kpR V).1 1)), .ref (x + 11), .ref (x + 16), .ref (x + 21), .int (nI (((kpR V).1 2) + 1)), .ref (x + 22), .ref ((wT (wT (wA W8 (2 + ((kpR V).1 2)) (some w8.2)) (2 + ((kpR V).1 2)) (fun _ => 0)) (2 + ((kpR V).1 2)) ((kpR V).2.1)).1 5), .int (nI ((kpR V).1 3)), .ref (x + 25), .ref (x + 26), .ref (x + 27)]) (Nat.le_of_ble_eq_true rfl) rfl dX0_keep_113 ?_
            refine j_abs (P := fun w' => FX G w0 w' x O (kpA (kpR V)) Z) (FX.kept hA12 hv12 (by omega) hb12 ht12) (fun w13 h13 => ?_)
            obtain ⟨W13, hA13, hv13⟩ := h13
            exact j_vret C (by omega) (by omega) (pV.mk (by unfold kpV; rw [if_pos (by omega)]; exact ⟨W13, hA13, hv13⟩)) dX0_keep_116
          | some b =>
            refine j_aald (w := w8) C 5 hA8.c21 rfl ((kpR V).1 2) rfl (by omega) (by decide) dX0_keep_70 ?_
            refine j_asv (y := .ref b) (by unfold adP; rw [if_pos (by omega), hb]; rfl) ?_
            refine j_ifnonnull C 90 dX0_keep_71 (by decide) ?_
            refine j_aload_n C dX0_keep_90 rfl 2 rfl ?_
            refine j_get (w := w8) C in_X0 (ci := 0) (T := TX0) rfl (hA8.d0 hv8) 6 (by decide) q256 (fun _ z => z) (v := .ref (x + 21)) rfl dX0_keep_91 ?_
            refine j_aload_n C dX0_keep_94 rfl 2 rfl ?_
            refine j_get (w := w8) C in_X0 (ci := 0) (T := TX0) rfl (hA8.d0 hv8) 7 (by decide) q257 (fun _ z => z) (v := .int (nI ((kpR V).1 2))) rfl dX0_keep_95 ?_
            refine j_aald (w := w8) C 5 hA8.c21 rfl ((kpR V).1 2) rfl (by omega) (by decide) dX0_keep_98 ?_
            refine j_asv (y := .ref b) (by unfold adP; rw [if_pos (by omega), hb]; rfl) ?_
            refine j_aload_n C dX0_keep_99 rfl 2 rfl ?_
            refine j_get (w := w8) C in_X0 (ci := 0) (T := TX0) rfl (hA8.d0 hv8) 4 (by decide) q251 (fun _ z => z) (v := .ref (x + 11)) rfl dX0_keep_100 ?_
            refine j_callV (w := w8) C (kX2_become G w8 hG b (x + 11) _ _ (hA8.tn (by omega) hb) (hA8.s0 (V := kpR V) hv8) (fun z => by have := hA8.inj (i := 0) (j := 2 + ((kpR V).1 2)) (by omega) (by omega) hA8.a0 (by rw [z]; exact hb); omega) hA8.wf) pV.ret (ci := 2) (T := TX2) (hA8.tn (by omega) hb).1 rfl 1 q839 q840 q841 q68 q842 (by decide +kernel) rfl (by decide) (by decide) (Nat.le_of_ble_eq_true rfl) rfl dX0_keep_103 (by omega) (by omega) (pV.k (fun w14 hp14 => ?_))
            have hA14 := hA8.town (by omega) hb hp14.1 hp14.2.1 hp14.2.2
            have hv14 : VW (wT W8 (2 + ((kpR V).1 2)) ((kpR V).2.1)) (kpR V) Z := hv8.setP (by omega) (by omega)
            have hb14 : (wT W8 (2 + ((kpR V).1 2)) ((kpR V).2.1)).2.2.1 (2 + ((kpR V).1 2)) = some b := hb
            have ht14 : (wT W8 (2 + ((kpR V).1 2)) ((kpR V).2.1)).2.1 (2 + ((kpR V).1 2)) = (kpR V).2.1 := wT_s
            refine j_aload_n C dX0_keep_106 rfl 2 rfl ?_
            refine j_dup C dX0_keep_107 rfl ?_
            refine j_get (w := w14) C in_X0 (ci := 0) (T := TX0) rfl (hA14.d0 hv14) 7 (by decide) q257 (fun _ z => z) (v := .int (nI ((kpR V).1 2))) rfl dX0_keep_108 ?_
            refine j_iconst (v := nI 1) C dX0_keep_111 rfl ?_
            refine j_iaddN C dX0_keep_112 ?_
            refine j_put (w := w14) C (ty0 := tyX0) in_X0 tyX0_ok nmX0 (ci := 0) (T := TX0) rfl (hA14.d0 hv14) 7 (by decide) q257 (fun _ z => z) rfl rfl rfl (fs' := [.ref (x + 1), .ref (x + 10), .int (nI ((kpR V).1 0)), .int (nI ((kpR V).1 1)), .ref (x + 11), .ref (x + 16), .ref (x + 21), .int (nI (((kpR V).1 2) + 1)), .ref (x + 22), .ref ((wT W8 (2 + ((kpR V).1 2)) ((kpR V).2.1)).1 5), .int (nI ((kpR V).1 3)), .ref (x + 25), .ref (x + 26), .ref (x + 27)]) (Nat.le_of_ble_eq_true rfl) rfl dX0_keep_113 ?_
            refine j_abs (P := fun w' => FX G w0 w' x O (kpA (kpR V)) Z) (FX.kept hA14 hv14 (by omega) hb14 ht14) (fun w15 h15 => ?_)
            obtain ⟨W15, hA15, hv15⟩ := h15
            exact j_vret C (by omega) (by omega) (pV.mk (by unfold kpV; rw [if_pos (by omega)]; exact ⟨W15, hA15, hv15⟩)) dX0_keep_116
        · refine j_aload_n C dX0_keep_24 rfl 2 rfl ?_
          refine j_get (w := ((mu w.1 (x + 21) x (aq (gl_A G 5) 24 (rotG (adP W 2 24) i))), w.2)) C in_X0 (ci := 0) (T := TX0) rfl ((mu_n (by omega)).trans (hA.d0 hv)) 6 (by decide) q256 (fun _ z => z) (v := .ref (x + 21)) rfl dX0_keep_25 ?_
          refine j_iload_n C dX0_keep_28 rfl 0 rfl ?_
          refine j_iconst (v := nI 1) C dX0_keep_29 rfl ?_
          refine j_isubN C dX0_keep_30 (by omega) ?_
          refine j_aload_n C dX0_keep_31 rfl 2 rfl ?_
          refine j_get (w := ((mu w.1 (x + 21) x (aq (gl_A G 5) 24 (rotG (adP W 2 24) i))), w.2)) C in_X0 (ci := 0) (T := TX0) rfl ((mu_n (by omega)).trans (hA.d0 hv)) 6 (by decide) q256 (fun _ z => z) (v := .ref (x + 21)) rfl dX0_keep_32 ?_
          refine j_iload_n C dX0_keep_35 rfl 0 rfl ?_
          obtain ⟨bi, hbi0⟩ := hall i (by omega)
          have hbi : adP W 2 24 i = some bi := by unfold adP; rw [if_pos (by omega)]; exact hbi0
          refine j_aald (w := ((mu w.1 (x + 21) x (aq (gl_A G 5) 24 (rotG (adP W 2 24) i))), w.2)) C 5 mu_s rfl (i) rfl (by omega) (by decide) dX0_keep_36 ?_
          refine j_asv (y := .ref bi) (by unfold rotG; rw [if_neg (by omega), hbi]; rfl) ?_
          refine j_aast (w := ((mu w.1 (x + 21) x (aq (gl_A G 5) 24 (rotG (adP W 2 24) i))), w.2)) C 5 (r := (RX2, TX2, 11)) mu_s rfl ((mu_n (fun z => by have h0 := (hA.tn (by omega) hbi0).1; rw [z, hA.c21] at h0; cases h0)).trans (hA.tn (by omega) hbi0).1) (ci := 2) rfl (i - 1) rfl (by omega) (by decide) dX0_keep_37 ?_
          refine J.eq (w' := ((mu w.1 (x + 21) x (aq (gl_A G 5) 24 (va_up (rotG (adP W 2 24) i) (i - 1) (some bi)))), w.2)) ?_ (congrArg (fun z => (z, w.2)) mu_mu) rfl rfl
          refine j_iincN (lv' := [(2, .int (nI (i + 1))), (1, .ref b0), (0, .ref x)]) C dX0_keep_38 0 rfl (by decide) rfl ?_
          refine j_goto C 18 dX0_keep_41 (by decide) ?_
          refine j_lv [0, 1, 2] (lv' := [(2, .int (nI (i + 1))), (1, .ref b0), (0, .ref x)]) rfl ?_
          refine J.eq (w' := ((mu w.1 (x + 21) x (aq (gl_A G 5) 24 (rotG (adP W 2 24) (i + 1)))), w.2)) ?_ (by (rw [rotG_s _ (by omega) hbi])) rfl rfl
          exact ih_lp (i + 1) (by omega) (by omega) (by omega)
    refine j_lv [0, 1, 2] (lv' := [(2, .int (nI 1)), (1, .ref b0), (0, .ref x)]) rfl ?_
    refine J.eq (w' := ((mu w.1 (x + 21) x (aq (gl_A G 5) 24 (rotG (adP W 2 24) 1))), w.2)) ?_ (by exact Prod.ext (by rw [rotG_1]; exact (mu_self hA.c21).symm) rfl) rfl rfl
    exact lp (24 + 1 - 1) (1) (by omega) (by omega) (by omega)
