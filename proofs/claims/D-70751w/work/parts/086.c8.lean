/-! ===== the class: trails, shelves, plain words ===== -/
set_option maxRecDepth 100000
section FNS
variable {G : gl_T} {w0 w w' : wd_T} {x : Nat} {O : Nat → Prop} {W : cw_T} {V : fv_T} {Z : fz_T}
theorem FA.tv (h : FA G w0 w x O W) (v : VW W V Z) : w.1 (W.1 5) = some (W.1 5, .inr (3, [.ref (W.1 5 + 1), .int (nI (V.1 4))])) := by
  rw [← v.n 4 (by omega)]
  exact h.tr.1
theorem FA.t16 (h : FA G w0 w x O W) (v : VW W V Z) : V.1 4 ≤ 16 := by
  rw [← v.n 4 (by omega)]
  exact h.tr.2.2
theorem FA.shN (h : FA G w0 w x O W) {k : Nat} (hk : k < 8) (e : W.2.2.1 (40 + k) = none) : w.1 (x + 2 + k) = some (x, .inr (1, [.null])) := by
  have := h.sh k hk
  rw [e] at this
  exact this
theorem FA.shS (h : FA G w0 w x O W) {k b : Nat} (hk : k < 8) (e : W.2.2.1 (40 + k) = some b) : w.1 (x + 2 + k) = some (x, .inr (1, [.ref b])) := by
  have := h.sh k hk
  rw [e] at this
  exact this
theorem upd_cg {f g : Nat → Int32} {k n : Nat} {v : Int32} (h : ∀ i, i < n → f i = g i) : ∀ i, i < n → upd f k v i = upd g k v i := by
  intro i hi
  unfold upd
  by_cases z : i = k
  · rw [if_pos z, if_pos z]
  · rw [if_neg z, if_neg z, h i hi]
end FNS
/-! ===== the class: images, counts, trace, feed ===== -/
set_option maxRecDepth 100000
theorem inB_pt2 {j : Nat} (h : j ≤ 1) : inB (nI j) (nI 0) (nI 1) = true := by
  rcases (show j = 0 ∨ j = 1 by omega) with rfl | rfl <;> decide
set_option maxHeartbeats 400000 in
theorem kX0_image (G : gl_T) (hG : GH G) (w0 w : wd_T) (x : Nat) (O : Nat → Prop) (V : fv_T) (Z : fz_T) (hF : FX G w0 w x O V Z) (y : Int32) (ht : smT V.2.1) (P : Int32 → fv_T → Prop) (h1 : inB y (nI 0) (nI 1) = false → P kBAD V) (h2 : inB y (nI 0) (nI 1) = true → V.2.1 0 = 0 → P kSTATE V) (h3 : ∀ j, y = nI j → j ≤ 1 → 0 < V.2.1 0 → P (nI 1) (vI V j V.2.1)) : Mt G yX0_image cX0_image 2 (some .int) 6 [.ref x, .int y] w (fC G w0 x O P) 6 46 := by
  refine Mt.start (by decide) (Nat.le_of_ble_eq_true rfl) (fun k C => ?_)
  have C : Cx G k cX0_image "MoodFare" "image" 2 (some .int) 6 6 46 _ := C
  obtain ⟨W, hA, hv⟩ := id hF
  obtain ⟨r0, r1, r2, r3, r4, r5, r6, r7, r25, r26⟩ := id ht
  refine j_iload_n C dX0_image_0 rfl 1 rfl ?_
  refine j_i2l C dX0_image_1 ?_
  refine j_lconst (v := (nI 0).toInt64) C dX0_image_2 (by decide +kernel) ?_
  refine j_lconst (v := (nI 1).toInt64) C dX0_image_3 (by decide +kernel) ?_
  refine j_callS (w := w) C (kX0_isIn G w y ((nI 0)) ((nI 1))) pI.ret 3 q387 q388 q66 q389 (by decide +kernel) rfl (by decide) (by decide) (Nat.le_of_ble_eq_true rfl) rfl dX0_image_4 (by omega) (by omega) (qI.k ?_)
  refine j_if_neB C 13 dX0_image_7 (by decide) (fun c7 => ?_) (fun c7 => ?_)
  · obtain ⟨j, rfl, hjl, hj⟩ := inB_n (by decide) c7 (by decide)
    refine j_aload_n C dX0_image_13 rfl 0 rfl ?_
    refine j_callV (w := w) C (kX0_isThere G hG w0 w x O V Z ⟨W, hA, hv⟩ ht) pI.ret (ci := 0) (T := TX0) (hA.d0 hv) rfl 0 q966 q968 qs21 q66 q969 (by decide +kernel) rfl (by decide) (by decide) (Nat.le_of_ble_eq_true rfl) rfl dX0_image_14 (by omega) (by omega) (qI.k ?_)
    refine j_if_neB C 23 dX0_image_17 (by decide) (fun c17 => ?_) (fun c17 => ?_)
    · refine j_aload_n C dX0_image_23 rfl 0 rfl ?_
      refine j_get (w := w) C in_X0 (ci := 0) (T := TX0) rfl (hA.d0 hv) 8 (by decide) q258 (fun _ z => z) (v := .ref (x + 22)) rfl dX0_image_24 ?_
      refine j_iload_n C dX0_image_27 rfl 1 rfl ?_
      refine j_aald (w := w) C 5 hA.c22 rfl (j) rfl (by omega) (by decide) dX0_image_28 ?_
      cases hb : W.2.2.1 (26 + j) with
      | none =>
        refine j_asv (y := .null) (by unfold adP; rw [if_pos (by omega), hb]; rfl) ?_
        refine j_ifnonnullN C dX0_image_29 ?_
        refine j_aload_n C dX0_image_32 rfl 0 rfl ?_
        refine j_get (w := w) C in_X0 (ci := 0) (T := TX0) rfl (hA.d0 hv) 8 (by decide) q258 (fun _ z => z) (v := .ref (x + 22)) rfl dX0_image_33 ?_
        refine j_iload_n C dX0_image_36 rfl 1 rfl ?_
        refine j_new (w := w) C w.2 (fs := [.int (nI 0), .int (nI 0), .int (nI 0), .int (nI 0), .int (nI 0), .null, .null, .int (nI 0), .null, .null, .int (nI 0)]) (ty := tyX2) in_X2 tyX2_ok (ci := 2) (T := TX2) rfl q132 q133 q68 (by decide) (by omega) (by omega) dX0_image_37 ?_
        refine j_dup C dX0_image_40 rfl ?_
        refine j_callIN (w := ((mu w.1 w.2 w.2 (.inr (2, [.int (nI 0), .int (nI 0), .int (nI 0), .int (nI 0), .int (nI 0), .null, .null, .int (nI 0), .null, .null, .int (nI 0)]))), w.2 + 1)) C (kX2_init G ((mu w.1 w.2 w.2 (.inr (2, [.int (nI 0), .int (nI 0), .int (nI 0), .int (nI 0), .int (nI 0), .null, .null, .int (nI 0), .null, .null, .int (nI 0)]))), w.2 + 1) hG w.2 mu_s rfl (hA.wf.new)) pV.ret 0 (C.nw hG q134 rfl) q135 q68 q136 rfl (by decide +kernel) rfl (by decide) (by decide) (Nat.le_of_ble_eq_true rfl) rfl dX0_image_41 (by omega) (by omega) (pV.k (fun w1 hp1 => ?_))
        obtain ⟨hA2, hn2, hO2⟩ := hA.newT hp1
        have hT2 := hp1.1
        refine j_aast (w := w1) C 5 (r := (RX2, TX2, 11)) hA2.c22 rfl hT2.1 (ci := 2) rfl (j) rfl (by omega) (by decide) dX0_image_44 ?_
        refine j_abs (P := fun w' => FA G w0 w' x O (wT (wA W (26 + j) (some w.2)) (26 + j) (fun _ => 0))) (hA2.addT (Or.inr (Or.inl ⟨rfl, rfl, rfl⟩)) rfl (by omega) hb hT2 hn2 hO2 (fun z => by omega) _ (Or.inl rfl) (fun z => by omega)) (fun w3 hA3 => ?_)
        have hv3 : VW (wT (wA W (26 + j) (some w.2)) (26 + j) (fun _ => 0)) (vI V j (fun _ => 0)) Z := hv.addI (by omega) hA2.past.2
        have hb3 : (wT (wA W (26 + j) (some w.2)) (26 + j) (fun _ => 0)).2.2.1 (26 + j) = some w.2 := wAT_s
        refine j_aload_n C dX0_image_45 rfl 0 rfl ?_
        refine j_get (w := w3) C in_X0 (ci := 0) (T := TX0) rfl (hA3.d0 hv3) 8 (by decide) q258 (fun _ z => z) (v := .ref (x + 22)) rfl dX0_image_46 ?_
        refine j_iload_n C dX0_image_49 rfl 1 rfl ?_
        refine j_aald (w := w3) C 5 hA3.c22 rfl (j) rfl (by omega) (by decide) dX0_image_50 ?_
        refine j_asv (y := .ref w.2) (by unfold adP; rw [if_pos (by omega), hb3]; rfl) ?_
        refine j_aload_n C dX0_image_51 rfl 0 rfl ?_
        refine j_get (w := w3) C in_X0 (ci := 0) (T := TX0) rfl (hA3.d0 hv3) 4 (by decide) q251 (fun _ z => z) (v := .ref (x + 11)) rfl dX0_image_52 ?_
        refine j_callV (w := w3) C (kX2_become G w3 hG w.2 (x + 11) _ _ (hA3.tn (by omega) hb3) (hA3.s0 (V := vI V j (fun _ => 0)) hv3) (fun z => by have := hA3.inj (i := 0) (j := 26 + j) (by omega) (by omega) hA3.a0 (by rw [z]; exact hb3); omega) hA3.wf) pV.ret (ci := 2) (T := TX2) (hA3.tn (by omega) hb3).1 rfl 1 q839 q840 q841 q68 q842 (by decide +kernel) rfl (by decide) (by decide) (Nat.le_of_ble_eq_true rfl) rfl dX0_image_55 (by omega) (by omega) (pV.k (fun w4 hp4 => ?_))
        have h4 : FX G w0 w4 x O (vI V j V.2.1) Z := by
          have q := FX.img hA3 hv3 (by omega) hb3 hp4.1 hp4.2.1 hp4.2.2
          rw [vI_vI] at q
          exact q
        obtain ⟨W4, hA4, hv4⟩ := h4
        refine j_iconst (v := nI 1) C dX0_image_58 rfl ?_
        exact j_iret C (by omega) (by omega) (fC.mk ⟨W4, hA4, hv4⟩ (h3 j rfl hj (of_decide_eq_true c17))) dX0_image_59
      | some b =>
        refine j_asv (y := .ref b) (by unfold adP; rw [if_pos (by omega), hb]; rfl) ?_
        refine j_ifnonnull C 45 dX0_image_29 (by decide) ?_
        refine j_aload_n C dX0_image_45 rfl 0 rfl ?_
        refine j_get (w := w) C in_X0 (ci := 0) (T := TX0) rfl (hA.d0 hv) 8 (by decide) q258 (fun _ z => z) (v := .ref (x + 22)) rfl dX0_image_46 ?_
        refine j_iload_n C dX0_image_49 rfl 1 rfl ?_
        refine j_aald (w := w) C 5 hA.c22 rfl (j) rfl (by omega) (by decide) dX0_image_50 ?_
        refine j_asv (y := .ref b) (by unfold adP; rw [if_pos (by omega), hb]; rfl) ?_
        refine j_aload_n C dX0_image_51 rfl 0 rfl ?_
        refine j_get (w := w) C in_X0 (ci := 0) (T := TX0) rfl (hA.d0 hv) 4 (by decide) q251 (fun _ z => z) (v := .ref (x + 11)) rfl dX0_image_52 ?_
        refine j_callV (w := w) C (kX2_become G w hG b (x + 11) _ _ (hA.tn (by omega) hb) (hA.s0 (V := V) hv) (fun z => by have := hA.inj (i := 0) (j := 26 + j) (by omega) (by omega) hA.a0 (by rw [z]; exact hb); omega) hA.wf) pV.ret (ci := 2) (T := TX2) (hA.tn (by omega) hb).1 rfl 1 q839 q840 q841 q68 q842 (by decide +kernel) rfl (by decide) (by decide) (Nat.le_of_ble_eq_true rfl) rfl dX0_image_55 (by omega) (by omega) (pV.k (fun w5 hp5 => ?_))
        have h5 : FX G w0 w5 x O (vI V j V.2.1) Z := by
          have q := FX.img hA hv (by omega) hb hp5.1 hp5.2.1 hp5.2.2
          exact q
        obtain ⟨W5, hA5, hv5⟩ := h5
        refine j_iconst (v := nI 1) C dX0_image_58 rfl ?_
        exact j_iret C (by omega) (by omega) (fC.mk ⟨W5, hA5, hv5⟩ (h3 j rfl hj (of_decide_eq_true c17))) dX0_image_59
    · refine j_ldc C q899 dX0_image_20 ?_
      exact j_iret C (by omega) (by omega) (fC.mk ⟨W, hA, hv⟩ (h2 (inB_pt2 (by omega)) (by have := of_decide_eq_false c17; omega))) dX0_image_22
  · refine j_ldc C q391 dX0_image_10 ?_
    exact j_iret C (by omega) (by omega) (fC.mk ⟨W, hA, hv⟩ (h1 c7)) dX0_image_12
set_option maxHeartbeats 400000 in
theorem kX0_restore (G : gl_T) (hG : GH G) (w0 w : wd_T) (x : Nat) (O : Nat → Prop) (V : fv_T) (Z : fz_T) (hF : FX G w0 w x O V Z) (y : Int32) (P : Int32 → fv_T → Prop) (h1 : inB y (nI 0) (nI 1) = false → P kBAD V) (h2 : ∀ j, y = nI j → j ≤ 1 → V.2.2.2.1 j = none → P kSTATE V) (h3 : ∀ j t, y = nI j → j ≤ 1 → V.2.2.2.1 j = some t → P (nI 1) (vN (vT V t) 2 0)) : Mt G yX0_restore cX0_restore 2 (some .int) 6 [.ref x, .int y] w (fC G w0 x O P) 1 10 := by
  refine Mt.start (by decide) (Nat.le_of_ble_eq_true rfl) (fun k C => ?_)
  have C : Cx G k cX0_restore "MoodFare" "restore" 2 (some .int) 6 1 10 _ := C
  obtain ⟨W, hA, hv⟩ := id hF
  refine j_iload_n C dX0_restore_0 rfl 1 rfl ?_
  refine j_i2l C dX0_restore_1 ?_
  refine j_lconst (v := (nI 0).toInt64) C dX0_restore_2 (by decide +kernel) ?_
  refine j_lconst (v := (nI 1).toInt64) C dX0_restore_3 (by decide +kernel) ?_
  refine j_callS (w := w) C (kX0_isIn G w y ((nI 0)) ((nI 1))) pI.ret 3 q387 q388 q66 q389 (by decide +kernel) rfl (by decide) (by decide) (Nat.le_of_ble_eq_true rfl) rfl dX0_restore_4 (by omega) (by omega) (qI.k ?_)
  refine j_if_neB C 13 dX0_restore_7 (by decide) (fun c7 => ?_) (fun c7 => ?_)
  · obtain ⟨j, rfl, hjl, hj⟩ := inB_n (by decide) c7 (by decide)
    refine j_aload_n C dX0_restore_13 rfl 0 rfl ?_
    refine j_get (w := w) C in_X0 (ci := 0) (T := TX0) rfl (hA.d0 hv) 8 (by decide) q258 (fun _ z => z) (v := .ref (x + 22)) rfl dX0_restore_14 ?_
    refine j_iload_n C dX0_restore_17 rfl 1 rfl ?_
    refine j_aald (w := w) C 5 hA.c22 rfl (j) rfl (by omega) (by decide) dX0_restore_18 ?_
    cases hb : W.2.2.1 (26 + j) with
    | none =>
      refine j_asv (y := .null) (by unfold adP; rw [if_pos (by omega), hb]; rfl) ?_
      refine j_ifnonnullN C dX0_restore_19 ?_
      refine j_ldc C q899 dX0_restore_22 ?_
      exact j_iret C (by omega) (by omega) (fC.mk ⟨W, hA, hv⟩ (h2 j rfl hj (by rcases hv.i j (by omega) with q | q; exact q.2; rw [hb] at q; obtain ⟨c, hc⟩ := q.1; cases hc))) dX0_restore_24
    | some b =>
      refine j_asv (y := .ref b) (by unfold adP; rw [if_pos (by omega), hb]; rfl) ?_
      refine j_ifnonnull C 25 dX0_restore_19 (by decide) ?_
      refine j_aload_n C dX0_restore_25 rfl 0 rfl ?_
      refine j_get (w := w) C in_X0 (ci := 0) (T := TX0) rfl (hA.d0 hv) 4 (by decide) q251 (fun _ z => z) (v := .ref (x + 11)) rfl dX0_restore_26 ?_
      refine j_aload_n C dX0_restore_29 rfl 0 rfl ?_
      refine j_get (w := w) C in_X0 (ci := 0) (T := TX0) rfl (hA.d0 hv) 8 (by decide) q258 (fun _ z => z) (v := .ref (x + 22)) rfl dX0_restore_30 ?_
      refine j_iload_n C dX0_restore_33 rfl 1 rfl ?_
      have hi : V.2.2.2.1 j = some (W.2.1 (26 + j)) := by rcases hv.i j (by omega) with q | q; rw [hb] at q; cases q.1; exact q.2
      refine j_aald (w := w) C 5 hA.c22 rfl (j) rfl (by omega) (by decide) dX0_restore_34 ?_
      refine j_asv (y := .ref b) (by unfold adP; rw [if_pos (by omega), hb]; rfl) ?_
      refine j_callV (w := w) C (kX2_become G w hG (x + 11) b _ _ (hA.s0 (V := V) hv) (hA.tn (by omega) hb) (fun z => by have := hA.inj (i := 0) (j := 26 + j) (by omega) (by omega) hA.a0 (by rw [← z]; exact hb); omega) hA.wf) pV.ret (ci := 2) (T := TX2) (hA.s0 (V := V) hv).1 rfl 1 q839 q840 q841 q68 q842 (by decide +kernel) rfl (by decide) (by decide) (Nat.le_of_ble_eq_true rfl) rfl dX0_restore_35 (by omega) (by omega) (pV.k (fun w1 hp1 => ?_))
      have h1 : FX G w0 w1 x O (vT V (W.2.1 (26 + j))) Z := FX.t0 hA hv (hp1.1.eq rfl) hp1.2.1 hp1.2.2
      obtain ⟨W1, hA1, hv1⟩ := h1
      refine j_aload_n C dX0_restore_38 rfl 0 rfl ?_
      refine j_iconst (v := nI 0) C dX0_restore_39 rfl ?_
      refine j_put (w := w1) C (ty0 := tyX0) in_X0 tyX0_ok nmX0 (ci := 0) (T := TX0) rfl (hA1.d0 hv1) 7 (by decide) q257 (fun _ z => z) rfl rfl rfl (fs' := [.ref (x + 1), .ref (x + 10), .int (nI (V.1 0)), .int (nI (V.1 1)), .ref (x + 11), .ref (x + 16), .ref (x + 21), .int (nI 0), .ref (x + 22), .ref (W1.1 5), .int (nI (V.1 3)), .ref (x + 25), .ref (x + 26), .ref (x + 27)]) (Nat.le_of_ble_eq_true rfl) rfl dX0_restore_40 ?_
      refine j_abs (P := fun w' => FX G w0 w' x O (vN (vT V (W.2.1 (26 + j))) 2 0) Z) (FX.act hA1 hv1 0 (by omega)) (fun w2 h2 => ?_)
      obtain ⟨W2, hA2, hv2⟩ := h2
      refine j_iconst (v := nI 1) C dX0_restore_43 rfl ?_
      exact j_iret C (by omega) (by omega) (fC.mk ⟨W2, hA2, hv2⟩ (h3 j _ rfl hj hi)) dX0_restore_44
  · refine j_ldc C q391 dX0_restore_10 ?_
    exact j_iret C (by omega) (by omega) (fC.mk ⟨W, hA, hv⟩ (h1 c7)) dX0_restore_12
set_option maxHeartbeats 400000 in
theorem kX0_trace (G : gl_T) (hG : GH G) (w0 w : wd_T) (x : Nat) (O : Nat → Prop) (V : fv_T) (Z : fz_T) (hF : FX G w0 w x O V Z) (y : Int32) (P : Int32 → fv_T → Prop) (h1 : inB y (nI 0) (nI (V.1 4) - nI 1) = false → P kNONE V) (h2 : ∀ j, y = nI j → j < V.1 4 → P (nI (V.2.2.2.2.2.2 j)) V) : Mt G yX0_trace cX0_trace 2 (some .int) 1 [.ref x, .int y] w (fC G w0 x O P) 0 0 := by
  refine Mt.start (by decide) (Nat.le_of_ble_eq_true rfl) (fun k C => ?_)
  have C : Cx G k cX0_trace "MoodFare" "trace" 2 (some .int) 1 0 0 _ := C
  obtain ⟨W, hA, hv⟩ := id hF
  have h16 := hA.t16 hv
  refine j_iload_n C dX0_trace_0 rfl 1 rfl ?_
  refine j_i2l C dX0_trace_1 ?_
  refine j_lconst (v := (nI 0).toInt64) C dX0_trace_2 (by decide +kernel) ?_
  refine j_aload_n C dX0_trace_3 rfl 0 rfl ?_
  refine j_get (w := w) C in_X0 (ci := 0) (T := TX0) rfl (hA.d0 hv) 9 (by decide) q259 (fun _ z => z) (v := .ref (W.1 5)) rfl dX0_trace_4 ?_
  refine j_getN (w := w) C in_X3 (ci := 3) (T := TX3) rfl (hA.tv hv) 1 (by decide) (C.nw hG q239 rfl) (fun _ z => z) (v := .int (nI (V.1 4))) rfl dX0_trace_7 ?_
  refine j_iconst (v := nI 1) C dX0_trace_10 rfl ?_
  refine j_isub C dX0_trace_11 ?_
  refine j_i2l C dX0_trace_12 ?_
  refine j_callS (w := w) C (kX0_isIn G w y ((nI 0)) ((nI (V.1 4) - nI 1))) pI.ret 3 q387 q388 q66 q389 (by decide +kernel) rfl (by decide) (by decide) (Nat.le_of_ble_eq_true rfl) rfl dX0_trace_13 (by omega) (by omega) (qI.k ?_)
  refine j_if_eqB C 31 dX0_trace_16 (by decide) (fun c16 => ?_) (fun c16 => ?_)
  · refine j_ldc C q1003 dX0_trace_31 ?_
    exact j_iret C (by omega) (by omega) (fC.mk ⟨W, hA, hv⟩ (h1 c16)) dX0_trace_33
  · obtain ⟨j, rfl, hj⟩ := inB_p (by omega) c16
    refine j_aload_n C dX0_trace_19 rfl 0 rfl ?_
    refine j_get (w := w) C in_X0 (ci := 0) (T := TX0) rfl (hA.d0 hv) 9 (by decide) q259 (fun _ z => z) (v := .ref (W.1 5)) rfl dX0_trace_20 ?_
    refine j_getN (w := w) C in_X3 (ci := 3) (T := TX3) rfl (hA.tv hv) 0 (by decide) (C.nw hG q237 rfl) (fun _ z => z) (v := .ref (W.1 5 + 1)) rfl dX0_trace_23 ?_
    refine j_iload_n C dX0_trace_26 rfl 1 rfl ?_
    refine j_ialdN (w := w) C hA.tr.2.1 (j) rfl (by omega) (by decide) dX0_trace_27 ?_
    refine j_as (y := nI (V.2.2.2.2.2.2 j)) (hv.b j (by omega)) ?_
    refine j_goto C 33 dX0_trace_28 (by decide) ?_
    exact j_iret C (by omega) (by omega) (fC.mk ⟨W, hA, hv⟩ (h2 j rfl hj)) dX0_trace_33
set_option maxHeartbeats 400000 in
theorem kX0_count (G : gl_T) (hG : GH G) (w0 w : wd_T) (x : Nat) (O : Nat → Prop) (V : fv_T) (Z : fz_T) (hF : FX G w0 w x O V Z) (y : Int32) (P : Int32 → fv_T → Prop) (h1 : inB y (nI 0) (nI 9) = false → P kBAD V) (g0 : y = nI 0 → P (nI (cntR V.2.2.2.2.1 8)) V) (g1 : y = nI 1 → P (nI (V.2.1 6)) V) (g2 : y = nI 2 → P (nI (V.2.1 25)) V) (g3 : y = nI 3 → P (nI (V.2.1 3)) V) (g4 : y = nI 4 → P (nI (V.2.1 4)) V) (g5 : y = nI 5 → P (nI (V.2.1 1)) V) (g6 : y = nI 6 → P (nI (V.1 2)) V) (g7 : y = nI 7 → P (nI (V.1 0)) V) (g8 : y = nI 8 → P (nI (V.2.1 2)) V) (g9 : y = nI 9 → P (nI (V.2.1 5)) V) : Mt G yX0_count cX0_count 4 (some .int) 2 [.ref x, .int y] w (fC G w0 x O P) 0 0 := by
  refine Mt.start (by decide) (Nat.le_of_ble_eq_true rfl) (fun k C => ?_)
  have C : Cx G k cX0_count "MoodFare" "count" 4 (some .int) 2 0 0 _ := C
  obtain ⟨W, hA, hv⟩ := id hF
  refine j_iconst (v := nI 0) C dX0_count_0 rfl ?_
  refine j_istore_n (lv' := [(2, .int (nI 0)), (0, .ref x), (1, .int y)]) C dX0_count_1 rfl (by decide) rfl ?_
  refine j_iload_n C dX0_count_2 rfl 2 rfl ?_
  cases c3 : inB y (nI 0) (nI 9)
  case' true =>
    obtain ⟨y1, hy1e, y1l, y1h⟩ := inB_n (by decide) c3 (by decide)
    rcases (show y1 = 0 ∨ y1 = 1 ∨ y1 = 2 ∨ y1 = 3 ∨ y1 = 4 ∨ y1 = 5 ∨ y1 = 6 ∨ y1 = 7 ∨ y1 = 8 ∨ y1 = 9 by omega) with rfl | rfl | rfl | rfl | rfl | rfl | rfl | rfl | rfl | rfl
    · refine j_as (y := nI 0) hy1e ?_
      refine j_tableIn (off := 53) C 56 dX0_count_3 (by decide +kernel) (by decide +kernel) (by decide +kernel) (by decide) ?_
      refine j_iconst (v := nI 0) C dX0_count_56 rfl ?_
      refine j_istore_n (lv' := [(3, .int (nI 0)), (2, .int (nI 0)), (0, .ref x), (1, .int y)]) C dX0_count_57 rfl (by decide) rfl ?_
      have lp : ∀ (n_lp i : Nat), 0 ≤ i → i ≤ 8 → 8 < i + n_lp → J G k w [(3, .int (nI i)), (2, .int (nI (cntR V.2.2.2.2.1 i))), (0, .ref x), (1, .int y)] 58 [] 0 0 := by
        intro n_lp
        induction n_lp with
        | zero => intro i h0_lp h1_lp h2_lp; omega
        | succ n_lp ih_lp =>
          intro i h0_lp h1_lp h2_lp
          refine j_iload_n C dX0_count_58 rfl 0 rfl ?_
          refine j_bipush (v := nI 8) C dX0_count_59 rfl ?_
          refine j_icmp_geN C 90 dX0_count_61 (by decide) (by omega) (by omega) (fun c61 => ?_) (fun c61 => ?_)
          · obtain rfl : 8 = i := by omega
            refine j_iload_n C dX0_count_90 rfl 1 rfl ?_
            exact j_iret C (by omega) (by omega) (fC.mk ⟨W, hA, hv⟩ (g0 hy1e)) dX0_count_91
          · refine j_iload_n C dX0_count_64 rfl 1 rfl ?_
            refine j_aload_n C dX0_count_65 rfl 2 rfl ?_
            refine j_get (w := w) C in_X0 (ci := 0) (T := TX0) rfl (hA.d0 hv) 0 (by decide) q245 (fun _ z => z) (v := .ref (x + 1)) rfl dX0_count_66 ?_
            refine j_iload_n C dX0_count_69 rfl 0 rfl ?_
            refine j_aald (w := w) C 6 hA.c1 rfl (i) rfl (by omega) (by decide) dX0_count_70 ?_
            refine j_asv (y := .ref (x + 2 + i)) rfl ?_
            rcases RW.nul hA hv (k := i) (by omega) with ⟨ha, hr⟩ | ⟨b, ha, hr⟩
            · refine j_getN (w := w) C in_X1 (ci := 1) (T := TX1) rfl (hA.shN (by omega) ha) 0 (by decide) (C.nw hG q128 rfl) (fun _ z => z) (v := .null) rfl dX0_count_71 ?_
              refine j_ifnonnullN C dX0_count_74 ?_
              refine j_iconst (v := nI 0) C dX0_count_77 rfl ?_
              refine j_goto C 82 dX0_count_78 (by decide) ?_
              refine j_iaddN C dX0_count_82 ?_
              refine j_istore_n (lv' := [(2, .int (nI ((cntR V.2.2.2.2.1 i) + 0))), (3, .int (nI i)), (0, .ref x), (1, .int y)]) C dX0_count_83 rfl (by decide) rfl ?_
              refine j_iincN (lv' := [(3, .int (nI (i + 1))), (2, .int (nI ((cntR V.2.2.2.2.1 i) + 0))), (0, .ref x), (1, .int y)]) C dX0_count_84 1 rfl (by decide) rfl ?_
              refine j_goto C 58 dX0_count_87 (by decide) ?_
              refine j_lv [0, 1, 2, 3] (lv' := [(3, .int (nI (i + 1))), (2, .int (nI ((cntR V.2.2.2.2.1 i) + 0))), (0, .ref x), (1, .int y)]) rfl ?_
              refine j_lvN (lv' := [(3, .int (nI (i + 1))), (2, .int (nI (cntR V.2.2.2.2.1 (i + 1)))), (0, .ref x), (1, .int y)]) 1 rfl (by simp [cntR, c3, c61, hr]) rfl ?_
              exact ih_lp (i + 1) (by omega) (by omega) (by omega)
            · refine j_getN (w := w) C in_X1 (ci := 1) (T := TX1) rfl (hA.shS (by omega) ha) 0 (by decide) (C.nw hG q128 rfl) (fun _ z => z) (v := .ref b) rfl dX0_count_71 ?_
              refine j_ifnonnull C 81 dX0_count_74 (by decide) ?_
              refine j_iconst (v := nI 1) C dX0_count_81 rfl ?_
              refine j_iaddN C dX0_count_82 ?_
              refine j_istore_n (lv' := [(2, .int (nI ((cntR V.2.2.2.2.1 i) + 1))), (3, .int (nI i)), (0, .ref x), (1, .int y)]) C dX0_count_83 rfl (by decide) rfl ?_
              refine j_iincN (lv' := [(3, .int (nI (i + 1))), (2, .int (nI ((cntR V.2.2.2.2.1 i) + 1))), (0, .ref x), (1, .int y)]) C dX0_count_84 1 rfl (by decide) rfl ?_
              refine j_goto C 58 dX0_count_87 (by decide) ?_
              refine j_lv [0, 1, 2, 3] (lv' := [(3, .int (nI (i + 1))), (2, .int (nI ((cntR V.2.2.2.2.1 i) + 1))), (0, .ref x), (1, .int y)]) rfl ?_
              refine j_lvN (lv' := [(3, .int (nI (i + 1))), (2, .int (nI (cntR V.2.2.2.2.1 (i + 1)))), (0, .ref x), (1, .int y)]) 1 rfl (by simp [cntR, c3, c61, hr]) rfl ?_
              exact ih_lp (i + 1) (by omega) (by omega) (by omega)
      refine j_lv [0, 1, 2, 3] (lv' := [(3, .int (nI 0)), (2, .int (nI 0)), (0, .ref x), (1, .int y)]) rfl ?_
      refine j_lvN (lv' := [(3, .int (nI 0)), (2, .int (nI (cntR V.2.2.2.2.1 0))), (0, .ref x), (1, .int y)]) 1 rfl rfl rfl ?_
      exact lp (8 + 1 - 0) (0) (by omega) (by omega) (by omega)
    · refine j_as (y := nI 1) hy1e ?_
      refine j_tableIn (off := 89) C 92 dX0_count_3 (by decide +kernel) (by decide +kernel) (by decide +kernel) (by decide) ?_
      refine j_aload_n C dX0_count_92 rfl 1 rfl ?_
      refine j_get (w := w) C in_X0 (ci := 0) (T := TX0) rfl (hA.d0 hv) 4 (by decide) q251 (fun _ z => z) (v := .ref (x + 11)) rfl dX0_count_93 ?_
      refine j_callV (w := w) C (kX2_many G w hG (x + 11) V.2.1 (hA.s0 (V := V) hv)) pI.ret (ci := 2) (T := TX2) (hA.s0 (V := V) hv).1 rfl 0 q960 q690 q691 q68 q692 (by decide +kernel) rfl (by decide) (by decide) (Nat.le_of_ble_eq_true rfl) rfl dX0_count_96 (by omega) (by omega) (qI.k ?_)
      exact j_iret C (by omega) (by omega) (fC.mk ⟨W, hA, hv⟩ (g1 hy1e)) dX0_count_99
    · refine j_as (y := nI 2) hy1e ?_
      refine j_tableIn (off := 97) C 100 dX0_count_3 (by decide +kernel) (by decide +kernel) (by decide +kernel) (by decide) ?_
      refine j_aload_n C dX0_count_100 rfl 1 rfl ?_
      refine j_get (w := w) C in_X0 (ci := 0) (T := TX0) rfl (hA.d0 hv) 4 (by decide) q251 (fun _ z => z) (v := .ref (x + 11)) rfl dX0_count_101 ?_
      refine j_get (w := w) C in_X2 (ci := 2) (T := TX2) rfl (hA.s0 (V := V) hv).1 7 (by decide) q195 (fun _ z => z) (v := .int (nI (V.2.1 25))) rfl dX0_count_104 ?_
      exact j_iret C (by omega) (by omega) (fC.mk ⟨W, hA, hv⟩ (g2 hy1e)) dX0_count_107
    · refine j_as (y := nI 3) hy1e ?_
      refine j_tableIn (off := 105) C 108 dX0_count_3 (by decide +kernel) (by decide +kernel) (by decide +kernel) (by decide) ?_
      refine j_aload_n C dX0_count_108 rfl 1 rfl ?_
      refine j_get (w := w) C in_X0 (ci := 0) (T := TX0) rfl (hA.d0 hv) 4 (by decide) q251 (fun _ z => z) (v := .ref (x + 11)) rfl dX0_count_109 ?_
      refine j_get (w := w) C in_X2 (ci := 2) (T := TX2) rfl (hA.s0 (V := V) hv).1 4 (by decide) q183 (fun _ z => z) (v := .int (nI (V.2.1 3))) rfl dX0_count_112 ?_
      exact j_iret C (by omega) (by omega) (fC.mk ⟨W, hA, hv⟩ (g3 hy1e)) dX0_count_115
    · refine j_as (y := nI 4) hy1e ?_
      refine j_tableIn (off := 113) C 116 dX0_count_3 (by decide +kernel) (by decide +kernel) (by decide +kernel) (by decide) ?_
      refine j_aload_n C dX0_count_116 rfl 1 rfl ?_
      refine j_get (w := w) C in_X0 (ci := 0) (T := TX0) rfl (hA.d0 hv) 4 (by decide) q251 (fun _ z => z) (v := .ref (x + 11)) rfl dX0_count_117 ?_
      refine j_get (w := w) C in_X2 (ci := 2) (T := TX2) rfl (hA.s0 (V := V) hv).1 2 (by decide) q179 (fun _ z => z) (v := .int (nI (V.2.1 4))) rfl dX0_count_120 ?_
      exact j_iret C (by omega) (by omega) (fC.mk ⟨W, hA, hv⟩ (g4 hy1e)) dX0_count_123
    · refine j_as (y := nI 5) hy1e ?_
      refine j_tableIn (off := 121) C 124 dX0_count_3 (by decide +kernel) (by decide +kernel) (by decide +kernel) (by decide) ?_
      refine j_aload_n C dX0_count_124 rfl 1 rfl ?_
      refine j_get (w := w) C in_X0 (ci := 0) (T := TX0) rfl (hA.d0 hv) 4 (by decide) q251 (fun _ z => z) (v := .ref (x + 11)) rfl dX0_count_125 ?_
      refine j_get (w := w) C in_X2 (ci := 2) (T := TX2) rfl (hA.s0 (V := V) hv).1 1 (by decide) q174 (fun _ z => z) (v := .int (nI (V.2.1 1))) rfl dX0_count_128 ?_
      exact j_iret C (by omega) (by omega) (fC.mk ⟨W, hA, hv⟩ (g5 hy1e)) dX0_count_131
    · refine j_as (y := nI 6) hy1e ?_
      refine j_tableIn (off := 129) C 132 dX0_count_3 (by decide +kernel) (by decide +kernel) (by decide +kernel) (by decide) ?_
      refine j_aload_n C dX0_count_132 rfl 1 rfl ?_
      refine j_get (w := w) C in_X0 (ci := 0) (T := TX0) rfl (hA.d0 hv) 7 (by decide) q257 (fun _ z => z) (v := .int (nI (V.1 2))) rfl dX0_count_133 ?_
      exact j_iret C (by omega) (by omega) (fC.mk ⟨W, hA, hv⟩ (g6 hy1e)) dX0_count_136
    · refine j_as (y := nI 7) hy1e ?_
      refine j_tableIn (off := 134) C 137 dX0_count_3 (by decide +kernel) (by decide +kernel) (by decide +kernel) (by decide) ?_
      refine j_aload_n C dX0_count_137 rfl 1 rfl ?_
      refine j_get (w := w) C in_X0 (ci := 0) (T := TX0) rfl (hA.d0 hv) 2 (by decide) q247 (fun _ z => z) (v := .int (nI (V.1 0))) rfl dX0_count_138 ?_
      exact j_iret C (by omega) (by omega) (fC.mk ⟨W, hA, hv⟩ (g7 hy1e)) dX0_count_141
    · refine j_as (y := nI 8) hy1e ?_
      refine j_tableIn (off := 139) C 142 dX0_count_3 (by decide +kernel) (by decide +kernel) (by decide +kernel) (by decide) ?_
      refine j_aload_n C dX0_count_142 rfl 1 rfl ?_
      refine j_get (w := w) C in_X0 (ci := 0) (T := TX0) rfl (hA.d0 hv) 4 (by decide) q251 (fun _ z => z) (v := .ref (x + 11)) rfl dX0_count_143 ?_
      refine j_get (w := w) C in_X2 (ci := 2) (T := TX2) rfl (hA.s0 (V := V) hv).1 3 (by decide) q181 (fun _ z => z) (v := .int (nI (V.2.1 2))) rfl dX0_count_146 ?_
      exact j_iret C (by omega) (by omega) (fC.mk ⟨W, hA, hv⟩ (g8 hy1e)) dX0_count_149
    · refine j_as (y := nI 9) hy1e ?_
      refine j_tableIn (off := 147) C 150 dX0_count_3 (by decide +kernel) (by decide +kernel) (by decide +kernel) (by decide) ?_
      refine j_aload_n C dX0_count_150 rfl 1 rfl ?_
      refine j_get (w := w) C in_X0 (ci := 0) (T := TX0) rfl (hA.d0 hv) 4 (by decide) q251 (fun _ z => z) (v := .ref (x + 11)) rfl dX0_count_151 ?_
      refine j_get (w := w) C in_X2 (ci := 2) (T := TX2) rfl (hA.s0 (V := V) hv).1 10 (by decide) q204 (fun _ z => z) (v := .int (nI (V.2.1 5))) rfl dX0_count_154 ?_
      exact j_iret C (by omega) (by omega) (fC.mk ⟨W, hA, hv⟩ (g9 hy1e)) dX0_count_157
  case' false =>
    refine j_tableOut C 158 dX0_count_3 (tsw_out (by decide) (by decide) c3) (by decide) ?_
    refine j_ldc C q391 dX0_count_158 ?_
    exact j_iret C (by omega) (by omega) (fC.mk ⟨W, hA, hv⟩ (h1 c3)) dX0_count_160
set_option maxHeartbeats 400000 in
theorem kX0_feed (G : gl_T) (hG : GH G) (w0 w : wd_T) (x : Nat) (O : Nat → Prop) (V : fv_T) (Z : fz_T) (hF : FX G w0 w x O V Z) (y : Int32) (hta : V.1 0 ≤ 120) (P : Int32 → fv_T → Prop) (h1 : inB y (nI 0) (nI 255) = false → P kBAD V) (h2 : ∀ c, y = nI c → c ≤ 255 → V.1 0 = 120 → P kFULL V) (h3 : ∀ c, y = nI c → c ≤ 255 → V.1 0 < 120 → P (nI (V.1 0 + 1)) (vTp (vN V 0 (V.1 0 + 1)) (upd V.2.2.2.2.2.1 (V.1 0) (vp_nar .byte (nI c).toInt8.toInt32)))) : Mt G yX0_feed cX0_feed 2 (some .int) 1 [.ref x, .int y] w (fC G w0 x O P) 0 0 := by
  refine Mt.start (by decide) (Nat.le_of_ble_eq_true rfl) (fun k C => ?_)
  have C : Cx G k cX0_feed "MoodFare" "feed" 2 (some .int) 1 0 0 _ := C
  obtain ⟨W, hA, hv⟩ := id hF
  refine j_iload_n C dX0_feed_0 rfl 1 rfl ?_
  refine j_i2l C dX0_feed_1 ?_
  refine j_lconst (v := (nI 0).toInt64) C dX0_feed_2 (by decide +kernel) ?_
  refine j_ldc2 C q498 dX0_feed_3 ?_
  refine j_asl (y := (nI 255).toInt64) (by decide +kernel) ?_
  refine j_callS (w := w) C (kX0_isIn G w y ((nI 0)) ((nI 255))) pI.ret 3 q387 q388 q66 q389 (by decide +kernel) rfl (by decide) (by decide) (Nat.le_of_ble_eq_true rfl) rfl dX0_feed_6 (by omega) (by omega) (qI.k ?_)
  refine j_if_neB C 15 dX0_feed_9 (by decide) (fun c9 => ?_) (fun c9 => ?_)
  · obtain ⟨c, rfl, hcl, hc⟩ := inB_n (by decide) c9 (by decide)
    refine j_aload_n C dX0_feed_15 rfl 0 rfl ?_
    refine j_get (w := w) C in_X0 (ci := 0) (T := TX0) rfl (hA.d0 hv) 2 (by decide) q247 (fun _ z => z) (v := .int (nI (V.1 0))) rfl dX0_feed_16 ?_
    refine j_bipush (v := nI 120) C dX0_feed_19 rfl ?_
    refine j_icmp_neN C 27 dX0_feed_21 (by decide) (by omega) (by omega) (fun c21 => ?_) (fun c21 => ?_)
    · refine j_aload_n C dX0_feed_27 rfl 0 rfl ?_
      refine j_get (w := w) C in_X0 (ci := 0) (T := TX0) rfl (hA.d0 hv) 1 (by decide) q246 (fun _ z => z) (v := .ref (x + 10)) rfl dX0_feed_28 ?_
      refine j_aload_n C dX0_feed_31 rfl 0 rfl ?_
      refine j_dup C dX0_feed_32 rfl ?_
      refine j_get (w := w) C in_X0 (ci := 0) (T := TX0) rfl (hA.d0 hv) 2 (by decide) q247 (fun _ z => z) (v := .int (nI (V.1 0))) rfl dX0_feed_33 ?_
      refine j_dup_x1 C dX0_feed_36 rfl rfl ?_
      refine j_iconst (v := nI 1) C dX0_feed_37 rfl ?_
      refine j_iaddN C dX0_feed_38 ?_
      refine j_put (w := w) C (ty0 := tyX0) in_X0 tyX0_ok nmX0 (ci := 0) (T := TX0) rfl (hA.d0 hv) 2 (by decide) q247 (fun _ z => z) rfl rfl rfl (fs' := [.ref (x + 1), .ref (x + 10), .int (nI ((V.1 0) + 1)), .int (nI (V.1 1)), .ref (x + 11), .ref (x + 16), .ref (x + 21), .int (nI (V.1 2)), .ref (x + 22), .ref (W.1 5), .int (nI (V.1 3)), .ref (x + 25), .ref (x + 26), .ref (x + 27)]) (Nat.le_of_ble_eq_true rfl) rfl dX0_feed_39 ?_
      refine j_abs (P := fun w' => FX G w0 w' x O (vN V 0 ((V.1 0) + 1)) Z) (FX.num hA hv 0 ((V.1 0) + 1) (by omega)) (fun w1 h1 => ?_)
      obtain ⟨W1, hA1, hv1⟩ := h1
      refine j_iload_n C dX0_feed_42 rfl 1 rfl ?_
      refine j_i2b C dX0_feed_43 ?_
      refine j_bastN (w := w1) C hA1.c10 (V.1 0) rfl (by omega) (by decide) dX0_feed_44 ?_
      refine j_abs (P := fun w' => FX G w0 w' x O (vTp (vN V 0 ((V.1 0) + 1)) (upd V.2.2.2.2.2.1 (V.1 0) (vp_nar .byte ((nI c).toInt8.toInt32)))) Z) (FX.tap hA1 hv1 (g := upd V.2.2.2.2.2.1 (V.1 0) (vp_nar .byte ((nI c).toInt8.toInt32))) (upd_cg hv1.tp)) (fun w2 h2 => ?_)
      obtain ⟨W2, hA2, hv2⟩ := h2
      refine j_aload_n C dX0_feed_45 rfl 0 rfl ?_
      refine j_get (w := w2) C in_X0 (ci := 0) (T := TX0) rfl (hA2.d0 hv2) 2 (by decide) q247 (fun _ z => z) (v := .int (nI ((V.1 0) + 1))) rfl dX0_feed_46 ?_
      exact j_iret C (by omega) (by omega) (fC.mk ⟨W2, hA2, hv2⟩ (h3 c rfl hc (by omega))) dX0_feed_49
    · refine j_ldc C q499 dX0_feed_24 ?_
      exact j_iret C (by omega) (by omega) (fC.mk ⟨W, hA, hv⟩ (h2 c rfl hc (by omega))) dX0_feed_26
  · refine j_ldc C q391 dX0_feed_12 ?_
    exact j_iret C (by omega) (by omega) (fC.mk ⟨W, hA, hv⟩ (h1 c9)) dX0_feed_14
