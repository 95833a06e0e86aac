theorem ai_aq {σ τ c n c' n' : Nat} {f : Nat → Int32} {g : Nat → Option Nat} (h : (some (σ, ai c n f) : Option (Nat × va_E)) = some (τ, aq c' n' g)) : False := by
  have := congrArg (fun o : Option (Nat × va_E) => match o with | some (_, .inl (_, _, .inl _)) => (0 : Nat) | _ => 1) h
  exact Nat.zero_ne_one this
theorem upd_nIr {f : Nat → Int32} {g : Nat → Nat} {k v n : Nat} (h : ∀ i, i < n → f i = nI (g i)) : ∀ i, i < n → upd f k (nI v) i = nI (uN g k v i) := by
  intro i hi
  unfold upd uN
  by_cases z : i = k
  · rw [if_pos z, if_pos z]
  · rw [if_neg z, if_neg z, h i hi]
/-- a town's array of how much is laid anew -/
theorem TN.much {G : gl_T} {w : wd_T} {a c v : Nat} {t : Nat → Nat} {f : Nat → Int32} (h : TN G w a t) (hm : w.1 (a + 2) = some (a, ai (gl_A G 0) 6 f)) (vm : ∀ i, i < 6 → f i = nI (t (7 + 3 * i + 1))) (hc : c < 6) : TN G (mu w.1 (a + 2) a (ai (gl_A G 0) 6 (upd f c (nI v))), w.2) a (uN t (7 + 3 * c + 1) v) := by
  obtain ⟨g0, ⟨e, md, hl, hL⟩, -, ⟨ff, g5, g6⟩, ⟨ft, g7, g8⟩, g9, g10⟩ := id h
  have hF : FR a w (mu w.1 (a + 2) a (ai (gl_A G 0) 6 (upd f c (nI v))), w.2) := FR.upd hm (fun z => z)
  have hte : TE a (uN t (7 + 3 * c + 1) v) = TE a t := by
    unfold TE
    rw [uN_n (show 0 ≠ 7 + 3 * c + 1 by omega), uN_n (show 1 ≠ 7 + 3 * c + 1 by omega), uN_n (show 2 ≠ 7 + 3 * c + 1 by omega), uN_n (show 3 ≠ 7 + 3 * c + 1 by omega), uN_n (show 4 ≠ 7 + 3 * c + 1 by omega), uN_n (show 5 ≠ 7 + 3 * c + 1 by omega), uN_n (show 25 ≠ 7 + 3 * c + 1 by omega)]
  have e6 : uN t (7 + 3 * c + 1) v 6 = t 6 := uN_n (by omega)
  refine ⟨?_, ⟨e, md, ?_, ?_⟩, ⟨_, mu_s, fun i hi => ?_⟩, ⟨ff, (mu_n (by omega)).trans g5, fun i hi => ?_⟩, ⟨ft, (mu_n (by omega)).trans g7, fun i hi => ?_⟩, by rw [e6]; exact g9, fun i hi => ?_⟩
  · rw [hte]
    exact (mu_n (by omega)).trans g0
  · rw [e6]
    exact (mu_n (by omega)).trans hl
  · rcases hL with ⟨h2, h2'⟩ | ⟨fl, he, hf⟩
    · exact Or.inl ⟨h2, by rw [e6]; exact h2'⟩
    · have ne : e ≠ a + 2 := fun z => by
        rw [z, hm] at he
        exact ai_aq he
      refine Or.inr ⟨fl, (mu_n ne).trans he, fun i hi => ?_⟩
      rw [e6] at hi
      obtain ⟨q, hq, hcell⟩ := hf i hi
      refine ⟨q, hq, ?_⟩
      have ec : CE (uN t (7 + 3 * c + 1) v) i = CE t i := by
        unfold CE
        rw [uN_n (show 7 + 3 * i ≠ 7 + 3 * c + 1 by omega), uN_n (show 7 + 3 * i + 2 ≠ 7 + 3 * c + 1 by omega)]
      rw [ec]
      exact hF.2 _ _ _ hcell (Or.inr (isC_CE (g10 i hi).1 (g10 i hi).2))
  · unfold upd
    by_cases z : i = c
    · rw [if_pos z, z, uN_s]
    · rw [if_neg z, uN_n (by omega), vm i hi]
  · rw [g6 i hi, uN_n (by omega)]
  · rw [g8 i hi, uN_n (by omega)]
  · rw [e6] at hi
    rw [uN_n (by omega)]
    exact g10 i hi
/-! ===== the class: questions about the town ===== -/
set_option maxRecDepth 100000
set_option maxHeartbeats 400000 in
theorem kX0_isThere (G : gl_T) (hG : GH G) (w0 w : wd_T) (x : Nat) (O : Nat → Prop) (V : fv_T) (Z : fz_T) (hF : FX G w0 w x O V Z) (ht : smT V.2.1) : Mt G yX0_isThere cX0_isThere 1 (some .boolean) 0 [.ref x] w (qI (bZ (decide (0 < V.2.1 0))) w) 0 0 := by
  refine Mt.start (by decide) (Nat.le_of_ble_eq_true rfl) (fun k C => ?_)
  have C : Cx G k cX0_isThere "MoodFare" "isThere" 1 (some .boolean) 0 0 0 _ := C
  obtain ⟨W, hA, hv⟩ := id hF
  obtain ⟨r0, r1, r2, r3, r4, r5, r6, r7, r25, r26⟩ := id ht
  refine j_aload_n C dX0_isThere_0 rfl 0 rfl ?_
  refine j_get (w := w) C in_X0 (ci := 0) (T := TX0) rfl (hA.d0 hv) 4 (by decide) q251 (fun _ z => z) (v := .ref (x + 11)) rfl dX0_isThere_1 ?_
  refine j_get (w := w) C in_X2 (ci := 2) (T := TX2) rfl (hA.s0 (V := V) hv).1 0 (by decide) q168 (fun _ z => z) (v := .int (nI (V.2.1 0))) rfl dX0_isThere_4 ?_
  refine j_if_leN C 14 dX0_isThere_7 (by decide) (by omega) (fun c7 => ?_) (fun c7 => ?_)
  · refine j_iconst (v := nI 0) C dX0_isThere_14 rfl ?_
    exact j_zret C (by decide +kernel) (by omega) (by omega) (pI.mk ⟨by unfold bZ; rw [if_neg (by simp; omega)], rfl⟩) dX0_isThere_15
  · refine j_iconst (v := nI 1) C dX0_isThere_10 rfl ?_
    refine j_goto C 15 dX0_isThere_11 (by decide) ?_
    exact j_zret C (by decide +kernel) (by omega) (by omega) (pI.mk ⟨by unfold bZ; rw [if_pos (by simp; omega)], rfl⟩) dX0_isThere_15
set_option maxHeartbeats 400000 in
theorem kX0_isCorner (G : gl_T) (hG : GH G) (w0 w : wd_T) (x : Nat) (O : Nat → Prop) (V : fv_T) (Z : fz_T) (hF : FX G w0 w x O V Z) (y : Int32) : Mt G yX0_isCorner cX0_isCorner 2 (some .boolean) 2 [.ref x, .int y] w (qI (bZ (inB y (nI 0) (nI (V.2.1 6) - nI 1))) w) 0 0 := by
  refine Mt.start (by decide) (Nat.le_of_ble_eq_true rfl) (fun k C => ?_)
  have C : Cx G k cX0_isCorner "MoodFare" "isCorner" 2 (some .boolean) 2 0 0 _ := C
  obtain ⟨W, hA, hv⟩ := id hF
  refine j_iload_n C dX0_isCorner_0 rfl 1 rfl ?_
  refine j_i2l C dX0_isCorner_1 ?_
  refine j_lconst (v := (nI 0).toInt64) C dX0_isCorner_2 (by decide +kernel) ?_
  refine j_aload_n C dX0_isCorner_3 rfl 0 rfl ?_
  refine j_get (w := w) C in_X0 (ci := 0) (T := TX0) rfl (hA.d0 hv) 4 (by decide) q251 (fun _ z => z) (v := .ref (x + 11)) rfl dX0_isCorner_4 ?_
  refine j_callV (w := w) C (kX2_many G w hG (x + 11) V.2.1 (hA.s0 (V := V) hv)) pI.ret (ci := 2) (T := TX2) (hA.s0 (V := V) hv).1 rfl 0 q960 q690 q691 q68 q692 (by decide +kernel) rfl (by decide) (by decide) (Nat.le_of_ble_eq_true rfl) rfl dX0_isCorner_7 (by omega) (by omega) (qI.k ?_)
  refine j_iconst (v := nI 1) C dX0_isCorner_10 rfl ?_
  refine j_isub C dX0_isCorner_11 ?_
  refine j_i2l C dX0_isCorner_12 ?_
  refine j_callS (w := w) C (kX0_isIn G w y ((nI 0)) ((nI (V.2.1 6) - nI 1))) pI.ret 3 q387 q388 q66 q389 (by decide +kernel) rfl (by decide) (by decide) (Nat.le_of_ble_eq_true rfl) rfl dX0_isCorner_13 (by omega) (by omega) (qI.k ?_)
  exact j_zret C (bZ_n _) (by omega) (by omega) (pI.mk ⟨rfl, rfl⟩) dX0_isCorner_16
set_option maxHeartbeats 400000 in
theorem kX0_isStreet (G : gl_T) (hG : GH G) (w0 w : wd_T) (x : Nat) (O : Nat → Prop) (V : fv_T) (Z : fz_T) (hF : FX G w0 w x O V Z) (y : Int32) : Mt G yX0_isStreet cX0_isStreet 2 (some .boolean) 1 [.ref x, .int y] w (qI (bZ (inB y (nI 0) (nI (V.2.1 25) - nI 1))) w) 0 0 := by
  refine Mt.start (by decide) (Nat.le_of_ble_eq_true rfl) (fun k C => ?_)
  have C : Cx G k cX0_isStreet "MoodFare" "isStreet" 2 (some .boolean) 1 0 0 _ := C
  obtain ⟨W, hA, hv⟩ := id hF
  refine j_iload_n C dX0_isStreet_0 rfl 1 rfl ?_
  refine j_i2l C dX0_isStreet_1 ?_
  refine j_lconst (v := (nI 0).toInt64) C dX0_isStreet_2 (by decide +kernel) ?_
  refine j_aload_n C dX0_isStreet_3 rfl 0 rfl ?_
  refine j_get (w := w) C in_X0 (ci := 0) (T := TX0) rfl (hA.d0 hv) 4 (by decide) q251 (fun _ z => z) (v := .ref (x + 11)) rfl dX0_isStreet_4 ?_
  refine j_get (w := w) C in_X2 (ci := 2) (T := TX2) rfl (hA.s0 (V := V) hv).1 7 (by decide) q195 (fun _ z => z) (v := .int (nI (V.2.1 25))) rfl dX0_isStreet_7 ?_
  refine j_iconst (v := nI 1) C dX0_isStreet_10 rfl ?_
  refine j_isub C dX0_isStreet_11 ?_
  refine j_i2l C dX0_isStreet_12 ?_
  refine j_callS (w := w) C (kX0_isIn G w y ((nI 0)) ((nI (V.2.1 25) - nI 1))) pI.ret 3 q387 q388 q66 q389 (by decide +kernel) rfl (by decide) (by decide) (Nat.le_of_ble_eq_true rfl) rfl dX0_isStreet_13 (by omega) (by omega) (qI.k ?_)
  exact j_zret C (bZ_n _) (by omega) (by omega) (pI.mk ⟨rfl, rfl⟩) dX0_isStreet_16
set_option maxHeartbeats 400000 in
theorem kX0_streetsAt_0 (G : gl_T) (hG : GH G) (w0 w : wd_T) (x : Nat) (O : Nat → Prop) (V : fv_T) (Z : fz_T) (hF : FX G w0 w x O V Z) (c : Nat) (ht : smT V.2.1) (hc : c < 2 ^ 31) : Mt G yX0_streetsAt cX0_streetsAt 5 (some .int) 0 [.ref x, .ref (x + 11 + 3), .int (nI c)] w (qI (nI (endsN V.2.1 c 0 (V.2.1 25))) w) 0 0 := by
  refine Mt.start (by decide) (Nat.le_of_ble_eq_true rfl) (fun k C => ?_)
  have C : Cx G k cX0_streetsAt "MoodFare" "streetsAt" 5 (some .int) 0 0 0 _ := C
  obtain ⟨W, hA, hv⟩ := id hF
  obtain ⟨r0, r1, r2, r3, r4, r5, r6, r7, r25, r26⟩ := id ht
  refine j_iconst (v := nI 0) C dX0_streetsAt_0 rfl ?_
  refine j_istore_n (lv' := [(3, .int (nI 0)), (0, .ref x), (1, .ref (x + 11 + 3)), (2, .int (nI c))]) C dX0_streetsAt_1 rfl (by decide) rfl ?_
  refine j_iconst (v := nI 0) C dX0_streetsAt_2 rfl ?_
  refine j_istore (lv' := [(4, .int (nI 0)), (3, .int (nI 0)), (0, .ref x), (1, .ref (x + 11 + 3)), (2, .int (nI c))]) C dX0_streetsAt_3 (by decide) rfl ?_
  have lp : ∀ (n_lp i : Nat), 0 ≤ i → i ≤ V.2.1 25 → V.2.1 25 < i + n_lp → J G k w [(4, .int (nI i)), (3, .int (nI (endsN V.2.1 c 0 i))), (0, .ref x), (1, .ref (x + 11 + 3)), (2, .int (nI c))] 5 [] 0 0 := by
    intro n_lp
    induction n_lp with
    | zero => intro i h0_lp h1_lp h2_lp; omega
    | succ n_lp ih_lp =>
      intro i h0_lp h1_lp h2_lp
      refine j_iload C dX0_streetsAt_5 0 rfl ?_
      refine j_aload_n C dX0_streetsAt_7 rfl 2 rfl ?_
      refine j_get (w := w) C in_X0 (ci := 0) (T := TX0) rfl (hA.d0 hv) 4 (by decide) q251 (fun _ z => z) (v := .ref (x + 11)) rfl dX0_streetsAt_8 ?_
      refine j_get (w := w) C in_X2 (ci := 2) (T := TX2) rfl (hA.s0 (V := V) hv).1 7 (by decide) q195 (fun _ z => z) (v := .int (nI (V.2.1 25))) rfl dX0_streetsAt_11 ?_
      refine j_icmp_geN C 42 dX0_streetsAt_14 (by decide) (by first | omega | (have := r26 i (by omega); omega)) (by first | omega | (have := r26 i (by omega); omega)) (fun c14 => ?_) (fun c14 => ?_)
      · obtain rfl : V.2.1 25 = i := by omega
        refine j_iload_n C dX0_streetsAt_42 rfl 1 rfl ?_
        exact j_iret C (by omega) (by omega) (pI.mk ⟨rfl, rfl⟩) dX0_streetsAt_43
      · refine j_iload_n C dX0_streetsAt_17 rfl 1 rfl ?_
        refine j_aload_n C dX0_streetsAt_18 rfl 3 rfl ?_
        refine j_iload C dX0_streetsAt_19 0 rfl ?_
        obtain ⟨o0_0h0, ⟨o0_0e, o0_0md, o0_0h1, o0_0h2⟩, ⟨o0_0fm, o0_0hm, o0_0vm⟩, ⟨o0_0ff, o0_0hf, o0_0vf⟩, ⟨o0_0ft, o0_0ho, o0_0vo⟩, o0_0h6, o0_0hk⟩ := id (hA.s0 (V := V) hv)
        refine j_ialdN (w := w) C o0_0hf (i) rfl (by first | omega | (have := r26 i (by omega); omega)) (by decide) dX0_streetsAt_21 ?_
        refine j_as (y := nI (V.2.1 (26 + 2 * i))) (o0_0vf i (by omega)) ?_
        refine j_iload_n C dX0_streetsAt_22 rfl 4 rfl ?_
        refine j_icmp_neN C 33 dX0_streetsAt_23 (by decide) (by first | omega | (have := r26 i (by omega); omega)) (by first | omega | (have := r26 i (by omega); omega)) (fun c23 => ?_) (fun c23 => ?_)
        · refine j_iconst (v := nI 0) C dX0_streetsAt_33 rfl ?_
          refine j_iorN C dX0_streetsAt_34 ?_
          refine j_istore_n (lv' := [(3, .int (nI ((endsN V.2.1 c 0 i) ||| 0))), (4, .int (nI i)), (0, .ref x), (1, .ref (x + 11 + 3)), (2, .int (nI c))]) C dX0_streetsAt_35 rfl (by decide) rfl ?_
          refine j_iincN (lv' := [(4, .int (nI (i + 1))), (3, .int (nI ((endsN V.2.1 c 0 i) ||| 0))), (0, .ref x), (1, .ref (x + 11 + 3)), (2, .int (nI c))]) C dX0_streetsAt_36 1 rfl (by decide) rfl ?_
          refine j_goto C 5 dX0_streetsAt_39 (by decide) ?_
          refine j_lv [0, 1, 2, 3, 4] (lv' := [(4, .int (nI (i + 1))), (3, .int (nI ((endsN V.2.1 c 0 i) ||| 0))), (0, .ref x), (1, .ref (x + 11 + 3)), (2, .int (nI c))]) rfl ?_
          refine j_lvN (lv' := [(4, .int (nI (i + 1))), (3, .int (nI (endsN V.2.1 c 0 (i + 1)))), (0, .ref x), (1, .ref (x + 11 + 3)), (2, .int (nI c))]) 1 rfl (by simp [endsN, c14, c23]) rfl ?_
          exact ih_lp (i + 1) (by omega) (by omega) (by omega)
        · refine j_iconst (v := nI 1) C dX0_streetsAt_26 rfl ?_
          refine j_iload C dX0_streetsAt_27 0 rfl ?_
          refine j_shl1 C dX0_streetsAt_29 (by first | omega | (have := r26 i (by omega); omega)) ?_
          refine j_goto C 34 dX0_streetsAt_30 (by decide) ?_
          refine j_iorN C dX0_streetsAt_34 ?_
          refine j_istore_n (lv' := [(3, .int (nI ((endsN V.2.1 c 0 i) ||| (2 ^ i)))), (4, .int (nI i)), (0, .ref x), (1, .ref (x + 11 + 3)), (2, .int (nI c))]) C dX0_streetsAt_35 rfl (by decide) rfl ?_
          refine j_iincN (lv' := [(4, .int (nI (i + 1))), (3, .int (nI ((endsN V.2.1 c 0 i) ||| (2 ^ i)))), (0, .ref x), (1, .ref (x + 11 + 3)), (2, .int (nI c))]) C dX0_streetsAt_36 1 rfl (by decide) rfl ?_
          refine j_goto C 5 dX0_streetsAt_39 (by decide) ?_
          refine j_lv [0, 1, 2, 3, 4] (lv' := [(4, .int (nI (i + 1))), (3, .int (nI ((endsN V.2.1 c 0 i) ||| (2 ^ i)))), (0, .ref x), (1, .ref (x + 11 + 3)), (2, .int (nI c))]) rfl ?_
          refine j_lvN (lv' := [(4, .int (nI (i + 1))), (3, .int (nI (endsN V.2.1 c 0 (i + 1)))), (0, .ref x), (1, .ref (x + 11 + 3)), (2, .int (nI c))]) 1 rfl (by simp [endsN, c14, c23]) rfl ?_
          exact ih_lp (i + 1) (by omega) (by omega) (by omega)
  refine j_lv [0, 1, 2, 3, 4] (lv' := [(4, .int (nI 0)), (3, .int (nI 0)), (0, .ref x), (1, .ref (x + 11 + 3)), (2, .int (nI c))]) rfl ?_
  refine j_lvN (lv' := [(4, .int (nI 0)), (3, .int (nI (endsN V.2.1 c 0 0))), (0, .ref x), (1, .ref (x + 11 + 3)), (2, .int (nI c))]) 1 rfl rfl rfl ?_
  exact lp (V.2.1 25 + 1 - 0) (0) (by omega) (by omega) (by omega)
set_option maxHeartbeats 400000 in
theorem kX0_streetsAt_1 (G : gl_T) (hG : GH G) (w0 w : wd_T) (x : Nat) (O : Nat → Prop) (V : fv_T) (Z : fz_T) (hF : FX G w0 w x O V Z) (c : Nat) (ht : smT V.2.1) (hc : c < 2 ^ 31) : Mt G yX0_streetsAt cX0_streetsAt 5 (some .int) 0 [.ref x, .ref (x + 11 + 4), .int (nI c)] w (qI (nI (endsN V.2.1 c 1 (V.2.1 25))) w) 0 0 := by
  refine Mt.start (by decide) (Nat.le_of_ble_eq_true rfl) (fun k C => ?_)
  have C : Cx G k cX0_streetsAt "MoodFare" "streetsAt" 5 (some .int) 0 0 0 _ := C
  obtain ⟨W, hA, hv⟩ := id hF
  obtain ⟨r0, r1, r2, r3, r4, r5, r6, r7, r25, r26⟩ := id ht
  refine j_iconst (v := nI 0) C dX0_streetsAt_0 rfl ?_
  refine j_istore_n (lv' := [(3, .int (nI 0)), (0, .ref x), (1, .ref (x + 11 + 4)), (2, .int (nI c))]) C dX0_streetsAt_1 rfl (by decide) rfl ?_
  refine j_iconst (v := nI 0) C dX0_streetsAt_2 rfl ?_
  refine j_istore (lv' := [(4, .int (nI 0)), (3, .int (nI 0)), (0, .ref x), (1, .ref (x + 11 + 4)), (2, .int (nI c))]) C dX0_streetsAt_3 (by decide) rfl ?_
  have lp : ∀ (n_lp i : Nat), 0 ≤ i → i ≤ V.2.1 25 → V.2.1 25 < i + n_lp → J G k w [(4, .int (nI i)), (3, .int (nI (endsN V.2.1 c 1 i))), (0, .ref x), (1, .ref (x + 11 + 4)), (2, .int (nI c))] 5 [] 0 0 := by
    intro n_lp
    induction n_lp with
    | zero => intro i h0_lp h1_lp h2_lp; omega
    | succ n_lp ih_lp =>
      intro i h0_lp h1_lp h2_lp
      refine j_iload C dX0_streetsAt_5 0 rfl ?_
      refine j_aload_n C dX0_streetsAt_7 rfl 2 rfl ?_
      refine j_get (w := w) C in_X0 (ci := 0) (T := TX0) rfl (hA.d0 hv) 4 (by decide) q251 (fun _ z => z) (v := .ref (x + 11)) rfl dX0_streetsAt_8 ?_
      refine j_get (w := w) C in_X2 (ci := 2) (T := TX2) rfl (hA.s0 (V := V) hv).1 7 (by decide) q195 (fun _ z => z) (v := .int (nI (V.2.1 25))) rfl dX0_streetsAt_11 ?_
      refine j_icmp_geN C 42 dX0_streetsAt_14 (by decide) (by first | omega | (have := r26 i (by omega); omega)) (by first | omega | (have := r26 i (by omega); omega)) (fun c14 => ?_) (fun c14 => ?_)
      · obtain rfl : V.2.1 25 = i := by omega
        refine j_iload_n C dX0_streetsAt_42 rfl 1 rfl ?_
        exact j_iret C (by omega) (by omega) (pI.mk ⟨rfl, rfl⟩) dX0_streetsAt_43
      · refine j_iload_n C dX0_streetsAt_17 rfl 1 rfl ?_
        refine j_aload_n C dX0_streetsAt_18 rfl 3 rfl ?_
        refine j_iload C dX0_streetsAt_19 0 rfl ?_
        obtain ⟨o0_0h0, ⟨o0_0e, o0_0md, o0_0h1, o0_0h2⟩, ⟨o0_0fm, o0_0hm, o0_0vm⟩, ⟨o0_0ff, o0_0hf, o0_0vf⟩, ⟨o0_0ft, o0_0ho, o0_0vo⟩, o0_0h6, o0_0hk⟩ := id (hA.s0 (V := V) hv)
        refine j_ialdN (w := w) C o0_0ho (i) rfl (by first | omega | (have := r26 i (by omega); omega)) (by decide) dX0_streetsAt_21 ?_
        refine j_as (y := nI (V.2.1 (26 + 2 * i + 1))) (o0_0vo i (by omega)) ?_
        refine j_iload_n C dX0_streetsAt_22 rfl 4 rfl ?_
        refine j_icmp_neN C 33 dX0_streetsAt_23 (by decide) (by first | omega | (have := r26 i (by omega); omega)) (by first | omega | (have := r26 i (by omega); omega)) (fun c23 => ?_) (fun c23 => ?_)
        · refine j_iconst (v := nI 0) C dX0_streetsAt_33 rfl ?_
          refine j_iorN C dX0_streetsAt_34 ?_
          refine j_istore_n (lv' := [(3, .int (nI ((endsN V.2.1 c 1 i) ||| 0))), (4, .int (nI i)), (0, .ref x), (1, .ref (x + 11 + 4)), (2, .int (nI c))]) C dX0_streetsAt_35 rfl (by decide) rfl ?_
          refine j_iincN (lv' := [(4, .int (nI (i + 1))), (3, .int (nI ((endsN V.2.1 c 1 i) ||| 0))), (0, .ref x), (1, .ref (x + 11 + 4)), (2, .int (nI c))]) C dX0_streetsAt_36 1 rfl (by decide) rfl ?_
          refine j_goto C 5 dX0_streetsAt_39 (by decide) ?_
          refine j_lv [0, 1, 2, 3, 4] (lv' := [(4, .int (nI (i + 1))), (3, .int (nI ((endsN V.2.1 c 1 i) ||| 0))), (0, .ref x), (1, .ref (x + 11 + 4)), (2, .int (nI c))]) rfl ?_
          refine j_lvN (lv' := [(4, .int (nI (i + 1))), (3, .int (nI (endsN V.2.1 c 1 (i + 1)))), (0, .ref x), (1, .ref (x + 11 + 4)), (2, .int (nI c))]) 1 rfl (by simp [endsN, c14, c23]) rfl ?_
          exact ih_lp (i + 1) (by omega) (by omega) (by omega)
        · refine j_iconst (v := nI 1) C dX0_streetsAt_26 rfl ?_
          refine j_iload C dX0_streetsAt_27 0 rfl ?_
          refine j_shl1 C dX0_streetsAt_29 (by first | omega | (have := r26 i (by omega); omega)) ?_
          refine j_goto C 34 dX0_streetsAt_30 (by decide) ?_
          refine j_iorN C dX0_streetsAt_34 ?_
          refine j_istore_n (lv' := [(3, .int (nI ((endsN V.2.1 c 1 i) ||| (2 ^ i)))), (4, .int (nI i)), (0, .ref x), (1, .ref (x + 11 + 4)), (2, .int (nI c))]) C dX0_streetsAt_35 rfl (by decide) rfl ?_
          refine j_iincN (lv' := [(4, .int (nI (i + 1))), (3, .int (nI ((endsN V.2.1 c 1 i) ||| (2 ^ i)))), (0, .ref x), (1, .ref (x + 11 + 4)), (2, .int (nI c))]) C dX0_streetsAt_36 1 rfl (by decide) rfl ?_
          refine j_goto C 5 dX0_streetsAt_39 (by decide) ?_
          refine j_lv [0, 1, 2, 3, 4] (lv' := [(4, .int (nI (i + 1))), (3, .int (nI ((endsN V.2.1 c 1 i) ||| (2 ^ i)))), (0, .ref x), (1, .ref (x + 11 + 4)), (2, .int (nI c))]) rfl ?_
          refine j_lvN (lv' := [(4, .int (nI (i + 1))), (3, .int (nI (endsN V.2.1 c 1 (i + 1)))), (0, .ref x), (1, .ref (x + 11 + 4)), (2, .int (nI c))]) 1 rfl (by simp [endsN, c14, c23]) rfl ?_
          exact ih_lp (i + 1) (by omega) (by omega) (by omega)
  refine j_lv [0, 1, 2, 3, 4] (lv' := [(4, .int (nI 0)), (3, .int (nI 0)), (0, .ref x), (1, .ref (x + 11 + 4)), (2, .int (nI c))]) rfl ?_
  refine j_lvN (lv' := [(4, .int (nI 0)), (3, .int (nI (endsN V.2.1 c 1 0))), (0, .ref x), (1, .ref (x + 11 + 4)), (2, .int (nI c))]) 1 rfl rfl rfl ?_
  exact lp (V.2.1 25 + 1 - 0) (0) (by omega) (by omega) (by omega)
set_option maxHeartbeats 400000 in
theorem kX0_corner (G : gl_T) (hG : GH G) (w0 w : wd_T) (x : Nat) (O : Nat → Prop) (V : fv_T) (Z : fz_T) (hF : FX G w0 w x O V Z) (y z : Int32) (ht : smT V.2.1) (P : Int32 → fv_T → Prop) (h1 : inB y (nI 0) (nI (V.2.1 6) - nI 1) = false ∨ inB z (nI 0) (nI 4) = false → P kBAD V) (g0 : ∀ j, y = nI j → j < V.2.1 6 → z = nI 0 → P (nI (V.2.1 (7 + 3 * j + 1))) V) (g1 : ∀ j, y = nI j → j < V.2.1 6 → z = nI 1 → P (nI (V.2.1 (7 + 3 * j + 2))) V) (g2 : ∀ j, y = nI j → j < V.2.1 6 → z = nI 2 → P (nI (endsN V.2.1 j 0 (V.2.1 25))) V) (g3 : ∀ j, y = nI j → j < V.2.1 6 → z = nI 3 → P (nI (endsN V.2.1 j 1 (V.2.1 25))) V) (g4 : ∀ j, y = nI j → j < V.2.1 6 → z = nI 4 → P (nI (psd V.2.1 j (V.2.1 1) (V.2.1 3))) V) : Mt G yX0_corner cX0_corner 3 (some .int) 4 [.ref x, .int y, .int z] w (fC G w0 x O P) 0 0 := by
  refine Mt.start (by decide) (Nat.le_of_ble_eq_true rfl) (fun k C => ?_)
  have C : Cx G k cX0_corner "MoodFare" "corner" 3 (some .int) 4 0 0 _ := C
  obtain ⟨W, hA, hv⟩ := id hF
  obtain ⟨r0, r1, r2, r3, r4, r5, r6, r7, r25, r26⟩ := id ht
  refine j_aload_n C dX0_corner_0 rfl 0 rfl ?_
  refine j_iload_n C dX0_corner_1 rfl 1 rfl ?_
  refine j_callV (w := w) C (kX0_isCorner G hG w0 w x O V Z ⟨W, hA, hv⟩ y) pI.ret (ci := 0) (T := TX0) (hA.d0 hv) rfl 1 q956 q958 qs20 q66 q959 (by decide +kernel) rfl (by decide) (by decide) (Nat.le_of_ble_eq_true rfl) rfl dX0_corner_2 (by omega) (by omega) (qI.k ?_)
  refine j_if_neB C 11 dX0_corner_5 (by decide) (fun c5 => ?_) (fun c5 => ?_)
  · obtain ⟨j, rfl, hj⟩ := inB_p (by omega) c5
    refine j_iload_n C dX0_corner_11 rfl 2 rfl ?_
    cases c12 : inB z (nI 0) (nI 4)
    case' true =>
      obtain ⟨y1, hy1e, y1l, y1h⟩ := inB_n (by decide) c12 (by decide)
      rcases (show y1 = 0 ∨ y1 = 1 ∨ y1 = 2 ∨ y1 = 3 ∨ y1 = 4 by omega) with rfl | rfl | rfl | rfl | rfl
      · refine j_as (y := nI 0) hy1e ?_
        refine j_tableIn (off := 36) C 48 dX0_corner_12 (by decide +kernel) (by decide +kernel) (by decide +kernel) (by decide) ?_
        refine j_aload_n C dX0_corner_48 rfl 0 rfl ?_
        refine j_get (w := w) C in_X0 (ci := 0) (T := TX0) rfl (hA.d0 hv) 4 (by decide) q251 (fun _ z => z) (v := .ref (x + 11)) rfl dX0_corner_49 ?_
        refine j_get (w := w) C in_X2 (ci := 2) (T := TX2) rfl (hA.s0 (V := V) hv).1 6 (by decide) q192 (fun _ z => z) (v := .ref (x + 11 + 2)) rfl dX0_corner_52 ?_
        refine j_iload_n C dX0_corner_55 rfl 1 rfl ?_
        obtain ⟨o0_0h0, ⟨o0_0e, o0_0md, o0_0h1, o0_0h2⟩, ⟨o0_0fm, o0_0hm, o0_0vm⟩, ⟨o0_0ff, o0_0hf, o0_0vf⟩, ⟨o0_0ft, o0_0ho, o0_0vo⟩, o0_0h6, o0_0hk⟩ := id (hA.s0 (V := V) hv)
        refine j_ialdN (w := w) C o0_0hm (j) rfl (by omega) (by decide) dX0_corner_56 ?_
        refine j_as (y := nI (V.2.1 (7 + 3 * j + 1))) (o0_0vm j (by omega)) ?_
        exact j_iret C (by omega) (by omega) (fC.mk ⟨W, hA, hv⟩ (g0 j rfl hj hy1e)) dX0_corner_57
      · refine j_as (y := nI 1) hy1e ?_
        refine j_tableIn (off := 46) C 58 dX0_corner_12 (by decide +kernel) (by decide +kernel) (by decide +kernel) (by decide) ?_
        refine j_aload_n C dX0_corner_58 rfl 0 rfl ?_
        refine j_get (w := w) C in_X0 (ci := 0) (T := TX0) rfl (hA.d0 hv) 4 (by decide) q251 (fun _ z => z) (v := .ref (x + 11)) rfl dX0_corner_59 ?_
        refine j_get (w := w) C in_X2 (ci := 2) (T := TX2) rfl (hA.s0 (V := V) hv).1 5 (by decide) q187 (fun _ z => z) (v := .ref (x + 11 + 1)) rfl dX0_corner_62 ?_
        refine j_iload_n C dX0_corner_65 rfl 1 rfl ?_
        obtain ⟨o0_1h0, ⟨o0_1e, o0_1md, o0_1h1, o0_1h2⟩, ⟨o0_1fm, o0_1hm, o0_1vm⟩, ⟨o0_1ff, o0_1hf, o0_1vf⟩, ⟨o0_1ft, o0_1ho, o0_1vo⟩, o0_1h6, o0_1hk⟩ := id (hA.s0 (V := V) hv)
        obtain ⟨q2, hq2, gq2⟩ := tn_get (hA.s0 (V := V) hv) j (by omega)
        refine j_callF (w := w) C (gq2) pA.ret (ci := 20) (T := TJ2) o0_1h1 rfl 1 (C.fw hG ⟨q856, q855, q860, q858, q697, by decide⟩) q987 q857 q859 q71 q861 (by decide +kernel) rfl (by decide) (by decide) (Nat.le_of_ble_eq_true rfl) rfl dX0_corner_66 (by omega) (by omega) (qA.k ?_)
        rcases (show V.2.1 (7 + 3 * j) = 1 ∨ V.2.1 (7 + 3 * j) = 2 ∨ V.2.1 (7 + 3 * j) = 3 ∨ V.2.1 (7 + 3 * j) = 4 ∨ V.2.1 (7 + 3 * j) = 5 by have := (hA.s0 (V := V) hv).2.2.2.2.2.2 j (by omega); omega) with kq2 | kq2 | kq2 | kq2 | kq2
        · have hq2k : w.1 q2 = some (q2, .inr (7, [.int (nI j), .int (nI (V.2.1 (7 + 3 * j + 2)))])) := by have z := hq2; unfold CE at z; rw [kq2] at z; exact z
          refine j_castY (w := w) C (ci := 7) (T := TX8) hq2k rfl q988 (C.nw hG q1892 rfl) dX0_corner_71 ?_
          refine j_callA (w := w) C (kX7_fee_7 G w q2 q2 (nI j) (nI (V.2.1 (7 + 3 * j + 2))) hq2k) pI.ret (x := (⟨"MoodFare$Corner", "fee", "()I"⟩ : MethodName)) (owner := "MoodFare$Corner") (ci := 7) (T := TX8) hq2k rfl 0 (va_Decl.of (C.hts _ q943) (C.hts _ q950)) q989 q944 q947 q943 q91 q950 (by decide +kernel) rfl (by decide) (by decide) (Nat.le_of_ble_eq_true rfl) rfl dX0_corner_74 (by omega) (by omega) (qI.k ?_)
          exact j_iret C (by omega) (by omega) (fC.mk ⟨W, hA, hv⟩ (g1 j rfl hj hy1e)) dX0_corner_77
        · have hq2k : w.1 q2 = some (q2, .inr (8, [.int (nI j), .int (nI (V.2.1 (7 + 3 * j + 2)))])) := by have z := hq2; unfold CE at z; rw [kq2] at z; exact z
          refine j_castY (w := w) C (ci := 8) (T := TX9) hq2k rfl q988 (C.nw hG q1893 rfl) dX0_corner_71 ?_
          refine j_callA (w := w) C (kX7_fee_8 G w q2 q2 (nI j) (nI (V.2.1 (7 + 3 * j + 2))) hq2k) pI.ret (x := (⟨"MoodFare$Corner", "fee", "()I"⟩ : MethodName)) (owner := "MoodFare$Corner") (ci := 8) (T := TX9) hq2k rfl 0 (va_Decl.of (C.hts _ q943) (C.hts _ q950)) q989 q944 q948 q943 q91 q950 (by decide +kernel) rfl (by decide) (by decide) (Nat.le_of_ble_eq_true rfl) rfl dX0_corner_74 (by omega) (by omega) (qI.k ?_)
          exact j_iret C (by omega) (by omega) (fC.mk ⟨W, hA, hv⟩ (g1 j rfl hj hy1e)) dX0_corner_77
        · have hq2k : w.1 q2 = some (q2, .inr (9, [.int (nI j), .int (nI (V.2.1 (7 + 3 * j + 2)))])) := by have z := hq2; unfold CE at z; rw [kq2] at z; exact z
          refine j_castY (w := w) C (ci := 9) (T := TX10) hq2k rfl q988 (C.nw hG q1891 rfl) dX0_corner_71 ?_
          refine j_callA (w := w) C (kX7_fee_9 G w q2 q2 (nI j) (nI (V.2.1 (7 + 3 * j + 2))) hq2k) pI.ret (x := (⟨"MoodFare$Corner", "fee", "()I"⟩ : MethodName)) (owner := "MoodFare$Corner") (ci := 9) (T := TX10) hq2k rfl 0 (va_Decl.of (C.hts _ q943) (C.hts _ q950)) q989 q944 q946 q943 q91 q950 (by decide +kernel) rfl (by decide) (by decide) (Nat.le_of_ble_eq_true rfl) rfl dX0_corner_74 (by omega) (by omega) (qI.k ?_)
          exact j_iret C (by omega) (by omega) (fC.mk ⟨W, hA, hv⟩ (g1 j rfl hj hy1e)) dX0_corner_77
        · have hq2k : w.1 q2 = some (q2, .inr (10, [.int (nI j), .int (nI (V.2.1 (7 + 3 * j + 2)))])) := by have z := hq2; unfold CE at z; rw [kq2] at z; exact z
          refine j_castY (w := w) C (ci := 10) (T := TX11) hq2k rfl q988 (C.nw hG q1890 rfl) dX0_corner_71 ?_
          refine j_callA (w := w) C (kX7_fee_10 G w q2 q2 (nI j) (nI (V.2.1 (7 + 3 * j + 2))) hq2k) pI.ret (x := (⟨"MoodFare$Corner", "fee", "()I"⟩ : MethodName)) (owner := "MoodFare$Corner") (ci := 10) (T := TX11) hq2k rfl 0 (va_Decl.of (C.hts _ q943) (C.hts _ q950)) q989 q944 q945 q943 q91 q950 (by decide +kernel) rfl (by decide) (by decide) (Nat.le_of_ble_eq_true rfl) rfl dX0_corner_74 (by omega) (by omega) (qI.k ?_)
          exact j_iret C (by omega) (by omega) (fC.mk ⟨W, hA, hv⟩ (g1 j rfl hj hy1e)) dX0_corner_77
        · have hq2k : w.1 q2 = some (q2, .inr (11, [.int (nI j), .int (nI (V.2.1 (7 + 3 * j + 2)))])) := by have z := hq2; unfold CE at z; rw [kq2] at z; exact z
          refine j_castY (w := w) C (ci := 11) (T := TX12) hq2k rfl q988 (C.nw hG q1894 rfl) dX0_corner_71 ?_
          refine j_callA (w := w) C (kX7_fee_11 G w q2 q2 (nI j) (nI (V.2.1 (7 + 3 * j + 2))) hq2k) pI.ret (x := (⟨"MoodFare$Corner", "fee", "()I"⟩ : MethodName)) (owner := "MoodFare$Corner") (ci := 11) (T := TX12) hq2k rfl 0 (va_Decl.of (C.hts _ q943) (C.hts _ q950)) q989 q944 q949 q943 q91 q950 (by decide +kernel) rfl (by decide) (by decide) (Nat.le_of_ble_eq_true rfl) rfl dX0_corner_74 (by omega) (by omega) (qI.k ?_)
          exact j_iret C (by omega) (by omega) (fC.mk ⟨W, hA, hv⟩ (g1 j rfl hj hy1e)) dX0_corner_77
      · refine j_as (y := nI 2) hy1e ?_
        refine j_tableIn (off := 66) C 78 dX0_corner_12 (by decide +kernel) (by decide +kernel) (by decide +kernel) (by decide) ?_
        refine j_aload_n C dX0_corner_78 rfl 0 rfl ?_
        refine j_aload_n C dX0_corner_79 rfl 0 rfl ?_
        refine j_get (w := w) C in_X0 (ci := 0) (T := TX0) rfl (hA.d0 hv) 4 (by decide) q251 (fun _ z => z) (v := .ref (x + 11)) rfl dX0_corner_80 ?_
        refine j_get (w := w) C in_X2 (ci := 2) (T := TX2) rfl (hA.s0 (V := V) hv).1 8 (by decide) q198 (fun _ z => z) (v := .ref (x + 11 + 3)) rfl dX0_corner_83 ?_
        refine j_iload_n C dX0_corner_86 rfl 1 rfl ?_
        refine j_callV (w := w) C (kX0_streetsAt_0 G hG w0 w x O V Z ⟨W, hA, hv⟩ j ht (by omega)) pI.ret (ci := 0) (T := TX0) (hA.d0 hv) rfl 2 q990 q992 qs22 q66 q993 (by decide +kernel) rfl (by decide) (by decide) (Nat.le_of_ble_eq_true rfl) rfl dX0_corner_87 (by omega) (by omega) (qI.k ?_)
        exact j_iret C (by omega) (by omega) (fC.mk ⟨W, hA, hv⟩ (g2 j rfl hj hy1e)) dX0_corner_90
      · refine j_as (y := nI 3) hy1e ?_
        refine j_tableIn (off := 79) C 91 dX0_corner_12 (by decide +kernel) (by decide +kernel) (by decide +kernel) (by decide) ?_
        refine j_aload_n C dX0_corner_91 rfl 0 rfl ?_
        refine j_aload_n C dX0_corner_92 rfl 0 rfl ?_
        refine j_get (w := w) C in_X0 (ci := 0) (T := TX0) rfl (hA.d0 hv) 4 (by decide) q251 (fun _ z => z) (v := .ref (x + 11)) rfl dX0_corner_93 ?_
        refine j_get (w := w) C in_X2 (ci := 2) (T := TX2) rfl (hA.s0 (V := V) hv).1 9 (by decide) q201 (fun _ z => z) (v := .ref (x + 11 + 4)) rfl dX0_corner_96 ?_
        refine j_iload_n C dX0_corner_99 rfl 1 rfl ?_
        refine j_callV (w := w) C (kX0_streetsAt_1 G hG w0 w x O V Z ⟨W, hA, hv⟩ j ht (by omega)) pI.ret (ci := 0) (T := TX0) (hA.d0 hv) rfl 2 q990 q992 qs22 q66 q993 (by decide +kernel) rfl (by decide) (by decide) (Nat.le_of_ble_eq_true rfl) rfl dX0_corner_100 (by omega) (by omega) (qI.k ?_)
        exact j_iret C (by omega) (by omega) (fC.mk ⟨W, hA, hv⟩ (g3 j rfl hj hy1e)) dX0_corner_103
      · refine j_as (y := nI 4) hy1e ?_
        refine j_tableIn (off := 92) C 104 dX0_corner_12 (by decide +kernel) (by decide +kernel) (by decide +kernel) (by decide) ?_
        refine j_aload_n C dX0_corner_104 rfl 0 rfl ?_
        refine j_get (w := w) C in_X0 (ci := 0) (T := TX0) rfl (hA.d0 hv) 4 (by decide) q251 (fun _ z => z) (v := .ref (x + 11)) rfl dX0_corner_105 ?_
        refine j_iload_n C dX0_corner_108 rfl 1 rfl ?_
        refine j_callV (w := w) C (kX2_passed G w hG (x + 11) V.2.1 (hA.s0 (V := V) hv) ht j (by omega)) pI.ret (ci := 2) (T := TX2) (hA.s0 (V := V) hv).1 rfl 1 q994 q913 q914 q68 q915 (by decide +kernel) rfl (by decide) (by decide) (Nat.le_of_ble_eq_true rfl) rfl dX0_corner_109 (by omega) (by omega) (qI.k ?_)
        exact j_iret C (by omega) (by omega) (fC.mk ⟨W, hA, hv⟩ (g4 j rfl hj hy1e)) dX0_corner_112
    case' false =>
      refine j_tableOut C 113 dX0_corner_12 (tsw_out (by decide) (by decide) c12) (by decide) ?_
      refine j_ldc C q391 dX0_corner_113 ?_
      exact j_iret C (by omega) (by omega) (fC.mk ⟨W, hA, hv⟩ (h1 (Or.inr c12))) dX0_corner_115
  · refine j_ldc C q391 dX0_corner_8 ?_
    exact j_iret C (by omega) (by omega) (fC.mk ⟨W, hA, hv⟩ (h1 (Or.inl c5))) dX0_corner_10
set_option maxHeartbeats 400000 in
theorem kX0_way (G : gl_T) (hG : GH G) (w0 w : wd_T) (x : Nat) (O : Nat → Prop) (V : fv_T) (Z : fz_T) (hF : FX G w0 w x O V Z) (y z : Int32) (ht : smT V.2.1) (P : Int32 → fv_T → Prop) (h1 : inB y (nI 0) (nI (V.2.1 25) - nI 1) = false ∨ inB z (nI 0) (nI 2) = false → P kBAD V) (h2 : ∀ j u, y = nI j → j < V.2.1 25 → z = nI u → u < 2 → P (nI (V.2.1 (26 + 2 * j + u))) V) (h3 : ∀ j, y = nI j → j < V.2.1 25 → z = nI 2 → P (nI (V.2.1 5 / 2 ^ j % 2)) V) : Mt G yX0_way cX0_way 3 (some .int) 3 [.ref x, .int y, .int z] w (fC G w0 x O P) 0 0 := by
  refine Mt.start (by decide) (Nat.le_of_ble_eq_true rfl) (fun k C => ?_)
  have C : Cx G k cX0_way "MoodFare" "way" 3 (some .int) 3 0 0 _ := C
  obtain ⟨W, hA, hv⟩ := id hF
  obtain ⟨r0, r1, r2, r3, r4, r5, r6, r7, r25, r26⟩ := id ht
  refine j_aload_n C dX0_way_0 rfl 0 rfl ?_
  refine j_iload_n C dX0_way_1 rfl 1 rfl ?_
  refine j_callV (w := w) C (kX0_isStreet G hG w0 w x O V Z ⟨W, hA, hv⟩ y) pI.ret (ci := 0) (T := TX0) (hA.d0 hv) rfl 1 q887 q889 qs18 q66 q890 (by decide +kernel) rfl (by decide) (by decide) (Nat.le_of_ble_eq_true rfl) rfl dX0_way_2 (by omega) (by omega) (qI.k ?_)
  refine j_if_neB C 11 dX0_way_5 (by decide) (fun c5 => ?_) (fun c5 => ?_)
  · obtain ⟨j, rfl, hj⟩ := inB_p (by omega) c5
    refine j_iload_n C dX0_way_11 rfl 2 rfl ?_
    cases c12 : inB z (nI 0) (nI 2)
    case' true =>
      obtain ⟨y1, hy1e, y1l, y1h⟩ := inB_n (by decide) c12 (by decide)
      rcases (show y1 = 0 ∨ y1 = 1 ∨ y1 = 2 by omega) with rfl | rfl | rfl
      · refine j_as (y := nI 0) hy1e ?_
        refine j_tableIn (off := 28) C 40 dX0_way_12 (by decide +kernel) (by decide +kernel) (by decide +kernel) (by decide) ?_
        refine j_aload_n C dX0_way_40 rfl 0 rfl ?_
        refine j_get (w := w) C in_X0 (ci := 0) (T := TX0) rfl (hA.d0 hv) 4 (by decide) q251 (fun _ z => z) (v := .ref (x + 11)) rfl dX0_way_41 ?_
        refine j_get (w := w) C in_X2 (ci := 2) (T := TX2) rfl (hA.s0 (V := V) hv).1 8 (by decide) q198 (fun _ z => z) (v := .ref (x + 11 + 3)) rfl dX0_way_44 ?_
        refine j_iload_n C dX0_way_47 rfl 1 rfl ?_
        obtain ⟨o0_0h0, ⟨o0_0e, o0_0md, o0_0h1, o0_0h2⟩, ⟨o0_0fm, o0_0hm, o0_0vm⟩, ⟨o0_0ff, o0_0hf, o0_0vf⟩, ⟨o0_0ft, o0_0ho, o0_0vo⟩, o0_0h6, o0_0hk⟩ := id (hA.s0 (V := V) hv)
        refine j_ialdN (w := w) C o0_0hf (j) rfl (by omega) (by decide) dX0_way_48 ?_
        refine j_as (y := nI (V.2.1 (26 + 2 * j))) (o0_0vf j (by omega)) ?_
        exact j_iret C (by omega) (by omega) (fC.mk ⟨W, hA, hv⟩ (h2 j 0 rfl hj hy1e (by omega))) dX0_way_49
      · refine j_as (y := nI 1) hy1e ?_
        refine j_tableIn (off := 38) C 50 dX0_way_12 (by decide +kernel) (by decide +kernel) (by decide +kernel) (by decide) ?_
        refine j_aload_n C dX0_way_50 rfl 0 rfl ?_
        refine j_get (w := w) C in_X0 (ci := 0) (T := TX0) rfl (hA.d0 hv) 4 (by decide) q251 (fun _ z => z) (v := .ref (x + 11)) rfl dX0_way_51 ?_
        refine j_get (w := w) C in_X2 (ci := 2) (T := TX2) rfl (hA.s0 (V := V) hv).1 9 (by decide) q201 (fun _ z => z) (v := .ref (x + 11 + 4)) rfl dX0_way_54 ?_
        refine j_iload_n C dX0_way_57 rfl 1 rfl ?_
        obtain ⟨o0_1h0, ⟨o0_1e, o0_1md, o0_1h1, o0_1h2⟩, ⟨o0_1fm, o0_1hm, o0_1vm⟩, ⟨o0_1ff, o0_1hf, o0_1vf⟩, ⟨o0_1ft, o0_1ho, o0_1vo⟩, o0_1h6, o0_1hk⟩ := id (hA.s0 (V := V) hv)
        refine j_ialdN (w := w) C o0_1ho (j) rfl (by omega) (by decide) dX0_way_58 ?_
        refine j_as (y := nI (V.2.1 (26 + 2 * j + 1))) (o0_1vo j (by omega)) ?_
        exact j_iret C (by omega) (by omega) (fC.mk ⟨W, hA, hv⟩ (h2 j 1 rfl hj hy1e (by omega))) dX0_way_59
      · refine j_as (y := nI 2) hy1e ?_
        refine j_tableIn (off := 48) C 60 dX0_way_12 (by decide +kernel) (by decide +kernel) (by decide +kernel) (by decide) ?_
        refine j_aload_n C dX0_way_60 rfl 0 rfl ?_
        refine j_get (w := w) C in_X0 (ci := 0) (T := TX0) rfl (hA.d0 hv) 4 (by decide) q251 (fun _ z => z) (v := .ref (x + 11)) rfl dX0_way_61 ?_
        refine j_get (w := w) C in_X2 (ci := 2) (T := TX2) rfl (hA.s0 (V := V) hv).1 10 (by decide) q204 (fun _ z => z) (v := .int (nI (V.2.1 5))) rfl dX0_way_64 ?_
        refine j_iload_n C dX0_way_67 rfl 1 rfl ?_
        refine j_callS (w := w) C (kX0_has G w (V.2.1 5) j (by omega) (by omega)) pI.ret 2 q977 q897 q66 q898 (by decide +kernel) rfl (by decide) (by decide) (Nat.le_of_ble_eq_true rfl) rfl dX0_way_68 (by omega) (by omega) (qI.k ?_)
        refine j_if_eqB C 78 dX0_way_71 (by decide) (fun c71 => ?_) (fun c71 => ?_)
        · refine j_iconst (v := nI 0) C dX0_way_78 rfl ?_
          exact j_iret C (by omega) (by omega) (fC.mk ⟨W, hA, hv⟩ (by have q := h3 j rfl hj hy1e; have c := c71; unfold hasN at c; rw [show V.2.1 5 / 2 ^ j % 2 = 0 by simp at c; omega] at q; exact q)) dX0_way_79
        · refine j_iconst (v := nI 1) C dX0_way_74 rfl ?_
          refine j_goto C 79 dX0_way_75 (by decide) ?_
          exact j_iret C (by omega) (by omega) (fC.mk ⟨W, hA, hv⟩ (by have q := h3 j rfl hj hy1e; have c := c71; unfold hasN at c; rw [show V.2.1 5 / 2 ^ j % 2 = 1 by simp at c; omega] at q; exact q)) dX0_way_79
    case' false =>
      refine j_tableOut C 80 dX0_way_12 (tsw_out (by decide) (by decide) c12) (by decide) ?_
      refine j_ldc C q391 dX0_way_80 ?_
      exact j_iret C (by omega) (by omega) (fC.mk ⟨W, hA, hv⟩ (h1 (Or.inr c12))) dX0_way_82
  · refine j_ldc C q391 dX0_way_8 ?_
    exact j_iret C (by omega) (by omega) (fC.mk ⟨W, hA, hv⟩ (h1 (Or.inl c5))) dX0_way_10
set_option maxHeartbeats 400000 in
theorem kX0_would (G : gl_T) (hG : GH G) (w0 w : wd_T) (x : Nat) (O : Nat → Prop) (V : fv_T) (Z : fz_T) (hF : FX G w0 w x O V Z) (y z : Int32) (ht : smT V.2.1) (hwf : ∀ x, x < V.2.1 25 → V.2.1 (26 + 2 * x + 1) < V.2.1 6) (P : Int32 → fv_T → Prop) (h1 : inB y (nI 0) (nI (V.2.1 25) - nI 1) = false ∨ inB z (nI 0) (nI 1) = false → P kBAD V) (h2 : ∀ j u, y = nI j → j < V.2.1 25 → z = nI u → u ≤ 1 → goN V.2.1 j (V.2.1 4) = false → P kNONE V) (h3 : ∀ j, y = nI j → j < V.2.1 25 → z = nI 0 → goN V.2.1 j (V.2.1 4) = true → P (nI (psd V.2.1 (V.2.1 (26 + 2 * j + 1)) (V.2.1 1) (V.2.1 3))) V) (h4 : ∀ j, y = nI j → j < V.2.1 25 → z = nI 1 → goN V.2.1 j (V.2.1 4) = true → P (nI (csd V.2.1 (V.2.1 (26 + 2 * j + 1)) (V.2.1 1) (V.2.1 3))) V) : Mt G yX0_would cX0_would 3 (some .int) 5 [.ref x, .int y, .int z] w (fC G w0 x O P) 0 0 := by
  refine Mt.start (by decide) (Nat.le_of_ble_eq_true rfl) (fun k C => ?_)
  have C : Cx G k cX0_would "MoodFare" "would" 3 (some .int) 5 0 0 _ := C
  obtain ⟨W, hA, hv⟩ := id hF
  obtain ⟨r0, r1, r2, r3, r4, r5, r6, r7, r25, r26⟩ := id ht
  refine j_aload_n C dX0_would_0 rfl 0 rfl ?_
  refine j_iload_n C dX0_would_1 rfl 1 rfl ?_
  refine j_callV (w := w) C (kX0_isStreet G hG w0 w x O V Z ⟨W, hA, hv⟩ y) pI.ret (ci := 0) (T := TX0) (hA.d0 hv) rfl 1 q887 q889 qs18 q66 q890 (by decide +kernel) rfl (by decide) (by decide) (Nat.le_of_ble_eq_true rfl) rfl dX0_would_2 (by omega) (by omega) (qI.k ?_)
  refine j_if_eqB C 15 dX0_would_5 (by decide) (fun c5 => ?_) (fun c5 => ?_)
  · refine j_ldc C q391 dX0_would_15 ?_
    exact j_iret C (by omega) (by omega) (fC.mk ⟨W, hA, hv⟩ (h1 (Or.inl c5))) dX0_would_17
  · obtain ⟨j, rfl, hj⟩ := inB_p (by omega) c5
    refine j_iload_n C dX0_would_8 rfl 2 rfl ?_
    refine j_callS (w := w) C (kX0_isHalf G w z) pI.ret 1 q974 q975 q66 q976 (by decide +kernel) rfl (by decide) (by decide) (Nat.le_of_ble_eq_true rfl) rfl dX0_would_9 (by omega) (by omega) (qI.k ?_)
    refine j_if_neB C 18 dX0_would_12 (by decide) (fun c12 => ?_) (fun c12 => ?_)
    · obtain ⟨u, rfl, hul, hu⟩ := inB_n (by decide) c12 (by decide)
      refine j_aload_n C dX0_would_18 rfl 0 rfl ?_
      refine j_get (w := w) C in_X0 (ci := 0) (T := TX0) rfl (hA.d0 hv) 4 (by decide) q251 (fun _ z => z) (v := .ref (x + 11)) rfl dX0_would_19 ?_
      refine j_iload_n C dX0_would_22 rfl 1 rfl ?_
      refine j_callV (w := w) C (kX2_isWay G w hG (x + 11) V.2.1 (hA.s0 (V := V) hv) ht (nI j)) pI.ret (ci := 2) (T := TX2) (hA.s0 (V := V) hv).1 rfl 1 q891 q892 q893 q68 q894 (by decide +kernel) rfl (by decide) (by decide) (Nat.le_of_ble_eq_true rfl) rfl dX0_would_23 (by omega) (by omega) (qI.k ?_)
      refine j_if_neB C 32 dX0_would_26 (by decide) (fun c26 => ?_) (fun c26 => ?_)
      · have hto := hwf j (by omega)
        refine j_iload_n C dX0_would_32 rfl 2 rfl ?_
        refine j_if_neN C 55 dX0_would_33 (by decide) (by first | omega | (have := r26 j (by omega); omega)) (fun c33 => ?_) (fun c33 => ?_)
        · refine j_aload_n C dX0_would_55 rfl 0 rfl ?_
          refine j_get (w := w) C in_X0 (ci := 0) (T := TX0) rfl (hA.d0 hv) 4 (by decide) q251 (fun _ z => z) (v := .ref (x + 11)) rfl dX0_would_56 ?_
          refine j_iload_n C dX0_would_59 rfl 1 rfl ?_
          refine j_callV (w := w) C (kX2_cost G w hG (x + 11) V.2.1 (hA.s0 (V := V) hv) ht j (by omega) (by omega)) pI.ret (ci := 2) (T := TX2) (hA.s0 (V := V) hv).1 rfl 1 q1004 q909 q910 q68 q911 (by decide +kernel) rfl (by decide) (by decide) (Nat.le_of_ble_eq_true rfl) rfl dX0_would_60 (by omega) (by omega) (qI.k ?_)
          exact j_iret C (by omega) (by omega) (fC.mk ⟨W, hA, hv⟩ (h4 j rfl hj (by rw [show u = 1 by omega]) (by rw [← goB_i (by omega) (by omega)]; exact c26))) dX0_would_63
        · refine j_aload_n C dX0_would_36 rfl 0 rfl ?_
          refine j_get (w := w) C in_X0 (ci := 0) (T := TX0) rfl (hA.d0 hv) 4 (by decide) q251 (fun _ z => z) (v := .ref (x + 11)) rfl dX0_would_37 ?_
          refine j_aload_n C dX0_would_40 rfl 0 rfl ?_
          refine j_get (w := w) C in_X0 (ci := 0) (T := TX0) rfl (hA.d0 hv) 4 (by decide) q251 (fun _ z => z) (v := .ref (x + 11)) rfl dX0_would_41 ?_
          refine j_get (w := w) C in_X2 (ci := 2) (T := TX2) rfl (hA.s0 (V := V) hv).1 9 (by decide) q201 (fun _ z => z) (v := .ref (x + 11 + 4)) rfl dX0_would_44 ?_
          refine j_iload_n C dX0_would_47 rfl 1 rfl ?_
          obtain ⟨o0_0h0, ⟨o0_0e, o0_0md, o0_0h1, o0_0h2⟩, ⟨o0_0fm, o0_0hm, o0_0vm⟩, ⟨o0_0ff, o0_0hf, o0_0vf⟩, ⟨o0_0ft, o0_0ho, o0_0vo⟩, o0_0h6, o0_0hk⟩ := id (hA.s0 (V := V) hv)
          refine j_ialdN (w := w) C o0_0ho (j) rfl (by first | omega | (have := r26 j (by omega); omega)) (by decide) dX0_would_48 ?_
          refine j_as (y := nI (V.2.1 (26 + 2 * j + 1))) (o0_0vo j (by omega)) ?_
          refine j_callV (w := w) C (kX2_passed G w hG (x + 11) V.2.1 (hA.s0 (V := V) hv) ht (V.2.1 (26 + 2 * j + 1)) (by omega)) pI.ret (ci := 2) (T := TX2) (hA.s0 (V := V) hv).1 rfl 1 q994 q913 q914 q68 q915 (by decide +kernel) rfl (by decide) (by decide) (Nat.le_of_ble_eq_true rfl) rfl dX0_would_49 (by omega) (by omega) (qI.k ?_)
          refine j_goto C 63 dX0_would_52 (by decide) ?_
          exact j_iret C (by omega) (by omega) (fC.mk ⟨W, hA, hv⟩ (h3 j rfl hj (by rw [c33]) (by rw [← goB_i (by omega) (by omega)]; exact c26))) dX0_would_63
      · refine j_ldc C q1003 dX0_would_29 ?_
        exact j_iret C (by omega) (by omega) (fC.mk ⟨W, hA, hv⟩ (h2 j u rfl hj rfl hu (by rw [← goB_i (by omega) (by omega)]; exact c26))) dX0_would_31
    · refine j_ldc C q391 dX0_would_15 ?_
      exact j_iret C (by omega) (by omega) (fC.mk ⟨W, hA, hv⟩ (h1 (Or.inr c12))) dX0_would_17
set_option maxHeartbeats 400000 in
theorem kX0_reach (G : gl_T) (hG : GH G) (w0 w : wd_T) (x : Nat) (O : Nat → Prop) (V : fv_T) (Z : fz_T) (hF : FX G w0 w x O V Z) (ht : smT V.2.1) (P : Int32 → fv_T → Prop) (h1 : V.2.1 0 = 0 → P kSTATE V) (h2 : 0 < V.2.1 0 → P (nI (rchO V.2.1 6)) V) : Mt G yX0_reach cX0_reach 4 (some .int) 2 [.ref x] w (fC G w0 x O P) 0 0 := by
  refine Mt.start (by decide) (Nat.le_of_ble_eq_true rfl) (fun k C => ?_)
  have C : Cx G k cX0_reach "MoodFare" "reach" 4 (some .int) 2 0 0 _ := C
  obtain ⟨W, hA, hv⟩ := id hF
  obtain ⟨r0, r1, r2, r3, r4, r5, r6, r7, r25, r26⟩ := id ht
  have rI : ∀ x, x < 8 → V.2.1 (26 + 2 * x + 1) < 6 := fun x hx => (r26 x hx).2
  have rO := rchO_lt (t := V.2.1) r4 rI r25
  refine j_aload_n C dX0_reach_0 rfl 0 rfl ?_
  refine j_callV (w := w) C (kX0_isThere G hG w0 w x O V Z ⟨W, hA, hv⟩ ht) pI.ret (ci := 0) (T := TX0) (hA.d0 hv) rfl 0 q966 q968 qs21 q66 q969 (by decide +kernel) rfl (by decide) (by decide) (Nat.le_of_ble_eq_true rfl) rfl dX0_reach_1 (by omega) (by omega) (qI.k ?_)
  refine j_if_neB C 10 dX0_reach_4 (by decide) (fun c4 => ?_) (fun c4 => ?_)
  · refine j_iconst (v := nI 1) C dX0_reach_10 rfl ?_
    refine j_aload_n C dX0_reach_11 rfl 0 rfl ?_
    refine j_get (w := w) C in_X0 (ci := 0) (T := TX0) rfl (hA.d0 hv) 4 (by decide) q251 (fun _ z => z) (v := .ref (x + 11)) rfl dX0_reach_12 ?_
    refine j_get (w := w) C in_X2 (ci := 2) (T := TX2) rfl (hA.s0 (V := V) hv).1 2 (by decide) q179 (fun _ z => z) (v := .int (nI (V.2.1 4))) rfl dX0_reach_15 ?_
    refine j_shl1 C dX0_reach_18 (by first | omega | (have := r26 e (by omega); omega) | (have := rchI_lt (t := V.2.1) (s := rchO V.2.1 i) rI (rO i) e (by omega); omega)) ?_
    refine j_istore_n (lv' := [(1, .int (nI (2 ^ (V.2.1 4)))), (0, .ref x)]) C dX0_reach_19 rfl (by decide) rfl ?_
    refine j_iconst (v := nI 0) C dX0_reach_20 rfl ?_
    refine j_istore_n (lv' := [(2, .int (nI 0)), (1, .int (nI (2 ^ (V.2.1 4)))), (0, .ref x)]) C dX0_reach_21 rfl (by decide) rfl ?_
    have lp : ∀ (n_lp i : Nat), 0 ≤ i → i ≤ 6 → 6 < i + n_lp → J G k w [(2, .int (nI i)), (1, .int (nI (rchO V.2.1 i))), (0, .ref x)] 22 [] 0 0 := by
      intro n_lp
      induction n_lp with
      | zero => intro i h0_lp h1_lp h2_lp; omega
      | succ n_lp ih_lp =>
        intro i h0_lp h1_lp h2_lp
        refine j_iload_n C dX0_reach_22 rfl 0 rfl ?_
        refine j_bipush (v := nI 6) C dX0_reach_23 rfl ?_
        refine j_icmp_geN C 97 dX0_reach_25 (by decide) (by first | omega | (have := r26 e (by omega); omega) | (have := rchI_lt (t := V.2.1) (s := rchO V.2.1 i) rI (rO i) e (by omega); omega)) (by first | omega | (have := r26 e (by omega); omega) | (have := rchI_lt (t := V.2.1) (s := rchO V.2.1 i) rI (rO i) e (by omega); omega)) (fun c25 => ?_) (fun c25 => ?_)
        · obtain rfl : 6 = i := by omega
          refine j_iload_n C dX0_reach_97 rfl 1 rfl ?_
          exact j_iret C (by omega) (by omega) (fC.mk ⟨W, hA, hv⟩ (h2 (of_decide_eq_true c4))) dX0_reach_98
        · refine j_iconst (v := nI 0) C dX0_reach_28 rfl ?_
          refine j_istore_n (lv' := [(3, .int (nI 0)), (2, .int (nI i)), (1, .int (nI (rchO V.2.1 i))), (0, .ref x)]) C dX0_reach_29 rfl (by decide) rfl ?_
          have lq : ∀ (n_lq e : Nat), 0 ≤ e → e ≤ V.2.1 25 → V.2.1 25 < e + n_lq → J G k w [(3, .int (nI e)), (2, .int (nI i)), (1, .int (nI (rchI V.2.1 (rchO V.2.1 i) e))), (0, .ref x)] 30 [] 0 0 := by
            intro n_lq
            induction n_lq with
            | zero => intro e h0_lq h1_lq h2_lq; omega
            | succ n_lq ih_lq =>
              intro e h0_lq h1_lq h2_lq
              refine j_iload_n C dX0_reach_30 rfl 0 rfl ?_
              refine j_aload_n C dX0_reach_31 rfl 3 rfl ?_
              refine j_get (w := w) C in_X0 (ci := 0) (T := TX0) rfl (hA.d0 hv) 4 (by decide) q251 (fun _ z => z) (v := .ref (x + 11)) rfl dX0_reach_32 ?_
              refine j_get (w := w) C in_X2 (ci := 2) (T := TX2) rfl (hA.s0 (V := V) hv).1 7 (by decide) q195 (fun _ z => z) (v := .int (nI (V.2.1 25))) rfl dX0_reach_35 ?_
              refine j_icmp_geN C 91 dX0_reach_38 (by decide) (by first | omega | (have := r26 e (by omega); omega) | (have := rchI_lt (t := V.2.1) (s := rchO V.2.1 i) rI (rO i) e (by omega); omega)) (by first | omega | (have := r26 e (by omega); omega) | (have := rchI_lt (t := V.2.1) (s := rchO V.2.1 i) rI (rO i) e (by omega); omega)) (fun c38 => ?_) (fun c38 => ?_)
              · obtain rfl : V.2.1 25 = e := by omega
                refine j_iincN (lv' := [(2, .int (nI (i + 1))), (3, .int (nI ((V.2.1 25)))), (1, .int (nI (rchI V.2.1 (rchO V.2.1 i) (V.2.1 25)))), (0, .ref x)]) C dX0_reach_91 1 rfl (by decide) rfl ?_
                refine j_goto C 22 dX0_reach_94 (by decide) ?_
                refine j_lv [0, 2, 3] (lv' := [(2, .int (nI (i + 1))), (1, .int (nI (rchI V.2.1 (rchO V.2.1 i) (V.2.1 25)))), (0, .ref x)]) rfl ?_
                refine j_lvN (lv' := [(2, .int (nI (i + 1))), (1, .int (nI (rchO V.2.1 (i + 1)))), (0, .ref x)]) 1 rfl (rfl) rfl ?_
                exact ih_lp (i + 1) (by omega) (by omega) (by omega)
              · refine j_aload_n C dX0_reach_41 rfl 3 rfl ?_
                refine j_get (w := w) C in_X0 (ci := 0) (T := TX0) rfl (hA.d0 hv) 4 (by decide) q251 (fun _ z => z) (v := .ref (x + 11)) rfl dX0_reach_42 ?_
                refine j_get (w := w) C in_X2 (ci := 2) (T := TX2) rfl (hA.s0 (V := V) hv).1 10 (by decide) q204 (fun _ z => z) (v := .int (nI (V.2.1 5))) rfl dX0_reach_45 ?_
                refine j_iload_n C dX0_reach_48 rfl 0 rfl ?_
                refine j_callS (w := w) C (kX0_has G w (V.2.1 5) e (by first | omega | (have := r26 e (by omega); omega) | (have := rchI_lt (t := V.2.1) (s := rchO V.2.1 i) rI (rO i) e (by omega); omega)) (by first | omega | (have := r26 e (by omega); omega) | (have := rchI_lt (t := V.2.1) (s := rchO V.2.1 i) rI (rO i) e (by omega); omega))) pI.ret 2 q977 q897 q66 q898 (by decide +kernel) rfl (by decide) (by decide) (Nat.le_of_ble_eq_true rfl) rfl dX0_reach_49 (by omega) (by omega) (qI.k ?_)
                refine j_if_eqB C 85 dX0_reach_52 (by decide) (fun c52 => ?_) (fun c52 => ?_)
                · refine j_iincN (lv' := [(3, .int (nI (e + 1))), (2, .int (nI i)), (1, .int (nI (rchI V.2.1 (rchO V.2.1 i) e))), (0, .ref x)]) C dX0_reach_85 0 rfl (by decide) rfl ?_
                  refine j_goto C 30 dX0_reach_88 (by decide) ?_
                  refine j_lv [0, 1, 2, 3] (lv' := [(3, .int (nI (e + 1))), (2, .int (nI i)), (1, .int (nI (rchI V.2.1 (rchO V.2.1 i) e))), (0, .ref x)]) rfl ?_
                  refine j_lvN (lv' := [(3, .int (nI (e + 1))), (2, .int (nI i)), (1, .int (nI (rchI V.2.1 (rchO V.2.1 i) (e + 1)))), (0, .ref x)]) 2 rfl (by simp [rchI, c4, c25, c38, c52]) rfl ?_
                  exact ih_lq (e + 1) (by omega) (by omega) (by omega)
                · refine j_iload_n C dX0_reach_55 rfl 2 rfl ?_
                  refine j_aload_n C dX0_reach_56 rfl 3 rfl ?_
                  refine j_get (w := w) C in_X0 (ci := 0) (T := TX0) rfl (hA.d0 hv) 4 (by decide) q251 (fun _ z => z) (v := .ref (x + 11)) rfl dX0_reach_57 ?_
                  refine j_get (w := w) C in_X2 (ci := 2) (T := TX2) rfl (hA.s0 (V := V) hv).1 8 (by decide) q198 (fun _ z => z) (v := .ref (x + 11 + 3)) rfl dX0_reach_60 ?_
                  refine j_iload_n C dX0_reach_63 rfl 0 rfl ?_
                  obtain ⟨o0_0h0, ⟨o0_0e, o0_0md, o0_0h1, o0_0h2⟩, ⟨o0_0fm, o0_0hm, o0_0vm⟩, ⟨o0_0ff, o0_0hf, o0_0vf⟩, ⟨o0_0ft, o0_0ho, o0_0vo⟩, o0_0h6, o0_0hk⟩ := id (hA.s0 (V := V) hv)
                  refine j_ialdN (w := w) C o0_0hf (e) rfl (by first | omega | (have := r26 e (by omega); omega) | (have := rchI_lt (t := V.2.1) (s := rchO V.2.1 i) rI (rO i) e (by omega); omega)) (by decide) dX0_reach_64 ?_
                  refine j_as (y := nI (V.2.1 (26 + 2 * e))) (o0_0vf e (by omega)) ?_
                  refine j_callS (w := w) C (kX0_has G w (rchI V.2.1 (rchO V.2.1 i) e) (V.2.1 (26 + 2 * e)) (by first | omega | (have := r26 e (by omega); omega) | (have := rchI_lt (t := V.2.1) (s := rchO V.2.1 i) rI (rO i) e (by omega); omega)) (by first | omega | (have := r26 e (by omega); omega) | (have := rchI_lt (t := V.2.1) (s := rchO V.2.1 i) rI (rO i) e (by omega); omega))) pI.ret 2 q977 q897 q66 q898 (by decide +kernel) rfl (by decide) (by decide) (Nat.le_of_ble_eq_true rfl) rfl dX0_reach_65 (by omega) (by omega) (qI.k ?_)
                  refine j_if_eqB C 85 dX0_reach_68 (by decide) (fun c68 => ?_) (fun c68 => ?_)
                  · refine j_iincN (lv' := [(3, .int (nI (e + 1))), (2, .int (nI i)), (1, .int (nI (rchI V.2.1 (rchO V.2.1 i) e))), (0, .ref x)]) C dX0_reach_85 0 rfl (by decide) rfl ?_
                    refine j_goto C 30 dX0_reach_88 (by decide) ?_
                    refine j_lv [0, 1, 2, 3] (lv' := [(3, .int (nI (e + 1))), (2, .int (nI i)), (1, .int (nI (rchI V.2.1 (rchO V.2.1 i) e))), (0, .ref x)]) rfl ?_
                    refine j_lvN (lv' := [(3, .int (nI (e + 1))), (2, .int (nI i)), (1, .int (nI (rchI V.2.1 (rchO V.2.1 i) (e + 1)))), (0, .ref x)]) 2 rfl (by simp [rchI, c4, c25, c38, c52, c68]) rfl ?_
                    exact ih_lq (e + 1) (by omega) (by omega) (by omega)
                  · refine j_iload_n C dX0_reach_71 rfl 2 rfl ?_
                    refine j_iconst (v := nI 1) C dX0_reach_72 rfl ?_
                    refine j_aload_n C dX0_reach_73 rfl 3 rfl ?_
                    refine j_get (w := w) C in_X0 (ci := 0) (T := TX0) rfl (hA.d0 hv) 4 (by decide) q251 (fun _ z => z) (v := .ref (x + 11)) rfl dX0_reach_74 ?_
                    refine j_get (w := w) C in_X2 (ci := 2) (T := TX2) rfl (hA.s0 (V := V) hv).1 9 (by decide) q201 (fun _ z => z) (v := .ref (x + 11 + 4)) rfl dX0_reach_77 ?_
                    refine j_iload_n C dX0_reach_80 rfl 0 rfl ?_
                    refine j_ialdN (w := w) C o0_0ho (e) rfl (by first | omega | (have := r26 e (by omega); omega) | (have := rchI_lt (t := V.2.1) (s := rchO V.2.1 i) rI (rO i) e (by omega); omega)) (by decide) dX0_reach_81 ?_
                    refine j_as (y := nI (V.2.1 (26 + 2 * e + 1))) (o0_0vo e (by omega)) ?_
                    refine j_shl1 C dX0_reach_82 (by first | omega | (have := r26 e (by omega); omega) | (have := rchI_lt (t := V.2.1) (s := rchO V.2.1 i) rI (rO i) e (by omega); omega)) ?_
                    refine j_iorN C dX0_reach_83 ?_
                    refine j_istore_n (lv' := [(1, .int (nI ((rchI V.2.1 (rchO V.2.1 i) e) ||| (2 ^ (V.2.1 (26 + 2 * e + 1)))))), (3, .int (nI e)), (2, .int (nI i)), (0, .ref x)]) C dX0_reach_84 rfl (by decide) rfl ?_
                    refine j_iincN (lv' := [(3, .int (nI (e + 1))), (1, .int (nI ((rchI V.2.1 (rchO V.2.1 i) e) ||| (2 ^ (V.2.1 (26 + 2 * e + 1)))))), (2, .int (nI i)), (0, .ref x)]) C dX0_reach_85 1 rfl (by decide) rfl ?_
                    refine j_goto C 30 dX0_reach_88 (by decide) ?_
                    refine j_lv [0, 2, 1, 3] (lv' := [(3, .int (nI (e + 1))), (2, .int (nI i)), (1, .int (nI ((rchI V.2.1 (rchO V.2.1 i) e) ||| (2 ^ (V.2.1 (26 + 2 * e + 1)))))), (0, .ref x)]) rfl ?_
                    refine j_lvN (lv' := [(3, .int (nI (e + 1))), (2, .int (nI i)), (1, .int (nI (rchI V.2.1 (rchO V.2.1 i) (e + 1)))), (0, .ref x)]) 2 rfl (by simp [rchI, c4, c25, c38, c52, c68]) rfl ?_
                    exact ih_lq (e + 1) (by omega) (by omega) (by omega)
          refine j_lv [0, 1, 2, 3] (lv' := [(3, .int (nI 0)), (2, .int (nI i)), (1, .int (nI (rchO V.2.1 i))), (0, .ref x)]) rfl ?_
          refine j_lvN (lv' := [(3, .int (nI 0)), (2, .int (nI i)), (1, .int (nI (rchI V.2.1 (rchO V.2.1 i) 0))), (0, .ref x)]) 2 rfl rfl rfl ?_
          exact lq (V.2.1 25 + 1 - 0) (0) (by omega) (by omega) (by omega)
    refine j_lv [0, 1, 2] (lv' := [(2, .int (nI 0)), (1, .int (nI (2 ^ (V.2.1 4)))), (0, .ref x)]) rfl ?_
    refine j_lvN (lv' := [(2, .int (nI 0)), (1, .int (nI (rchO V.2.1 0))), (0, .ref x)]) 1 rfl rfl rfl ?_
    exact lp (6 + 1 - 0) (0) (by omega) (by omega) (by omega)
  · refine j_ldc C q899 dX0_reach_7 ?_
    exact j_iret C (by omega) (by omega) (fC.mk ⟨W, hA, hv⟩ (h1 (by have := of_decide_eq_false c4; omega))) dX0_reach_9
set_option maxHeartbeats 400000 in
theorem kX0_kind (G : gl_T) (hG : GH G) (w0 w : wd_T) (x : Nat) (O : Nat → Prop) (V : fv_T) (Z : fz_T) (hF : FX G w0 w x O V Z) (y : Int32) (P : Int32 → fv_T → Prop) (h6 : V.2.1 6 ≤ 6) (h1 : inB y (nI 0) (nI (V.2.1 6) - nI 1) = false → P kBAD V) (h2 : ∀ j, y = nI j → j < V.2.1 6 → P (nI (V.2.1 (7 + 3 * j))) V) : Mt G yX0_kind cX0_kind 2 (some .int) 3 [.ref x, .int y] w (fC G w0 x O P) 0 0 := by
  refine Mt.start (by decide) (Nat.le_of_ble_eq_true rfl) (fun k C => ?_)
  have C : Cx G k cX0_kind "MoodFare" "kind" 2 (some .int) 3 0 0 _ := C
  obtain ⟨W, hA, hv⟩ := id hF
  refine j_aload_n C dX0_kind_0 rfl 0 rfl ?_
  refine j_iload_n C dX0_kind_1 rfl 1 rfl ?_
  refine j_callV (w := w) C (kX0_isCorner G hG w0 w x O V Z ⟨W, hA, hv⟩ y) pI.ret (ci := 0) (T := TX0) (hA.d0 hv) rfl 1 q956 q958 qs20 q66 q959 (by decide +kernel) rfl (by decide) (by decide) (Nat.le_of_ble_eq_true rfl) rfl dX0_kind_2 (by omega) (by omega) (qI.k ?_)
  refine j_if_eqB C 30 dX0_kind_5 (by decide) (fun c5 => ?_) (fun c5 => ?_)
  · refine j_ldc C q391 dX0_kind_30 ?_
    exact j_iret C (by omega) (by omega) (fC.mk ⟨W, hA, hv⟩ (h1 c5)) dX0_kind_32
  · obtain ⟨j, rfl, hj⟩ := inB_p (by omega) c5
    refine j_aload_n C dX0_kind_8 rfl 0 rfl ?_
    refine j_get (w := w) C in_X0 (ci := 0) (T := TX0) rfl (hA.d0 hv) 4 (by decide) q251 (fun _ z => z) (v := .ref (x + 11)) rfl dX0_kind_9 ?_
    refine j_get (w := w) C in_X2 (ci := 2) (T := TX2) rfl (hA.s0 (V := V) hv).1 5 (by decide) q187 (fun _ z => z) (v := .ref (x + 11 + 1)) rfl dX0_kind_12 ?_
    refine j_iload_n C dX0_kind_15 rfl 1 rfl ?_
    obtain ⟨o0_0h0, ⟨o0_0e, o0_0md, o0_0h1, o0_0h2⟩, ⟨o0_0fm, o0_0hm, o0_0vm⟩, ⟨o0_0ff, o0_0hf, o0_0vf⟩, ⟨o0_0ft, o0_0ho, o0_0vo⟩, o0_0h6, o0_0hk⟩ := id (hA.s0 (V := V) hv)
    obtain ⟨q1, hq1, gq1⟩ := tn_get (hA.s0 (V := V) hv) j (by omega)
    refine j_callF (w := w) C (gq1) pA.ret (ci := 20) (T := TJ2) o0_0h1 rfl 1 (C.fw hG ⟨q856, q855, q860, q858, q697, by decide⟩) q987 q857 q859 q71 q861 (by decide +kernel) rfl (by decide) (by decide) (Nat.le_of_ble_eq_true rfl) rfl dX0_kind_16 (by omega) (by omega) (qA.k ?_)
    rcases (show V.2.1 (7 + 3 * j) = 1 ∨ V.2.1 (7 + 3 * j) = 2 ∨ V.2.1 (7 + 3 * j) = 3 ∨ V.2.1 (7 + 3 * j) = 4 ∨ V.2.1 (7 + 3 * j) = 5 by have := (hA.s0 (V := V) hv).2.2.2.2.2.2 j (by omega); omega) with kq1 | kq1 | kq1 | kq1 | kq1
    · have hq1k : w.1 q1 = some (q1, .inr (7, [.int (nI j), .int (nI (V.2.1 (7 + 3 * j + 2)))])) := by have z := hq1; unfold CE at z; rw [kq1] at z; exact z
      refine j_castY (w := w) C (ci := 7) (T := TX8) hq1k rfl q988 (C.nw hG q1892 rfl) dX0_kind_21 ?_
      refine j_callA (w := w) C (kX8_kind G w q1) pI.ret (x := (⟨"MoodFare$Corner", "kind", "()I"⟩ : MethodName)) (owner := "MoodFare$Corner") (ci := 7) (T := TX8) hq1k rfl 0 (va_Decl.abs (C.nw hG q1293 rfl)) q1292 q1294 q1301 q1302 q92 q1303 (by decide +kernel) rfl (by decide) (by decide) (Nat.le_of_ble_eq_true rfl) rfl dX0_kind_24 (by omega) (by omega) (qI.k ?_)
      refine j_goto C 32 dX0_kind_27 (by decide) ?_
      exact j_iret C (by omega) (by omega) (fC.mk ⟨W, hA, hv⟩ (by have q := h2 j rfl hj; rw [kq1] at q; exact q)) dX0_kind_32
    · have hq1k : w.1 q1 = some (q1, .inr (8, [.int (nI j), .int (nI (V.2.1 (7 + 3 * j + 2)))])) := by have z := hq1; unfold CE at z; rw [kq1] at z; exact z
      refine j_castY (w := w) C (ci := 8) (T := TX9) hq1k rfl q988 (C.nw hG q1893 rfl) dX0_kind_21 ?_
      refine j_callA (w := w) C (kX9_kind G w q1) pI.ret (x := (⟨"MoodFare$Corner", "kind", "()I"⟩ : MethodName)) (owner := "MoodFare$Corner") (ci := 8) (T := TX9) hq1k rfl 0 (va_Decl.abs (C.nw hG q1293 rfl)) q1292 q1294 q1304 q1305 q93 q1306 (by decide +kernel) rfl (by decide) (by decide) (Nat.le_of_ble_eq_true rfl) rfl dX0_kind_24 (by omega) (by omega) (qI.k ?_)
      refine j_goto C 32 dX0_kind_27 (by decide) ?_
      exact j_iret C (by omega) (by omega) (fC.mk ⟨W, hA, hv⟩ (by have q := h2 j rfl hj; rw [kq1] at q; exact q)) dX0_kind_32
    · have hq1k : w.1 q1 = some (q1, .inr (9, [.int (nI j), .int (nI (V.2.1 (7 + 3 * j + 2)))])) := by have z := hq1; unfold CE at z; rw [kq1] at z; exact z
      refine j_castY (w := w) C (ci := 9) (T := TX10) hq1k rfl q988 (C.nw hG q1891 rfl) dX0_kind_21 ?_
      refine j_callA (w := w) C (kX10_kind G w q1) pI.ret (x := (⟨"MoodFare$Corner", "kind", "()I"⟩ : MethodName)) (owner := "MoodFare$Corner") (ci := 9) (T := TX10) hq1k rfl 0 (va_Decl.abs (C.nw hG q1293 rfl)) q1292 q1294 q1298 q1299 q94 q1300 (by decide +kernel) rfl (by decide) (by decide) (Nat.le_of_ble_eq_true rfl) rfl dX0_kind_24 (by omega) (by omega) (qI.k ?_)
      refine j_goto C 32 dX0_kind_27 (by decide) ?_
      exact j_iret C (by omega) (by omega) (fC.mk ⟨W, hA, hv⟩ (by have q := h2 j rfl hj; rw [kq1] at q; exact q)) dX0_kind_32
    · have hq1k : w.1 q1 = some (q1, .inr (10, [.int (nI j), .int (nI (V.2.1 (7 + 3 * j + 2)))])) := by have z := hq1; unfold CE at z; rw [kq1] at z; exact z
      refine j_castY (w := w) C (ci := 10) (T := TX11) hq1k rfl q988 (C.nw hG q1890 rfl) dX0_kind_21 ?_
      refine j_callA (w := w) C (kX11_kind G w q1) pI.ret (x := (⟨"MoodFare$Corner", "kind", "()I"⟩ : MethodName)) (owner := "MoodFare$Corner") (ci := 10) (T := TX11) hq1k rfl 0 (va_Decl.abs (C.nw hG q1293 rfl)) q1292 q1294 q1295 q1296 q95 q1297 (by decide +kernel) rfl (by decide) (by decide) (Nat.le_of_ble_eq_true rfl) rfl dX0_kind_24 (by omega) (by omega) (qI.k ?_)
      refine j_goto C 32 dX0_kind_27 (by decide) ?_
      exact j_iret C (by omega) (by omega) (fC.mk ⟨W, hA, hv⟩ (by have q := h2 j rfl hj; rw [kq1] at q; exact q)) dX0_kind_32
    · have hq1k : w.1 q1 = some (q1, .inr (11, [.int (nI j), .int (nI (V.2.1 (7 + 3 * j + 2)))])) := by have z := hq1; unfold CE at z; rw [kq1] at z; exact z
      refine j_castY (w := w) C (ci := 11) (T := TX12) hq1k rfl q988 (C.nw hG q1894 rfl) dX0_kind_21 ?_
      refine j_callA (w := w) C (kX12_kind G w q1) pI.ret (x := (⟨"MoodFare$Corner", "kind", "()I"⟩ : MethodName)) (owner := "MoodFare$Corner") (ci := 11) (T := TX12) hq1k rfl 0 (va_Decl.abs (C.nw hG q1293 rfl)) q1292 q1294 q1307 q1308 q96 q1309 (by decide +kernel) rfl (by decide) (by decide) (Nat.le_of_ble_eq_true rfl) rfl dX0_kind_24 (by omega) (by omega) (qI.k ?_)
      refine j_goto C 32 dX0_kind_27 (by decide) ?_
      exact j_iret C (by omega) (by omega) (fC.mk ⟨W, hA, hv⟩ (by have q := h2 j rfl hj; rw [kq1] at q; exact q)) dX0_kind_32
set_option maxHeartbeats 400000 in
theorem kX0_fault (G : gl_T) (hG : GH G) (w0 w : wd_T) (x : Nat) (O : Nat → Prop) (V : fv_T) (Z : fz_T) (hF : FX G w0 w x O V Z) (P : Int32 → fv_T → Prop) (h1 : P (nI (V.1 1)) V) : Mt G yX0_fault cX0_fault 1 (some .int) 0 [.ref x] w (fC G w0 x O P) 0 0 := by
  refine Mt.start (by decide) (Nat.le_of_ble_eq_true rfl) (fun k C => ?_)
  have C : Cx G k cX0_fault "MoodFare" "fault" 1 (some .int) 0 0 0 _ := C
  obtain ⟨W, hA, hv⟩ := id hF
  refine j_aload_n C dX0_fault_0 rfl 0 rfl ?_
  refine j_get (w := w) C in_X0 (ci := 0) (T := TX0) rfl (hA.d0 hv) 3 (by decide) q248 (fun _ z => z) (v := .int (nI (V.1 1))) rfl dX0_fault_1 ?_
  exact j_iret C (by omega) (by omega) (fC.mk ⟨W, hA, hv⟩ (h1)) dX0_fault_4
set_option maxHeartbeats 400000 in
theorem kX0_status (G : gl_T) (hG : GH G) (w0 w : wd_T) (x : Nat) (O : Nat → Prop) (V : fv_T) (Z : fz_T) (hF : FX G w0 w x O V Z) (P : Int32 → fv_T → Prop) (h1 : P (nI (V.1 3)) V) : Mt G yX0_status cX0_status 1 (some .int) 0 [.ref x] w (fC G w0 x O P) 0 0 := by
  refine Mt.start (by decide) (Nat.le_of_ble_eq_true rfl) (fun k C => ?_)
  have C : Cx G k cX0_status "MoodFare" "status" 1 (some .int) 0 0 0 _ := C
  obtain ⟨W, hA, hv⟩ := id hF
  refine j_aload_n C dX0_status_0 rfl 0 rfl ?_
  refine j_get (w := w) C in_X0 (ci := 0) (T := TX0) rfl (hA.d0 hv) 10 (by decide) q260 (fun _ z => z) (v := .int (nI (V.1 3))) rfl dX0_status_1 ?_
  exact j_iret C (by omega) (by omega) (fC.mk ⟨W, hA, hv⟩ (h1)) dX0_status_4
set_option maxHeartbeats 400000 in
theorem kX0_found (G : gl_T) (hG : GH G) (w0 w : wd_T) (x : Nat) (O : Nat → Prop) (V : fv_T) (Z : fz_T) (hF : FX G w0 w x O V Z) (n : Nat) : Mt G yX0_found cX0_found 2 (some .int) 0 [.ref x, .int (nI n)] w (fI G w0 x O ((-1000010) - nI n) (vN V 3 n) Z) 0 0 := by
  refine Mt.start (by decide) (Nat.le_of_ble_eq_true rfl) (fun k C => ?_)
  have C : Cx G k cX0_found "MoodFare" "found" 2 (some .int) 0 0 0 _ := C
  obtain ⟨W, hA, hv⟩ := id hF
  refine j_aload_n C dX0_found_0 rfl 0 rfl ?_
  refine j_iload_n C dX0_found_1 rfl 1 rfl ?_
  refine j_put (w := w) C (ty0 := tyX0) in_X0 tyX0_ok nmX0 (ci := 0) (T := TX0) rfl (hA.d0 hv) 10 (by decide) q260 (fun _ z => z) rfl rfl rfl (fs' := [.ref (x + 1), .ref (x + 10), .int (nI (V.1 0)), .int (nI (V.1 1)), .ref (x + 11), .ref (x + 16), .ref (x + 21), .int (nI (V.1 2)), .ref (x + 22), .ref (W.1 5), .int (nI n), .ref (x + 25), .ref (x + 26), .ref (x + 27)]) (Nat.le_of_ble_eq_true rfl) rfl dX0_found_2 ?_
  refine j_abs (P := fun w' => FX G w0 w' x O (vN V 3 n) Z) (FX.num hA hv 3 n (by omega)) (fun w1 h1 => ?_)
  obtain ⟨W1, hA1, hv1⟩ := h1
  refine j_ldc C q403 dX0_found_5 ?_
  refine j_iload_n C dX0_found_7 rfl 1 rfl ?_
  refine j_isub C dX0_found_8 ?_
  exact j_iret C (by omega) (by omega) (pI.mk ⟨rfl, ⟨W1, hA1, hv1⟩⟩) dX0_found_9
set_option maxHeartbeats 400000 in
theorem kX0_well (G : gl_T) (hG : GH G) (w0 w : wd_T) (x : Nat) (O : Nat → Prop) (V : fv_T) (Z : fz_T) (hF : FX G w0 w x O V Z) (y : Int32) : Mt G yX0_well cX0_well 2 (some .int) 0 [.ref x, .int y] w (fI G w0 x O y (vN V 3 0) Z) 0 0 := by
  refine Mt.start (by decide) (Nat.le_of_ble_eq_true rfl) (fun k C => ?_)
  have C : Cx G k cX0_well "MoodFare" "well" 2 (some .int) 0 0 0 _ := C
  obtain ⟨W, hA, hv⟩ := id hF
  refine j_aload_n C dX0_well_0 rfl 0 rfl ?_
  refine j_iconst (v := nI 0) C dX0_well_1 rfl ?_
  refine j_put (w := w) C (ty0 := tyX0) in_X0 tyX0_ok nmX0 (ci := 0) (T := TX0) rfl (hA.d0 hv) 10 (by decide) q260 (fun _ z => z) rfl rfl rfl (fs' := [.ref (x + 1), .ref (x + 10), .int (nI (V.1 0)), .int (nI (V.1 1)), .ref (x + 11), .ref (x + 16), .ref (x + 21), .int (nI (V.1 2)), .ref (x + 22), .ref (W.1 5), .int (nI 0), .ref (x + 25), .ref (x + 26), .ref (x + 27)]) (Nat.le_of_ble_eq_true rfl) rfl dX0_well_2 ?_
  refine j_abs (P := fun w' => FX G w0 w' x O (vN V 3 0) Z) (FX.num hA hv 3 0 (by omega)) (fun w1 h1 => ?_)
  obtain ⟨W1, hA1, hv1⟩ := h1
  refine j_iload_n C dX0_well_5 rfl 1 rfl ?_
  exact j_iret C (by omega) (by omega) (pI.mk ⟨rfl, ⟨W1, hA1, hv1⟩⟩) dX0_well_6
