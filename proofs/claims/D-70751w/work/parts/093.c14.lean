/-! ===== told acts: plain words ===== -/
set_option maxRecDepth 100000
theorem gsF_o {it : Nat → Int32} {t : Nat → Nat} {p f i : Nat} (hi : i = 0 ∨ 5 ≤ i) : ∀ k, (gsF it t p f k).2 i = t i := by
  intro k
  induction k with
  | zero => rfl
  | succ k ih =>
    rw [gsF_s]
    split
    · show rdT (gsF it t p f k).2 _ i = _
      unfold rdT
      rw [uN_n (by omega), uN_n (by omega), uN_n (by omega), uN_n (by omega)]
      exact ih
    · exact ih
theorem gsF_ok {it : Nat → Int32} {t : Nat → Nat} {p f k j : Nat} (h : (gsF it t p f k).1 = true) (hj : it (f + k) = nI j) (hj2 : j < 2 ^ 31) (hg : goB (gsF it t p f k).2 (nI j) ((gsF it t p f k).2 4) = true) (hc : nI (csd (gsF it t p f k).2 ((gsF it t p f k).2 (26 + 2 * j + 1)) ((gsF it t p f k).2 1) ((gsF it t p f k).2 3)) = it (p + k)) : gsF it t p f (k + 1) = (true, rdT (gsF it t p f k).2 j) := by
  rw [gsF_s, hj, nI_clamp hj2, h, hg]
  simp [hc]
theorem gsF_no {it : Nat → Int32} {t : Nat → Nat} {p f k n : Nat} (h : (gsF it t p f (k + 1)).1 = false) (hn : k < n) : (gsF it t p f n).1 = false := by
  rw [gsF_f h n (by omega)]
theorem smT_pl {t : Nat → Nat} {pl v : Nat} (ht : smT t) (hp : pl = 0 ∨ pl = 1) (hv : v ≤ 9) : smT (uN t pl v) := by
  obtain ⟨r0, r1, r2, r3, r4, r5, r6, r7, r25, r26⟩ := ht
  refine ⟨?_, ?_, ?_, ?_, ?_, ?_, ?_, fun c hc => ?_, ?_, fun x hx => ?_⟩
  · unfold uN; split <;> omega
  · unfold uN; split <;> omega
  · rw [uN_n (by omega)]; exact r2
  · rw [uN_n (by omega)]; exact r3
  · rw [uN_n (by omega)]; exact r4
  · rw [uN_n (by omega)]; exact r5
  · rw [uN_n (by omega)]; exact r6
  · rw [uN_n (by omega), uN_n (by omega), uN_n (by omega)]; exact r7 c hc
  · rw [uN_n (by omega)]; exact r25
  · rw [uN_n (by omega), uN_n (by omega)]; exact r26 x hx
theorem wf_pl {t : Nat → Nat} {pl v : Nat} (hp : pl < 6) (h : ∀ y, y < t 25 → t (26 + 2 * y + 1) < t 6) : ∀ y, y < uN t pl v 25 → uN t pl v (26 + 2 * y + 1) < uN t pl v 6 := by
  intro y hy
  rw [uN_n (by omega), uN_n (by omega)]
  rw [uN_n (by omega)] at hy
  exact h y hy
section TSX
variable {G : gl_T} {w0 w w' : wd_T} {x : Nat} {O O' : Nat → Prop} {V : fv_T} {Z : fz_T}
/-- what is made later is foreign -/
theorem FA.fresh {W : cw_T} {σ : Nat} (h : FA G w0 w x O W) (hs : w.2 ≤ σ) : x + 27 < σ ∧ σ ≠ W.1 5 ∧ ∀ i, i < 37 → W.2.2.1 i ≠ some σ := by
  have h27 := h.wf _ _ _ h.c27
  have h5 := h.wf _ _ _ h.tr.1
  refine ⟨by omega, by omega, fun i hi z => ?_⟩
  have := (h.tn hi z).lt h.wf
  omega
/-- from now on other foreign cells are kept, as they are now -/
theorem FA.rebase {W : cw_T} (h : FA G w0 w x O W) (hO : ∀ σ, O' σ → O σ ∨ (σ < w.2 ∧ x + 27 < σ ∧ σ ≠ W.1 5 ∧ ∀ i, i < 37 → W.2.2.1 i ≠ some σ)) : FA G w w x O' W := by
  refine ⟨h.1, h.2.1, h.2.2.1, h.2.2.2.1, h.a0, h.a1, h.rid, h.past, fun k hk => h.rows k hk, h.tr, fun b σ e _ hb => hb, fun σ ho => ?_⟩
  rcases hO σ ho with q | ⟨a, b, c, d⟩
  · exact h.frO σ q
  · exact ⟨a, Or.inr b, c, d⟩
/-- and back -/
theorem FA.unbase {W W' : cw_T} (h : FA G w0 w x O W) (h' : FA G w w' x O' W') (hO : ∀ σ, O σ → O' σ) : FA G w0 w' x O W' :=
  ⟨h'.1, h'.2.1, h'.2.2.1, h'.2.2.2.1, h'.a0, h'.a1, h'.rid, h'.past, fun k hk => h'.rows k hk, h'.tr, fun b σ e ho hb => h'.fr0 b σ e (hO σ ho) (h.fr0 b σ e ho hb), fun σ ho => h'.frO σ (hO σ ho)⟩
end TSX
/-! ===== the class: told acts ===== -/
set_option maxRecDepth 100000
set_option maxHeartbeats 400000 in
theorem kX0_costsSo (G : gl_T) (hG : GH G) (w0 w : wd_T) (x : Nat) (O : Nat → Prop) (V : fv_T) (Z : fz_T) (hF : FX G w0 w x O V Z) (ca sa n : Nat) (fc fs : Nat → Int32) (it : Nat → Int32) (p f : Nat) (hOc : O ca) (hc0 : w0.1 ca = some (ca, ai (gl_A G 0) n fc)) (hOs : O sa) (hs0 : w0.1 sa = some (sa, ai (gl_A G 0) n fs)) (hn : n ≤ 8) (hfc : ∀ i, i < n → fc i = it (p + i)) (hfs : ∀ i, i < n → fs i = it (f + i)) (ht : smT Z.1) (h3 : Z.1 3 ≤ 1000) (hwf : ∀ y, y < Z.1 25 → Z.1 (26 + 2 * y + 1) < Z.1 6) : Mt G yX0_costsSo cX0_costsSo 4 (some .boolean) 6 [.ref x, .ref ca, .ref sa] w (pI (fun r w' => r = bZ (gsF it Z.1 p f n).1 ∧ ∃ t', FX G w0 w' x O V (zT Z t'))) 0 0 := by
  refine Mt.start (by decide) (Nat.le_of_ble_eq_true rfl) (fun k C => ?_)
  have C : Cx G k cX0_costsSo "MoodFare" "costsSo" 4 (some .boolean) 6 0 0 _ := C
  obtain ⟨W, hA, hv⟩ := id hF
  refine j_iconst (v := nI 0) C dX0_costsSo_0 rfl ?_
  refine j_istore_n (lv' := [(3, .int (nI 0)), (0, .ref x), (1, .ref ca), (2, .ref sa)]) C dX0_costsSo_1 rfl (by decide) rfl ?_
  have lp : ∀ (m i : Nat) (w5 : wd_T), i ≤ n → n < i + m → FX G w0 w5 x O V (zT Z (gsF it Z.1 p f i).2) → (gsF it Z.1 p f i).1 = true → J G k w5 [(3, .int (nI i)), (0, .ref x), (1, .ref ca), (2, .ref sa)] 2 [] 0 0 := by
    intro m
    induction m with
    | zero => intro i w5 a1 a2; omega
    | succ m ih =>
      intro i w5 hi1 hi2 hX5 hg5
      obtain ⟨W5, hA5, hv5⟩ := id hX5
      have hsm := gsF_sm (it := it) (p := p) (f := f) ht i (by omega)
      have ht1 := hsm.1
      obtain ⟨q0, q1, q2, q3, q4, q5, q6, q7, q25, q26⟩ := id ht1
      have hd25 : (gsF it Z.1 p f i).2 25 = Z.1 25 := gsF_o (by omega) i
      have hd6 : (gsF it Z.1 p f i).2 6 = Z.1 6 := gsF_o (by omega) i
      refine j_iload_n C dX0_costsSo_2 rfl 0 rfl ?_
      refine j_aload_n C dX0_costsSo_3 rfl 3 rfl ?_
      refine j_alen (w := w5) C 0 (hA5.fr0 sa sa _ hOs hs0) rfl dX0_costsSo_4 ?_
      refine j_icmp_geN C 45 dX0_costsSo_5 (by decide) (by omega) (by omega) (fun c5 => ?_) (fun c5 => ?_)
      · refine j_iconst (v := nI 1) C dX0_costsSo_45 rfl ?_
        exact j_zret C (by decide +kernel) (by omega) (by omega) (pI.mk ⟨by rw [show n = i by omega, hg5]; rfl, _, ⟨W5, hA5, hv5⟩⟩) dX0_costsSo_46
      · refine j_aload_n C dX0_costsSo_8 rfl 1 rfl ?_
        refine j_get (w := w5) C in_X0 (ci := 0) (T := TX0) rfl (hA5.d0 hv5) 5 (by decide) q255 (fun _ z => z) (v := .ref (x + 16)) rfl dX0_costsSo_9 ?_
        refine j_aload_n C dX0_costsSo_12 rfl 3 rfl ?_
        refine j_iload_n C dX0_costsSo_13 rfl 0 rfl ?_
        refine j_ialdN (w := w5) C (hA5.fr0 sa sa _ hOs hs0) (i) rfl (by omega) (by omega) dX0_costsSo_14 ?_
        refine j_as (y := it (f + i)) (hfs i (by omega)) ?_
        refine j_callV (w := w5) C (kX2_isWay G w5 hG (x + 16) ((gsF it Z.1 p f i).2) (hA5.s1 (Z := zT Z (gsF it Z.1 p f i).2) hv5) ht1 (it (f + i))) pI.ret (ci := 2) (T := TX2) (hA5.s1 (Z := zT Z (gsF it Z.1 p f i).2) hv5).1 rfl 1 q891 q892 q893 q68 q894 (by decide +kernel) rfl (by decide) (by decide) (Nat.le_of_ble_eq_true rfl) rfl dX0_costsSo_15 (by omega) (by omega) (qI.k ?_)
        refine j_if_eqB C 37 dX0_costsSo_18 (by decide) (fun c18 => ?_) (fun c18 => ?_)
        · refine j_iconst (v := nI 0) C dX0_costsSo_37 rfl ?_
          exact j_zret C (by decide +kernel) (by omega) (by omega) (pI.mk ⟨by rw [gsF_no (by rw [gsF_s, c18, hg5]; rfl) (by omega)]; rfl, _, ⟨W5, hA5, hv5⟩⟩) dX0_costsSo_38
        · obtain ⟨jj, hj, hjl, hjg⟩ := goB_n (by omega) c18
          have hto : (gsF it Z.1 p f i).2 (26 + 2 * jj + 1) < (gsF it Z.1 p f i).2 6 := by rw [gsF_o (by omega) i, hd6]; exact hwf jj (by omega)
          refine j_aload_n C dX0_costsSo_21 rfl 1 rfl ?_
          refine j_get (w := w5) C in_X0 (ci := 0) (T := TX0) rfl (hA5.d0 hv5) 5 (by decide) q255 (fun _ z => z) (v := .ref (x + 16)) rfl dX0_costsSo_22 ?_
          refine j_aload_n C dX0_costsSo_25 rfl 3 rfl ?_
          refine j_iload_n C dX0_costsSo_26 rfl 0 rfl ?_
          refine j_ialdN (w := w5) C (hA5.fr0 sa sa _ hOs hs0) (i) rfl (by omega) (by omega) dX0_costsSo_27 ?_
          refine j_as (y := it (f + i)) (hfs i (by omega)) ?_
          refine j_as (y := nI jj) hj ?_
          refine j_callV (w := w5) C (kX2_ride G w5 hG (x + 16) ((gsF it Z.1 p f i).2) (hA5.s1 (Z := zT Z (gsF it Z.1 p f i).2) hv5) ht1 jj (by omega) (by omega)) pI.ret (ci := 2) (T := TX2) (hA5.s1 (Z := zT Z (gsF it Z.1 p f i).2) hv5).1 rfl 1 q904 q905 q906 q68 q907 (by decide +kernel) rfl (by decide) (by decide) (Nat.le_of_ble_eq_true rfl) rfl dX0_costsSo_28 (by omega) (by omega) (qI.k ?_)
          refine j_abs (P := fun w' => FX G w0 w' x O V (zT (zT Z (gsF it Z.1 p f i).2) (rdT ((gsF it Z.1 p f i).2) jj))) (FX.t1 hA5 hv5 (RD_sc (hA5.s1 (Z := zT Z (gsF it Z.1 p f i).2) hv5)) (FR.upd (hA5.s1 (Z := zT Z (gsF it Z.1 p f i).2) hv5).1 isC_TE) (hA5.wf.upd (hA5.s1 (Z := zT Z (gsF it Z.1 p f i).2) hv5).1)) (fun w1 h1 => ?_)
          obtain ⟨W1, hA1, hv1⟩ := h1
          refine j_aload_n C dX0_costsSo_31 rfl 2 rfl ?_
          refine j_iload_n C dX0_costsSo_32 rfl 0 rfl ?_
          refine j_ialdN (w := w1) C (hA1.fr0 ca ca _ hOc hc0) (i) rfl (by omega) (by omega) dX0_costsSo_33 ?_
          refine j_as (y := it (p + i)) (hfc i (by omega)) ?_
          refine j_icmp_eq C 39 dX0_costsSo_34 (by decide) (fun c34 => ?_) (fun c34 => ?_)
          · refine j_iincN (lv' := [(3, .int (nI (i + 1))), (0, .ref x), (1, .ref ca), (2, .ref sa)]) C dX0_costsSo_39 0 rfl (by decide) rfl ?_
            refine j_goto C 2 dX0_costsSo_42 (by decide) ?_
            refine j_lv [0, 1, 2, 3] (lv' := [(3, .int (nI (i + 1))), (0, .ref x), (1, .ref ca), (2, .ref sa)]) rfl ?_
            have eG := gsF_ok hg5 hj (by omega) (by rw [← hj]; exact c18) c34
            exact ih (i + 1) w1 (by omega) (by omega) (by rw [eG]; exact ⟨W1, hA1, hv1⟩) (by rw [eG])
          · refine j_iconst (v := nI 0) C dX0_costsSo_37 rfl ?_
            exact j_zret C (by decide +kernel) (by omega) (by omega) (pI.mk ⟨by rw [gsF_no (by rw [gsF_s, hj, nI_clamp (by omega)]; simp [c34]) (by omega)]; rfl, _, ⟨W1, hA1, hv1⟩⟩) dX0_costsSo_38
  refine j_lv [0, 1, 2, 3] (lv' := [(3, .int (nI 0)), (0, .ref x), (1, .ref ca), (2, .ref sa)]) rfl ?_
  exact lp (n + 1) 0 w (by omega) (by omega) ⟨W, hA, hv⟩ rfl
set_option maxHeartbeats 400000 in
theorem kX17_by_0 (G : gl_T) (hG : GH G) (w0 w : wd_T) (x : Nat) (O : Nat → Prop) (V : fv_T) (Z : fz_T) (hF : FX G w0 w x O V Z) (ca sa n : Nat) (fc fs : Nat → Int32) (it : Nat → Int32) (p f : Nat) (hOc : O ca) (hc0 : w0.1 ca = some (ca, ai (gl_A G 0) n fc)) (hOs : O sa) (hs0 : w0.1 sa = some (sa, ai (gl_A G 0) n fs)) (hn : n ≤ 8) (hfc : ∀ i, i < n → fc i = it (p + i)) (hfs : ∀ i, i < n → fs i = it (f + i)) (tb : Nat) (hOt : O tb) (ht0 : w0.1 tb = some (tb, .inr (16, [.int (nI 0), .ref x]))) (ht : smT V.2.1) (h3 : V.2.1 3 ≤ 1000) (hwf : ∀ y, y < V.2.1 25 → V.2.1 (26 + 2 * y + 1) < V.2.1 6) : Mt G yX17_by cX17_by 5 (some .int) 8 [.ref tb, .ref ca, .ref sa] w (pI (fun r w' => r = nI (alF it V.2.1 1 0 p f n 10) ∧ ∃ Z', FX G w0 w' x O V Z')) 10 100 := by
  refine Mt.start (by decide) (Nat.le_of_ble_eq_true rfl) (fun k C => ?_)
  have C : Cx G k cX17_by "MoodFare$Fits" "by" 5 (some .int) 8 10 100 _ := C
  obtain ⟨W, hA, hv⟩ := id hF
  obtain ⟨r0, r1, r2, r3, r4, r5, r6, r7, r25, r26⟩ := id ht
  refine j_iconst (v := nI 0) C dX17_by_0 rfl ?_
  refine j_istore_n (lv' := [(3, .int (nI 0)), (0, .ref tb), (1, .ref ca), (2, .ref sa)]) C dX17_by_1 rfl (by decide) rfl ?_
  refine j_aload_n C dX17_by_2 rfl 1 rfl ?_
  refine j_get (w := w) C in_X17 (ci := 16) (T := TX17) rfl (hA.fr0 tb tb _ hOt ht0) 0 (by decide) q1156 (fun _ z => z) (v := .int (nI 0)) rfl dX17_by_3 ?_
  refine j_istore (lv' := [(4, .int (nI 0)), (3, .int (nI 0)), (0, .ref tb), (1, .ref ca), (2, .ref sa)]) C dX17_by_6 (by decide) rfl ?_
  have lp : ∀ (m e : Nat) (w5 : wd_T) (Z5 : fz_T), e ≤ 10 → 10 < e + m → FX G w0 w5 x O V Z5 → J G k w5 [(4, .int (nI (0 + e))), (3, .int (nI (alF it V.2.1 1 0 p f n e))), (0, .ref tb), (1, .ref ca), (2, .ref sa)] 8 [] e (10 * e) := by
    intro m
    induction m with
    | zero => intro e w5 Z5 a1 a2; omega
    | succ m ih =>
      intro e w5 Z5 hi1 hi2 hX5
      obtain ⟨W5, hA5, hv5⟩ := id hX5
      refine j_iload C dX17_by_8 0 rfl ?_
      refine j_bipush (v := nI 9) C dX17_by_10 rfl ?_
      refine j_icmp_gtN C 86 dX17_by_12 (by decide) (by omega) (by omega) (fun c12 => ?_) (fun c12 => ?_)
      · obtain rfl : e = 10 := by omega
        refine j_iload_n C dX17_by_86 rfl 1 rfl ?_
        exact j_iret C (by omega) (by omega) (pI.mk ⟨rfl, _, ⟨W5, hA5, hv5⟩⟩) dX17_by_87
      · refine j_aload_n C dX17_by_15 rfl 2 rfl ?_
        refine j_get (w := w5) C in_X17 (ci := 16) (T := TX17) rfl (hA5.fr0 tb tb _ hOt ht0) 1 (by decide) q1157 (fun _ z => z) (v := .ref x) rfl dX17_by_16 ?_
        refine j_callVN (w := w5) C (kX0_asNow G hG w0 w5 x O V Z5 ⟨W5, hA5, hv5⟩) pA.ret (ci := 0) (T := TX0) (hA5.d0 hv5) rfl 0 (C.nw hG q1189 rfl) q1016 qs23 q66 q1017 (by decide +kernel) rfl (by decide) (by decide) (Nat.le_of_ble_eq_true rfl) rfl dX17_by_19 (by omega) (by omega) (pA.k (fun r1 w1 h1 => ?_))
        obtain ⟨rfl, h1, hfr1⟩ := h1
        obtain ⟨W1, hA1, hv1⟩ := h1
        refine j_pop C dX17_by_22 rfl ?_
        refine j_aload_n C dX17_by_23 rfl 2 rfl ?_
        refine j_get (w := w1) C in_X17 (ci := 16) (T := TX17) rfl (hA1.fr0 tb tb _ hOt ht0) 0 (by decide) q1156 (fun _ z => z) (v := .int (nI 0)) rfl dX17_by_24 ?_
        refine j_if_neN C 45 dX17_by_27 (by decide) (by omega) (fun c27 => ?_) (fun c27 => ?_)
        · exfalso; omega
        · refine j_aload_n C dX17_by_30 rfl 2 rfl ?_
          refine j_get (w := w1) C in_X17 (ci := 16) (T := TX17) rfl (hA1.fr0 tb tb _ hOt ht0) 1 (by decide) q1157 (fun _ z => z) (v := .ref x) rfl dX17_by_31 ?_
          refine j_getN (w := w1) C in_X0 (ci := 0) (T := TX0) rfl (hA1.d0 hv1) 5 (by decide) (C.nw hG q253 rfl) (fun _ z => z) (v := .ref (x + 16)) rfl dX17_by_34 ?_
          refine j_iload C dX17_by_37 0 rfl ?_
          refine j_put (w := w1) C (ty0 := tyX2) in_X2 tyX2_ok nmX2 (ci := 2) (T := TX2) rfl (hA1.s1 (Z := zT Z5 V.2.1) hv1).1 1 (by decide) q171 (fun _ z => z) rfl rfl rfl (fs' := [.int (nI (V.2.1 0)), .int (nI (0 + e)), .int (nI (V.2.1 4)), .int (nI (V.2.1 2)), .int (nI (V.2.1 3)), .ref (x + 16 + 1), .ref (x + 16 + 2), .int (nI (V.2.1 25)), .ref (x + 16 + 3), .ref (x + 16 + 4), .int (nI (V.2.1 5))]) (Nat.le_of_ble_eq_true rfl) rfl dX17_by_39 ?_
          refine j_abs (P := fun w' => FX G w0 w' x O V (zT (zT Z5 V.2.1) (uN V.2.1 1 (0 + e)))) (FX.t1 hA1 hv1 (TN.sc (u := uN V.2.1 1 (0 + e)) (hA1.s1 (Z := zT Z5 V.2.1) hv1) rfl (fun i h1 h2 => uN_n (by omega))) (FR.upd (hA1.s1 (Z := zT Z5 V.2.1) hv1).1 isC_TE) (hA1.wf.upd (hA1.s1 (Z := zT Z5 V.2.1) hv1).1)) (fun w2 h2 => ?_)
          obtain ⟨W2, hA2, hv2⟩ := h2
          refine j_goto C 57 dX17_by_42 (by decide) ?_
          refine j_iload_n C dX17_by_57 rfl 1 rfl ?_
          refine j_aload_n C dX17_by_58 rfl 2 rfl ?_
          refine j_get (w := w2) C in_X17 (ci := 16) (T := TX17) rfl (hA2.fr0 tb tb _ hOt ht0) 1 (by decide) q1157 (fun _ z => z) (v := .ref x) rfl dX17_by_59 ?_
          refine j_aload_n C dX17_by_62 rfl 3 rfl ?_
          refine j_aload_n C dX17_by_63 rfl 4 rfl ?_
          have hsmz : smT (uN V.2.1 1 (0 + e)) := smT_pl ht (by omega) (by omega)
          refine j_callVN (w := w2) C (kX0_costsSo G hG w0 w2 x O V (zT (zT Z5 V.2.1) (uN V.2.1 1 (0 + e))) ⟨W2, hA2, hv2⟩ ca sa n fc fs it p f hOc hc0 hOs hs0 hn hfc hfs hsmz (by show V.2.1 3 ≤ 1000; omega) (wf_pl (t := V.2.1) (pl := 1) (v := 0 + e) (by omega) hwf)) pI.ret (ci := 0) (T := TX0) (hA2.d0 hv2) rfl 2 (C.nw hG q1190 rfl) q1192 qs29 q66 q1193 (by decide +kernel) rfl (by decide) (by decide) (Nat.le_of_ble_eq_true rfl) rfl dX17_by_64 (by omega) (by omega) (pI.k (fun r3 w3 h3 => ?_))
          obtain ⟨rfl, t3, h3⟩ := h3
          obtain ⟨W3, hA3, hv3⟩ := h3
          refine j_if_eqB C 77 dX17_by_67 (by decide) (fun c67 => ?_) (fun c67 => ?_)
          · have c67 : (gsF it (uN V.2.1 1 (0 + e)) p f n).1 = false := c67
            refine j_iconst (v := nI 0) C dX17_by_77 rfl ?_
            refine j_iorN C dX17_by_78 ?_
            refine j_istore_n (lv' := [(3, .int (nI ((alF it V.2.1 1 0 p f n e) ||| 0))), (4, .int (nI (0 + e))), (0, .ref tb), (1, .ref ca), (2, .ref sa)]) C dX17_by_79 rfl (by decide) rfl ?_
            refine j_iincN (lv' := [(4, .int (nI (0 + e + 1))), (3, .int (nI ((alF it V.2.1 1 0 p f n e) ||| 0))), (0, .ref tb), (1, .ref ca), (2, .ref sa)]) C dX17_by_80 1 rfl (by decide) rfl ?_
            refine j_goto C 8 dX17_by_83 (by decide) ?_
            refine j_lv [0, 1, 2, 3, 4] (lv' := [(4, .int (nI (0 + e + 1))), (3, .int (nI ((alF it V.2.1 1 0 p f n e) ||| 0))), (0, .ref tb), (1, .ref ca), (2, .ref sa)]) rfl ?_
            refine j_lvN (lv' := [(4, .int (nI (0 + (e + 1)))), (3, .int (nI ((alF it V.2.1 1 0 p f n e) ||| 0))), (0, .ref tb), (1, .ref ca), (2, .ref sa)]) 0 rfl (by omega) rfl ?_
            refine j_lvN (lv' := [(4, .int (nI (0 + (e + 1)))), (3, .int (nI (alF it V.2.1 1 0 p f n (e + 1)))), (0, .ref tb), (1, .ref ca), (2, .ref sa)]) 1 rfl (by show _ = alF it V.2.1 1 0 p f n e ||| (if (gsF it (uN V.2.1 1 (0 + e)) p f n).1 = true then 2 ^ (0 + e) else 0); rw [c67]; simp) rfl ?_
            refine j_wide (ce' := e + 1) (sl' := 10 * (e + 1)) (by omega) (by omega) ?_
            exact ih (e + 1) w3 (zT (zT (zT Z5 V.2.1) (uN V.2.1 1 (0 + e))) t3) (by omega) (by omega) ⟨W3, hA3, hv3⟩
          · have c67 : (gsF it (uN V.2.1 1 (0 + e)) p f n).1 = true := c67
            refine j_iconst (v := nI 1) C dX17_by_70 rfl ?_
            refine j_iload C dX17_by_71 0 rfl ?_
            refine j_shl1 C dX17_by_73 (by omega) ?_
            refine j_goto C 78 dX17_by_74 (by decide) ?_
            refine j_iorN C dX17_by_78 ?_
            refine j_istore_n (lv' := [(3, .int (nI ((alF it V.2.1 1 0 p f n e) ||| (2 ^ (0 + e))))), (4, .int (nI (0 + e))), (0, .ref tb), (1, .ref ca), (2, .ref sa)]) C dX17_by_79 rfl (by decide) rfl ?_
            refine j_iincN (lv' := [(4, .int (nI (0 + e + 1))), (3, .int (nI ((alF it V.2.1 1 0 p f n e) ||| (2 ^ (0 + e))))), (0, .ref tb), (1, .ref ca), (2, .ref sa)]) C dX17_by_80 1 rfl (by decide) rfl ?_
            refine j_goto C 8 dX17_by_83 (by decide) ?_
            refine j_lv [0, 1, 2, 3, 4] (lv' := [(4, .int (nI (0 + e + 1))), (3, .int (nI ((alF it V.2.1 1 0 p f n e) ||| (2 ^ (0 + e))))), (0, .ref tb), (1, .ref ca), (2, .ref sa)]) rfl ?_
            refine j_lvN (lv' := [(4, .int (nI (0 + (e + 1)))), (3, .int (nI ((alF it V.2.1 1 0 p f n e) ||| (2 ^ (0 + e))))), (0, .ref tb), (1, .ref ca), (2, .ref sa)]) 0 rfl (by omega) rfl ?_
            refine j_lvN (lv' := [(4, .int (nI (0 + (e + 1)))), (3, .int (nI (alF it V.2.1 1 0 p f n (e + 1)))), (0, .ref tb), (1, .ref ca), (2, .ref sa)]) 1 rfl (by show _ = alF it V.2.1 1 0 p f n e ||| (if (gsF it (uN V.2.1 1 (0 + e)) p f n).1 = true then 2 ^ (0 + e) else 0); rw [c67]; simp) rfl ?_
            refine j_wide (ce' := e + 1) (sl' := 10 * (e + 1)) (by omega) (by omega) ?_
            exact ih (e + 1) w3 (zT (zT (zT Z5 V.2.1) (uN V.2.1 1 (0 + e))) t3) (by omega) (by omega) ⟨W3, hA3, hv3⟩
  refine j_lv [0, 1, 2, 3, 4] (lv' := [(4, .int (nI 0)), (3, .int (nI 0)), (0, .ref tb), (1, .ref ca), (2, .ref sa)]) rfl ?_
  exact lp 12 0 w Z (by omega) (by omega) ⟨W, hA, hv⟩
set_option maxHeartbeats 400000 in
theorem kX17_by_1 (G : gl_T) (hG : GH G) (w0 w : wd_T) (x : Nat) (O : Nat → Prop) (V : fv_T) (Z : fz_T) (hF : FX G w0 w x O V Z) (ca sa n : Nat) (fc fs : Nat → Int32) (it : Nat → Int32) (p f : Nat) (hOc : O ca) (hc0 : w0.1 ca = some (ca, ai (gl_A G 0) n fc)) (hOs : O sa) (hs0 : w0.1 sa = some (sa, ai (gl_A G 0) n fs)) (hn : n ≤ 8) (hfc : ∀ i, i < n → fc i = it (p + i)) (hfs : ∀ i, i < n → fs i = it (f + i)) (tb : Nat) (hOt : O tb) (ht0 : w0.1 tb = some (tb, .inr (16, [.int (nI 1), .ref x]))) (ht : smT V.2.1) (h3 : V.2.1 3 ≤ 1000) (hwf : ∀ y, y < V.2.1 25 → V.2.1 (26 + 2 * y + 1) < V.2.1 6) : Mt G yX17_by cX17_by 5 (some .int) 8 [.ref tb, .ref ca, .ref sa] w (pI (fun r w' => r = nI (alF it V.2.1 0 1 p f n 9) ∧ ∃ Z', FX G w0 w' x O V Z')) 10 100 := by
  refine Mt.start (by decide) (Nat.le_of_ble_eq_true rfl) (fun k C => ?_)
  have C : Cx G k cX17_by "MoodFare$Fits" "by" 5 (some .int) 8 10 100 _ := C
  obtain ⟨W, hA, hv⟩ := id hF
  obtain ⟨r0, r1, r2, r3, r4, r5, r6, r7, r25, r26⟩ := id ht
  refine j_iconst (v := nI 0) C dX17_by_0 rfl ?_
  refine j_istore_n (lv' := [(3, .int (nI 0)), (0, .ref tb), (1, .ref ca), (2, .ref sa)]) C dX17_by_1 rfl (by decide) rfl ?_
  refine j_aload_n C dX17_by_2 rfl 1 rfl ?_
  refine j_get (w := w) C in_X17 (ci := 16) (T := TX17) rfl (hA.fr0 tb tb _ hOt ht0) 0 (by decide) q1156 (fun _ z => z) (v := .int (nI 1)) rfl dX17_by_3 ?_
  refine j_istore (lv' := [(4, .int (nI 1)), (3, .int (nI 0)), (0, .ref tb), (1, .ref ca), (2, .ref sa)]) C dX17_by_6 (by decide) rfl ?_
  have lp : ∀ (m e : Nat) (w5 : wd_T) (Z5 : fz_T), e ≤ 9 → 9 < e + m → FX G w0 w5 x O V Z5 → J G k w5 [(4, .int (nI (1 + e))), (3, .int (nI (alF it V.2.1 0 1 p f n e))), (0, .ref tb), (1, .ref ca), (2, .ref sa)] 8 [] e (10 * e) := by
    intro m
    induction m with
    | zero => intro e w5 Z5 a1 a2; omega
    | succ m ih =>
      intro e w5 Z5 hi1 hi2 hX5
      obtain ⟨W5, hA5, hv5⟩ := id hX5
      refine j_iload C dX17_by_8 0 rfl ?_
      refine j_bipush (v := nI 9) C dX17_by_10 rfl ?_
      refine j_icmp_gtN C 86 dX17_by_12 (by decide) (by omega) (by omega) (fun c12 => ?_) (fun c12 => ?_)
      · obtain rfl : e = 9 := by omega
        refine j_iload_n C dX17_by_86 rfl 1 rfl ?_
        exact j_iret C (by omega) (by omega) (pI.mk ⟨rfl, _, ⟨W5, hA5, hv5⟩⟩) dX17_by_87
      · refine j_aload_n C dX17_by_15 rfl 2 rfl ?_
        refine j_get (w := w5) C in_X17 (ci := 16) (T := TX17) rfl (hA5.fr0 tb tb _ hOt ht0) 1 (by decide) q1157 (fun _ z => z) (v := .ref x) rfl dX17_by_16 ?_
        refine j_callVN (w := w5) C (kX0_asNow G hG w0 w5 x O V Z5 ⟨W5, hA5, hv5⟩) pA.ret (ci := 0) (T := TX0) (hA5.d0 hv5) rfl 0 (C.nw hG q1189 rfl) q1016 qs23 q66 q1017 (by decide +kernel) rfl (by decide) (by decide) (Nat.le_of_ble_eq_true rfl) rfl dX17_by_19 (by omega) (by omega) (pA.k (fun r1 w1 h1 => ?_))
        obtain ⟨rfl, h1, hfr1⟩ := h1
        obtain ⟨W1, hA1, hv1⟩ := h1
        refine j_pop C dX17_by_22 rfl ?_
        refine j_aload_n C dX17_by_23 rfl 2 rfl ?_
        refine j_get (w := w1) C in_X17 (ci := 16) (T := TX17) rfl (hA1.fr0 tb tb _ hOt ht0) 0 (by decide) q1156 (fun _ z => z) (v := .int (nI 1)) rfl dX17_by_24 ?_
        refine j_if_neN C 45 dX17_by_27 (by decide) (by omega) (fun c27 => ?_) (fun c27 => ?_)
        · refine j_aload_n C dX17_by_45 rfl 2 rfl ?_
          refine j_get (w := w1) C in_X17 (ci := 16) (T := TX17) rfl (hA1.fr0 tb tb _ hOt ht0) 1 (by decide) q1157 (fun _ z => z) (v := .ref x) rfl dX17_by_46 ?_
          refine j_getN (w := w1) C in_X0 (ci := 0) (T := TX0) rfl (hA1.d0 hv1) 5 (by decide) (C.nw hG q253 rfl) (fun _ z => z) (v := .ref (x + 16)) rfl dX17_by_49 ?_
          refine j_iload C dX17_by_52 0 rfl ?_
          refine j_put (w := w1) C (ty0 := tyX2) in_X2 tyX2_ok nmX2 (ci := 2) (T := TX2) rfl (hA1.s1 (Z := zT Z5 V.2.1) hv1).1 0 (by decide) q166 (fun _ z => z) rfl rfl rfl (fs' := [.int (nI (1 + e)), .int (nI (V.2.1 1)), .int (nI (V.2.1 4)), .int (nI (V.2.1 2)), .int (nI (V.2.1 3)), .ref (x + 16 + 1), .ref (x + 16 + 2), .int (nI (V.2.1 25)), .ref (x + 16 + 3), .ref (x + 16 + 4), .int (nI (V.2.1 5))]) (Nat.le_of_ble_eq_true rfl) rfl dX17_by_54 ?_
          refine j_abs (P := fun w' => FX G w0 w' x O V (zT (zT Z5 V.2.1) (uN V.2.1 0 (1 + e)))) (FX.t1 hA1 hv1 (TN.sc (u := uN V.2.1 0 (1 + e)) (hA1.s1 (Z := zT Z5 V.2.1) hv1) rfl (fun i h1 h2 => uN_n (by omega))) (FR.upd (hA1.s1 (Z := zT Z5 V.2.1) hv1).1 isC_TE) (hA1.wf.upd (hA1.s1 (Z := zT Z5 V.2.1) hv1).1)) (fun w2 h2 => ?_)
          obtain ⟨W2, hA2, hv2⟩ := h2
          refine j_iload_n C dX17_by_57 rfl 1 rfl ?_
          refine j_aload_n C dX17_by_58 rfl 2 rfl ?_
          refine j_get (w := w2) C in_X17 (ci := 16) (T := TX17) rfl (hA2.fr0 tb tb _ hOt ht0) 1 (by decide) q1157 (fun _ z => z) (v := .ref x) rfl dX17_by_59 ?_
          refine j_aload_n C dX17_by_62 rfl 3 rfl ?_
          refine j_aload_n C dX17_by_63 rfl 4 rfl ?_
          have hsmz : smT (uN V.2.1 0 (1 + e)) := smT_pl ht (by omega) (by omega)
          refine j_callVN (w := w2) C (kX0_costsSo G hG w0 w2 x O V (zT (zT Z5 V.2.1) (uN V.2.1 0 (1 + e))) ⟨W2, hA2, hv2⟩ ca sa n fc fs it p f hOc hc0 hOs hs0 hn hfc hfs hsmz (by show V.2.1 3 ≤ 1000; omega) (wf_pl (t := V.2.1) (pl := 0) (v := 1 + e) (by omega) hwf)) pI.ret (ci := 0) (T := TX0) (hA2.d0 hv2) rfl 2 (C.nw hG q1190 rfl) q1192 qs29 q66 q1193 (by decide +kernel) rfl (by decide) (by decide) (Nat.le_of_ble_eq_true rfl) rfl dX17_by_64 (by omega) (by omega) (pI.k (fun r3 w3 h3 => ?_))
          obtain ⟨rfl, t3, h3⟩ := h3
          obtain ⟨W3, hA3, hv3⟩ := h3
          refine j_if_eqB C 77 dX17_by_67 (by decide) (fun c67 => ?_) (fun c67 => ?_)
          · have c67 : (gsF it (uN V.2.1 0 (1 + e)) p f n).1 = false := c67
            refine j_iconst (v := nI 0) C dX17_by_77 rfl ?_
            refine j_iorN C dX17_by_78 ?_
            refine j_istore_n (lv' := [(3, .int (nI ((alF it V.2.1 0 1 p f n e) ||| 0))), (4, .int (nI (1 + e))), (0, .ref tb), (1, .ref ca), (2, .ref sa)]) C dX17_by_79 rfl (by decide) rfl ?_
            refine j_iincN (lv' := [(4, .int (nI (1 + e + 1))), (3, .int (nI ((alF it V.2.1 0 1 p f n e) ||| 0))), (0, .ref tb), (1, .ref ca), (2, .ref sa)]) C dX17_by_80 1 rfl (by decide) rfl ?_
            refine j_goto C 8 dX17_by_83 (by decide) ?_
            refine j_lv [0, 1, 2, 3, 4] (lv' := [(4, .int (nI (1 + e + 1))), (3, .int (nI ((alF it V.2.1 0 1 p f n e) ||| 0))), (0, .ref tb), (1, .ref ca), (2, .ref sa)]) rfl ?_
            refine j_lvN (lv' := [(4, .int (nI (1 + (e + 1)))), (3, .int (nI ((alF it V.2.1 0 1 p f n e) ||| 0))), (0, .ref tb), (1, .ref ca), (2, .ref sa)]) 0 rfl (by omega) rfl ?_
            refine j_lvN (lv' := [(4, .int (nI (1 + (e + 1)))), (3, .int (nI (alF it V.2.1 0 1 p f n (e + 1)))), (0, .ref tb), (1, .ref ca), (2, .ref sa)]) 1 rfl (by show _ = alF it V.2.1 0 1 p f n e ||| (if (gsF it (uN V.2.1 0 (1 + e)) p f n).1 = true then 2 ^ (1 + e) else 0); rw [c67]; simp) rfl ?_
            refine j_wide (ce' := e + 1) (sl' := 10 * (e + 1)) (by omega) (by omega) ?_
            exact ih (e + 1) w3 (zT (zT (zT Z5 V.2.1) (uN V.2.1 0 (1 + e))) t3) (by omega) (by omega) ⟨W3, hA3, hv3⟩
          · have c67 : (gsF it (uN V.2.1 0 (1 + e)) p f n).1 = true := c67
            refine j_iconst (v := nI 1) C dX17_by_70 rfl ?_
            refine j_iload C dX17_by_71 0 rfl ?_
            refine j_shl1 C dX17_by_73 (by omega) ?_
            refine j_goto C 78 dX17_by_74 (by decide) ?_
            refine j_iorN C dX17_by_78 ?_
            refine j_istore_n (lv' := [(3, .int (nI ((alF it V.2.1 0 1 p f n e) ||| (2 ^ (1 + e))))), (4, .int (nI (1 + e))), (0, .ref tb), (1, .ref ca), (2, .ref sa)]) C dX17_by_79 rfl (by decide) rfl ?_
            refine j_iincN (lv' := [(4, .int (nI (1 + e + 1))), (3, .int (nI ((alF it V.2.1 0 1 p f n e) ||| (2 ^ (1 + e))))), (0, .ref tb), (1, .ref ca), (2, .ref sa)]) C dX17_by_80 1 rfl (by decide) rfl ?_
            refine j_goto C 8 dX17_by_83 (by decide) ?_
            refine j_lv [0, 1, 2, 3, 4] (lv' := [(4, .int (nI (1 + e + 1))), (3, .int (nI ((alF it V.2.1 0 1 p f n e) ||| (2 ^ (1 + e))))), (0, .ref tb), (1, .ref ca), (2, .ref sa)]) rfl ?_
            refine j_lvN (lv' := [(4, .int (nI (1 + (e + 1)))), (3, .int (nI ((alF it V.2.1 0 1 p f n e) ||| (2 ^ (1 + e))))), (0, .ref tb), (1, .ref ca), (2, .ref sa)]) 0 rfl (by omega) rfl ?_
            refine j_lvN (lv' := [(4, .int (nI (1 + (e + 1)))), (3, .int (nI (alF it V.2.1 0 1 p f n (e + 1)))), (0, .ref tb), (1, .ref ca), (2, .ref sa)]) 1 rfl (by show _ = alF it V.2.1 0 1 p f n e ||| (if (gsF it (uN V.2.1 0 (1 + e)) p f n).1 = true then 2 ^ (1 + e) else 0); rw [c67]; simp) rfl ?_
            refine j_wide (ce' := e + 1) (sl' := 10 * (e + 1)) (by omega) (by omega) ?_
            exact ih (e + 1) w3 (zT (zT (zT Z5 V.2.1) (uN V.2.1 0 (1 + e))) t3) (by omega) (by omega) ⟨W3, hA3, hv3⟩
        · exfalso; omega
  refine j_lv [0, 1, 2, 3, 4] (lv' := [(4, .int (nI 1)), (3, .int (nI 0)), (0, .ref tb), (1, .ref ca), (2, .ref sa)]) rfl ?_
  exact lp 11 0 w Z (by omega) (by omega) ⟨W, hA, hv⟩
