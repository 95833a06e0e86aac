/-! ===== the class: shares ===== -/
set_option maxRecDepth 100000
theorem shU_o {it : Nat → Int32} {t : Nat → Nat} {f i : Nat} (hi : i = 0 ∨ 5 ≤ i) : ∀ k, shU it t f k i = t i := by
  intro k
  induction k with
  | zero => rfl
  | succ k ih =>
    show rdT (shU it t f k) _ i = _
    unfold rdT
    rw [uN_n (by omega), uN_n (by omega), uN_n (by omega), uN_n (by omega)]
    exact ih
set_option maxHeartbeats 400000 in
theorem kX19_by (G : gl_T) (hG : GH G) (w0 w : wd_T) (x : Nat) (O : Nat → Prop) (V : fv_T) (Z : fz_T) (hF : FX G w0 w x O V Z) (ca sa n : Nat) (fc fs : Nat → Int32) (it : Nat → Int32) (p f : Nat) (hOc : O ca) (hc0 : w0.1 ca = some (ca, ai (gl_A G 0) n fc)) (hOs : O sa) (hs0 : w0.1 sa = some (sa, ai (gl_A G 0) n fs)) (hn : n ≤ 8) (hfc : ∀ i, i < n → fc i = it (p + i)) (hfs : ∀ i, i < n → fs i = it (f + i)) (tb c : Nat) (hc8 : c ≤ 8) (hOt : O tb) (ht0 : w0.1 tb = some (tb, .inr (18, [.int (nI c), .ref x]))) (ht : smT V.2.1) (h3 : V.2.1 3 ≤ 1000) (hwf : ∀ y, y < V.2.1 25 → V.2.1 (26 + 2 * y + 1) < V.2.1 6) : Mt G yX19_by cX19_by 6 (some .int) 8 [.ref tb, .ref ca, .ref sa] w (pI (fun r w' => r = (if shB it V.2.1 f n then nI (shA it V.2.1 f c n) else kNONE) ∧ ∃ Z', FX G w0 w' x O V Z')) 1 10 := by
  refine Mt.start (by decide) (Nat.le_of_ble_eq_true rfl) (fun k C => ?_)
  have C : Cx G k cX19_by "MoodFare$Shares" "by" 6 (some .int) 8 1 10 _ := C
  obtain ⟨W, hA, hv⟩ := id hF
  obtain ⟨r0, r1, r2, r3, r4, r5, r6, r7, r25, r26⟩ := id ht
  refine j_iconst (v := nI 0) C dX19_by_0 rfl ?_
  refine j_istore_n (lv' := [(3, .int (nI 0)), (0, .ref tb), (1, .ref ca), (2, .ref sa)]) C dX19_by_1 rfl (by decide) rfl ?_
  refine j_aload_n C dX19_by_2 rfl 1 rfl ?_
  refine j_get (w := w) C in_X19 (ci := 18) (T := TX19) rfl (hA.fr0 tb tb _ hOt ht0) 1 (by decide) q1257 (fun _ z => z) (v := .ref x) rfl dX19_by_3 ?_
  refine j_callVN (w := w) C (kX0_asNow G hG w0 w x O V Z ⟨W, hA, hv⟩) pA.ret (ci := 0) (T := TX0) (hA.d0 hv) rfl 0 (C.nw hG q1222 rfl) q1016 qs23 q66 q1017 (by decide +kernel) rfl (by decide) (by decide) (Nat.le_of_ble_eq_true rfl) rfl dX19_by_6 (by omega) (by omega) (pA.k (fun r1 w1 h1 => ?_))
  obtain ⟨rfl, h1, hfr1⟩ := h1
  obtain ⟨W1, hA1, hv1⟩ := h1
  refine j_pop C dX19_by_9 rfl ?_
  refine j_iconst (v := nI 0) C dX19_by_10 rfl ?_
  refine j_istore (lv' := [(4, .int (nI 0)), (3, .int (nI 0)), (0, .ref tb), (1, .ref ca), (2, .ref sa)]) C dX19_by_11 (by decide) rfl ?_
  have lp : ∀ (m i : Nat) (w5 : wd_T), i ≤ n → n < i + m → FX G w0 w5 x O V (zT Z (shU it V.2.1 f i)) → shB it V.2.1 f i = true → J G k w5 [(4, .int (nI i)), (3, .int (nI (shA it V.2.1 f c i))), (0, .ref tb), (1, .ref ca), (2, .ref sa)] 13 [] 1 10 := by
    intro m
    induction m with
    | zero => intro i w5 a1 a2; omega
    | succ m ih =>
      intro i w5 hi1 hi2 hX5 hg5
      obtain ⟨W5, hA5, hv5⟩ := id hX5
      have hsm := shU_sm (it := it) (f := f) ht i (by omega) hg5
      have ht1 := hsm.1
      obtain ⟨q0, q1, q2, q3, q4, q5, q6, q7, q25, q26⟩ := id ht1
      have hd25 : (shU it V.2.1 f i) 25 = V.2.1 25 := shU_o (by omega) i
      have hd6 : (shU it V.2.1 f i) 6 = V.2.1 6 := shU_o (by omega) i
      refine j_iload C dX19_by_13 0 rfl ?_
      refine j_aload_n C dX19_by_15 rfl 4 rfl ?_
      refine j_alen (w := w5) C 0 (hA5.fr0 sa sa _ hOs hs0) rfl dX19_by_16 ?_
      refine j_icmp_geN C 82 dX19_by_17 (by decide) (by omega) (by omega) (fun c17 => ?_) (fun c17 => ?_)
      · refine j_iload_n C dX19_by_82 rfl 1 rfl ?_
        exact j_iret C (by omega) (by omega) (pI.mk ⟨by rw [show n = i by omega, hg5]; rfl, _, ⟨W5, hA5, hv5⟩⟩) dX19_by_83
      · refine j_aload_n C dX19_by_20 rfl 2 rfl ?_
        refine j_get (w := w5) C in_X19 (ci := 18) (T := TX19) rfl (hA5.fr0 tb tb _ hOt ht0) 1 (by decide) q1257 (fun _ z => z) (v := .ref x) rfl dX19_by_21 ?_
        refine j_getN (w := w5) C in_X0 (ci := 0) (T := TX0) rfl (hA5.d0 hv5) 5 (by decide) (C.nw hG q252 rfl) (fun _ z => z) (v := .ref (x + 16)) rfl dX19_by_24 ?_
        refine j_aload_n C dX19_by_27 rfl 4 rfl ?_
        refine j_iload C dX19_by_28 0 rfl ?_
        refine j_ialdN (w := w5) C (hA5.fr0 sa sa _ hOs hs0) (i) rfl (by omega) (by omega) dX19_by_30 ?_
        refine j_as (y := it (f + i)) (hfs i (by omega)) ?_
        refine j_callV (w := w5) C (kX2_isWay G w5 hG (x + 16) ((shU it V.2.1 f i)) (hA5.s1 (Z := zT Z (shU it V.2.1 f i)) hv5) ht1 (it (f + i))) pI.ret (ci := 2) (T := TX2) (hA5.s1 (Z := zT Z (shU it V.2.1 f i)) hv5).1 rfl 1 q1223 q892 q893 q68 q894 (by decide +kernel) rfl (by decide) (by decide) (Nat.le_of_ble_eq_true rfl) rfl dX19_by_31 (by omega) (by omega) (qI.k ?_)
        refine j_if_neB C 40 dX19_by_34 (by decide) (fun c34 => ?_) (fun c34 => ?_)
        · obtain ⟨jj, hj, hjl, hjg⟩ := goB_n (by omega) c34
          have hcl : (it (f + i)).toNatClampNeg = jj := by rw [hj, nI_clamp (by omega)]
          have hto : (shU it V.2.1 f i) (26 + 2 * jj + 1) < (shU it V.2.1 f i) 6 := by rw [shU_o (by omega) i, hd6]; exact hwf jj (by omega)
          have hcs := csd_le (t := (shU it V.2.1 f i)) (c := (shU it V.2.1 f i) (26 + 2 * jj + 1)) (step := (shU it V.2.1 f i) 3) ht1 (q26 jj (by omega)).2 q1
          refine j_aload_n C dX19_by_40 rfl 2 rfl ?_
          refine j_get (w := w5) C in_X19 (ci := 18) (T := TX19) rfl (hA5.fr0 tb tb _ hOt ht0) 1 (by decide) q1257 (fun _ z => z) (v := .ref x) rfl dX19_by_41 ?_
          refine j_getN (w := w5) C in_X0 (ci := 0) (T := TX0) rfl (hA5.d0 hv5) 5 (by decide) (C.nw hG q252 rfl) (fun _ z => z) (v := .ref (x + 16)) rfl dX19_by_44 ?_
          refine j_aload_n C dX19_by_47 rfl 4 rfl ?_
          refine j_iload C dX19_by_48 0 rfl ?_
          refine j_ialdN (w := w5) C (hA5.fr0 sa sa _ hOs hs0) (i) rfl (by omega) (by omega) dX19_by_50 ?_
          refine j_as (y := it (f + i)) (hfs i (by omega)) ?_
          refine j_as (y := nI jj) hj ?_
          refine j_callV (w := w5) C (kX2_ride G w5 hG (x + 16) ((shU it V.2.1 f i)) (hA5.s1 (Z := zT Z (shU it V.2.1 f i)) hv5) ht1 jj (by omega) (by omega)) pI.ret (ci := 2) (T := TX2) (hA5.s1 (Z := zT Z (shU it V.2.1 f i)) hv5).1 rfl 1 q1225 q905 q906 q68 q907 (by decide +kernel) rfl (by decide) (by decide) (Nat.le_of_ble_eq_true rfl) rfl dX19_by_51 (by omega) (by omega) (qI.k ?_)
          refine j_abs (P := fun w' => FX G w0 w' x O V (zT (zT Z (shU it V.2.1 f i)) (rdT ((shU it V.2.1 f i)) jj))) (FX.t1 hA5 hv5 (RD_sc (hA5.s1 (Z := zT Z (shU it V.2.1 f i)) hv5)) (FR.upd (hA5.s1 (Z := zT Z (shU it V.2.1 f i)) hv5).1 isC_TE) (hA5.wf.upd (hA5.s1 (Z := zT Z (shU it V.2.1 f i)) hv5).1)) (fun w2 h2 => ?_)
          obtain ⟨W2, hA2, hv2⟩ := h2
          refine j_istore (lv' := [(5, .int (nI (csd ((shU it V.2.1 f i)) (((shU it V.2.1 f i)) (26 + 2 * jj + 1)) (((shU it V.2.1 f i)) 1) (((shU it V.2.1 f i)) 3)))), (4, .int (nI i)), (3, .int (nI (shA it V.2.1 f c i))), (0, .ref tb), (1, .ref ca), (2, .ref sa)]) C dX19_by_54 (by decide) rfl ?_
          refine j_iload_n C dX19_by_56 rfl 2 rfl ?_
          refine j_iload C dX19_by_57 1 rfl ?_
          refine j_aload_n C dX19_by_59 rfl 3 rfl ?_
          refine j_get (w := w2) C in_X19 (ci := 18) (T := TX19) rfl (hA2.fr0 tb tb _ hOt ht0) 0 (by decide) q1256 (fun _ z => z) (v := .int (nI c)) rfl dX19_by_60 ?_
          refine j_icmp_geN C 70 dX19_by_63 (by decide) (by omega) (by omega) (fun c63 => ?_) (fun c63 => ?_)
          · refine j_iload C dX19_by_70 0 rfl ?_
            refine j_iconst (v := nI 2) C dX19_by_72 rfl ?_
            refine j_idivN C dX19_by_73 (by omega) (by omega) (by omega) ?_
            refine j_iaddN C dX19_by_74 ?_
            refine j_istore_n (lv' := [(3, .int (nI ((shA it V.2.1 f c i) + ((csd ((shU it V.2.1 f i)) (((shU it V.2.1 f i)) (26 + 2 * jj + 1)) (((shU it V.2.1 f i)) 1) (((shU it V.2.1 f i)) 3)) / 2)))), (5, .int (nI (csd ((shU it V.2.1 f i)) (((shU it V.2.1 f i)) (26 + 2 * jj + 1)) (((shU it V.2.1 f i)) 1) (((shU it V.2.1 f i)) 3)))), (4, .int (nI i)), (0, .ref tb), (1, .ref ca), (2, .ref sa)]) C dX19_by_75 rfl (by decide) rfl ?_
            refine j_iincN (lv' := [(4, .int (nI (i + 1))), (3, .int (nI ((shA it V.2.1 f c i) + ((csd ((shU it V.2.1 f i)) (((shU it V.2.1 f i)) (26 + 2 * jj + 1)) (((shU it V.2.1 f i)) 1) (((shU it V.2.1 f i)) 3)) / 2)))), (5, .int (nI (csd ((shU it V.2.1 f i)) (((shU it V.2.1 f i)) (26 + 2 * jj + 1)) (((shU it V.2.1 f i)) 1) (((shU it V.2.1 f i)) 3)))), (0, .ref tb), (1, .ref ca), (2, .ref sa)]) C dX19_by_76 2 rfl (by decide) rfl ?_
            refine j_goto C 13 dX19_by_79 (by decide) ?_
            refine j_lv [0, 1, 3, 4, 5] (lv' := [(4, .int (nI (i + 1))), (3, .int (nI ((shA it V.2.1 f c i) + ((csd ((shU it V.2.1 f i)) (((shU it V.2.1 f i)) (26 + 2 * jj + 1)) (((shU it V.2.1 f i)) 1) (((shU it V.2.1 f i)) 3)) / 2)))), (0, .ref tb), (1, .ref ca), (2, .ref sa)]) rfl ?_
            refine j_lvN (lv' := [(4, .int (nI (i + 1))), (3, .int (nI (shA it V.2.1 f c (i + 1)))), (0, .ref tb), (1, .ref ca), (2, .ref sa)]) 1 rfl (by show _ = shA it V.2.1 f c i + (if i < c then 0 else csd (shU it V.2.1 f i) ((shU it V.2.1 f i) (26 + 2 * (it (f + i)).toNatClampNeg + 1)) ((shU it V.2.1 f i) 1) ((shU it V.2.1 f i) 3) / 2); rw [hcl]; first | rw [if_neg (show ¬ i < c by omega)] | rw [if_pos (show i < c by omega)]) rfl ?_
            exact ih (i + 1) w2 (by omega) (by omega) (by have q : FX G w0 w2 x O V (zT (zT Z (shU it V.2.1 f i)) (rdT ((shU it V.2.1 f i)) jj)) := ⟨W2, hA2, hv2⟩; have e : (shU it V.2.1 f (i + 1)) = rdT (shU it V.2.1 f i) jj := (by show rdT (shU it V.2.1 f i) (it (f + i)).toNatClampNeg = _; rw [hcl]); rw [e]; exact q) (by show (shB it V.2.1 f i && _) = true; rw [hg5, c34]; rfl)
          · refine j_iconst (v := nI 0) C dX19_by_66 rfl ?_
            refine j_goto C 74 dX19_by_67 (by decide) ?_
            refine j_iaddN C dX19_by_74 ?_
            refine j_istore_n (lv' := [(3, .int (nI ((shA it V.2.1 f c i) + 0))), (5, .int (nI (csd ((shU it V.2.1 f i)) (((shU it V.2.1 f i)) (26 + 2 * jj + 1)) (((shU it V.2.1 f i)) 1) (((shU it V.2.1 f i)) 3)))), (4, .int (nI i)), (0, .ref tb), (1, .ref ca), (2, .ref sa)]) C dX19_by_75 rfl (by decide) rfl ?_
            refine j_iincN (lv' := [(4, .int (nI (i + 1))), (3, .int (nI ((shA it V.2.1 f c i) + 0))), (5, .int (nI (csd ((shU it V.2.1 f i)) (((shU it V.2.1 f i)) (26 + 2 * jj + 1)) (((shU it V.2.1 f i)) 1) (((shU it V.2.1 f i)) 3)))), (0, .ref tb), (1, .ref ca), (2, .ref sa)]) C dX19_by_76 2 rfl (by decide) rfl ?_
            refine j_goto C 13 dX19_by_79 (by decide) ?_
            refine j_lv [0, 1, 3, 4, 5] (lv' := [(4, .int (nI (i + 1))), (3, .int (nI ((shA it V.2.1 f c i) + 0))), (0, .ref tb), (1, .ref ca), (2, .ref sa)]) rfl ?_
            refine j_lvN (lv' := [(4, .int (nI (i + 1))), (3, .int (nI (shA it V.2.1 f c (i + 1)))), (0, .ref tb), (1, .ref ca), (2, .ref sa)]) 1 rfl (by show _ = shA it V.2.1 f c i + (if i < c then 0 else csd (shU it V.2.1 f i) ((shU it V.2.1 f i) (26 + 2 * (it (f + i)).toNatClampNeg + 1)) ((shU it V.2.1 f i) 1) ((shU it V.2.1 f i) 3) / 2); rw [hcl]; first | rw [if_neg (show ¬ i < c by omega)] | rw [if_pos (show i < c by omega)]) rfl ?_
            exact ih (i + 1) w2 (by omega) (by omega) (by have q : FX G w0 w2 x O V (zT (zT Z (shU it V.2.1 f i)) (rdT ((shU it V.2.1 f i)) jj)) := ⟨W2, hA2, hv2⟩; have e : (shU it V.2.1 f (i + 1)) = rdT (shU it V.2.1 f i) jj := (by show rdT (shU it V.2.1 f i) (it (f + i)).toNatClampNeg = _; rw [hcl]); rw [e]; exact q) (by show (shB it V.2.1 f i && _) = true; rw [hg5, c34]; rfl)
        · refine j_ldc C q1224 dX19_by_37 ?_
          exact j_iret C (by omega) (by omega) (pI.mk ⟨by rw [shB_f (show shB it V.2.1 f (i + 1) = false by show (shB it V.2.1 f i && _) = false; rw [hg5, c34]; rfl) n (by omega)]; rfl, _, ⟨W5, hA5, hv5⟩⟩) dX19_by_39
  refine j_lv [0, 1, 2, 3, 4] (lv' := [(4, .int (nI 0)), (3, .int (nI 0)), (0, .ref tb), (1, .ref ca), (2, .ref sa)]) rfl ?_
  exact lp (n + 1) 0 w1 (by omega) (by omega) ⟨W1, hA1, hv1⟩ rfl
set_option maxHeartbeats 400000 in
theorem kX17_init (G : gl_T) (w : wd_T) (b τ y : Nat) (u : Nat) (hb : w.1 b = some (τ, .inr (16, [.int (nI 0), .null]))) : Mt G yX17_init cX17_init 3 none 0 [.ref b, .ref y, .int (nI u)] w (qV (mu w.1 b τ (.inr (16, [.int (nI u), .ref y])), w.2)) 0 0 := by
  refine Mt.start (by decide) (Nat.le_of_ble_eq_true rfl) (fun k C => ?_)
  have C : Cx G k cX17_init "MoodFare$Fits" "<init>" 3 none 0 0 0 _ := C
  refine j_aload_n C dX17_init_0 rfl 0 rfl ?_
  refine j_aload_n C dX17_init_1 rfl 1 rfl ?_
  refine j_putF (w := w) C (ty0 := tyX17) in_X17 tyX17_ok nmX17 (ci := 16) (T := TX17) rfl hb 1 (by decide) q1157 (fun _ z => z) rfl rfl rfl rfl (fs' := [.int (nI 0), .ref y]) (Nat.le_of_ble_eq_true rfl) rfl dX17_init_2 ?_
  refine j_aload_n C dX17_init_5 rfl 0 rfl ?_
  refine j_objInit (w := ((mu w.1 b τ (.inr (16, [.int (nI 0), .ref y]))), w.2)) C q1155 q115 q116 (Nat.le_of_ble_eq_true rfl) dX17_init_6 ?_
  refine j_aload_n C dX17_init_9 rfl 0 rfl ?_
  refine j_iload_n C dX17_init_10 rfl 2 rfl ?_
  refine j_putF (w := ((mu w.1 b τ (.inr (16, [.int (nI 0), .ref y]))), w.2)) C (ty0 := tyX17) in_X17 tyX17_ok nmX17 (ci := 16) (T := TX17) rfl mu_s 0 (by decide) q1156 (fun _ z => z) rfl rfl rfl rfl (fs' := [.int (nI u), .ref y]) (Nat.le_of_ble_eq_true rfl) rfl dX17_init_11 ?_
  refine J.eq (w' := ((mu w.1 b τ (.inr (16, [.int (nI u), .ref y]))), w.2)) ?_ (congrArg (fun z => (z, w.2)) mu_mu) rfl rfl
  exact j_vret C (by omega) (by omega) (pV.mk rfl) dX17_init_14
set_option maxHeartbeats 400000 in
theorem kX19_init (G : gl_T) (w : wd_T) (b τ y : Nat) (u : Nat) (hb : w.1 b = some (τ, .inr (18, [.int (nI 0), .null]))) : Mt G yX19_init cX19_init 3 none 0 [.ref b, .ref y, .int (nI u)] w (qV (mu w.1 b τ (.inr (18, [.int (nI u), .ref y])), w.2)) 0 0 := by
  refine Mt.start (by decide) (Nat.le_of_ble_eq_true rfl) (fun k C => ?_)
  have C : Cx G k cX19_init "MoodFare$Shares" "<init>" 3 none 0 0 0 _ := C
  refine j_aload_n C dX19_init_0 rfl 0 rfl ?_
  refine j_aload_n C dX19_init_1 rfl 1 rfl ?_
  refine j_putF (w := w) C (ty0 := tyX19) in_X19 tyX19_ok nmX19 (ci := 18) (T := TX19) rfl hb 1 (by decide) q1257 (fun _ z => z) rfl rfl rfl rfl (fs' := [.int (nI 0), .ref y]) (Nat.le_of_ble_eq_true rfl) rfl dX19_init_2 ?_
  refine j_aload_n C dX19_init_5 rfl 0 rfl ?_
  refine j_objInit (w := ((mu w.1 b τ (.inr (18, [.int (nI 0), .ref y]))), w.2)) C q1255 q115 q116 (Nat.le_of_ble_eq_true rfl) dX19_init_6 ?_
  refine j_aload_n C dX19_init_9 rfl 0 rfl ?_
  refine j_iload_n C dX19_init_10 rfl 2 rfl ?_
  refine j_putF (w := ((mu w.1 b τ (.inr (18, [.int (nI 0), .ref y]))), w.2)) C (ty0 := tyX19) in_X19 tyX19_ok nmX19 (ci := 18) (T := TX19) rfl mu_s 0 (by decide) q1256 (fun _ z => z) rfl rfl rfl rfl (fs' := [.int (nI u), .ref y]) (Nat.le_of_ble_eq_true rfl) rfl dX19_init_11 ?_
  refine J.eq (w' := ((mu w.1 b τ (.inr (18, [.int (nI u), .ref y]))), w.2)) ?_ (congrArg (fun z => (z, w.2)) mu_mu) rfl rfl
  exact j_vret C (by omega) (by omega) (pV.mk rfl) dX19_init_14
set_option maxHeartbeats 400000 in
theorem kX18_init (G : gl_T) (w : wd_T) (b τ y : Nat) (c u : Nat) (hb : w.1 b = some (τ, .inr (17, [.int (nI 0), .int (nI 0), .null]))) : Mt G yX18_init cX18_init 4 none 0 [.ref b, .ref y, .int (nI c), .int (nI u)] w (qV (mu w.1 b τ (.inr (17, [.int (nI c), .int (nI u), .ref y])), w.2)) 0 0 := by
  refine Mt.start (by decide) (Nat.le_of_ble_eq_true rfl) (fun k C => ?_)
  have C : Cx G k cX18_init "MoodFare$FitsOf" "<init>" 4 none 0 0 0 _ := C
  refine j_aload_n C dX18_init_0 rfl 0 rfl ?_
  refine j_aload_n C dX18_init_1 rfl 1 rfl ?_
  refine j_putF (w := w) C (ty0 := tyX18) in_X18 tyX18_ok nmX18 (ci := 17) (T := TX18) rfl hb 2 (by decide) q1238 (fun _ z => z) rfl rfl rfl rfl (fs' := [.int (nI 0), .int (nI 0), .ref y]) (Nat.le_of_ble_eq_true rfl) rfl dX18_init_2 ?_
  refine j_aload_n C dX18_init_5 rfl 0 rfl ?_
  refine j_objInit (w := ((mu w.1 b τ (.inr (17, [.int (nI 0), .int (nI 0), .ref y]))), w.2)) C q1235 q115 q116 (Nat.le_of_ble_eq_true rfl) dX18_init_6 ?_
  refine j_aload_n C dX18_init_9 rfl 0 rfl ?_
  refine j_iload_n C dX18_init_10 rfl 2 rfl ?_
  refine j_putF (w := ((mu w.1 b τ (.inr (17, [.int (nI 0), .int (nI 0), .ref y]))), w.2)) C (ty0 := tyX18) in_X18 tyX18_ok nmX18 (ci := 17) (T := TX18) rfl mu_s 0 (by decide) q1236 (fun _ z => z) rfl rfl rfl rfl (fs' := [.int (nI c), .int (nI 0), .ref y]) (Nat.le_of_ble_eq_true rfl) rfl dX18_init_11 ?_
  refine J.eq (w' := ((mu w.1 b τ (.inr (17, [.int (nI c), .int (nI 0), .ref y]))), w.2)) ?_ (congrArg (fun z => (z, w.2)) mu_mu) rfl rfl
  refine j_aload_n C dX18_init_14 rfl 0 rfl ?_
  refine j_iload_n C dX18_init_15 rfl 3 rfl ?_
  refine j_putF (w := ((mu w.1 b τ (.inr (17, [.int (nI c), .int (nI 0), .ref y]))), w.2)) C (ty0 := tyX18) in_X18 tyX18_ok nmX18 (ci := 17) (T := TX18) rfl mu_s 1 (by decide) q1237 (fun _ z => z) rfl rfl rfl rfl (fs' := [.int (nI c), .int (nI u), .ref y]) (Nat.le_of_ble_eq_true rfl) rfl dX18_init_16 ?_
  refine J.eq (w' := ((mu w.1 b τ (.inr (17, [.int (nI c), .int (nI u), .ref y]))), w.2)) ?_ (congrArg (fun z => (z, w.2)) mu_mu) rfl rfl
  exact j_vret C (by omega) (by omega) (pV.mk rfl) dX18_init_19
set_option maxHeartbeats 400000 in
theorem kX20_init (G : gl_T) (w : wd_T) (b τ y : Nat) (u : Nat) (hb : w.1 b = some (τ, .inr (19, [.int (nI 0), .null]))) : Mt G yX20_init cX20_init 3 none 0 [.ref b, .ref y, .int (nI u)] w (qV (mu w.1 b τ (.inr (19, [.int (nI u), .ref y])), w.2)) 0 0 := by
  refine Mt.start (by decide) (Nat.le_of_ble_eq_true rfl) (fun k C => ?_)
  have C : Cx G k cX20_init "MoodFare$Has" "<init>" 3 none 0 0 0 _ := C
  refine j_aload_n C dX20_init_0 rfl 0 rfl ?_
  refine j_aload_n C dX20_init_1 rfl 1 rfl ?_
  refine j_putF (w := w) C (ty0 := tyX20) in_X20 tyX20_ok nmX20 (ci := 19) (T := TX20) rfl hb 1 (by decide) q1352 (fun _ z => z) rfl rfl rfl rfl (fs' := [.int (nI 0), .ref y]) (Nat.le_of_ble_eq_true rfl) rfl dX20_init_2 ?_
  refine j_aload_n C dX20_init_5 rfl 0 rfl ?_
  refine j_objInit (w := ((mu w.1 b τ (.inr (19, [.int (nI 0), .ref y]))), w.2)) C q1350 q115 q116 (Nat.le_of_ble_eq_true rfl) dX20_init_6 ?_
  refine j_aload_n C dX20_init_9 rfl 0 rfl ?_
  refine j_iload_n C dX20_init_10 rfl 2 rfl ?_
  refine j_putF (w := ((mu w.1 b τ (.inr (19, [.int (nI 0), .ref y]))), w.2)) C (ty0 := tyX20) in_X20 tyX20_ok nmX20 (ci := 19) (T := TX20) rfl mu_s 0 (by decide) q1351 (fun _ z => z) rfl rfl rfl rfl (fs' := [.int (nI u), .ref y]) (Nat.le_of_ble_eq_true rfl) rfl dX20_init_11 ?_
  refine J.eq (w' := ((mu w.1 b τ (.inr (19, [.int (nI u), .ref y]))), w.2)) ?_ (congrArg (fun z => (z, w.2)) mu_mu) rfl rfl
  exact j_vret C (by omega) (by omega) (pV.mk rfl) dX20_init_14
