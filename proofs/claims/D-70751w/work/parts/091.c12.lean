/-! ===== rides drawn: plain words ===== -/
set_option maxRecDepth 100000
theorem drT_o {t : Nat → Nat} {s i : Nat} (hi : i = 0 ∨ 5 ≤ i) : ∀ k, drT t s k i = t i := by
  intro k
  induction k with
  | zero => rfl
  | succ k ih =>
    show drS (drT t s k) (drX s (k + 1)) i = _
    unfold drS
    split
    · rw [uN_n (by omega)]
      exact ih
    · unfold rdT
      rw [uN_n (by omega), uN_n (by omega), uN_n (by omega), uN_n (by omega)]
      exact ih
theorem drT_0 {t : Nat → Nat} {s k : Nat} (h : ctS (drT t s k) (drT t s k 4) (drT t s k 25) = 0) : uN (drT t s k) 3 (drT t s k 3 + 1) = drT t s (k + 1) := by
  show _ = drS (drT t s k) (drX s (k + 1))
  unfold drS
  rw [if_pos h]
theorem drT_1 {t : Nat → Nat} {s k x : Nat} (h : ¬ ctS (drT t s k) (drT t s k 4) (drT t s k 25) = 0) (hx : x < drT t s k 25) (hg : goN (drT t s k) x (drT t s k 4) = true) (ha : ctS (drT t s k) (drT t s k 4) x = drX s (k + 1) % ctS (drT t s k) (drT t s k 4) (drT t s k 25)) : rdT (drT t s k) x = drT t s (k + 1) := by
  show _ = drS (drT t s k) (drX s (k + 1))
  unfold drS
  rw [if_neg h, nthS_eq hg ha _ hx]
theorem ctS_le2 (t : Nat → Nat) (f : Nat) : ∀ n, ctS t f n ≤ n := by
  intro n
  induction n with
  | zero => exact Nat.le_refl _
  | succ n ih =>
    show ctS t f n + (if goN t n f then 1 else 0) ≤ n + 1
    split <;> omega
/-! ===== the class: rides drawn ===== -/
set_option maxRecDepth 100000
theorem l9dec {a c c' : Nat} (h : 0 < a - c) (e : c' = c + 1) : nI (a - c) + (-1) = nI (a - c') := by
  subst e
  have q := nI_addneg (a := a - c) (b := 1) (by omega)
  rw [show a - c - 1 = a - (c + 1) by omega] at q
  exact q
set_option maxHeartbeats 1000000 in
theorem kX0_drawn (G : gl_T) (hG : GH G) (w0 w : wd_T) (x : Nat) (O : Nat → Prop) (V : fv_T) (Z : fz_T) (hF : FX G w0 w x O V Z) (y z q : Int32) (ht : smT V.2.1) (h3 : V.2.1 3 ≤ 1000) (hwf : ∀ y, y < V.2.1 25 → V.2.1 (26 + 2 * y + 1) < V.2.1 6) (P : Int32 → fv_T → Prop) (h0 : V.2.1 0 = 0 → P kSTATE V) (h1 : 0 < V.2.1 0 → inB y (nI 0) (nI 60) = false ∨ inB z (nI 1) (nI 999999) = false ∨ inB q (nI 0) (nI 1) = false → P kBAD V) (g0 : 0 < V.2.1 0 → ∀ m s, y = nI m → m ≤ 60 → z = nI s → 1 ≤ s → s ≤ 999999 → q = nI 0 → P (nI (drT V.2.1 s m 2)) V) (g1 : 0 < V.2.1 0 → ∀ m s, y = nI m → m ≤ 60 → z = nI s → 1 ≤ s → s ≤ 999999 → q = nI 1 → P (nI (drT V.2.1 s m 4)) V) : Mt G yX0_drawn cX0_drawn 11 (some .int) 7 [.ref x, .int y, .int z, .int q] w (fC G w0 x O P) 1 10 := by
  refine Mt.start (by decide) (Nat.le_of_ble_eq_true rfl) (fun k C => ?_)
  have C : Cx G k cX0_drawn "MoodFare" "drawn" 11 (some .int) 7 1 10 _ := C
  obtain ⟨W, hA, hv⟩ := id hF
  obtain ⟨r0, r1, r2, r3, r4, r5, r6, r7, r25, r26⟩ := id ht
  refine j_aload_n C dX0_drawn_0 rfl 0 rfl ?_
  refine j_callV (w := w) C (kX0_isThere G hG w0 w x O V Z ⟨W, hA, hv⟩ ht) pI.ret (ci := 0) (T := TX0) (hA.d0 hv) rfl 0 q966 q968 qs21 q66 q969 (by decide +kernel) rfl (by decide) (by decide) (Nat.le_of_ble_eq_true rfl) rfl dX0_drawn_1 (by omega) (by omega) (qI.k ?_)
  refine j_if_neB C 10 dX0_drawn_4 (by decide) (fun c4 => ?_) (fun c4 => ?_)
  · refine j_iload_n C dX0_drawn_10 rfl 1 rfl ?_
    refine j_i2l C dX0_drawn_11 ?_
    refine j_lconst (v := (nI 0).toInt64) C dX0_drawn_12 (by decide +kernel) ?_
    refine j_ldc2 C q1276 dX0_drawn_13 ?_
    refine j_asl (y := (nI 60).toInt64) (by decide +kernel) ?_
    refine j_callS (w := w) C (kX0_isIn G w y ((nI 0)) ((nI 60))) pI.ret 3 q387 q388 q66 q389 (by decide +kernel) rfl (by decide) (by decide) (Nat.le_of_ble_eq_true rfl) rfl dX0_drawn_16 (by omega) (by omega) (qI.k ?_)
    refine j_if_eqB C 41 dX0_drawn_19 (by decide) (fun c19 => ?_) (fun c19 => ?_)
    · refine j_ldc C q391 dX0_drawn_41 ?_
      exact j_iret C (by omega) (by omega) (fC.mk ⟨W, hA, hv⟩ (h1 (of_decide_eq_true c4) (Or.inl c19))) dX0_drawn_43
    · obtain ⟨m, rfl, hml, hm⟩ := inB_n (by decide) c19 (by decide)
      refine j_iload_n C dX0_drawn_22 rfl 2 rfl ?_
      refine j_i2l C dX0_drawn_23 ?_
      refine j_lconst (v := (nI 1).toInt64) C dX0_drawn_24 (by decide +kernel) ?_
      refine j_ldc2 C q1277 dX0_drawn_25 ?_
      refine j_asl (y := (nI 999999).toInt64) (by decide +kernel) ?_
      refine j_callS (w := w) C (kX0_isIn G w z ((nI 1)) ((nI 999999))) pI.ret 3 q387 q388 q66 q389 (by decide +kernel) rfl (by decide) (by decide) (Nat.le_of_ble_eq_true rfl) rfl dX0_drawn_28 (by omega) (by omega) (qI.k ?_)
      refine j_if_eqB C 41 dX0_drawn_31 (by decide) (fun c31 => ?_) (fun c31 => ?_)
      · refine j_ldc C q391 dX0_drawn_41 ?_
        exact j_iret C (by omega) (by omega) (fC.mk ⟨W, hA, hv⟩ (h1 (of_decide_eq_true c4) (Or.inr (Or.inl c31)))) dX0_drawn_43
      · obtain ⟨sd, rfl, hsdl, hsd⟩ := inB_n (by decide) c31 (by decide)
        refine j_iload_n C dX0_drawn_34 rfl 3 rfl ?_
        refine j_callS (w := w) C (kX0_isHalf G w q) pI.ret 1 q974 q975 q66 q976 (by decide +kernel) rfl (by decide) (by decide) (Nat.le_of_ble_eq_true rfl) rfl dX0_drawn_35 (by omega) (by omega) (qI.k ?_)
        refine j_if_neB C 44 dX0_drawn_38 (by decide) (fun c38 => ?_) (fun c38 => ?_)
        · obtain ⟨u, rfl, hul, hu⟩ := inB_n (by decide) c38 (by decide)
          refine j_aload_n C dX0_drawn_44 rfl 0 rfl ?_
          refine j_callV (w := w) C (kX0_asNow G hG w0 w x O V Z ⟨W, hA, hv⟩) pA.ret (ci := 0) (T := TX0) (hA.d0 hv) rfl 0 q1014 q1016 qs23 q66 q1017 (by decide +kernel) rfl (by decide) (by decide) (Nat.le_of_ble_eq_true rfl) rfl dX0_drawn_45 (by omega) (by omega) (pA.k (fun r1 w1 h1 => ?_))
          obtain ⟨rfl, h1, hfr1⟩ := h1
          obtain ⟨W1, hA1, hv1⟩ := h1
          refine j_astore (lv' := [(4, .ref (x + 16)), (0, .ref x), (1, .int (nI m)), (2, .int (nI sd)), (3, .int (nI u))]) C dX0_drawn_48 (by decide) rfl ?_
          refine j_iload_n C dX0_drawn_50 rfl 3 rfl ?_
          refine j_i2lN C dX0_drawn_51 (by omega) ?_
          refine j_lstore (lv' := [(5, .long (lN sd)), (4, .ref (x + 16)), (0, .ref x), (1, .int (nI m)), (2, .int (nI sd)), (3, .int (nI u))]) C dX0_drawn_52 (by decide) rfl ?_
          refine j_iconst (v := nI 0) C dX0_drawn_54 rfl ?_
          refine j_istore (lv' := [(7, .int (nI 0)), (5, .long (lN sd)), (4, .ref (x + 16)), (0, .ref x), (1, .int (nI m)), (2, .int (nI sd)), (3, .int (nI u))]) C dX0_drawn_55 (by decide) rfl ?_
          have lp : ∀ (n i : Nat) (w5 : wd_T) (Z5 : fz_T), i ≤ m → m < i + n → FX G w0 w5 x O V Z5 → Z5.1 = (drT V.2.1 sd i) → J G k w5 [(7, .int (nI i)), (5, .long (lN (drX sd i))), (4, .ref (x + 16)), (0, .ref x), (1, .int (nI m)), (2, .int (nI sd)), (3, .int (nI u))] 57 [] 1 10 := by
            intro n
            induction n with
            | zero => intro i w5 Z5 a1 a2; omega
            | succ n ih =>
              intro i w5 Z5 hi1 hi2 hX5 hz5
              obtain ⟨W5, hA5, hv5⟩ := id hX5
              have hdr := drT_sm (s := sd) ht i (by omega)
              have ht1 := hdr.1
              obtain ⟨q0, q1, q2, q3, q4, q5, q6, q7, q25, q26⟩ := id ht1
              have hd25 : drT V.2.1 sd i 25 = V.2.1 25 := drT_o (by omega) i
              have hd6 : drT V.2.1 sd i 6 = V.2.1 6 := drT_o (by omega) i
              have hwf1 : ∀ y, y < drT V.2.1 sd i 25 → drT V.2.1 sd i (26 + 2 * y + 1) < drT V.2.1 sd i 6 := fun y hy => by rw [drT_o (by omega) i, hd6]; exact hwf y (by omega)
              have hxl := drX_lt (s := sd) (by omega)
              have hxi := hxl i
              have hxs := hxl (i + 1)
              have hcl := ctS_le2 (drT V.2.1 sd i) ((drT V.2.1 sd i) 4) ((drT V.2.1 sd i) 25)
              refine j_iload C dX0_drawn_57 0 rfl ?_
              refine j_iload_n C dX0_drawn_59 rfl 4 rfl ?_
              refine j_icmp_geN C 213 dX0_drawn_60 (by decide) (by omega) (by omega) (fun c60 => ?_) (fun c60 => ?_)
              · obtain rfl : m = i := by omega
                refine j_iload_n C dX0_drawn_213 rfl 6 rfl ?_
                refine j_if_neN C 225 dX0_drawn_214 (by decide) (by omega) (fun c214 => ?_) (fun c214 => ?_)
                · refine j_aload C dX0_drawn_225 2 rfl ?_
                  refine j_get (w := w5) C in_X2 (ci := 2) (T := TX2) rfl ((hA5.s1 (Z := Z5) hv5).eq hz5).1 2 (by decide) q179 (fun _ z => z) (v := .int (nI (((drT V.2.1 sd m)) 4))) rfl dX0_drawn_227 ?_
                  exact j_iret C (by omega) (by omega) (fC.mk ⟨W5, hA5, hv5⟩ (g1 (of_decide_eq_true c4) m sd rfl hm rfl hsdl hsd (by rw [show u = 1 by omega]))) dX0_drawn_230
                · refine j_aload C dX0_drawn_217 2 rfl ?_
                  refine j_get (w := w5) C in_X2 (ci := 2) (T := TX2) rfl ((hA5.s1 (Z := Z5) hv5).eq hz5).1 3 (by decide) q181 (fun _ z => z) (v := .int (nI (((drT V.2.1 sd m)) 2))) rfl dX0_drawn_219 ?_
                  refine j_goto C 230 dX0_drawn_222 (by decide) ?_
                  exact j_iret C (by omega) (by omega) (fC.mk ⟨W5, hA5, hv5⟩ (g0 (of_decide_eq_true c4) m sd rfl hm rfl hsdl hsd (by rw [show u = 0 by omega]))) dX0_drawn_230
              · refine j_lload C dX0_drawn_63 1 rfl ?_
                refine j_ldc2 C q1278 dX0_drawn_65 ?_
                refine j_asl (y := lN 16807) (by decide +kernel) ?_
                refine j_lmulN C dX0_drawn_68 ?_
                refine j_ldc2 C q1279 dX0_drawn_69 ?_
                refine j_asl (y := lN 2147483647) (by decide +kernel) ?_
                refine j_lremN C dX0_drawn_72 (by omega) (by omega) (by omega) ?_
                refine j_asl (y := lN (drX sd (i + 1))) rfl ?_
                refine j_lstore (lv' := [(5, .long (lN (drX sd (i + 1)))), (7, .int (nI i)), (4, .ref (x + 16)), (0, .ref x), (1, .int (nI m)), (2, .int (nI sd)), (3, .int (nI u))]) C dX0_drawn_73 (by decide) rfl ?_
                refine j_iconst (v := nI 0) C dX0_drawn_75 rfl ?_
                refine j_istore (lv' := [(8, .int (nI 0)), (5, .long (lN (drX sd (i + 1)))), (7, .int (nI i)), (4, .ref (x + 16)), (0, .ref x), (1, .int (nI m)), (2, .int (nI sd)), (3, .int (nI u))]) C dX0_drawn_76 (by decide) rfl ?_
                refine j_iconst (v := nI 0) C dX0_drawn_78 rfl ?_
                refine j_istore (lv' := [(9, .int (nI 0)), (8, .int (nI 0)), (5, .long (lN (drX sd (i + 1)))), (7, .int (nI i)), (4, .ref (x + 16)), (0, .ref x), (1, .int (nI m)), (2, .int (nI sd)), (3, .int (nI u))]) C dX0_drawn_79 (by decide) rfl ?_
                have lq : ∀ (n_lq e : Nat), 0 ≤ e → e ≤ (drT V.2.1 sd i) 25 → (drT V.2.1 sd i) 25 < e + n_lq → J G k w5 [(9, .int (nI e)), (8, .int (nI (ctS (drT V.2.1 sd i) ((drT V.2.1 sd i) 4) e))), (5, .long (lN (drX sd (i + 1)))), (7, .int (nI i)), (4, .ref (x + 16)), (0, .ref x), (1, .int (nI m)), (2, .int (nI sd)), (3, .int (nI u))] 81 [] 1 10 := by
                  intro n_lq
                  induction n_lq with
                  | zero => intro e h0_lq h1_lq h2_lq; omega
                  | succ n_lq ih_lq =>
                    intro e h0_lq h1_lq h2_lq
                    refine j_iload C dX0_drawn_81 0 rfl ?_
                    refine j_aload C dX0_drawn_83 4 rfl ?_
                    refine j_get (w := w5) C in_X2 (ci := 2) (T := TX2) rfl ((hA5.s1 (Z := Z5) hv5).eq hz5).1 7 (by decide) q195 (fun _ z => z) (v := .int (nI (((drT V.2.1 sd i)) 25))) rfl dX0_drawn_85 ?_
                    refine j_icmp_geN C 117 dX0_drawn_88 (by decide) (by omega) (by omega) (fun c88 => ?_) (fun c88 => ?_)
                    · obtain rfl : (drT V.2.1 sd i) 25 = e := by omega
                      refine j_iload C dX0_drawn_117 1 rfl ?_
                      refine j_if_neN C 126 dX0_drawn_119 (by decide) (by omega) (fun c119 => ?_) (fun c119 => ?_)
                      · have q9 : drX sd (i + 1) % ctS (drT V.2.1 sd i) ((drT V.2.1 sd i) 4) ((drT V.2.1 sd i) 25) < ctS (drT V.2.1 sd i) ((drT V.2.1 sd i) 4) ((drT V.2.1 sd i) 25) := Nat.mod_lt _ (by omega)
                        refine j_lload C dX0_drawn_126 2 rfl ?_
                        refine j_iload C dX0_drawn_128 1 rfl ?_
                        refine j_i2lN C dX0_drawn_130 (by omega) ?_
                        refine j_lremN C dX0_drawn_131 (by omega) (by omega) (by omega) ?_
                        refine j_l2iN C dX0_drawn_132 ?_
                        refine j_istore (lv' := [(9, .int (nI ((drX sd (i + 1)) % (ctS (drT V.2.1 sd i) ((drT V.2.1 sd i) 4) ((drT V.2.1 sd i) 25))))), (8, .int (nI (ctS (drT V.2.1 sd i) ((drT V.2.1 sd i) 4) ((drT V.2.1 sd i) 25)))), (5, .long (lN (drX sd (i + 1)))), (7, .int (nI i)), (4, .ref (x + 16)), (0, .ref x), (1, .int (nI m)), (2, .int (nI sd)), (3, .int (nI u))]) C dX0_drawn_133 (by decide) rfl ?_
                        refine j_iload C dX0_drawn_135 1 rfl ?_
                        refine j_if_neN C 151 dX0_drawn_137 (by decide) (by omega) (fun c137 => ?_) (fun c137 => ?_)
                        · refine j_iconst (v := nI 0) C dX0_drawn_151 rfl ?_
                          refine j_istore (lv' := [(10, .int (nI 0)), (9, .int (nI ((drX sd (i + 1)) % (ctS (drT V.2.1 sd i) ((drT V.2.1 sd i) 4) ((drT V.2.1 sd i) 25))))), (8, .int (nI (ctS (drT V.2.1 sd i) ((drT V.2.1 sd i) 4) ((drT V.2.1 sd i) 25)))), (5, .long (lN (drX sd (i + 1)))), (7, .int (nI i)), (4, .ref (x + 16)), (0, .ref x), (1, .int (nI m)), (2, .int (nI sd)), (3, .int (nI u))]) C dX0_drawn_152 (by decide) rfl ?_
                          have lr : ∀ (n_lr o : Nat), 0 ≤ o → o ≤ (drT V.2.1 sd i) 25 → (drT V.2.1 sd i) 25 < o + n_lr → (ctS (drT V.2.1 sd i) ((drT V.2.1 sd i) 4) o ≤ (drX sd (i + 1) % ctS (drT V.2.1 sd i) ((drT V.2.1 sd i) 4) ((drT V.2.1 sd i) 25))) → J G k w5 [(10, .int (nI o)), (9, .int (nI ((drX sd (i + 1) % ctS (drT V.2.1 sd i) ((drT V.2.1 sd i) 4) ((drT V.2.1 sd i) 25)) - ctS (drT V.2.1 sd i) ((drT V.2.1 sd i) 4) o))), (8, .int (nI (ctS (drT V.2.1 sd i) ((drT V.2.1 sd i) 4) ((drT V.2.1 sd i) 25)))), (5, .long (lN (drX sd (i + 1)))), (7, .int (nI i)), (4, .ref (x + 16)), (0, .ref x), (1, .int (nI m)), (2, .int (nI sd)), (3, .int (nI u))] 154 [] 1 10 := by
                            intro n_lr
                            induction n_lr with
                            | zero => intro o h0_lr h1_lr h2_lr; omega
                            | succ n_lr ih_lr =>
                              intro o h0_lr h1_lr h2_lr hI_lr
                              refine j_iload C dX0_drawn_154 0 rfl ?_
                              refine j_aload C dX0_drawn_156 5 rfl ?_
                              refine j_get (w := w5) C in_X2 (ci := 2) (T := TX2) rfl ((hA5.s1 (Z := Z5) hv5).eq hz5).1 7 (by decide) q195 (fun _ z => z) (v := .int (nI (((drT V.2.1 sd i)) 25))) rfl dX0_drawn_158 ?_
                              refine j_icmp_geN C 207 dX0_drawn_161 (by decide) (by omega) (by omega) (fun c161 => ?_) (fun c161 => ?_)
                              · obtain rfl : (drT V.2.1 sd i) 25 = o := by omega
                                refine j_iincN (lv' := [(7, .int (nI (i + 1))), (10, .int (nI (((drT V.2.1 sd i) 25)))), (9, .int (nI ((drX sd (i + 1) % ctS (drT V.2.1 sd i) ((drT V.2.1 sd i) 4) ((drT V.2.1 sd i) 25)) - ctS (drT V.2.1 sd i) ((drT V.2.1 sd i) 4) ((drT V.2.1 sd i) 25)))), (8, .int (nI (ctS (drT V.2.1 sd i) ((drT V.2.1 sd i) 4) ((drT V.2.1 sd i) 25)))), (5, .long (lN (drX sd (i + 1)))), (4, .ref (x + 16)), (0, .ref x), (1, .int (nI m)), (2, .int (nI sd)), (3, .int (nI u))]) C dX0_drawn_207 4 rfl (by decide) rfl ?_
                                refine j_goto C 57 dX0_drawn_210 (by decide) ?_
                                exfalso; omega
                              · refine j_iload C dX0_drawn_164 2 rfl ?_
                                refine j_if_leN C 207 dX0_drawn_166 (by decide) (by omega) (fun c166 => ?_) (fun c166 => ?_)
                                · exfalso; omega
                                · refine j_aload C dX0_drawn_169 5 rfl ?_
                                  refine j_iload C dX0_drawn_171 0 rfl ?_
                                  refine j_callV (w := w5) C (kX2_isWay G w5 hG (x + 16) ((drT V.2.1 sd i)) ((hA5.s1 (Z := Z5) hv5).eq hz5) ht1 (nI o)) pI.ret (ci := 2) (T := TX2) ((hA5.s1 (Z := Z5) hv5).eq hz5).1 rfl 1 q891 q892 q893 q68 q894 (by decide +kernel) rfl (by decide) (by decide) (Nat.le_of_ble_eq_true rfl) rfl dX0_drawn_173 (by omega) (by omega) (qI.k ?_)
                                  refine j_if_eqB C 201 dX0_drawn_176 (by decide) (fun c176 => ?_) (fun c176 => ?_)
                                  · have hgo : goN (drT V.2.1 sd i) o ((drT V.2.1 sd i) 4) = false := by rw [← goB_i (by omega) (by omega)]; exact c176
                                    refine j_iincN (lv' := [(10, .int (nI (o + 1))), (9, .int (nI ((drX sd (i + 1) % ctS (drT V.2.1 sd i) ((drT V.2.1 sd i) 4) ((drT V.2.1 sd i) 25)) - ctS (drT V.2.1 sd i) ((drT V.2.1 sd i) 4) o))), (8, .int (nI (ctS (drT V.2.1 sd i) ((drT V.2.1 sd i) 4) ((drT V.2.1 sd i) 25)))), (5, .long (lN (drX sd (i + 1)))), (7, .int (nI i)), (4, .ref (x + 16)), (0, .ref x), (1, .int (nI m)), (2, .int (nI sd)), (3, .int (nI u))]) C dX0_drawn_201 0 rfl (by decide) rfl ?_
                                    refine j_goto C 154 dX0_drawn_204 (by decide) ?_
                                    refine j_lv [0, 1, 2, 3, 4, 5, 6, 7, 8, 9] (lv' := [(10, .int (nI (o + 1))), (9, .int (nI ((drX sd (i + 1) % ctS (drT V.2.1 sd i) ((drT V.2.1 sd i) 4) ((drT V.2.1 sd i) 25)) - ctS (drT V.2.1 sd i) ((drT V.2.1 sd i) 4) o))), (8, .int (nI (ctS (drT V.2.1 sd i) ((drT V.2.1 sd i) 4) ((drT V.2.1 sd i) 25)))), (5, .long (lN (drX sd (i + 1)))), (7, .int (nI i)), (4, .ref (x + 16)), (0, .ref x), (1, .int (nI m)), (2, .int (nI sd)), (3, .int (nI u))]) rfl ?_
                                    refine j_lvN (lv' := [(10, .int (nI (o + 1))), (9, .int (nI ((drX sd (i + 1) % ctS (drT V.2.1 sd i) ((drT V.2.1 sd i) 4) ((drT V.2.1 sd i) 25)) - ctS (drT V.2.1 sd i) ((drT V.2.1 sd i) 4) (o + 1)))), (8, .int (nI (ctS (drT V.2.1 sd i) ((drT V.2.1 sd i) 4) ((drT V.2.1 sd i) 25)))), (5, .long (lN (drX sd (i + 1)))), (7, .int (nI i)), (4, .ref (x + 16)), (0, .ref x), (1, .int (nI m)), (2, .int (nI sd)), (3, .int (nI u))]) 1 rfl (by simp [ctS, hgo]) rfl ?_
                                    exact ih_lr (o + 1) (by omega) (by omega) (by omega) (by show ctS (drT V.2.1 sd i) ((drT V.2.1 sd i) 4) o + (if goN (drT V.2.1 sd i) o ((drT V.2.1 sd i) 4) then 1 else 0) ≤ _; rw [hgo]; simp; omega)
                                  · have hgo : goN (drT V.2.1 sd i) o ((drT V.2.1 sd i) 4) = true := by rw [← goB_i (by omega) (by omega)]; exact c176
                                    refine j_iload C dX0_drawn_179 1 rfl ?_
                                    refine j_iinc (lv' := [(9, .int (nI ((drX sd (i + 1) % ctS (drT V.2.1 sd i) ((drT V.2.1 sd i) 4) ((drT V.2.1 sd i) 25)) - ctS (drT V.2.1 sd i) ((drT V.2.1 sd i) 4) o) + (-1))), (10, .int (nI o)), (8, .int (nI (ctS (drT V.2.1 sd i) ((drT V.2.1 sd i) 4) ((drT V.2.1 sd i) 25)))), (5, .long (lN (drX sd (i + 1)))), (7, .int (nI i)), (4, .ref (x + 16)), (0, .ref x), (1, .int (nI m)), (2, .int (nI sd)), (3, .int (nI u))]) C dX0_drawn_181 1 rfl rfl (by decide) rfl ?_
                                    refine j_if_leN C 190 dX0_drawn_184 (by decide) (by omega) (fun c184 => ?_) (fun c184 => ?_)
                                    · have hto := hwf1 o (by omega)
                                      have hr25 : rdT (drT V.2.1 sd i) o 25 = (drT V.2.1 sd i) 25 := rdT_n (by omega)
                                      refine j_aload C dX0_drawn_190 5 rfl ?_
                                      refine j_iload C dX0_drawn_192 1 rfl ?_
                                      refine j_callV (w := w5) C (kX2_ride G w5 hG (x + 16) ((drT V.2.1 sd i)) ((hA5.s1 (Z := Z5) hv5).eq hz5) ht1 o (by omega) (by omega)) pI.ret (ci := 2) (T := TX2) ((hA5.s1 (Z := Z5) hv5).eq hz5).1 rfl 1 q904 q905 q906 q68 q907 (by decide +kernel) rfl (by decide) (by decide) (Nat.le_of_ble_eq_true rfl) rfl dX0_drawn_194 (by omega) (by omega) (qI.k ?_)
                                      refine j_abs (P := fun w' => FX G w0 w' x O V (zT Z5 (rdT ((drT V.2.1 sd i)) o))) (FX.t1 hA5 hv5 (RD_sc ((hA5.s1 (Z := Z5) hv5).eq hz5)) (FR.upd ((hA5.s1 (Z := Z5) hv5).eq hz5).1 isC_TE) (hA5.wf.upd ((hA5.s1 (Z := Z5) hv5).eq hz5).1)) (fun w2 h2 => ?_)
                                      obtain ⟨W2, hA2, hv2⟩ := h2
                                      refine j_pop C dX0_drawn_197 rfl ?_
                                      refine j_iconst (v := nI 0) C dX0_drawn_198 rfl ?_
                                      refine j_istore (lv' := [(8, .int (nI 0)), (9, .int (nI ((drX sd (i + 1) % ctS (drT V.2.1 sd i) ((drT V.2.1 sd i) 4) ((drT V.2.1 sd i) 25)) - ctS (drT V.2.1 sd i) ((drT V.2.1 sd i) 4) o) + (-1))), (10, .int (nI o)), (5, .long (lN (drX sd (i + 1)))), (7, .int (nI i)), (4, .ref (x + 16)), (0, .ref x), (1, .int (nI m)), (2, .int (nI sd)), (3, .int (nI u))]) C dX0_drawn_199 (by decide) rfl ?_
                                      refine j_iincN (lv' := [(10, .int (nI (o + 1))), (8, .int (nI 0)), (9, .int (nI ((drX sd (i + 1) % ctS (drT V.2.1 sd i) ((drT V.2.1 sd i) 4) ((drT V.2.1 sd i) 25)) - ctS (drT V.2.1 sd i) ((drT V.2.1 sd i) 4) o) + (-1))), (5, .long (lN (drX sd (i + 1)))), (7, .int (nI i)), (4, .ref (x + 16)), (0, .ref x), (1, .int (nI m)), (2, .int (nI sd)), (3, .int (nI u))]) C dX0_drawn_201 2 rfl (by decide) rfl ?_
                                      refine j_goto C 154 dX0_drawn_204 (by decide) ?_
                                      refine j_iload C dX0_drawn_154 0 rfl ?_
                                      refine j_aload C dX0_drawn_156 5 rfl ?_
                                      refine j_get (w := w2) C in_X2 (ci := 2) (T := TX2) rfl (hA2.s1 (Z := zT Z5 (rdT ((drT V.2.1 sd i)) o)) hv2).1 7 (by decide) q195 (fun _ z => z) (v := .int (nI ((rdT ((drT V.2.1 sd i)) o) 25))) rfl dX0_drawn_158 ?_
                                      refine j_icmp_geN C 207 dX0_drawn_161 (by decide) (by omega) (by omega) (fun c161 => ?_) (fun c161 => ?_)
                                      · refine j_iincN (lv' := [(7, .int (nI (i + 1))), (10, .int (nI (o + 1))), (8, .int (nI 0)), (9, .int (nI ((drX sd (i + 1) % ctS (drT V.2.1 sd i) ((drT V.2.1 sd i) 4) ((drT V.2.1 sd i) 25)) - ctS (drT V.2.1 sd i) ((drT V.2.1 sd i) 4) o) + (-1))), (5, .long (lN (drX sd (i + 1)))), (4, .ref (x + 16)), (0, .ref x), (1, .int (nI m)), (2, .int (nI sd)), (3, .int (nI u))]) C dX0_drawn_207 4 rfl (by decide) rfl ?_
                                        refine j_goto C 57 dX0_drawn_210 (by decide) ?_
                                        refine j_lv [0, 4, 5, 6, 7, 8, 9] (lv' := [(7, .int (nI (i + 1))), (5, .long (lN (drX sd (i + 1)))), (4, .ref (x + 16)), (0, .ref x), (1, .int (nI m)), (2, .int (nI sd)), (3, .int (nI u))]) rfl ?_
                                        exact ih (i + 1) w2 (zT Z5 (rdT ((drT V.2.1 sd i)) o)) (by omega) (by omega) ⟨W2, hA2, hv2⟩ (drT_1 c119 (by omega) hgo (by omega))
                                      · refine j_iload C dX0_drawn_164 1 rfl ?_
                                        refine j_if_leN C 207 dX0_drawn_166 (by decide) (by omega) (fun c166 => ?_) (fun c166 => ?_)
                                        · refine j_iincN (lv' := [(7, .int (nI (i + 1))), (10, .int (nI (o + 1))), (8, .int (nI 0)), (9, .int (nI ((drX sd (i + 1) % ctS (drT V.2.1 sd i) ((drT V.2.1 sd i) 4) ((drT V.2.1 sd i) 25)) - ctS (drT V.2.1 sd i) ((drT V.2.1 sd i) 4) o) + (-1))), (5, .long (lN (drX sd (i + 1)))), (4, .ref (x + 16)), (0, .ref x), (1, .int (nI m)), (2, .int (nI sd)), (3, .int (nI u))]) C dX0_drawn_207 4 rfl (by decide) rfl ?_
                                          refine j_goto C 57 dX0_drawn_210 (by decide) ?_
                                          refine j_lv [0, 4, 5, 6, 7, 8, 9] (lv' := [(7, .int (nI (i + 1))), (5, .long (lN (drX sd (i + 1)))), (4, .ref (x + 16)), (0, .ref x), (1, .int (nI m)), (2, .int (nI sd)), (3, .int (nI u))]) rfl ?_
                                          exact ih (i + 1) w2 (zT Z5 (rdT ((drT V.2.1 sd i)) o)) (by omega) (by omega) ⟨W2, hA2, hv2⟩ (drT_1 c119 (by omega) hgo (by omega))
                                        · exfalso; omega
                                    · refine j_goto C 201 dX0_drawn_187 (by decide) ?_
                                      refine j_iincN (lv' := [(10, .int (nI (o + 1))), (9, .int (nI ((drX sd (i + 1) % ctS (drT V.2.1 sd i) ((drT V.2.1 sd i) 4) ((drT V.2.1 sd i) 25)) - ctS (drT V.2.1 sd i) ((drT V.2.1 sd i) 4) o) + (-1))), (8, .int (nI (ctS (drT V.2.1 sd i) ((drT V.2.1 sd i) 4) ((drT V.2.1 sd i) 25)))), (5, .long (lN (drX sd (i + 1)))), (7, .int (nI i)), (4, .ref (x + 16)), (0, .ref x), (1, .int (nI m)), (2, .int (nI sd)), (3, .int (nI u))]) C dX0_drawn_201 1 rfl (by decide) rfl ?_
                                      refine j_goto C 154 dX0_drawn_204 (by decide) ?_
                                      refine j_lv [0, 1, 2, 3, 4, 5, 6, 7, 8, 9] (lv' := [(10, .int (nI (o + 1))), (9, .int (nI ((drX sd (i + 1) % ctS (drT V.2.1 sd i) ((drT V.2.1 sd i) 4) ((drT V.2.1 sd i) 25)) - ctS (drT V.2.1 sd i) ((drT V.2.1 sd i) 4) o) + (-1))), (8, .int (nI (ctS (drT V.2.1 sd i) ((drT V.2.1 sd i) 4) ((drT V.2.1 sd i) 25)))), (5, .long (lN (drX sd (i + 1)))), (7, .int (nI i)), (4, .ref (x + 16)), (0, .ref x), (1, .int (nI m)), (2, .int (nI sd)), (3, .int (nI u))]) rfl ?_
                                      refine j_lvI (lv' := [(10, .int (nI (o + 1))), (9, .int (nI ((drX sd (i + 1) % ctS (drT V.2.1 sd i) ((drT V.2.1 sd i) 4) ((drT V.2.1 sd i) 25)) - ctS (drT V.2.1 sd i) ((drT V.2.1 sd i) 4) (o + 1)))), (8, .int (nI (ctS (drT V.2.1 sd i) ((drT V.2.1 sd i) 4) ((drT V.2.1 sd i) 25)))), (5, .long (lN (drX sd (i + 1)))), (7, .int (nI i)), (4, .ref (x + 16)), (0, .ref x), (1, .int (nI m)), (2, .int (nI sd)), (3, .int (nI u))]) 1 rfl (l9dec (by omega) (by simp [ctS, hgo])) rfl ?_
                                      exact ih_lr (o + 1) (by omega) (by omega) (by omega) (by show ctS (drT V.2.1 sd i) ((drT V.2.1 sd i) 4) o + (if goN (drT V.2.1 sd i) o ((drT V.2.1 sd i) 4) then 1 else 0) ≤ _; rw [hgo]; simp; omega)
                          refine j_lv [0, 1, 2, 3, 4, 5, 6, 7, 8, 9] (lv' := [(10, .int (nI 0)), (9, .int (nI ((drX sd (i + 1)) % (ctS (drT V.2.1 sd i) ((drT V.2.1 sd i) 4) ((drT V.2.1 sd i) 25))))), (8, .int (nI (ctS (drT V.2.1 sd i) ((drT V.2.1 sd i) 4) ((drT V.2.1 sd i) 25)))), (5, .long (lN (drX sd (i + 1)))), (7, .int (nI i)), (4, .ref (x + 16)), (0, .ref x), (1, .int (nI m)), (2, .int (nI sd)), (3, .int (nI u))]) rfl ?_
                          refine j_lvN (lv' := [(10, .int (nI 0)), (9, .int (nI ((drX sd (i + 1) % ctS (drT V.2.1 sd i) ((drT V.2.1 sd i) 4) ((drT V.2.1 sd i) 25)) - ctS (drT V.2.1 sd i) ((drT V.2.1 sd i) 4) 0))), (8, .int (nI (ctS (drT V.2.1 sd i) ((drT V.2.1 sd i) 4) ((drT V.2.1 sd i) 25)))), (5, .long (lN (drX sd (i + 1)))), (7, .int (nI i)), (4, .ref (x + 16)), (0, .ref x), (1, .int (nI m)), (2, .int (nI sd)), (3, .int (nI u))]) 1 rfl (Nat.sub_zero _).symm rfl ?_
                          exact lr ((drT V.2.1 sd i) 25 + 1 - 0) (0) (by omega) (by omega) (by omega) (by exact Nat.zero_le _)
                        · exact absurd c137 c119
                      · refine j_iconst (v := nI 0) C dX0_drawn_122 rfl ?_
                        refine j_goto C 133 dX0_drawn_123 (by decide) ?_
                        refine j_istore (lv' := [(9, .int (nI 0)), (8, .int (nI (ctS (drT V.2.1 sd i) ((drT V.2.1 sd i) 4) ((drT V.2.1 sd i) 25)))), (5, .long (lN (drX sd (i + 1)))), (7, .int (nI i)), (4, .ref (x + 16)), (0, .ref x), (1, .int (nI m)), (2, .int (nI sd)), (3, .int (nI u))]) C dX0_drawn_133 (by decide) rfl ?_
                        refine j_iload C dX0_drawn_135 1 rfl ?_
                        refine j_if_neN C 151 dX0_drawn_137 (by decide) (by omega) (fun c137 => ?_) (fun c137 => ?_)
                        · exact absurd c119 c137
                        · have hu25 : uN (drT V.2.1 sd i) 3 ((drT V.2.1 sd i) 3 + 1) 25 = (drT V.2.1 sd i) 25 := uN_n (by omega)
                          refine j_aload C dX0_drawn_140 4 rfl ?_
                          refine j_dup C dX0_drawn_142 rfl ?_
                          refine j_get (w := w5) C in_X2 (ci := 2) (T := TX2) rfl ((hA5.s1 (Z := Z5) hv5).eq hz5).1 4 (by decide) q183 (fun _ z => z) (v := .int (nI (((drT V.2.1 sd i)) 3))) rfl dX0_drawn_143 ?_
                          refine j_iconst (v := nI 1) C dX0_drawn_146 rfl ?_
                          refine j_iaddN C dX0_drawn_147 ?_
                          refine j_put (w := w5) C (ty0 := tyX2) in_X2 tyX2_ok nmX2 (ci := 2) (T := TX2) rfl ((hA5.s1 (Z := Z5) hv5).eq hz5).1 4 (by decide) q183 (fun _ z => z) rfl rfl rfl (fs' := [.int (nI (((drT V.2.1 sd i)) 0)), .int (nI (((drT V.2.1 sd i)) 1)), .int (nI (((drT V.2.1 sd i)) 4)), .int (nI (((drT V.2.1 sd i)) 2)), .int (nI ((((drT V.2.1 sd i)) 3) + 1)), .ref (x + 16 + 1), .ref (x + 16 + 2), .int (nI (((drT V.2.1 sd i)) 25)), .ref (x + 16 + 3), .ref (x + 16 + 4), .int (nI (((drT V.2.1 sd i)) 5))]) (Nat.le_of_ble_eq_true rfl) rfl dX0_drawn_148 ?_
                          refine j_abs (P := fun w' => FX G w0 w' x O V (zT Z5 (uN ((drT V.2.1 sd i)) 3 ((((drT V.2.1 sd i)) 3) + 1)))) (FX.t1 hA5 hv5 (TN.sc (u := uN ((drT V.2.1 sd i)) 3 ((((drT V.2.1 sd i)) 3) + 1)) ((hA5.s1 (Z := Z5) hv5).eq hz5) rfl (fun i h1 h2 => uN_n (by omega))) (FR.upd ((hA5.s1 (Z := Z5) hv5).eq hz5).1 isC_TE) (hA5.wf.upd ((hA5.s1 (Z := Z5) hv5).eq hz5).1)) (fun w3 h3 => ?_)
                          obtain ⟨W3, hA3, hv3⟩ := h3
                          refine j_iconst (v := nI 0) C dX0_drawn_151 rfl ?_
                          refine j_istore (lv' := [(10, .int (nI 0)), (9, .int (nI 0)), (8, .int (nI (ctS (drT V.2.1 sd i) ((drT V.2.1 sd i) 4) ((drT V.2.1 sd i) 25)))), (5, .long (lN (drX sd (i + 1)))), (7, .int (nI i)), (4, .ref (x + 16)), (0, .ref x), (1, .int (nI m)), (2, .int (nI sd)), (3, .int (nI u))]) C dX0_drawn_152 (by decide) rfl ?_
                          refine j_iload C dX0_drawn_154 0 rfl ?_
                          refine j_aload C dX0_drawn_156 5 rfl ?_
                          refine j_get (w := w3) C in_X2 (ci := 2) (T := TX2) rfl (hA3.s1 (Z := zT Z5 (uN ((drT V.2.1 sd i)) 3 ((((drT V.2.1 sd i)) 3) + 1))) hv3).1 7 (by decide) q195 (fun _ z => z) (v := .int (nI ((uN ((drT V.2.1 sd i)) 3 ((((drT V.2.1 sd i)) 3) + 1)) 25))) rfl dX0_drawn_158 ?_
                          refine j_icmp_geN C 207 dX0_drawn_161 (by decide) (by omega) (by omega) (fun c161 => ?_) (fun c161 => ?_)
                          · refine j_iincN (lv' := [(7, .int (nI (i + 1))), (10, .int (nI 0)), (9, .int (nI 0)), (8, .int (nI (ctS (drT V.2.1 sd i) ((drT V.2.1 sd i) 4) ((drT V.2.1 sd i) 25)))), (5, .long (lN (drX sd (i + 1)))), (4, .ref (x + 16)), (0, .ref x), (1, .int (nI m)), (2, .int (nI sd)), (3, .int (nI u))]) C dX0_drawn_207 4 rfl (by decide) rfl ?_
                            refine j_goto C 57 dX0_drawn_210 (by decide) ?_
                            refine j_lv [0, 4, 5, 6, 7, 8, 9] (lv' := [(7, .int (nI (i + 1))), (5, .long (lN (drX sd (i + 1)))), (4, .ref (x + 16)), (0, .ref x), (1, .int (nI m)), (2, .int (nI sd)), (3, .int (nI u))]) rfl ?_
                            exact ih (i + 1) w3 (zT Z5 (uN ((drT V.2.1 sd i)) 3 ((((drT V.2.1 sd i)) 3) + 1))) (by omega) (by omega) ⟨W3, hA3, hv3⟩ (drT_0 c119)
                          · refine j_iload C dX0_drawn_164 2 rfl ?_
                            refine j_if_leN C 207 dX0_drawn_166 (by decide) (by omega) (fun c166 => ?_) (fun c166 => ?_)
                            · refine j_iincN (lv' := [(7, .int (nI (i + 1))), (10, .int (nI 0)), (9, .int (nI 0)), (8, .int (nI (ctS (drT V.2.1 sd i) ((drT V.2.1 sd i) 4) ((drT V.2.1 sd i) 25)))), (5, .long (lN (drX sd (i + 1)))), (4, .ref (x + 16)), (0, .ref x), (1, .int (nI m)), (2, .int (nI sd)), (3, .int (nI u))]) C dX0_drawn_207 4 rfl (by decide) rfl ?_
                              refine j_goto C 57 dX0_drawn_210 (by decide) ?_
                              refine j_lv [0, 4, 5, 6, 7, 8, 9] (lv' := [(7, .int (nI (i + 1))), (5, .long (lN (drX sd (i + 1)))), (4, .ref (x + 16)), (0, .ref x), (1, .int (nI m)), (2, .int (nI sd)), (3, .int (nI u))]) rfl ?_
                              exact ih (i + 1) w3 (zT Z5 (uN ((drT V.2.1 sd i)) 3 ((((drT V.2.1 sd i)) 3) + 1))) (by omega) (by omega) ⟨W3, hA3, hv3⟩ (drT_0 c119)
                            · exfalso; omega
                    · refine j_iload C dX0_drawn_91 1 rfl ?_
                      refine j_aload C dX0_drawn_93 4 rfl ?_
                      refine j_iload C dX0_drawn_95 0 rfl ?_
                      refine j_callV (w := w5) C (kX2_isWay G w5 hG (x + 16) ((drT V.2.1 sd i)) ((hA5.s1 (Z := Z5) hv5).eq hz5) ht1 (nI e)) pI.ret (ci := 2) (T := TX2) ((hA5.s1 (Z := Z5) hv5).eq hz5).1 rfl 1 q891 q892 q893 q68 q894 (by decide +kernel) rfl (by decide) (by decide) (Nat.le_of_ble_eq_true rfl) rfl dX0_drawn_97 (by omega) (by omega) (qI.k ?_)
                      refine j_if_eqB C 107 dX0_drawn_100 (by decide) (fun c100 => ?_) (fun c100 => ?_)
                      · refine j_iconst (v := nI 0) C dX0_drawn_107 rfl ?_
                        refine j_iaddN C dX0_drawn_108 ?_
                        refine j_istore (lv' := [(8, .int (nI ((ctS (drT V.2.1 sd i) ((drT V.2.1 sd i) 4) e) + 0))), (9, .int (nI e)), (5, .long (lN (drX sd (i + 1)))), (7, .int (nI i)), (4, .ref (x + 16)), (0, .ref x), (1, .int (nI m)), (2, .int (nI sd)), (3, .int (nI u))]) C dX0_drawn_109 (by decide) rfl ?_
                        refine j_iincN (lv' := [(9, .int (nI (e + 1))), (8, .int (nI ((ctS (drT V.2.1 sd i) ((drT V.2.1 sd i) 4) e) + 0))), (5, .long (lN (drX sd (i + 1)))), (7, .int (nI i)), (4, .ref (x + 16)), (0, .ref x), (1, .int (nI m)), (2, .int (nI sd)), (3, .int (nI u))]) C dX0_drawn_111 1 rfl (by decide) rfl ?_
                        refine j_goto C 81 dX0_drawn_114 (by decide) ?_
                        refine j_lv [0, 1, 2, 3, 4, 5, 6, 7, 8] (lv' := [(9, .int (nI (e + 1))), (8, .int (nI ((ctS (drT V.2.1 sd i) ((drT V.2.1 sd i) 4) e) + 0))), (5, .long (lN (drX sd (i + 1)))), (7, .int (nI i)), (4, .ref (x + 16)), (0, .ref x), (1, .int (nI m)), (2, .int (nI sd)), (3, .int (nI u))]) rfl ?_
                        refine j_lvN (lv' := [(9, .int (nI (e + 1))), (8, .int (nI (ctS (drT V.2.1 sd i) ((drT V.2.1 sd i) 4) (e + 1)))), (5, .long (lN (drX sd (i + 1)))), (7, .int (nI i)), (4, .ref (x + 16)), (0, .ref x), (1, .int (nI m)), (2, .int (nI sd)), (3, .int (nI u))]) 1 rfl (by rw [goB_i (by omega) (by omega)] at c100; simp [ctS, c100]) rfl ?_
                        exact ih_lq (e + 1) (by omega) (by omega) (by omega)
                      · refine j_iconst (v := nI 1) C dX0_drawn_103 rfl ?_
                        refine j_goto C 108 dX0_drawn_104 (by decide) ?_
                        refine j_iaddN C dX0_drawn_108 ?_
                        refine j_istore (lv' := [(8, .int (nI ((ctS (drT V.2.1 sd i) ((drT V.2.1 sd i) 4) e) + 1))), (9, .int (nI e)), (5, .long (lN (drX sd (i + 1)))), (7, .int (nI i)), (4, .ref (x + 16)), (0, .ref x), (1, .int (nI m)), (2, .int (nI sd)), (3, .int (nI u))]) C dX0_drawn_109 (by decide) rfl ?_
                        refine j_iincN (lv' := [(9, .int (nI (e + 1))), (8, .int (nI ((ctS (drT V.2.1 sd i) ((drT V.2.1 sd i) 4) e) + 1))), (5, .long (lN (drX sd (i + 1)))), (7, .int (nI i)), (4, .ref (x + 16)), (0, .ref x), (1, .int (nI m)), (2, .int (nI sd)), (3, .int (nI u))]) C dX0_drawn_111 1 rfl (by decide) rfl ?_
                        refine j_goto C 81 dX0_drawn_114 (by decide) ?_
                        refine j_lv [0, 1, 2, 3, 4, 5, 6, 7, 8] (lv' := [(9, .int (nI (e + 1))), (8, .int (nI ((ctS (drT V.2.1 sd i) ((drT V.2.1 sd i) 4) e) + 1))), (5, .long (lN (drX sd (i + 1)))), (7, .int (nI i)), (4, .ref (x + 16)), (0, .ref x), (1, .int (nI m)), (2, .int (nI sd)), (3, .int (nI u))]) rfl ?_
                        refine j_lvN (lv' := [(9, .int (nI (e + 1))), (8, .int (nI (ctS (drT V.2.1 sd i) ((drT V.2.1 sd i) 4) (e + 1)))), (5, .long (lN (drX sd (i + 1)))), (7, .int (nI i)), (4, .ref (x + 16)), (0, .ref x), (1, .int (nI m)), (2, .int (nI sd)), (3, .int (nI u))]) 1 rfl (by rw [goB_i (by omega) (by omega)] at c100; simp [ctS, c100]) rfl ?_
                        exact ih_lq (e + 1) (by omega) (by omega) (by omega)
                refine j_lv [0, 1, 2, 3, 4, 5, 6, 7, 8] (lv' := [(9, .int (nI 0)), (8, .int (nI 0)), (5, .long (lN (drX sd (i + 1)))), (7, .int (nI i)), (4, .ref (x + 16)), (0, .ref x), (1, .int (nI m)), (2, .int (nI sd)), (3, .int (nI u))]) rfl ?_
                refine j_lvN (lv' := [(9, .int (nI 0)), (8, .int (nI (ctS (drT V.2.1 sd i) ((drT V.2.1 sd i) 4) 0))), (5, .long (lN (drX sd (i + 1)))), (7, .int (nI i)), (4, .ref (x + 16)), (0, .ref x), (1, .int (nI m)), (2, .int (nI sd)), (3, .int (nI u))]) 1 rfl rfl rfl ?_
                exact lq ((drT V.2.1 sd i) 25 + 1 - 0) (0) (by omega) (by omega) (by omega)
          refine j_lv [0, 1, 2, 3, 4, 5, 6] (lv' := [(7, .int (nI 0)), (5, .long (lN sd)), (4, .ref (x + 16)), (0, .ref x), (1, .int (nI m)), (2, .int (nI sd)), (3, .int (nI u))]) rfl ?_
          exact lp (m + 1) 0 w1 (zT Z V.2.1) (by omega) (by omega) ⟨W1, hA1, hv1⟩ rfl
        · refine j_ldc C q391 dX0_drawn_41 ?_
          exact j_iret C (by omega) (by omega) (fC.mk ⟨W, hA, hv⟩ (h1 (of_decide_eq_true c4) (Or.inr (Or.inr c38)))) dX0_drawn_43
  · refine j_ldc C q899 dX0_drawn_7 ?_
    exact j_iret C (by omega) (by omega) (fC.mk ⟨W, hA, hv⟩ (h0 (by have := of_decide_eq_false c4; omega))) dX0_drawn_9
