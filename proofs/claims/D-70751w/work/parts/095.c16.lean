/-! ===== one corner of another kind, of another might: plain words; any corner's fee ===== -/
set_option maxRecDepth 100000
theorem smT_k {t : Nat → Nat} {c v : Nat} (ht : smT t) (hc : c < 6) (hv : v ≤ 5) : smT (uN t (7 + 3 * c) v) := by
  obtain ⟨r0, r1, r2, r3, r4, r5, r6, r7, r25, r26⟩ := ht
  refine ⟨by rw [uN_n (by omega)]; exact r0, by rw [uN_n (by omega)]; exact r1, by rw [uN_n (by omega)]; exact r2, by rw [uN_n (by omega)]; exact r3, by rw [uN_n (by omega)]; exact r4, by rw [uN_n (by omega)]; exact r5, by rw [uN_n (by omega)]; exact r6, fun d hd => ?_, by rw [uN_n (by omega)]; exact r25, fun x hx => by rw [uN_n (by omega), uN_n (by omega)]; exact r26 x hx⟩
  have := r7 d hd
  rw [uN_n (show 7 + 3 * d + 1 ≠ 7 + 3 * c by omega), uN_n (show 7 + 3 * d + 2 ≠ 7 + 3 * c by omega)]
  refine ⟨?_, this.2⟩
  unfold uN
  split <;> omega
theorem smT_m {t : Nat → Nat} {c v : Nat} (ht : smT t) (hc : c < 6) (hv : v ≤ 9) : smT (uN t (7 + 3 * c + 1) v) := by
  obtain ⟨r0, r1, r2, r3, r4, r5, r6, r7, r25, r26⟩ := ht
  refine ⟨by rw [uN_n (by omega)]; exact r0, by rw [uN_n (by omega)]; exact r1, by rw [uN_n (by omega)]; exact r2, by rw [uN_n (by omega)]; exact r3, by rw [uN_n (by omega)]; exact r4, by rw [uN_n (by omega)]; exact r5, by rw [uN_n (by omega)]; exact r6, fun d hd => ?_, by rw [uN_n (by omega)]; exact r25, fun x hx => by rw [uN_n (by omega), uN_n (by omega)]; exact r26 x hx⟩
  have := r7 d hd
  rw [uN_n (show 7 + 3 * d ≠ 7 + 3 * c + 1 by omega), uN_n (show 7 + 3 * d + 2 ≠ 7 + 3 * c + 1 by omega)]
  refine ⟨this.1, ?_, this.2.2⟩
  unfold uN
  split <;> omega
theorem wf_c {t : Nat → Nat} {pl v : Nat} (hp : 7 ≤ pl ∧ pl < 25) (h : ∀ y, y < t 25 → t (26 + 2 * y + 1) < t 6) : ∀ y, y < uN t pl v 25 → uN t pl v (26 + 2 * y + 1) < uN t pl v 6 := by
  intro y hy
  rw [uN_n (by omega), uN_n (by omega)]
  rw [uN_n (by omega)] at hy
  exact h y hy
/-! ===== the class: one corner otherwise ===== -/
set_option maxRecDepth 100000
theorem j_feeC {G : gl_T} {k : KX} {cc : ByteArray} {own nm : String} {nL hh mc ms : Nat} {rt : Option FieldType} {post : Outcome → wd_T → Prop} {w : wd_T} {lv : List (Nat × Value)} {pc ce sl index : Nat} {rest : List Value} (C : Cx G k cc own nm nL rt hh mc ms post) {t : Nat → Nat} {c q τ : Nat} (hq : w.1 q = some (τ, CE t c)) (h1 : 1 ≤ t (7 + 3 * c)) (h2 : t (7 + 3 * c) ≤ 5) (hh1 : 1 ≤ hh) (q1 : Cond.methodLink own index (⟨"MoodFare$Corner", "fee", "()I"⟩ : MethodName) ∈ lw_all) (hst : (rest.map fun v => v.category).sum ≤ 8) (hce : ce ≤ mc) (hsl : sl ≤ ms) (hd : decode cc pc = .ok (.invokevirtual index, 3)) (h : J G k w lv (pc + 3) (.int (nI (t (7 + 3 * c + 2))) :: rest) ce sl) : J G k w lv pc (.ref q :: rest) ce sl := by
  unfold CE at hq
  rcases (show t (7 + 3 * c) = 1 ∨ t (7 + 3 * c) = 2 ∨ t (7 + 3 * c) = 3 ∨ t (7 + 3 * c) = 4 ∨ t (7 + 3 * c) = 5 by omega) with e | e | e | e | e <;> rw [e] at hq
  · exact j_callA C (kX7_fee_7 G w q τ (nI c) (nI (t (7 + 3 * c + 2))) hq) pI.ret (x := (⟨"MoodFare$Corner", "fee", "()I"⟩ : MethodName)) (owner := "MoodFare$Corner") (ci := 7) (T := TX8) hq rfl 0 (va_Decl.of (C.hts _ q943) (C.hts _ q950)) q1 q944 q947 q943 q91 q950 (by decide +kernel) rfl (by omega) (by omega) hst rfl hd (by omega) (by omega) (qI.k h)
  · exact j_callA C (kX7_fee_8 G w q τ (nI c) (nI (t (7 + 3 * c + 2))) hq) pI.ret (x := (⟨"MoodFare$Corner", "fee", "()I"⟩ : MethodName)) (owner := "MoodFare$Corner") (ci := 8) (T := TX9) hq rfl 0 (va_Decl.of (C.hts _ q943) (C.hts _ q950)) q1 q944 q948 q943 q91 q950 (by decide +kernel) rfl (by omega) (by omega) hst rfl hd (by omega) (by omega) (qI.k h)
  · exact j_callA C (kX7_fee_9 G w q τ (nI c) (nI (t (7 + 3 * c + 2))) hq) pI.ret (x := (⟨"MoodFare$Corner", "fee", "()I"⟩ : MethodName)) (owner := "MoodFare$Corner") (ci := 9) (T := TX10) hq rfl 0 (va_Decl.of (C.hts _ q943) (C.hts _ q950)) q1 q944 q946 q943 q91 q950 (by decide +kernel) rfl (by omega) (by omega) hst rfl hd (by omega) (by omega) (qI.k h)
  · exact j_callA C (kX7_fee_10 G w q τ (nI c) (nI (t (7 + 3 * c + 2))) hq) pI.ret (x := (⟨"MoodFare$Corner", "fee", "()I"⟩ : MethodName)) (owner := "MoodFare$Corner") (ci := 10) (T := TX11) hq rfl 0 (va_Decl.of (C.hts _ q943) (C.hts _ q950)) q1 q944 q945 q943 q91 q950 (by decide +kernel) rfl (by omega) (by omega) hst rfl hd (by omega) (by omega) (qI.k h)
  · exact j_callA C (kX7_fee_11 G w q τ (nI c) (nI (t (7 + 3 * c + 2))) hq) pI.ret (x := (⟨"MoodFare$Corner", "fee", "()I"⟩ : MethodName)) (owner := "MoodFare$Corner") (ci := 11) (T := TX12) hq rfl 0 (va_Decl.of (C.hts _ q943) (C.hts _ q950)) q1 q944 q949 q943 q91 q950 (by decide +kernel) rfl (by omega) (by omega) hst rfl hd (by omega) (by omega) (qI.k h)
set_option maxHeartbeats 400000 in
theorem kX18_by_0 (G : gl_T) (hG : GH G) (w0 w : wd_T) (x : Nat) (O : Nat → Prop) (V : fv_T) (Z : fz_T) (hF : FX G w0 w x O V Z) (ca sa n : Nat) (fc fs : Nat → Int32) (it : Nat → Int32) (p f : Nat) (hOc : O ca) (hc0 : w0.1 ca = some (ca, ai (gl_A G 0) n fc)) (hOs : O sa) (hs0 : w0.1 sa = some (sa, ai (gl_A G 0) n fs)) (hn : n ≤ 8) (hfc : ∀ i, i < n → fc i = it (p + i)) (hfs : ∀ i, i < n → fs i = it (f + i)) (tb c : Nat) (hc6 : c < V.2.1 6) (hOt : O tb) (ht0 : w0.1 tb = some (tb, .inr (17, [.int (nI c), .int (nI 0), .ref x]))) (ht : smT V.2.1) (h3 : V.2.1 3 ≤ 1000) (hwf : ∀ y, y < V.2.1 25 → V.2.1 (26 + 2 * y + 1) < V.2.1 6) : Mt G yX18_by cX18_by 5 (some .int) 8 [.ref tb, .ref ca, .ref sa] w (pI (fun r w' => r = nI (alF it V.2.1 (7 + 3 * c) 1 p f n 5) ∧ ∃ Z', FX G w0 w' x O V Z')) 10 100 := by
  refine Mt.start (by decide) (Nat.le_of_ble_eq_true rfl) (fun k C => ?_)
  have C : Cx G k cX18_by "MoodFare$FitsOf" "by" 5 (some .int) 8 10 100 _ := C
  obtain ⟨W, hA, hv⟩ := id hF
  obtain ⟨r0, r1, r2, r3, r4, r5, r6, r7, r25, r26⟩ := id ht
  refine j_iconst (v := nI 0) C dX18_by_0 rfl ?_
  refine j_istore_n (lv' := [(3, .int (nI 0)), (0, .ref tb), (1, .ref ca), (2, .ref sa)]) C dX18_by_1 rfl (by decide) rfl ?_
  refine j_aload_n C dX18_by_2 rfl 1 rfl ?_
  refine j_get (w := w) C in_X18 (ci := 17) (T := TX18) rfl (hA.fr0 tb tb _ hOt ht0) 1 (by decide) q1237 (fun _ z => z) (v := .int (nI 0)) rfl dX18_by_3 ?_
  refine j_if_neN C 13 dX18_by_6 (by decide) (by omega) (fun c6 => ?_) (fun c6 => ?_)
  · exfalso; omega
  · refine j_iconst (v := nI 1) C dX18_by_9 rfl ?_
    refine j_goto C 14 dX18_by_10 (by decide) ?_
    refine j_istore (lv' := [(4, .int (nI 1)), (3, .int (nI 0)), (0, .ref tb), (1, .ref ca), (2, .ref sa)]) C dX18_by_14 (by decide) rfl ?_
    have lp : ∀ (m e : Nat) (w5 : wd_T) (Z5 : fz_T), e ≤ 5 → 5 < e + m → FX G w0 w5 x O V Z5 → J G k w5 [(4, .int (nI (1 + e))), (3, .int (nI (alF it V.2.1 (7 + 3 * c) 1 p f n e))), (0, .ref tb), (1, .ref ca), (2, .ref sa)] 16 [] (2 * e) (12 * e) := by
      intro m
      induction m with
      | zero => intro e w5 Z5 a1 a2; omega
      | succ m ih =>
        intro e w5 Z5 hi1 hi2 hX5
        obtain ⟨W5, hA5, hv5⟩ := id hX5
        refine j_iload C dX18_by_16 0 rfl ?_
        refine j_aload_n C dX18_by_18 rfl 2 rfl ?_
        refine j_get (w := w5) C in_X18 (ci := 17) (T := TX18) rfl (hA5.fr0 tb tb _ hOt ht0) 1 (by decide) q1237 (fun _ z => z) (v := .int (nI 0)) rfl dX18_by_19 ?_
        refine j_if_neN C 29 dX18_by_22 (by decide) (by omega) (fun c22 => ?_) (fun c22 => ?_)
        · exfalso; omega
        · refine j_iconst (v := nI 5) C dX18_by_25 rfl ?_
          refine j_goto C 31 dX18_by_26 (by decide) ?_
          refine j_icmp_gtN C 152 dX18_by_31 (by decide) (by omega) (by omega) (fun c31 => ?_) (fun c31 => ?_)
          · obtain rfl : e = 5 := by omega
            refine j_iload_n C dX18_by_152 rfl 1 rfl ?_
            exact j_iret C (by omega) (by omega) (pI.mk ⟨rfl, _, ⟨W5, hA5, hv5⟩⟩) dX18_by_153
          · refine j_aload_n C dX18_by_34 rfl 2 rfl ?_
            refine j_get (w := w5) C in_X18 (ci := 17) (T := TX18) rfl (hA5.fr0 tb tb _ hOt ht0) 2 (by decide) q1238 (fun _ z => z) (v := .ref x) rfl dX18_by_35 ?_
            refine j_callVN (w := w5) C (kX0_asNow G hG w0 w5 x O V Z5 ⟨W5, hA5, hv5⟩) pA.ret (ci := 0) (T := TX0) (hA5.d0 hv5) rfl 0 (C.nw hG q1200 rfl) q1016 qs23 q66 q1017 (by decide +kernel) rfl (by decide) (by decide) (Nat.le_of_ble_eq_true rfl) rfl dX18_by_38 (by omega) (by omega) (pA.k (fun r1 w1 h1 => ?_))
            obtain ⟨rfl, h1, hfr1⟩ := h1
            obtain ⟨W1, hA1, hv1⟩ := h1
            refine j_pop C dX18_by_41 rfl ?_
            refine j_aload_n C dX18_by_42 rfl 2 rfl ?_
            refine j_get (w := w1) C in_X18 (ci := 17) (T := TX18) rfl (hA1.fr0 tb tb _ hOt ht0) 1 (by decide) q1237 (fun _ z => z) (v := .int (nI 0)) rfl dX18_by_43 ?_
            refine j_if_neN C 106 dX18_by_46 (by decide) (by omega) (fun c46 => ?_) (fun c46 => ?_)
            · exfalso; omega
            · refine j_aload_n C dX18_by_49 rfl 2 rfl ?_
              refine j_get (w := w1) C in_X18 (ci := 17) (T := TX18) rfl (hA1.fr0 tb tb _ hOt ht0) 2 (by decide) q1238 (fun _ z => z) (v := .ref x) rfl dX18_by_50 ?_
              refine j_getN (w := w1) C in_X0 (ci := 0) (T := TX0) rfl (hA1.d0 hv1) 5 (by decide) (C.nw hG q254 rfl) (fun _ z => z) (v := .ref (x + 16)) rfl dX18_by_53 ?_
              refine j_get (w := w1) C in_X2 (ci := 2) (T := TX2) rfl (hA1.s1 (Z := zT Z5 V.2.1) hv1).1 5 (by decide) q185 (fun _ z => z) (v := .ref (x + 16 + 1)) rfl dX18_by_56 ?_
              refine j_aload_n C dX18_by_59 rfl 2 rfl ?_
              refine j_get (w := w1) C in_X18 (ci := 17) (T := TX18) rfl (hA1.fr0 tb tb _ hOt ht0) 0 (by decide) q1236 (fun _ z => z) (v := .int (nI c)) rfl dX18_by_60 ?_
              refine j_iload C dX18_by_63 0 rfl ?_
              refine j_aload_n C dX18_by_65 rfl 2 rfl ?_
              refine j_get (w := w1) C in_X18 (ci := 17) (T := TX18) rfl (hA1.fr0 tb tb _ hOt ht0) 0 (by decide) q1236 (fun _ z => z) (v := .int (nI c)) rfl dX18_by_66 ?_
              refine j_aload_n C dX18_by_69 rfl 2 rfl ?_
              refine j_get (w := w1) C in_X18 (ci := 17) (T := TX18) rfl (hA1.fr0 tb tb _ hOt ht0) 2 (by decide) q1238 (fun _ z => z) (v := .ref x) rfl dX18_by_70 ?_
              refine j_getN (w := w1) C in_X0 (ci := 0) (T := TX0) rfl (hA1.d0 hv1) 4 (by decide) (C.nw hG q250 rfl) (fun _ z => z) (v := .ref (x + 11)) rfl dX18_by_73 ?_
              refine j_get (w := w1) C in_X2 (ci := 2) (T := TX2) rfl (hA1.s0 (V := V) hv1).1 5 (by decide) q185 (fun _ z => z) (v := .ref (x + 11 + 1)) rfl dX18_by_76 ?_
              refine j_aload_n C dX18_by_79 rfl 2 rfl ?_
              refine j_get (w := w1) C in_X18 (ci := 17) (T := TX18) rfl (hA1.fr0 tb tb _ hOt ht0) 0 (by decide) q1236 (fun _ z => z) (v := .int (nI c)) rfl dX18_by_80 ?_
              obtain ⟨o0_1h0, ⟨o0_1e, o0_1md, o0_1h1, o0_1h2⟩, ⟨o0_1fm, o0_1hm, o0_1vm⟩, ⟨o0_1ff, o0_1hf, o0_1vf⟩, ⟨o0_1ft, o0_1ho, o0_1vo⟩, o0_1h6, o0_1hk⟩ := id (hA1.s0 (V := V) hv1)
              obtain ⟨q1, hq1, gq1⟩ := tn_get (hA1.s0 (V := V) hv1) c (by omega)
              refine j_callF (w := w1) C (gq1) pA.ret (ci := 20) (T := TJ2) o0_1h1 rfl 1 (C.fw hG ⟨q856, q855, q860, q858, q697, by decide⟩) q1202 q857 q859 q71 q861 (by decide +kernel) rfl (by decide) (by decide) (Nat.le_of_ble_eq_true rfl) rfl dX18_by_83 (by omega) (by omega) (qA.k ?_)
              refine j_castC (w := w1) C hG hq1 ((hA1.s0 (V := V) hv1).2.2.2.2.2.2 c (by omega)).1 ((hA1.s0 (V := V) hv1).2.2.2.2.2.2 c (by omega)).2 q1203 dX18_by_88 ?_
              refine j_feeC (w := w1) C hq1 ((hA1.s0 (V := V) hv1).2.2.2.2.2.2 c (by omega)).1 ((hA1.s0 (V := V) hv1).2.2.2.2.2.2 c (by omega)).2 (by omega) q1204 (Nat.le_of_ble_eq_true rfl) (by omega) (by omega) dX18_by_91 ?_
              refine j_callSN (w := w1) C (kX0_cornerBy G w1 (1 + e) (nI c) (nI (V.2.1 (7 + 3 * c + 2))) (by omega) (by omega)) pA.ret 3 (C.nw hG q1205 rfl) q704 q66 q705 (by decide +kernel) rfl (by decide) (by decide) (Nat.le_of_ble_eq_true rfl) rfl dX18_by_94 (by omega) (by omega) (qA.k ?_)
              refine j_abs (P := fun w' => FX G w0 w' x O V (zT Z5 V.2.1) ∧ w'.1 w1.2 = some (w1.2, .inr (6 + (1 + e), [.int (nI c), .int (nI (V.2.1 (7 + 3 * c + 2)))]))) ⟨FX.new ⟨W1, hA1, hv1⟩, mu_s⟩ (fun w3 h3 => ?_)
              obtain ⟨⟨W3, hA3, hv3⟩, hvb3⟩ := h3
              obtain ⟨o0_3h0, ⟨o0_3e, o0_3md, o0_3h1, o0_3h2⟩, ⟨o0_3fm, o0_3hm, o0_3vm⟩, ⟨o0_3ff, o0_3hf, o0_3vf⟩, ⟨o0_3ft, o0_3ho, o0_3vo⟩, o0_3h6, o0_3hk⟩ := id (hA3.s1 (Z := zT Z5 V.2.1) hv3)
              refine j_callF (w := w3) C (tn_set hG (hA3.s1 (Z := zT Z5 V.2.1) hv3) hA3.wf hc6 hvb3 (by omega) (by omega)) pA.ret (ci := 20) (T := TJ2) o0_3h1 rfl 2 (C.fw hG ⟨q1209, q1208, q1213, q1211, q697, by decide⟩) q1207 q1210 q1212 q71 q1214 (by decide +kernel) rfl (by decide) (by decide) (Nat.le_of_ble_eq_true rfl) rfl dX18_by_97 (by omega) (by omega) (pA.k (fun r5 w5 hp5 => ?_))
              obtain ⟨⟨qr5, rfl⟩, hp5⟩ := hp5
              have h5 : FX G w0 w5 x O V (zT (zT Z5 V.2.1) (uN V.2.1 (7 + 3 * c) (1 + e))) := FX.t1 hA3 hv3 hp5.1 hp5.2.1 hp5.2.2
              obtain ⟨W5, hA5, hv5⟩ := h5
              refine j_pop C dX18_by_102 rfl ?_
              refine j_goto C 123 dX18_by_103 (by decide) ?_
              refine j_iload_n C dX18_by_123 rfl 1 rfl ?_
              refine j_aload_n C dX18_by_124 rfl 2 rfl ?_
              refine j_get (w := w5) C in_X18 (ci := 17) (T := TX18) rfl (hA5.fr0 tb tb _ hOt ht0) 2 (by decide) q1238 (fun _ z => z) (v := .ref x) rfl dX18_by_125 ?_
              refine j_aload_n C dX18_by_128 rfl 3 rfl ?_
              refine j_aload_n C dX18_by_129 rfl 4 rfl ?_
              have hsmz : smT (uN V.2.1 (7 + 3 * c) (1 + e)) := smT_k ht (by omega) (by omega)
              refine j_callVN (w := w5) C (kX0_costsSo G hG w0 w5 x O V (zT (zT Z5 V.2.1) (uN V.2.1 (7 + 3 * c) (1 + e))) ⟨W5, hA5, hv5⟩ ca sa n fc fs it p f hOc hc0 hOs hs0 hn hfc hfs hsmz (by show uN V.2.1 (7 + 3 * c) (1 + e) 3 ≤ 1000; rw [uN_n (by omega)]; omega) (wf_c (t := V.2.1) (pl := (7 + 3 * c)) (v := 1 + e) (by omega) hwf)) pI.ret (ci := 0) (T := TX0) (hA5.d0 hv5) rfl 2 (C.nw hG q1215 rfl) q1192 qs29 q66 q1193 (by decide +kernel) rfl (by decide) (by decide) (Nat.le_of_ble_eq_true rfl) rfl dX18_by_130 (by omega) (by omega) (pI.k (fun r6 w6 h6 => ?_))
              obtain ⟨rfl, t6, h6⟩ := h6
              obtain ⟨W6, hA6, hv6⟩ := h6
              refine j_if_eqB C 143 dX18_by_133 (by decide) (fun c133 => ?_) (fun c133 => ?_)
              · have c133 : (gsF it (uN V.2.1 (7 + 3 * c) (1 + e)) p f n).1 = false := c133
                refine j_iconst (v := nI 0) C dX18_by_143 rfl ?_
                refine j_iorN C dX18_by_144 ?_
                refine j_istore_n (lv' := [(3, .int (nI ((alF it V.2.1 (7 + 3 * c) 1 p f n e) ||| 0))), (4, .int (nI (1 + e))), (0, .ref tb), (1, .ref ca), (2, .ref sa)]) C dX18_by_145 rfl (by decide) rfl ?_
                refine j_iincN (lv' := [(4, .int (nI (1 + e + 1))), (3, .int (nI ((alF it V.2.1 (7 + 3 * c) 1 p f n e) ||| 0))), (0, .ref tb), (1, .ref ca), (2, .ref sa)]) C dX18_by_146 1 rfl (by decide) rfl ?_
                refine j_goto C 16 dX18_by_149 (by decide) ?_
                refine j_lv [0, 1, 2, 3, 4] (lv' := [(4, .int (nI (1 + e + 1))), (3, .int (nI ((alF it V.2.1 (7 + 3 * c) 1 p f n e) ||| 0))), (0, .ref tb), (1, .ref ca), (2, .ref sa)]) rfl ?_
                refine j_lvN (lv' := [(4, .int (nI (1 + (e + 1)))), (3, .int (nI ((alF it V.2.1 (7 + 3 * c) 1 p f n e) ||| 0))), (0, .ref tb), (1, .ref ca), (2, .ref sa)]) 0 rfl (by omega) rfl ?_
                refine j_lvN (lv' := [(4, .int (nI (1 + (e + 1)))), (3, .int (nI (alF it V.2.1 (7 + 3 * c) 1 p f n (e + 1)))), (0, .ref tb), (1, .ref ca), (2, .ref sa)]) 1 rfl (by show _ = alF it V.2.1 (7 + 3 * c) 1 p f n e ||| (if (gsF it (uN V.2.1 (7 + 3 * c) (1 + e)) p f n).1 = true then 2 ^ (1 + e) else 0); rw [c133]; simp) rfl ?_
                refine j_wide (ce' := 2 * (e + 1)) (sl' := 12 * (e + 1)) (by omega) (by omega) ?_
                exact ih (e + 1) w6 (zT (zT (zT Z5 V.2.1) (uN V.2.1 (7 + 3 * c) (1 + e))) t6) (by omega) (by omega) ⟨W6, hA6, hv6⟩
              · have c133 : (gsF it (uN V.2.1 (7 + 3 * c) (1 + e)) p f n).1 = true := c133
                refine j_iconst (v := nI 1) C dX18_by_136 rfl ?_
                refine j_iload C dX18_by_137 0 rfl ?_
                refine j_shl1 C dX18_by_139 (by omega) ?_
                refine j_goto C 144 dX18_by_140 (by decide) ?_
                refine j_iorN C dX18_by_144 ?_
                refine j_istore_n (lv' := [(3, .int (nI ((alF it V.2.1 (7 + 3 * c) 1 p f n e) ||| (2 ^ (1 + e))))), (4, .int (nI (1 + e))), (0, .ref tb), (1, .ref ca), (2, .ref sa)]) C dX18_by_145 rfl (by decide) rfl ?_
                refine j_iincN (lv' := [(4, .int (nI (1 + e + 1))), (3, .int (nI ((alF it V.2.1 (7 + 3 * c) 1 p f n e) ||| (2 ^ (1 + e))))), (0, .ref tb), (1, .ref ca), (2, .ref sa)]) C dX18_by_146 1 rfl (by decide) rfl ?_
                refine j_goto C 16 dX18_by_149 (by decide) ?_
                refine j_lv [0, 1, 2, 3, 4] (lv' := [(4, .int (nI (1 + e + 1))), (3, .int (nI ((alF it V.2.1 (7 + 3 * c) 1 p f n e) ||| (2 ^ (1 + e))))), (0, .ref tb), (1, .ref ca), (2, .ref sa)]) rfl ?_
                refine j_lvN (lv' := [(4, .int (nI (1 + (e + 1)))), (3, .int (nI ((alF it V.2.1 (7 + 3 * c) 1 p f n e) ||| (2 ^ (1 + e))))), (0, .ref tb), (1, .ref ca), (2, .ref sa)]) 0 rfl (by omega) rfl ?_
                refine j_lvN (lv' := [(4, .int (nI (1 + (e + 1)))), (3, .int (nI (alF it V.2.1 (7 + 3 * c) 1 p f n (e + 1)))), (0, .ref tb), (1, .ref ca), (2, .ref sa)]) 1 rfl (by show _ = alF it V.2.1 (7 + 3 * c) 1 p f n e ||| (if (gsF it (uN V.2.1 (7 + 3 * c) (1 + e)) p f n).1 = true then 2 ^ (1 + e) else 0); rw [c133]; simp) rfl ?_
                refine j_wide (ce' := 2 * (e + 1)) (sl' := 12 * (e + 1)) (by omega) (by omega) ?_
                exact ih (e + 1) w6 (zT (zT (zT Z5 V.2.1) (uN V.2.1 (7 + 3 * c) (1 + e))) t6) (by omega) (by omega) ⟨W6, hA6, hv6⟩
    refine j_lv [0, 1, 2, 3, 4] (lv' := [(4, .int (nI 1)), (3, .int (nI 0)), (0, .ref tb), (1, .ref ca), (2, .ref sa)]) rfl ?_
    exact lp 6 0 w Z (by omega) (by omega) ⟨W, hA, hv⟩
set_option maxHeartbeats 400000 in
theorem kX18_by_1 (G : gl_T) (hG : GH G) (w0 w : wd_T) (x : Nat) (O : Nat → Prop) (V : fv_T) (Z : fz_T) (hF : FX G w0 w x O V Z) (ca sa n : Nat) (fc fs : Nat → Int32) (it : Nat → Int32) (p f : Nat) (hOc : O ca) (hc0 : w0.1 ca = some (ca, ai (gl_A G 0) n fc)) (hOs : O sa) (hs0 : w0.1 sa = some (sa, ai (gl_A G 0) n fs)) (hn : n ≤ 8) (hfc : ∀ i, i < n → fc i = it (p + i)) (hfs : ∀ i, i < n → fs i = it (f + i)) (tb c : Nat) (hc6 : c < V.2.1 6) (hOt : O tb) (ht0 : w0.1 tb = some (tb, .inr (17, [.int (nI c), .int (nI 1), .ref x]))) (ht : smT V.2.1) (h3 : V.2.1 3 ≤ 1000) (hwf : ∀ y, y < V.2.1 25 → V.2.1 (26 + 2 * y + 1) < V.2.1 6) : Mt G yX18_by cX18_by 5 (some .int) 8 [.ref tb, .ref ca, .ref sa] w (pI (fun r w' => r = nI (alF it V.2.1 (7 + 3 * c + 1) 0 p f n 10) ∧ ∃ Z', FX G w0 w' x O V Z')) 10 100 := by
  refine Mt.start (by decide) (Nat.le_of_ble_eq_true rfl) (fun k C => ?_)
  have C : Cx G k cX18_by "MoodFare$FitsOf" "by" 5 (some .int) 8 10 100 _ := C
  obtain ⟨W, hA, hv⟩ := id hF
  obtain ⟨r0, r1, r2, r3, r4, r5, r6, r7, r25, r26⟩ := id ht
  refine j_iconst (v := nI 0) C dX18_by_0 rfl ?_
  refine j_istore_n (lv' := [(3, .int (nI 0)), (0, .ref tb), (1, .ref ca), (2, .ref sa)]) C dX18_by_1 rfl (by decide) rfl ?_
  refine j_aload_n C dX18_by_2 rfl 1 rfl ?_
  refine j_get (w := w) C in_X18 (ci := 17) (T := TX18) rfl (hA.fr0 tb tb _ hOt ht0) 1 (by decide) q1237 (fun _ z => z) (v := .int (nI 1)) rfl dX18_by_3 ?_
  refine j_if_neN C 13 dX18_by_6 (by decide) (by omega) (fun c6 => ?_) (fun c6 => ?_)
  · refine j_iconst (v := nI 0) C dX18_by_13 rfl ?_
    refine j_istore (lv' := [(4, .int (nI 0)), (3, .int (nI 0)), (0, .ref tb), (1, .ref ca), (2, .ref sa)]) C dX18_by_14 (by decide) rfl ?_
    have lp : ∀ (m e : Nat) (w5 : wd_T) (Z5 : fz_T), e ≤ 10 → 10 < e + m → FX G w0 w5 x O V Z5 → J G k w5 [(4, .int (nI (0 + e))), (3, .int (nI (alF it V.2.1 (7 + 3 * c + 1) 0 p f n e))), (0, .ref tb), (1, .ref ca), (2, .ref sa)] 16 [] (1 * e) (10 * e) := by
      intro m
      induction m with
      | zero => intro e w5 Z5 a1 a2; omega
      | succ m ih =>
        intro e w5 Z5 hi1 hi2 hX5
        obtain ⟨W5, hA5, hv5⟩ := id hX5
        refine j_iload C dX18_by_16 0 rfl ?_
        refine j_aload_n C dX18_by_18 rfl 2 rfl ?_
        refine j_get (w := w5) C in_X18 (ci := 17) (T := TX18) rfl (hA5.fr0 tb tb _ hOt ht0) 1 (by decide) q1237 (fun _ z => z) (v := .int (nI 1)) rfl dX18_by_19 ?_
        refine j_if_neN C 29 dX18_by_22 (by decide) (by omega) (fun c22 => ?_) (fun c22 => ?_)
        · refine j_bipush (v := nI 9) C dX18_by_29 rfl ?_
          refine j_icmp_gtN C 152 dX18_by_31 (by decide) (by omega) (by omega) (fun c31 => ?_) (fun c31 => ?_)
          · obtain rfl : e = 10 := by omega
            refine j_iload_n C dX18_by_152 rfl 1 rfl ?_
            exact j_iret C (by omega) (by omega) (pI.mk ⟨rfl, _, ⟨W5, hA5, hv5⟩⟩) dX18_by_153
          · refine j_aload_n C dX18_by_34 rfl 2 rfl ?_
            refine j_get (w := w5) C in_X18 (ci := 17) (T := TX18) rfl (hA5.fr0 tb tb _ hOt ht0) 2 (by decide) q1238 (fun _ z => z) (v := .ref x) rfl dX18_by_35 ?_
            refine j_callVN (w := w5) C (kX0_asNow G hG w0 w5 x O V Z5 ⟨W5, hA5, hv5⟩) pA.ret (ci := 0) (T := TX0) (hA5.d0 hv5) rfl 0 (C.nw hG q1200 rfl) q1016 qs23 q66 q1017 (by decide +kernel) rfl (by decide) (by decide) (Nat.le_of_ble_eq_true rfl) rfl dX18_by_38 (by omega) (by omega) (pA.k (fun r1 w1 h1 => ?_))
            obtain ⟨rfl, h1, hfr1⟩ := h1
            obtain ⟨W1, hA1, hv1⟩ := h1
            refine j_pop C dX18_by_41 rfl ?_
            refine j_aload_n C dX18_by_42 rfl 2 rfl ?_
            refine j_get (w := w1) C in_X18 (ci := 17) (T := TX18) rfl (hA1.fr0 tb tb _ hOt ht0) 1 (by decide) q1237 (fun _ z => z) (v := .int (nI 1)) rfl dX18_by_43 ?_
            refine j_if_neN C 106 dX18_by_46 (by decide) (by omega) (fun c46 => ?_) (fun c46 => ?_)
            · refine j_aload_n C dX18_by_106 rfl 2 rfl ?_
              refine j_get (w := w1) C in_X18 (ci := 17) (T := TX18) rfl (hA1.fr0 tb tb _ hOt ht0) 2 (by decide) q1238 (fun _ z => z) (v := .ref x) rfl dX18_by_107 ?_
              refine j_getN (w := w1) C in_X0 (ci := 0) (T := TX0) rfl (hA1.d0 hv1) 5 (by decide) (C.nw hG q254 rfl) (fun _ z => z) (v := .ref (x + 16)) rfl dX18_by_110 ?_
              refine j_get (w := w1) C in_X2 (ci := 2) (T := TX2) rfl (hA1.s1 (Z := zT Z5 V.2.1) hv1).1 6 (by decide) q190 (fun _ z => z) (v := .ref (x + 16 + 2)) rfl dX18_by_113 ?_
              refine j_aload_n C dX18_by_116 rfl 2 rfl ?_
              refine j_get (w := w1) C in_X18 (ci := 17) (T := TX18) rfl (hA1.fr0 tb tb _ hOt ht0) 0 (by decide) q1236 (fun _ z => z) (v := .int (nI c)) rfl dX18_by_117 ?_
              refine j_iload C dX18_by_120 0 rfl ?_
              obtain ⟨o0_1h0, ⟨o0_1e, o0_1md, o0_1h1, o0_1h2⟩, ⟨o0_1fm, o0_1hm, o0_1vm⟩, ⟨o0_1ff, o0_1hf, o0_1vf⟩, ⟨o0_1ft, o0_1ho, o0_1vo⟩, o0_1h6, o0_1hk⟩ := id (hA1.s1 (Z := zT Z5 V.2.1) hv1)
              refine j_iastN (w := w1) C o0_1hm (c) rfl (by omega) (by decide) dX18_by_122 ?_
              refine j_abs (P := fun w' => FX G w0 w' x O V (zT (zT Z5 V.2.1) (uN V.2.1 (7 + 3 * c + 1) (0 + e)))) (FX.t1 hA1 hv1 (TN.much (hA1.s1 (Z := zT Z5 V.2.1) hv1) o0_1hm o0_1vm (by omega)) (FR.upd o0_1hm (fun z => z)) (hA1.wf.upd o0_1hm)) (fun w3 h3 => ?_)
              obtain ⟨W3, hA3, hv3⟩ := h3
              refine j_iload_n C dX18_by_123 rfl 1 rfl ?_
              refine j_aload_n C dX18_by_124 rfl 2 rfl ?_
              refine j_get (w := w3) C in_X18 (ci := 17) (T := TX18) rfl (hA3.fr0 tb tb _ hOt ht0) 2 (by decide) q1238 (fun _ z => z) (v := .ref x) rfl dX18_by_125 ?_
              refine j_aload_n C dX18_by_128 rfl 3 rfl ?_
              refine j_aload_n C dX18_by_129 rfl 4 rfl ?_
              have hsmz : smT (uN V.2.1 (7 + 3 * c + 1) (0 + e)) := smT_m ht (by omega) (by omega)
              refine j_callVN (w := w3) C (kX0_costsSo G hG w0 w3 x O V (zT (zT Z5 V.2.1) (uN V.2.1 (7 + 3 * c + 1) (0 + e))) ⟨W3, hA3, hv3⟩ ca sa n fc fs it p f hOc hc0 hOs hs0 hn hfc hfs hsmz (by show uN V.2.1 (7 + 3 * c + 1) (0 + e) 3 ≤ 1000; rw [uN_n (by omega)]; omega) (wf_c (t := V.2.1) (pl := (7 + 3 * c + 1)) (v := 0 + e) (by omega) hwf)) pI.ret (ci := 0) (T := TX0) (hA3.d0 hv3) rfl 2 (C.nw hG q1215 rfl) q1192 qs29 q66 q1193 (by decide +kernel) rfl (by decide) (by decide) (Nat.le_of_ble_eq_true rfl) rfl dX18_by_130 (by omega) (by omega) (pI.k (fun r4 w4 h4 => ?_))
              obtain ⟨rfl, t4, h4⟩ := h4
              obtain ⟨W4, hA4, hv4⟩ := h4
              refine j_if_eqB C 143 dX18_by_133 (by decide) (fun c133 => ?_) (fun c133 => ?_)
              · have c133 : (gsF it (uN V.2.1 (7 + 3 * c + 1) (0 + e)) p f n).1 = false := c133
                refine j_iconst (v := nI 0) C dX18_by_143 rfl ?_
                refine j_iorN C dX18_by_144 ?_
                refine j_istore_n (lv' := [(3, .int (nI ((alF it V.2.1 (7 + 3 * c + 1) 0 p f n e) ||| 0))), (4, .int (nI (0 + e))), (0, .ref tb), (1, .ref ca), (2, .ref sa)]) C dX18_by_145 rfl (by decide) rfl ?_
                refine j_iincN (lv' := [(4, .int (nI (0 + e + 1))), (3, .int (nI ((alF it V.2.1 (7 + 3 * c + 1) 0 p f n e) ||| 0))), (0, .ref tb), (1, .ref ca), (2, .ref sa)]) C dX18_by_146 1 rfl (by decide) rfl ?_
                refine j_goto C 16 dX18_by_149 (by decide) ?_
                refine j_lv [0, 1, 2, 3, 4] (lv' := [(4, .int (nI (0 + e + 1))), (3, .int (nI ((alF it V.2.1 (7 + 3 * c + 1) 0 p f n e) ||| 0))), (0, .ref tb), (1, .ref ca), (2, .ref sa)]) rfl ?_
                refine j_lvN (lv' := [(4, .int (nI (0 + (e + 1)))), (3, .int (nI ((alF it V.2.1 (7 + 3 * c + 1) 0 p f n e) ||| 0))), (0, .ref tb), (1, .ref ca), (2, .ref sa)]) 0 rfl (by omega) rfl ?_
                refine j_lvN (lv' := [(4, .int (nI (0 + (e + 1)))), (3, .int (nI (alF it V.2.1 (7 + 3 * c + 1) 0 p f n (e + 1)))), (0, .ref tb), (1, .ref ca), (2, .ref sa)]) 1 rfl (by show _ = alF it V.2.1 (7 + 3 * c + 1) 0 p f n e ||| (if (gsF it (uN V.2.1 (7 + 3 * c + 1) (0 + e)) p f n).1 = true then 2 ^ (0 + e) else 0); rw [c133]; simp) rfl ?_
                refine j_wide (ce' := 1 * (e + 1)) (sl' := 10 * (e + 1)) (by omega) (by omega) ?_
                exact ih (e + 1) w4 (zT (zT (zT Z5 V.2.1) (uN V.2.1 (7 + 3 * c + 1) (0 + e))) t4) (by omega) (by omega) ⟨W4, hA4, hv4⟩
              · have c133 : (gsF it (uN V.2.1 (7 + 3 * c + 1) (0 + e)) p f n).1 = true := c133
                refine j_iconst (v := nI 1) C dX18_by_136 rfl ?_
                refine j_iload C dX18_by_137 0 rfl ?_
                refine j_shl1 C dX18_by_139 (by omega) ?_
                refine j_goto C 144 dX18_by_140 (by decide) ?_
                refine j_iorN C dX18_by_144 ?_
                refine j_istore_n (lv' := [(3, .int (nI ((alF it V.2.1 (7 + 3 * c + 1) 0 p f n e) ||| (2 ^ (0 + e))))), (4, .int (nI (0 + e))), (0, .ref tb), (1, .ref ca), (2, .ref sa)]) C dX18_by_145 rfl (by decide) rfl ?_
                refine j_iincN (lv' := [(4, .int (nI (0 + e + 1))), (3, .int (nI ((alF it V.2.1 (7 + 3 * c + 1) 0 p f n e) ||| (2 ^ (0 + e))))), (0, .ref tb), (1, .ref ca), (2, .ref sa)]) C dX18_by_146 1 rfl (by decide) rfl ?_
                refine j_goto C 16 dX18_by_149 (by decide) ?_
                refine j_lv [0, 1, 2, 3, 4] (lv' := [(4, .int (nI (0 + e + 1))), (3, .int (nI ((alF it V.2.1 (7 + 3 * c + 1) 0 p f n e) ||| (2 ^ (0 + e))))), (0, .ref tb), (1, .ref ca), (2, .ref sa)]) rfl ?_
                refine j_lvN (lv' := [(4, .int (nI (0 + (e + 1)))), (3, .int (nI ((alF it V.2.1 (7 + 3 * c + 1) 0 p f n e) ||| (2 ^ (0 + e))))), (0, .ref tb), (1, .ref ca), (2, .ref sa)]) 0 rfl (by omega) rfl ?_
                refine j_lvN (lv' := [(4, .int (nI (0 + (e + 1)))), (3, .int (nI (alF it V.2.1 (7 + 3 * c + 1) 0 p f n (e + 1)))), (0, .ref tb), (1, .ref ca), (2, .ref sa)]) 1 rfl (by show _ = alF it V.2.1 (7 + 3 * c + 1) 0 p f n e ||| (if (gsF it (uN V.2.1 (7 + 3 * c + 1) (0 + e)) p f n).1 = true then 2 ^ (0 + e) else 0); rw [c133]; simp) rfl ?_
                refine j_wide (ce' := 1 * (e + 1)) (sl' := 10 * (e + 1)) (by omega) (by omega) ?_
                exact ih (e + 1) w4 (zT (zT (zT Z5 V.2.1) (uN V.2.1 (7 + 3 * c + 1) (0 + e))) t4) (by omega) (by omega) ⟨W4, hA4, hv4⟩
            · exfalso; omega
        · exfalso; omega
    refine j_lv [0, 1, 2, 3, 4] (lv' := [(4, .int (nI 0)), (3, .int (nI 0)), (0, .ref tb), (1, .ref ca), (2, .ref sa)]) rfl ?_
    exact lp 11 0 w Z (by omega) (by omega) ⟨W, hA, hv⟩
  · exfalso; omega
