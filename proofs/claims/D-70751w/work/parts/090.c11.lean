/-! ===== the class: foretold, asked ===== -/
set_option maxRecDepth 100000
theorem inB_m2 {z : Int32} (h : inB z (-2) (nI 7) = true) (h1 : ¬ z = -1) (h2 : ¬ z = -2) : ∃ kq : Nat, z = nI kq ∧ kq ≤ 7 := by
  obtain ⟨a, b⟩ := of_decide_eq_true h
  have h0 : ¬ z < 0 := by
    intro hz
    rw [Int32.le_iff_toInt_le] at a
    rw [Int32.lt_iff_toInt_lt] at hz
    have e1 : (-2 : Int32).toInt = -2 := by decide
    have e0 : (0 : Int32).toInt = 0 := by decide
    rw [e1] at a
    rw [e0] at hz
    have : z.toInt = -2 ∨ z.toInt = -1 := by omega
    rcases this with q | q
    · exact h2 (Int32.toInt_inj.mp (q.trans e1.symm))
    · exact h1 (Int32.toInt_inj.mp (q.trans (by decide)))
  obtain ⟨kq, hk, rfl⟩ := nI_of h0
  exact ⟨kq, rfl, (nI_leI hk (by decide)).mp b⟩
theorem inB_m1 {z : Int32} (h : inB z (-1) (nI 7) = true) (h1 : ¬ z = -1) : ∃ kq : Nat, z = nI kq ∧ kq ≤ 7 := by
  obtain ⟨a, b⟩ := of_decide_eq_true h
  have h0 : ¬ z < 0 := by
    intro hz
    rw [Int32.le_iff_toInt_le] at a
    rw [Int32.lt_iff_toInt_lt] at hz
    have e1 : (-1 : Int32).toInt = -1 := by decide
    have e0 : (0 : Int32).toInt = 0 := by decide
    rw [e1] at a
    rw [e0] at hz
    have q : z.toInt = -1 := by omega
    exact h1 (Int32.toInt_inj.mp (q.trans e1.symm))
  obtain ⟨kq, hk, rfl⟩ := nI_of h0
  exact ⟨kq, rfl, (nI_leI hk (by decide)).mp b⟩
set_option maxHeartbeats 1000000 in
theorem kX0_cheapest (G : gl_T) (hG : GH G) (w0 w : wd_T) (x : Nat) (O : Nat → Prop) (V : fv_T) (Z : fz_T) (hF : FX G w0 w x O V Z) (y z : Int32) (ht : smT V.2.1) (h3 : V.2.1 3 ≤ 1000) (hwf : ∀ y, y < V.2.1 25 → V.2.1 (26 + 2 * y + 1) < V.2.1 6) (P : Int32 → fv_T → Prop) (h1 : inB y (nI 0) (nI (V.2.1 6) - nI 1) = false ∨ inB z (-2) (nI 7) = false → P kBAD V) (hR : ∀ j bs tr d, y = nI j → j < V.2.1 6 → inB z (-2) (nI 7) = true → ((roC j V.2.1 bs tr d).1 = none → P kNONE V) ∧ ∀ c n, (roC j V.2.1 bs tr d).1 = some (c, n) → (z = -1 → P (nI c) V) ∧ (z = -2 → P (nI n) V) ∧ (∀ i, z = nI i → i < n → P (nI ((roC j V.2.1 bs tr d).2.1 i)) V) ∧ (¬ z = -1 → ¬ z = -2 → nI n ≤ z → P kNONE V)) : Mt G yX0_cheapest cX0_cheapest 4 (some .int) 18 [.ref x, .int y, .int z] w (fC G w0 x O P) 42 301 := by
  refine Mt.start (by decide) (Nat.le_of_ble_eq_true rfl) (fun k C => ?_)
  have C : Cx G k cX0_cheapest "MoodFare" "cheapest" 4 (some .int) 18 42 301 _ := C
  obtain ⟨W, hA, hv⟩ := id hF
  obtain ⟨r0, r1, r2, r3, r4, r5, r6, r7, r25, r26⟩ := id ht
  refine j_aload_n C dX0_cheapest_0 rfl 0 rfl ?_
  refine j_iload_n C dX0_cheapest_1 rfl 1 rfl ?_
  refine j_callV (w := w) C (kX0_isCorner G hG w0 w x O V Z ⟨W, hA, hv⟩ y) pI.ret (ci := 0) (T := TX0) (hA.d0 hv) rfl 1 q956 q958 qs20 q66 q959 (by decide +kernel) rfl (by decide) (by decide) (Nat.le_of_ble_eq_true rfl) rfl dX0_cheapest_2 (by omega) (by omega) (qI.k ?_)
  refine j_if_eqB C 22 dX0_cheapest_5 (by decide) (fun c5 => ?_) (fun c5 => ?_)
  · refine j_ldc C q391 dX0_cheapest_22 ?_
    exact j_iret C (by omega) (by omega) (fC.mk ⟨W, hA, hv⟩ (h1 (Or.inl c5))) dX0_cheapest_24
  · obtain ⟨j, rfl, hj⟩ := inB_p (by omega) c5
    refine j_iload_n C dX0_cheapest_8 rfl 2 rfl ?_
    refine j_i2l C dX0_cheapest_9 ?_
    refine j_ldc2 C q1013 dX0_cheapest_10 ?_
    refine j_asl (y := (-2 : Int32).toInt64) (by decide +kernel) ?_
    refine j_ldc2 C q386 dX0_cheapest_13 ?_
    refine j_asl (y := (nI 7).toInt64) (by decide +kernel) ?_
    refine j_callS (w := w) C (kX0_isIn G w z ((-2 : Int32)) ((nI 7))) pI.ret 3 q387 q388 q66 q389 (by decide +kernel) rfl (by decide) (by decide) (Nat.le_of_ble_eq_true rfl) rfl dX0_cheapest_16 (by omega) (by omega) (qI.k ?_)
    refine j_if_neB C 25 dX0_cheapest_19 (by decide) (fun c19 => ?_) (fun c19 => ?_)
    · refine j_aload_n C dX0_cheapest_25 rfl 0 rfl ?_
      refine j_callV (w := w) C (kX0_asNow G hG w0 w x O V Z ⟨W, hA, hv⟩) pA.ret (ci := 0) (T := TX0) (hA.d0 hv) rfl 0 q1014 q1016 qs23 q66 q1017 (by decide +kernel) rfl (by decide) (by decide) (Nat.le_of_ble_eq_true rfl) rfl dX0_cheapest_26 (by omega) (by omega) (pA.k (fun r1 w1 h1 => ?_))
      obtain ⟨rfl, h1, hfr1⟩ := h1
      obtain ⟨W1, hA1, hv1⟩ := h1
      refine j_pop C dX0_cheapest_29 rfl ?_
      refine j_aload_n C dX0_cheapest_30 rfl 0 rfl ?_
      refine j_iload_n C dX0_cheapest_31 rfl 1 rfl ?_
      refine j_callV (w := w1) C (kX0_cheapestTo G hG w0 w1 x O V (zT Z V.2.1) ⟨W1, hA1, hv1⟩ j (by omega) ht (by show V.2.1 3 ≤ 1000; omega) hwf rfl) pA.ret (ci := 0) (T := TX0) (hA1.d0 hv1) rfl 1 q1018 q1020 qs24 q66 q1021 (by decide +kernel) rfl (by decide) (by decide) (Nat.le_of_ble_eq_true rfl) rfl dX0_cheapest_32 (by omega) (by omega) (pA.k (fun r2 w2 h2 => ?_))
      obtain ⟨rfl, Z2, hX2, hb2, e21, e2b, hk2⟩ := h2
      obtain ⟨W2, hA2, hv2⟩ := id hX2
      refine j_astore_n (lv' := [(3, .ref w1.2), (0, .ref x), (1, .int (nI j)), (2, .int z)]) C dX0_cheapest_35 rfl (by decide) rfl ?_
      cases hq : (roC j (zT Z V.2.1).1 (zT Z V.2.1).2.2.2.2 (zT Z V.2.1).2.2.2.1 (zT Z V.2.1).2.1).1 with
      | none =>
        rw [hq] at hb2
        refine j_aload_n C dX0_cheapest_36 rfl 0 rfl ?_
        refine j_get (w := w2) C in_X13 (ci := 12) (T := TX13) rfl hb2 1 (by decide) q1031 (fun _ z => z) (v := .int ((-1000000))) rfl dX0_cheapest_37 ?_
        refine j_ldc C q1003 dX0_cheapest_40 ?_
        refine j_icmp_eq C 50 dX0_cheapest_42 (by decide) (fun c42 => ?_) (fun c42 => ?_)
        · refine j_aload_n C dX0_cheapest_50 rfl 0 rfl ?_
          refine j_get (w := w2) C in_X13 (ci := 12) (T := TX13) rfl hb2 1 (by decide) q1031 (fun _ z => z) (v := .int ((-1000000))) rfl dX0_cheapest_51 ?_
          exact j_iret C (by omega) (by omega) (fC.mk ⟨W2, hA2, hv2⟩ ((hR j Z.2.2.2.2 Z.2.2.2.1 Z.2.1 rfl hj c19).1 hq)) dX0_cheapest_54
        · exact absurd rfl c42
      | some qq =>
        obtain ⟨qc, qn⟩ := qq
        rw [hq] at hb2
        have hqk := hk2 qc qn hq
        refine j_aload_n C dX0_cheapest_36 rfl 0 rfl ?_
        refine j_get (w := w2) C in_X13 (ci := 12) (T := TX13) rfl hb2 1 (by decide) q1031 (fun _ z => z) (v := .int (nI qc)) rfl dX0_cheapest_37 ?_
        refine j_ldc C q1003 dX0_cheapest_40 ?_
        refine j_icmp_eq C 50 dX0_cheapest_42 (by decide) (fun c42 => ?_) (fun c42 => ?_)
        · exact absurd c42 (nI_NONE (by omega))
        · refine j_iload_n C dX0_cheapest_45 rfl 3 rfl ?_
          refine j_iconst (v := -1) C dX0_cheapest_46 rfl ?_
          refine j_icmp_ne C 55 dX0_cheapest_47 (by decide) (fun c47 => ?_) (fun c47 => ?_)
          · refine j_iload_n C dX0_cheapest_55 rfl 3 rfl ?_
            refine j_bipush (v := -2) C dX0_cheapest_56 rfl ?_
            refine j_icmp_ne C 68 dX0_cheapest_58 (by decide) (fun c58 => ?_) (fun c58 => ?_)
            · refine j_iload_n C dX0_cheapest_68 rfl 3 rfl ?_
              refine j_aload_n C dX0_cheapest_69 rfl 0 rfl ?_
              refine j_get (w := w2) C in_X13 (ci := 12) (T := TX13) rfl hb2 2 (by decide) q1033 (fun _ z => z) (v := .int (nI qn)) rfl dX0_cheapest_70 ?_
              refine j_icmp_ge C 85 dX0_cheapest_73 (by decide) (fun c73 => ?_) (fun c73 => ?_)
              · refine j_ldc C q1003 dX0_cheapest_85 ?_
                exact j_iret C (by omega) (by omega) (fC.mk ⟨W2, hA2, hv2⟩ (((hR j Z.2.2.2.2 Z.2.2.2.1 Z.2.1 rfl hj c19).2 qc qn hq).2.2.2 c47 c58 c73)) dX0_cheapest_87
              · obtain ⟨kq, rfl, hkq⟩ := inB_m2 c19 c47 c58
                have hkn : kq < qn := by have q := Int32.not_le.mp c73; exact (nI_ltI (by omega) (by omega)).mp q
                refine j_aload_n C dX0_cheapest_76 rfl 1 rfl ?_
                refine j_get (w := w2) C in_X0 (ci := 0) (T := TX0) rfl (hA2.d0 hv2) 13 (by decide) q263 (fun _ z => z) (v := .ref (x + 27)) rfl dX0_cheapest_77 ?_
                refine j_iload_n C dX0_cheapest_80 rfl 3 rfl ?_
                refine j_ialdN (w := w2) C hA2.c27 (kq) rfl (by omega) (by decide) dX0_cheapest_81 ?_
                refine j_as (y := nI (Z2.2.2.2.2 kq)) (hv2.v kq (by omega)) ?_
                refine j_goto C 87 dX0_cheapest_82 (by decide) ?_
                exact j_iret C (by omega) (by omega) (fC.mk ⟨W2, hA2, hv2⟩ (by have q := ((hR j Z.2.2.2.2 Z.2.2.2.1 Z.2.1 rfl hj c19).2 qc qn hq).2.2.1 kq rfl hkn; have e := congrFun e2b kq; rw [e]; exact q)) dX0_cheapest_87
            · refine j_aload_n C dX0_cheapest_61 rfl 0 rfl ?_
              refine j_get (w := w2) C in_X13 (ci := 12) (T := TX13) rfl hb2 2 (by decide) q1033 (fun _ z => z) (v := .int (nI qn)) rfl dX0_cheapest_62 ?_
              refine j_goto C 87 dX0_cheapest_65 (by decide) ?_
              exact j_iret C (by omega) (by omega) (fC.mk ⟨W2, hA2, hv2⟩ (((hR j Z.2.2.2.2 Z.2.2.2.1 Z.2.1 rfl hj c19).2 qc qn hq).2.1 c58)) dX0_cheapest_87
          · refine j_aload_n C dX0_cheapest_50 rfl 0 rfl ?_
            refine j_get (w := w2) C in_X13 (ci := 12) (T := TX13) rfl hb2 1 (by decide) q1031 (fun _ z => z) (v := .int (nI qc)) rfl dX0_cheapest_51 ?_
            exact j_iret C (by omega) (by omega) (fC.mk ⟨W2, hA2, hv2⟩ (((hR j Z.2.2.2.2 Z.2.2.2.1 Z.2.1 rfl hj c19).2 qc qn hq).1 c47)) dX0_cheapest_54
    · refine j_ldc C q391 dX0_cheapest_22 ?_
      exact j_iret C (by omega) (by omega) (fC.mk ⟨W, hA, hv⟩ (h1 (Or.inr c19))) dX0_cheapest_24
set_option maxHeartbeats 1000000 in
theorem kX0_dearest (G : gl_T) (hG : GH G) (w0 w : wd_T) (x : Nat) (O : Nat → Prop) (V : fv_T) (Z : fz_T) (hF : FX G w0 w x O V Z) (y z : Int32) (ht : smT V.2.1) (h3 : V.2.1 3 ≤ 1000) (hwf : ∀ y, y < V.2.1 25 → V.2.1 (26 + 2 * y + 1) < V.2.1 6) (P : Int32 → fv_T → Prop) (h0 : V.2.1 0 = 0 → P kSTATE V) (h1 : 0 < V.2.1 0 → inB y (nI 0) (nI 8) = false ∨ inB z (-2) (nI 7) = false → P kBAD V) (hR : ∀ j (bs tr : Nat → Nat) d, y = nI j → j ≤ 8 → 0 < V.2.1 0 → inB z (-2) (nI 7) = true → ((rwF (btD j) j 0 0 V.2.1 (none, bs, tr, d)).1 = none → P kNONE V) ∧ ∀ c n, (rwF (btD j) j 0 0 V.2.1 (none, bs, tr, d)).1 = some (c, n) → (z = -1 → P (nI c) V) ∧ (z = -2 → P (nI n) V) ∧ (∀ i, z = nI i → i < j → P (nI ((rwF (btD j) j 0 0 V.2.1 (none, bs, tr, d)).2.1 i)) V) ∧ (¬ z = -1 → ¬ z = -2 → nI j ≤ z → P kNONE V)) : Mt G yX0_dearest cX0_dearest 4 (some .int) 18 [.ref x, .int y, .int z] w (fC G w0 x O P) 42 301 := by
  refine Mt.start (by decide) (Nat.le_of_ble_eq_true rfl) (fun k C => ?_)
  have C : Cx G k cX0_dearest "MoodFare" "dearest" 4 (some .int) 18 42 301 _ := C
  obtain ⟨W, hA, hv⟩ := id hF
  obtain ⟨r0, r1, r2, r3, r4, r5, r6, r7, r25, r26⟩ := id ht
  have hOb : ¬ O w.2 := fun z => by have := (hA.frO _ z).1; omega
  refine j_aload_n C dX0_dearest_0 rfl 0 rfl ?_
  refine j_callV (w := w) C (kX0_isThere G hG w0 w x O V Z ⟨W, hA, hv⟩ ht) pI.ret (ci := 0) (T := TX0) (hA.d0 hv) rfl 0 q966 q968 qs21 q66 q969 (by decide +kernel) rfl (by decide) (by decide) (Nat.le_of_ble_eq_true rfl) rfl dX0_dearest_1 (by omega) (by omega) (qI.k ?_)
  refine j_if_neB C 10 dX0_dearest_4 (by decide) (fun c4 => ?_) (fun c4 => ?_)
  · refine j_iload_n C dX0_dearest_10 rfl 1 rfl ?_
    refine j_i2l C dX0_dearest_11 ?_
    refine j_lconst (v := (nI 0).toInt64) C dX0_dearest_12 (by decide +kernel) ?_
    refine j_ldc2 C q1083 dX0_dearest_13 ?_
    refine j_asl (y := (nI 8).toInt64) (by decide +kernel) ?_
    refine j_callS (w := w) C (kX0_isIn G w y ((nI 0)) ((nI 8))) pI.ret 3 q387 q388 q66 q389 (by decide +kernel) rfl (by decide) (by decide) (Nat.le_of_ble_eq_true rfl) rfl dX0_dearest_16 (by omega) (by omega) (qI.k ?_)
    refine j_if_eqB C 36 dX0_dearest_19 (by decide) (fun c19 => ?_) (fun c19 => ?_)
    · refine j_ldc C q391 dX0_dearest_36 ?_
      exact j_iret C (by omega) (by omega) (fC.mk ⟨W, hA, hv⟩ (h1 (of_decide_eq_true c4) (Or.inl c19))) dX0_dearest_38
    · obtain ⟨j, rfl, hjl, hj⟩ := inB_n (by decide) c19 (by decide)
      refine j_iload_n C dX0_dearest_22 rfl 2 rfl ?_
      refine j_i2l C dX0_dearest_23 ?_
      refine j_ldc2 C q1013 dX0_dearest_24 ?_
      refine j_asl (y := (-2 : Int32).toInt64) (by decide +kernel) ?_
      refine j_ldc2 C q386 dX0_dearest_27 ?_
      refine j_asl (y := (nI 7).toInt64) (by decide +kernel) ?_
      refine j_callS (w := w) C (kX0_isIn G w z ((-2 : Int32)) ((nI 7))) pI.ret 3 q387 q388 q66 q389 (by decide +kernel) rfl (by decide) (by decide) (Nat.le_of_ble_eq_true rfl) rfl dX0_dearest_30 (by omega) (by omega) (qI.k ?_)
      refine j_if_neB C 39 dX0_dearest_33 (by decide) (fun c33 => ?_) (fun c33 => ?_)
      · refine j_new (w := w) C w.2 (fs := [.int (nI 0), .int (nI 0), .int (nI 0)]) (ty := tyX14) in_X14 tyX14_ok (ci := 13) (T := TX14) rfl q1084 q1085 q101 (by decide) (by omega) (by omega) dX0_dearest_39 ?_
        refine j_dup C dX0_dearest_42 rfl ?_
        refine j_iload_n C dX0_dearest_43 rfl 1 rfl ?_
        refine j_callI (w := ((mu w.1 w.2 w.2 (.inr (13, [.int (nI 0), .int (nI 0), .int (nI 0)]))), w.2 + 1)) C (kX14_init G ((mu w.1 w.2 w.2 (.inr (13, [.int (nI 0), .int (nI 0), .int (nI 0)]))), w.2 + 1) w.2 w.2 j mu_s) pV.ret 1 q1086 q1087 q101 q1088 rfl (by decide +kernel) rfl (by decide) (by decide) (Nat.le_of_ble_eq_true rfl) rfl dX0_dearest_44 (by omega) (by omega) (qV.k ?_)
        refine J.eq (w' := (mu w.1 w.2 w.2 (.inr (13, fsD j none)), w.2 + 1)) ?_ (congrArg (fun z => (z, w.2 + 1)) mu_mu) rfl rfl
        refine j_abs (P := fun w' => FX G w0 w' x O V Z ∧ w'.1 w.2 = some (w.2, .inr (13, fsD j none))) ⟨(FX.new ⟨W, hA, hv⟩), mu_s⟩ (fun w1 h1 => ?_)
        obtain ⟨⟨W1, hA1, hv1⟩, hb1⟩ := h1
        refine j_astore_n (lv' := [(3, .ref w.2), (0, .ref x), (1, .int (nI j)), (2, .int z)]) C dX0_dearest_47 rfl (by decide) rfl ?_
        refine j_aload_n C dX0_dearest_48 rfl 1 rfl ?_
        refine j_callV (w := w1) C (kX0_asNow G hG w0 w1 x O V Z ⟨W1, hA1, hv1⟩) pA.ret (ci := 0) (T := TX0) (hA1.d0 hv1) rfl 0 q1014 q1016 qs23 q66 q1017 (by decide +kernel) rfl (by decide) (by decide) (Nat.le_of_ble_eq_true rfl) rfl dX0_dearest_49 (by omega) (by omega) (pA.k (fun r2 w2 h2 => ?_))
        obtain ⟨rfl, h2, hfr2⟩ := h2
        have hb2 := hfr2.2 _ _ _ hb1 (Or.inl (far_tn hb1 (hA1.s1 (Z := Z) hv1) (by omega)))
        obtain ⟨W2, hA2, hv2⟩ := h2
        refine j_pop C dX0_dearest_52 rfl ?_
        refine j_aload_n C dX0_dearest_53 rfl 1 rfl ?_
        refine j_iconst (v := nI 0) C dX0_dearest_54 rfl ?_
        refine j_iload_n C dX0_dearest_55 rfl 2 rfl ?_
        refine j_iconst (v := nI 0) C dX0_dearest_56 rfl ?_
        refine j_aload_n C dX0_dearest_57 rfl 0 rfl ?_
        have hQd := rwF_d (bt := btD j) j 0 0 (zT Z V.2.1).1 (none, (zT Z V.2.1).2.2.2.2, (zT Z V.2.1).2.2.2.1, (zT Z V.2.1).2.1) 8 (by omega) (by have q := hA2.rid.2.2; rw [hv2.d] at q; exact q)
        refine j_callV (w := w2) C (kX0_rowsOf G hG w0 x O V w.2 13 (fsD j) okC (btD j) (wo_D G j (by omega)) (by omega) hOb j w2 (zT Z V.2.1) 0 j 0 none (by omega) (by omega) (by omega) (by omega) ht (by show V.2.1 3 + j ≤ 1100; omega) hwf rfl ⟨W2, hA2, hv2⟩ hb2 (fun _ _ z => by cases z)) pV.ret (ci := 0) (T := TX0) (hA2.d0 hv2) rfl 4 q1041 q1043 qs25 q66 q1044 (by decide +kernel) rfl (by omega) (by omega) (Nat.le_of_ble_eq_true rfl) rfl dX0_dearest_58 (by omega) (by omega) (pV.k (fun w3 h3 => ?_))
        obtain ⟨Z3, hX3, hb3, e31, e3d, e3t, e3b, -⟩ := h3
        obtain ⟨W3, hA3, hv3⟩ := id hX3
        have hkk := rwF_ok (ok := okC) (bt := btD j) (fun t n c p hp hn hc h1 h4 => okD_bt hp hc h4) j 0 0 (zT Z V.2.1).1 (none, (zT Z V.2.1).2.2.2.2, (zT Z V.2.1).2.2.2.1, (zT Z V.2.1).2.1) (by omega) (by omega) ht (by show V.2.1 3 + j ≤ 1100; omega) (fun _ _ z => by cases z)
        cases hq : (rwF (btD j) j 0 0 (zT Z V.2.1).1 (none, (zT Z V.2.1).2.2.2.2, (zT Z V.2.1).2.2.2.1, (zT Z V.2.1).2.1)).1 with
        | none =>
          rw [hq] at hb3
          refine j_aload_n C dX0_dearest_61 rfl 0 rfl ?_
          refine j_get (w := w3) C in_X14 (ci := 13) (T := TX14) rfl hb3 1 (by decide) q1093 (fun _ z => z) (v := .int ((-1000000))) rfl dX0_dearest_62 ?_
          refine j_ldc C q1003 dX0_dearest_65 ?_
          refine j_icmp_eq C 75 dX0_dearest_67 (by decide) (fun c67 => ?_) (fun c67 => ?_)
          · refine j_aload_n C dX0_dearest_75 rfl 0 rfl ?_
            refine j_get (w := w3) C in_X14 (ci := 13) (T := TX14) rfl hb3 1 (by decide) q1093 (fun _ z => z) (v := .int ((-1000000))) rfl dX0_dearest_76 ?_
            exact j_iret C (by omega) (by omega) (fC.mk ⟨W3, hA3, hv3⟩ ((hR j Z.2.2.2.2 Z.2.2.2.1 Z.2.1 rfl hj (of_decide_eq_true c4) c33).1 hq)) dX0_dearest_79
          · exact absurd rfl c67
        | some qq =>
          obtain ⟨qc, qn⟩ := qq
          rw [hq] at hb3
          have hqk := hkk qc qn hq
          refine j_aload_n C dX0_dearest_61 rfl 0 rfl ?_
          refine j_get (w := w3) C in_X14 (ci := 13) (T := TX14) rfl hb3 1 (by decide) q1093 (fun _ z => z) (v := .int (nI qc)) rfl dX0_dearest_62 ?_
          refine j_ldc C q1003 dX0_dearest_65 ?_
          refine j_icmp_eq C 75 dX0_dearest_67 (by decide) (fun c67 => ?_) (fun c67 => ?_)
          · exact absurd c67 (nI_NONE (by omega))
          · refine j_iload_n C dX0_dearest_70 rfl 3 rfl ?_
            refine j_iconst (v := -1) C dX0_dearest_71 rfl ?_
            refine j_icmp_ne C 80 dX0_dearest_72 (by decide) (fun c72 => ?_) (fun c72 => ?_)
            · refine j_iload_n C dX0_dearest_80 rfl 3 rfl ?_
              refine j_bipush (v := -2) C dX0_dearest_81 rfl ?_
              refine j_icmp_ne C 93 dX0_dearest_83 (by decide) (fun c83 => ?_) (fun c83 => ?_)
              · refine j_iload_n C dX0_dearest_93 rfl 3 rfl ?_
                refine j_iload_n C dX0_dearest_94 rfl 2 rfl ?_
                refine j_icmp_ge C 107 dX0_dearest_95 (by decide) (fun c95 => ?_) (fun c95 => ?_)
                · refine j_ldc C q1003 dX0_dearest_107 ?_
                  exact j_iret C (by omega) (by omega) (fC.mk ⟨W3, hA3, hv3⟩ (((hR j Z.2.2.2.2 Z.2.2.2.1 Z.2.1 rfl hj (of_decide_eq_true c4) c33).2 qc qn hq).2.2.2 c72 c83 c95)) dX0_dearest_109
                · obtain ⟨kq, rfl, hkq⟩ := inB_m2 c33 c72 c83
                  have hkn : kq < j := by have q := Int32.not_le.mp c95; exact (nI_ltI (by omega) (by omega)).mp q
                  refine j_aload_n C dX0_dearest_98 rfl 1 rfl ?_
                  refine j_get (w := w3) C in_X0 (ci := 0) (T := TX0) rfl (hA3.d0 hv3) 13 (by decide) q263 (fun _ z => z) (v := .ref (x + 27)) rfl dX0_dearest_99 ?_
                  refine j_iload_n C dX0_dearest_102 rfl 3 rfl ?_
                  refine j_ialdN (w := w3) C hA3.c27 (kq) rfl (by omega) (by decide) dX0_dearest_103 ?_
                  refine j_as (y := nI (Z3.2.2.2.2 kq)) (hv3.v kq (by omega)) ?_
                  refine j_goto C 109 dX0_dearest_104 (by decide) ?_
                  exact j_iret C (by omega) (by omega) (fC.mk ⟨W3, hA3, hv3⟩ (by have q := ((hR j Z.2.2.2.2 Z.2.2.2.1 Z.2.1 rfl hj (of_decide_eq_true c4) c33).2 qc qn hq).2.2.1 kq rfl hkn; have e := congrFun e3b kq; rw [e]; exact q)) dX0_dearest_109
              · refine j_aload_n C dX0_dearest_86 rfl 0 rfl ?_
                refine j_get (w := w3) C in_X14 (ci := 13) (T := TX14) rfl hb3 2 (by decide) q1095 (fun _ z => z) (v := .int (nI qn)) rfl dX0_dearest_87 ?_
                refine j_goto C 109 dX0_dearest_90 (by decide) ?_
                exact j_iret C (by omega) (by omega) (fC.mk ⟨W3, hA3, hv3⟩ (((hR j Z.2.2.2.2 Z.2.2.2.1 Z.2.1 rfl hj (of_decide_eq_true c4) c33).2 qc qn hq).2.1 c83)) dX0_dearest_109
            · refine j_aload_n C dX0_dearest_75 rfl 0 rfl ?_
              refine j_get (w := w3) C in_X14 (ci := 13) (T := TX14) rfl hb3 1 (by decide) q1093 (fun _ z => z) (v := .int (nI qc)) rfl dX0_dearest_76 ?_
              exact j_iret C (by omega) (by omega) (fC.mk ⟨W3, hA3, hv3⟩ (((hR j Z.2.2.2.2 Z.2.2.2.1 Z.2.1 rfl hj (of_decide_eq_true c4) c33).2 qc qn hq).1 c72)) dX0_dearest_79
      · refine j_ldc C q391 dX0_dearest_36 ?_
        exact j_iret C (by omega) (by omega) (fC.mk ⟨W, hA, hv⟩ (h1 (of_decide_eq_true c4) (Or.inr c33))) dX0_dearest_38
  · refine j_ldc C q899 dX0_dearest_7 ?_
    exact j_iret C (by omega) (by omega) (fC.mk ⟨W, hA, hv⟩ (h0 (by have := of_decide_eq_false c4; omega))) dX0_dearest_9
set_option maxHeartbeats 1000000 in
theorem kX0_moods (G : gl_T) (hG : GH G) (w0 w : wd_T) (x : Nat) (O : Nat → Prop) (V : fv_T) (Z : fz_T) (hF : FX G w0 w x O V Z) (y z : Int32) (ht : smT V.2.1) (h3 : V.2.1 3 ≤ 1000) (hwf : ∀ y, y < V.2.1 25 → V.2.1 (26 + 2 * y + 1) < V.2.1 6) (P : Int32 → fv_T → Prop) (h1 : inB y (nI 0) (nI (V.2.1 6) - nI 1) = false ∨ inB z (nI 0) (nI 8) = false → P kBAD V) (hR : ∀ j u (bs tr : Nat → Nat) d, y = nI j → j < V.2.1 6 → z = nI u → u ≤ 8 → P (nI (rwF (btM j u) u 0 0 V.2.1 (0, bs, tr, d)).1) V) : Mt G yX0_moods cX0_moods 4 (some .int) 18 [.ref x, .int y, .int z] w (fC G w0 x O P) 42 301 := by
  refine Mt.start (by decide) (Nat.le_of_ble_eq_true rfl) (fun k C => ?_)
  have C : Cx G k cX0_moods "MoodFare" "moods" 4 (some .int) 18 42 301 _ := C
  obtain ⟨W, hA, hv⟩ := id hF
  obtain ⟨r0, r1, r2, r3, r4, r5, r6, r7, r25, r26⟩ := id ht
  have hOb : ¬ O w.2 := fun z => by have := (hA.frO _ z).1; omega
  refine j_aload_n C dX0_moods_0 rfl 0 rfl ?_
  refine j_iload_n C dX0_moods_1 rfl 1 rfl ?_
  refine j_callV (w := w) C (kX0_isCorner G hG w0 w x O V Z ⟨W, hA, hv⟩ y) pI.ret (ci := 0) (T := TX0) (hA.d0 hv) rfl 1 q956 q958 qs20 q66 q959 (by decide +kernel) rfl (by decide) (by decide) (Nat.le_of_ble_eq_true rfl) rfl dX0_moods_2 (by omega) (by omega) (qI.k ?_)
  refine j_if_eqB C 20 dX0_moods_5 (by decide) (fun c5 => ?_) (fun c5 => ?_)
  · refine j_ldc C q391 dX0_moods_20 ?_
    exact j_iret C (by omega) (by omega) (fC.mk ⟨W, hA, hv⟩ (h1 (Or.inl c5))) dX0_moods_22
  · obtain ⟨j, rfl, hj⟩ := inB_p (by omega) c5
    refine j_iload_n C dX0_moods_8 rfl 2 rfl ?_
    refine j_i2l C dX0_moods_9 ?_
    refine j_lconst (v := (nI 0).toInt64) C dX0_moods_10 (by decide +kernel) ?_
    refine j_ldc2 C q1083 dX0_moods_11 ?_
    refine j_asl (y := (nI 8).toInt64) (by decide +kernel) ?_
    refine j_callS (w := w) C (kX0_isIn G w z ((nI 0)) ((nI 8))) pI.ret 3 q387 q388 q66 q389 (by decide +kernel) rfl (by decide) (by decide) (Nat.le_of_ble_eq_true rfl) rfl dX0_moods_14 (by omega) (by omega) (qI.k ?_)
    refine j_if_neB C 23 dX0_moods_17 (by decide) (fun c17 => ?_) (fun c17 => ?_)
    · obtain ⟨u, rfl, hul, hu⟩ := inB_n (by decide) c17 (by decide)
      refine j_new (w := w) C w.2 (fs := [.int (nI 0), .int (nI 0), .int (nI 0)]) (ty := tyX15) in_X15 tyX15_ok (ci := 14) (T := TX15) rfl q1107 q1108 q102 (by decide) (by omega) (by omega) dX0_moods_23 ?_
      refine j_dup C dX0_moods_26 rfl ?_
      refine j_iload_n C dX0_moods_27 rfl 1 rfl ?_
      refine j_iload_n C dX0_moods_28 rfl 2 rfl ?_
      refine j_callI (w := ((mu w.1 w.2 w.2 (.inr (14, [.int (nI 0), .int (nI 0), .int (nI 0)]))), w.2 + 1)) C (kX15_init G ((mu w.1 w.2 w.2 (.inr (14, [.int (nI 0), .int (nI 0), .int (nI 0)]))), w.2 + 1) w.2 w.2 j u mu_s) pV.ret 2 q1109 q1110 q102 q1111 rfl (by decide +kernel) rfl (by decide) (by decide) (Nat.le_of_ble_eq_true rfl) rfl dX0_moods_29 (by omega) (by omega) (qV.k ?_)
      refine J.eq (w' := (mu w.1 w.2 w.2 (.inr (14, fsM j u 0)), w.2 + 1)) ?_ (congrArg (fun z => (z, w.2 + 1)) mu_mu) rfl rfl
      refine j_abs (P := fun w' => FX G w0 w' x O V Z ∧ w'.1 w.2 = some (w.2, .inr (14, fsM j u 0))) ⟨(FX.new ⟨W, hA, hv⟩), mu_s⟩ (fun w1 h1 => ?_)
      obtain ⟨⟨W1, hA1, hv1⟩, hb1⟩ := h1
      refine j_astore_n (lv' := [(3, .ref w.2), (0, .ref x), (1, .int (nI j)), (2, .int (nI u))]) C dX0_moods_32 rfl (by decide) rfl ?_
      refine j_aload_n C dX0_moods_33 rfl 1 rfl ?_
      refine j_callV (w := w1) C (kX0_asNow G hG w0 w1 x O V Z ⟨W1, hA1, hv1⟩) pA.ret (ci := 0) (T := TX0) (hA1.d0 hv1) rfl 0 q1014 q1016 qs23 q66 q1017 (by decide +kernel) rfl (by decide) (by decide) (Nat.le_of_ble_eq_true rfl) rfl dX0_moods_34 (by omega) (by omega) (pA.k (fun r2 w2 h2 => ?_))
      obtain ⟨rfl, h2, hfr2⟩ := h2
      have hb2 := hfr2.2 _ _ _ hb1 (Or.inl (far_tn hb1 (hA1.s1 (Z := Z) hv1) (by omega)))
      obtain ⟨W2, hA2, hv2⟩ := h2
      refine j_pop C dX0_moods_37 rfl ?_
      refine j_aload_n C dX0_moods_38 rfl 1 rfl ?_
      refine j_iconst (v := nI 0) C dX0_moods_39 rfl ?_
      refine j_iload_n C dX0_moods_40 rfl 3 rfl ?_
      refine j_iconst (v := nI 0) C dX0_moods_41 rfl ?_
      refine j_aload_n C dX0_moods_42 rfl 0 rfl ?_
      have hQd := rwF_d (bt := btM j u) u 0 0 (zT Z V.2.1).1 (0, (zT Z V.2.1).2.2.2.2, (zT Z V.2.1).2.2.2.1, (zT Z V.2.1).2.1) 8 (by omega) (by have q := hA2.rid.2.2; rw [hv2.d] at q; exact q)
      refine j_callV (w := w2) C (kX0_rowsOf G hG w0 x O V w.2 14 (fsM j u) (fun _ => True) (btM j u) (wo_M G j u (by omega) (by omega)) (by omega) hOb u w2 (zT Z V.2.1) 0 u 0 0 (by omega) (by omega) (by omega) (by omega) ht (by show V.2.1 3 + u ≤ 1100; omega) hwf rfl ⟨W2, hA2, hv2⟩ hb2 trivial) pV.ret (ci := 0) (T := TX0) (hA2.d0 hv2) rfl 4 q1041 q1043 qs25 q66 q1044 (by decide +kernel) rfl (by omega) (by omega) (Nat.le_of_ble_eq_true rfl) rfl dX0_moods_43 (by omega) (by omega) (pV.k (fun w3 h3 => ?_))
      obtain ⟨Z3, hX3, hb3, e31, e3d, e3t, e3b, -⟩ := h3
      obtain ⟨W3, hA3, hv3⟩ := id hX3
      refine j_aload_n C dX0_moods_46 rfl 0 rfl ?_
      refine j_get (w := w3) C in_X15 (ci := 14) (T := TX15) rfl hb3 2 (by decide) q1116 (fun _ z => z) (v := .int (nI ((rwF (btM j u) u 0 0 (zT Z V.2.1).1 (0, (zT Z V.2.1).2.2.2.2, (zT Z V.2.1).2.2.2.1, (zT Z V.2.1).2.1)).1))) rfl dX0_moods_47 ?_
      exact j_iret C (by omega) (by omega) (fC.mk ⟨W3, hA3, hv3⟩ (hR j u Z.2.2.2.2 Z.2.2.2.1 Z.2.1 rfl hj rfl hu)) dX0_moods_50
    · refine j_ldc C q391 dX0_moods_20 ?_
      exact j_iret C (by omega) (by omega) (fC.mk ⟨W, hA, hv⟩ (h1 (Or.inr c17))) dX0_moods_22
set_option maxHeartbeats 1000000 in
theorem kX0_gets (G : gl_T) (hG : GH G) (w0 w : wd_T) (x : Nat) (O : Nat → Prop) (V : fv_T) (Z : fz_T) (hF : FX G w0 w x O V Z) (y z : Int32) (ht : smT V.2.1) (h3 : V.2.1 3 ≤ 1000) (hwf : ∀ y, y < V.2.1 25 → V.2.1 (26 + 2 * y + 1) < V.2.1 6) (P : Int32 → fv_T → Prop) (h0 : V.2.1 0 = 0 → P kSTATE V) (h1 : 0 < V.2.1 0 → inB y (nI 0) (nI 9) = false ∨ inB z (-1) (nI 7) = false → P kBAD V) (hR : ∀ j (bs tr : Nat → Nat) d, y = nI j → j ≤ 9 → 0 < V.2.1 0 → inB z (-1) (nI 7) = true → ((rwF (btS j) 8 0 0 V.2.1 (none, bs, tr, d)).1 = none → P kNONE V) ∧ ∀ n, (rwF (btS j) 8 0 0 V.2.1 (none, bs, tr, d)).1 = some n → (z = -1 → P (nI n) V) ∧ (∀ i, z = nI i → i < n → P (nI ((rwF (btS j) 8 0 0 V.2.1 (none, bs, tr, d)).2.1 i)) V) ∧ (¬ z = -1 → nI n ≤ z → P kNONE V)) : Mt G yX0_gets cX0_gets 4 (some .int) 18 [.ref x, .int y, .int z] w (fC G w0 x O P) 42 301 := by
  refine Mt.start (by decide) (Nat.le_of_ble_eq_true rfl) (fun k C => ?_)
  have C : Cx G k cX0_gets "MoodFare" "gets" 4 (some .int) 18 42 301 _ := C
  obtain ⟨W, hA, hv⟩ := id hF
  obtain ⟨r0, r1, r2, r3, r4, r5, r6, r7, r25, r26⟩ := id ht
  have hOb : ¬ O w.2 := fun z => by have := (hA.frO _ z).1; omega
  refine j_aload_n C dX0_gets_0 rfl 0 rfl ?_
  refine j_callV (w := w) C (kX0_isThere G hG w0 w x O V Z ⟨W, hA, hv⟩ ht) pI.ret (ci := 0) (T := TX0) (hA.d0 hv) rfl 0 q966 q968 qs21 q66 q969 (by decide +kernel) rfl (by decide) (by decide) (Nat.le_of_ble_eq_true rfl) rfl dX0_gets_1 (by omega) (by omega) (qI.k ?_)
  refine j_if_neB C 10 dX0_gets_4 (by decide) (fun c4 => ?_) (fun c4 => ?_)
  · refine j_iload_n C dX0_gets_10 rfl 1 rfl ?_
    refine j_i2l C dX0_gets_11 ?_
    refine j_lconst (v := (nI 0).toInt64) C dX0_gets_12 (by decide +kernel) ?_
    refine j_ldc2 C q961 dX0_gets_13 ?_
    refine j_asl (y := (nI 9).toInt64) (by decide +kernel) ?_
    refine j_callS (w := w) C (kX0_isIn G w y ((nI 0)) ((nI 9))) pI.ret 3 q387 q388 q66 q389 (by decide +kernel) rfl (by decide) (by decide) (Nat.le_of_ble_eq_true rfl) rfl dX0_gets_16 (by omega) (by omega) (qI.k ?_)
    refine j_if_eqB C 36 dX0_gets_19 (by decide) (fun c19 => ?_) (fun c19 => ?_)
    · refine j_ldc C q391 dX0_gets_36 ?_
      exact j_iret C (by omega) (by omega) (fC.mk ⟨W, hA, hv⟩ (h1 (of_decide_eq_true c4) (Or.inl c19))) dX0_gets_38
    · obtain ⟨j, rfl, hjl, hj⟩ := inB_n (by decide) c19 (by decide)
      refine j_iload_n C dX0_gets_22 rfl 2 rfl ?_
      refine j_i2l C dX0_gets_23 ?_
      refine j_ldc2 C q1128 dX0_gets_24 ?_
      refine j_asl (y := (-1 : Int32).toInt64) (by decide +kernel) ?_
      refine j_ldc2 C q386 dX0_gets_27 ?_
      refine j_asl (y := (nI 7).toInt64) (by decide +kernel) ?_
      refine j_callS (w := w) C (kX0_isIn G w z ((-1 : Int32)) ((nI 7))) pI.ret 3 q387 q388 q66 q389 (by decide +kernel) rfl (by decide) (by decide) (Nat.le_of_ble_eq_true rfl) rfl dX0_gets_30 (by omega) (by omega) (qI.k ?_)
      refine j_if_neB C 39 dX0_gets_33 (by decide) (fun c33 => ?_) (fun c33 => ?_)
      · refine j_new (w := w) C w.2 (fs := [.int (nI 0), .int (nI 0)]) (ty := tyX16) in_X16 tyX16_ok (ci := 15) (T := TX16) rfl q1129 q1130 q103 (by decide) (by omega) (by omega) dX0_gets_39 ?_
        refine j_dup C dX0_gets_42 rfl ?_
        refine j_iload_n C dX0_gets_43 rfl 1 rfl ?_
        refine j_callI (w := ((mu w.1 w.2 w.2 (.inr (15, [.int (nI 0), .int (nI 0)]))), w.2 + 1)) C (kX16_init G ((mu w.1 w.2 w.2 (.inr (15, [.int (nI 0), .int (nI 0)]))), w.2 + 1) w.2 w.2 j mu_s) pV.ret 1 q1131 q1132 q103 q1133 rfl (by decide +kernel) rfl (by decide) (by decide) (Nat.le_of_ble_eq_true rfl) rfl dX0_gets_44 (by omega) (by omega) (qV.k ?_)
        refine J.eq (w' := (mu w.1 w.2 w.2 (.inr (15, fsS j none)), w.2 + 1)) ?_ (congrArg (fun z => (z, w.2 + 1)) mu_mu) rfl rfl
        refine j_abs (P := fun w' => FX G w0 w' x O V Z ∧ w'.1 w.2 = some (w.2, .inr (15, fsS j none))) ⟨(FX.new ⟨W, hA, hv⟩), mu_s⟩ (fun w1 h1 => ?_)
        obtain ⟨⟨W1, hA1, hv1⟩, hb1⟩ := h1
        refine j_astore_n (lv' := [(3, .ref w.2), (0, .ref x), (1, .int (nI j)), (2, .int z)]) C dX0_gets_47 rfl (by decide) rfl ?_
        refine j_aload_n C dX0_gets_48 rfl 1 rfl ?_
        refine j_callV (w := w1) C (kX0_asNow G hG w0 w1 x O V Z ⟨W1, hA1, hv1⟩) pA.ret (ci := 0) (T := TX0) (hA1.d0 hv1) rfl 0 q1014 q1016 qs23 q66 q1017 (by decide +kernel) rfl (by decide) (by decide) (Nat.le_of_ble_eq_true rfl) rfl dX0_gets_49 (by omega) (by omega) (pA.k (fun r2 w2 h2 => ?_))
        obtain ⟨rfl, h2, hfr2⟩ := h2
        have hb2 := hfr2.2 _ _ _ hb1 (Or.inl (far_tn hb1 (hA1.s1 (Z := Z) hv1) (by omega)))
        obtain ⟨W2, hA2, hv2⟩ := h2
        refine j_pop C dX0_gets_52 rfl ?_
        refine j_aload_n C dX0_gets_53 rfl 1 rfl ?_
        refine j_iconst (v := nI 0) C dX0_gets_54 rfl ?_
        refine j_bipush (v := nI 8) C dX0_gets_55 rfl ?_
        refine j_iconst (v := nI 0) C dX0_gets_57 rfl ?_
        refine j_aload_n C dX0_gets_58 rfl 0 rfl ?_
        have hQd := rwF_d (bt := btS j) 8 0 0 (zT Z V.2.1).1 (none, (zT Z V.2.1).2.2.2.2, (zT Z V.2.1).2.2.2.1, (zT Z V.2.1).2.1) 8 (by omega) (by have q := hA2.rid.2.2; rw [hv2.d] at q; exact q)
        refine j_callV (w := w2) C (kX0_rowsOf G hG w0 x O V w.2 15 (fsS j) okS (btS j) (wo_S G j (by omega)) (by omega) hOb 8 w2 (zT Z V.2.1) 0 8 0 none (by omega) (by omega) (by omega) (by omega) ht (by show V.2.1 3 + 8 ≤ 1100; omega) hwf rfl ⟨W2, hA2, hv2⟩ hb2 (fun _ z => by cases z)) pV.ret (ci := 0) (T := TX0) (hA2.d0 hv2) rfl 4 q1041 q1043 qs25 q66 q1044 (by decide +kernel) rfl (by omega) (by omega) (Nat.le_of_ble_eq_true rfl) rfl dX0_gets_59 (by omega) (by omega) (pV.k (fun w3 h3 => ?_))
        obtain ⟨Z3, hX3, hb3, e31, e3d, e3t, e3b, -⟩ := h3
        obtain ⟨W3, hA3, hv3⟩ := id hX3
        have hkk := rwF_ok (ok := okS) (bt := btS j) (fun t n c p hp hn hc h1 h4 => okS_bt hp hn) 8 0 0 (zT Z V.2.1).1 (none, (zT Z V.2.1).2.2.2.2, (zT Z V.2.1).2.2.2.1, (zT Z V.2.1).2.1) (by omega) (by omega) ht (by show V.2.1 3 + 8 ≤ 1100; omega) (fun _ z => by cases z)
        cases hq : (rwF (btS j) 8 0 0 (zT Z V.2.1).1 (none, (zT Z V.2.1).2.2.2.2, (zT Z V.2.1).2.2.2.1, (zT Z V.2.1).2.1)).1 with
        | none =>
          rw [hq] at hb3
          refine j_aload_n C dX0_gets_62 rfl 0 rfl ?_
          refine j_get (w := w3) C in_X16 (ci := 15) (T := TX16) rfl hb3 1 (by decide) q1137 (fun _ z => z) (v := .int ((-1000000))) rfl dX0_gets_63 ?_
          refine j_ldc C q1003 dX0_gets_66 ?_
          refine j_icmp_eq C 76 dX0_gets_68 (by decide) (fun c68 => ?_) (fun c68 => ?_)
          · refine j_aload_n C dX0_gets_76 rfl 0 rfl ?_
            refine j_get (w := w3) C in_X16 (ci := 15) (T := TX16) rfl hb3 1 (by decide) q1137 (fun _ z => z) (v := .int ((-1000000))) rfl dX0_gets_77 ?_
            refine j_goto C 102 dX0_gets_80 (by decide) ?_
            exact j_iret C (by omega) (by omega) (fC.mk ⟨W3, hA3, hv3⟩ ((hR j Z.2.2.2.2 Z.2.2.2.1 Z.2.1 rfl hj (of_decide_eq_true c4) c33).1 hq)) dX0_gets_102
          · exact absurd rfl c68
        | some qn =>
          rw [hq] at hb3
          have hqk := hkk qn hq
          refine j_aload_n C dX0_gets_62 rfl 0 rfl ?_
          refine j_get (w := w3) C in_X16 (ci := 15) (T := TX16) rfl hb3 1 (by decide) q1137 (fun _ z => z) (v := .int (nI qn)) rfl dX0_gets_63 ?_
          refine j_ldc C q1003 dX0_gets_66 ?_
          refine j_icmp_eq C 76 dX0_gets_68 (by decide) (fun c68 => ?_) (fun c68 => ?_)
          · exact absurd c68 (nI_NONE (by omega))
          · refine j_iload_n C dX0_gets_71 rfl 3 rfl ?_
            refine j_iconst (v := -1) C dX0_gets_72 rfl ?_
            refine j_icmp_ne C 83 dX0_gets_73 (by decide) (fun c73 => ?_) (fun c73 => ?_)
            · refine j_iload_n C dX0_gets_83 rfl 3 rfl ?_
              refine j_aload_n C dX0_gets_84 rfl 0 rfl ?_
              refine j_get (w := w3) C in_X16 (ci := 15) (T := TX16) rfl hb3 1 (by decide) q1137 (fun _ z => z) (v := .int (nI qn)) rfl dX0_gets_85 ?_
              refine j_icmp_ge C 100 dX0_gets_88 (by decide) (fun c88 => ?_) (fun c88 => ?_)
              · refine j_ldc C q1003 dX0_gets_100 ?_
                exact j_iret C (by omega) (by omega) (fC.mk ⟨W3, hA3, hv3⟩ (((hR j Z.2.2.2.2 Z.2.2.2.1 Z.2.1 rfl hj (of_decide_eq_true c4) c33).2 qn hq).2.2 c73 c88)) dX0_gets_102
              · obtain ⟨kq, rfl, hkq⟩ := inB_m1 c33 c73
                have hkn : kq < qn := by have q := Int32.not_le.mp c88; exact (nI_ltI (by omega) (by omega)).mp q
                refine j_aload_n C dX0_gets_91 rfl 1 rfl ?_
                refine j_get (w := w3) C in_X0 (ci := 0) (T := TX0) rfl (hA3.d0 hv3) 13 (by decide) q263 (fun _ z => z) (v := .ref (x + 27)) rfl dX0_gets_92 ?_
                refine j_iload_n C dX0_gets_95 rfl 3 rfl ?_
                refine j_ialdN (w := w3) C hA3.c27 (kq) rfl (by omega) (by decide) dX0_gets_96 ?_
                refine j_as (y := nI (Z3.2.2.2.2 kq)) (hv3.v kq (by omega)) ?_
                refine j_goto C 102 dX0_gets_97 (by decide) ?_
                exact j_iret C (by omega) (by omega) (fC.mk ⟨W3, hA3, hv3⟩ (by have q := ((hR j Z.2.2.2.2 Z.2.2.2.1 Z.2.1 rfl hj (of_decide_eq_true c4) c33).2 qn hq).2.1 kq rfl hkn; have e := congrFun e3b kq; rw [e]; exact q)) dX0_gets_102
            · refine j_aload_n C dX0_gets_76 rfl 0 rfl ?_
              refine j_get (w := w3) C in_X16 (ci := 15) (T := TX16) rfl hb3 1 (by decide) q1137 (fun _ z => z) (v := .int (nI qn)) rfl dX0_gets_77 ?_
              refine j_goto C 102 dX0_gets_80 (by decide) ?_
              exact j_iret C (by omega) (by omega) (fC.mk ⟨W3, hA3, hv3⟩ (((hR j Z.2.2.2.2 Z.2.2.2.1 Z.2.1 rfl hj (of_decide_eq_true c4) c33).2 qn hq).1 c73)) dX0_gets_102
      · refine j_ldc C q391 dX0_gets_36 ?_
        exact j_iret C (by omega) (by omega) (fC.mk ⟨W, hA, hv⟩ (h1 (of_decide_eq_true c4) (Or.inr c33))) dX0_gets_38
  · refine j_ldc C q899 dX0_gets_7 ?_
    exact j_iret C (by omega) (by omega) (fC.mk ⟨W, hA, hv⟩ (h0 (by have := of_decide_eq_false c4; omega))) dX0_gets_9
