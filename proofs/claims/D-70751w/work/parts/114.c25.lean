/-! ===== the class: what keeps two rows from being read ===== -/
set_option maxRecDepth 100000
def barV (R : Nat → Option (Nat × Nat × (Nat → Int32))) (r : Nat) (i : Int32) (q : Nat) (j n : Int32) : Nat := match R r with
  | none => 1
  | some y => if partB y.2.1 i n = false then 2 else match R q with
    | none => 1
    | some z => if partB z.2.1 j n = false then 2 else 0
section BV
variable {R : Nat → Option (Nat × Nat × (Nat → Int32))} {r q l m l2 m2 : Nat} {i j n : Int32} {f f2 : Nat → Int32}
theorem barV_1 (h : R r = none) : barV R r i q j n = 1 := by
  unfold barV
  rw [h]
theorem barV_2 (h : R r = some (l, m, f)) (hp : partB m i n = false) : barV R r i q j n = 2 := by
  unfold barV
  rw [h]
  exact if_pos hp
theorem barV_3 (h : R r = some (l, m, f)) (hp : partB m i n = true) (h2 : R q = none) : barV R r i q j n = 1 := by
  unfold barV
  rw [h, h2]
  exact if_neg (by show ¬ partB m i n = false; rw [hp]; decide)
theorem barV_4 (h : R r = some (l, m, f)) (hp : partB m i n = true) (h2 : R q = some (l2, m2, f2)) (hp2 : partB m2 j n = false) : barV R r i q j n = 2 := by
  unfold barV
  rw [h, h2]
  show (if partB m i n = false then 2 else if partB m2 j n = false then 2 else 0) = 2
  rw [if_neg (by rw [hp]; decide), if_pos hp2]
theorem barV_0 (h : R r = some (l, m, f)) (hp : partB m i n = true) (h2 : R q = some (l2, m2, f2)) (hp2 : partB m2 j n = true) : barV R r i q j n = 0 := by
  unfold barV
  rw [h, h2]
  show (if partB m i n = false then 2 else if partB m2 j n = false then 2 else 0) = 0
  rw [if_neg (by rw [hp]; decide), if_neg (by rw [hp2]; decide)]
end BV
/-! ===== the class: fits, fitsOf, share ===== -/
set_option maxRecDepth 100000
set_option maxHeartbeats 1000000 in
theorem kX0_fits (G : gl_T) (hG : GH G) (w0 w : wd_T) (x : Nat) (O : Nat → Prop) (V : fv_T) (Z : fz_T) (hF : FX G w0 w x O V Z) (hE : GE G) (row i oth j0 n what : Int32) (ht : smT V.2.1) (h3 : V.2.1 3 ≤ 1000) (hwf : ∀ y, y < V.2.1 25 → V.2.1 (26 + 2 * y + 1) < V.2.1 6) (P : Int32 → fv_T → Prop) (h0 : V.2.1 0 = 0 → P kSTATE V) (h1 : 0 < V.2.1 0 → inB row (nI 0) (nI 7) = false ∨ inB oth (nI 0) (nI 7) = false ∨ inB n (nI 1) (nI 8) = false ∨ inB what (nI 0) (nI 1) = false → P kBAD V) (hb : 0 < V.2.1 0 → inB what (nI 0) (nI 1) = true → ∀ m r q, n = nI m → 1 ≤ m → m ≤ 8 → row = nI r → r < 8 → oth = nI q → q < 8 → ¬ barV V.2.2.2.2.1 r i q j0 (nI m) = 0 → P ((-1000010) - nI (barV V.2.2.2.2.1 r i q j0 (nI m))) (vN V 3 (barV V.2.2.2.2.1 r i q j0 (nI m)))) (g0 : 0 < V.2.1 0 → ∀ r q a b m, row = nI r → r < 8 → oth = nI q → q < 8 → i = nI a → j0 = nI b → n = nI m → 1 ≤ m → m ≤ 8 → a ≤ 40 → b ≤ 40 → barV V.2.2.2.2.1 r (nI a) q (nI b) (nI m) = 0 → what = nI 0 → P (nI (alF (itV V.2.2.2.2.1) V.2.1 1 0 (40 * r + a) (40 * q + b) m 10)) (vN V 3 0)) (g1 : 0 < V.2.1 0 → ∀ r q a b m, row = nI r → r < 8 → oth = nI q → q < 8 → i = nI a → j0 = nI b → n = nI m → 1 ≤ m → m ≤ 8 → a ≤ 40 → b ≤ 40 → barV V.2.2.2.2.1 r (nI a) q (nI b) (nI m) = 0 → what = nI 1 → P (nI (alF (itV V.2.2.2.2.1) V.2.1 0 1 (40 * r + a) (40 * q + b) m 9)) (vN V 3 0)) : Mt G yX0_fits cX0_fits 7 (some .int) 10 [.ref x, .int row, .int i, .int oth, .int j0, .int n, .int what] w (fC G w0 x O P) 13 118 := by
  refine Mt.start (by decide) (Nat.le_of_ble_eq_true rfl) (fun k C => ?_)
  have C : Cx G k cX0_fits "MoodFare" "fits" 7 (some .int) 10 13 118 _ := C
  obtain ⟨W, hA, hv⟩ := id hF
  obtain ⟨r0, r1, r2, r3, r4, r5, r6, r7, r25, r26⟩ := id ht
  have hrw : ∀ {l m : Nat} {f : Nat → Int32} (j : Nat), j < 8 → V.2.2.2.2.1 j = some (l, m, f) → m ≤ 40 := by
    intro l m f j hj e
    rcases RW.full hA hv (k := j) hj with ⟨hr2, -⟩ | ⟨l2, m2, f2, b, hr2, -, -, -, hm40, -⟩
    · rw [e] at hr2; cases hr2
    · rw [e] at hr2; cases hr2; exact hm40
  refine j_aload_n C dX0_fits_0 rfl 0 rfl ?_
  refine j_callV (w := w) C (kX0_isThere G hG w0 w x O V Z ⟨W, hA, hv⟩ ht) pI.ret (ci := 0) (T := TX0) (hA.d0 hv) rfl 0 q966 q968 qs21 q66 q969 (by decide +kernel) rfl (by decide) (by decide) (Nat.le_of_ble_eq_true rfl) rfl dX0_fits_1 (by omega) (by omega) (qI.k ?_)
  refine j_if_neB C 10 dX0_fits_4 (by decide) (fun c4 => ?_) (fun c4 => ?_)
  · refine j_iload_n C dX0_fits_10 rfl 1 rfl ?_
    refine j_iload C dX0_fits_11 5 rfl ?_
    refine j_callS (w := w) C (kX0_isMany G w row n) pI.ret 2 q1147 q1148 q66 q1149 (by decide +kernel) rfl (by decide) (by decide) (Nat.le_of_ble_eq_true rfl) rfl dX0_fits_13 (by omega) (by omega) (qI.k ?_)
    refine j_if_eqB C 34 dX0_fits_16 (by decide) (fun c16 => ?_) (fun c16 => ?_)
    · refine j_ldc C q391 dX0_fits_34 ?_
      exact j_iret C (by omega) (by omega) (fC.mk ⟨W, hA, hv⟩ (h1 (of_decide_eq_true c4) ((by rcases Bool.and_eq_false_iff.mp c16 with z | z; exact Or.inl z; exact Or.inr (Or.inr (Or.inl z)))))) dX0_fits_36
    · obtain ⟨cr, cn⟩ := Bool.and_eq_true_iff.mp c16
      obtain ⟨r, rfl, -, hr⟩ := inB_n (by decide) cr (by decide)
      obtain ⟨m, rfl, hm1, hm⟩ := inB_n (by decide) cn (by decide)
      refine j_iload_n C dX0_fits_19 rfl 3 rfl ?_
      refine j_callS (w := w) C (kX0_isRow G w oth) pI.ret 1 q383 q384 q66 q385 (by decide +kernel) rfl (by decide) (by decide) (Nat.le_of_ble_eq_true rfl) rfl dX0_fits_20 (by omega) (by omega) (qI.k ?_)
      refine j_if_eqB C 34 dX0_fits_23 (by decide) (fun c23 => ?_) (fun c23 => ?_)
      · refine j_ldc C q391 dX0_fits_34 ?_
        exact j_iret C (by omega) (by omega) (fC.mk ⟨W, hA, hv⟩ (h1 (of_decide_eq_true c4) (Or.inr (Or.inl c23)))) dX0_fits_36
      · obtain ⟨q, rfl, -, hq⟩ := inB_n (by decide) c23 (by decide)
        refine j_iload C dX0_fits_26 6 rfl ?_
        refine j_callS (w := w) C (kX0_isHalf G w what) pI.ret 1 q974 q975 q66 q976 (by decide +kernel) rfl (by decide) (by decide) (Nat.le_of_ble_eq_true rfl) rfl dX0_fits_28 (by omega) (by omega) (qI.k ?_)
        refine j_if_neB C 37 dX0_fits_31 (by decide) (fun c31 => ?_) (fun c31 => ?_)
        · replace hb := hb (of_decide_eq_true c4) c31
          replace g0 := g0 (of_decide_eq_true c4)
          replace g1 := g1 (of_decide_eq_true c4)
          obtain ⟨u, rfl, -, hu⟩ := inB_n (by decide) c31 (by decide)
          refine j_aload_n C dX0_fits_37 rfl 0 rfl ?_
          refine j_iload_n C dX0_fits_38 rfl 1 rfl ?_
          refine j_iload_n C dX0_fits_39 rfl 2 rfl ?_
          refine j_iload_n C dX0_fits_40 rfl 3 rfl ?_
          refine j_iload C dX0_fits_41 4 rfl ?_
          refine j_iload C dX0_fits_43 5 rfl ?_
          refine j_new (w := w) C w.2 (fs := [.int (nI 0), .null]) (ty := tyX17) in_X17 tyX17_ok (ci := 16) (T := TX17) rfl q1150 q1151 q104 (by decide) (by omega) (by omega) dX0_fits_45 ?_
          refine j_dup C dX0_fits_48 rfl ?_
          refine j_aload_n C dX0_fits_49 rfl 0 rfl ?_
          refine j_iload C dX0_fits_50 6 rfl ?_
          refine j_callI (w := ((mu w.1 w.2 w.2 (.inr (16, [.int (nI 0), .null]))), w.2 + 1)) C (kX17_init G ((mu w.1 w.2 w.2 (.inr (16, [.int (nI 0), .null]))), w.2 + 1) w.2 w.2 x u mu_s) pV.ret 2 q1152 q1153 q104 q1154 rfl (by decide +kernel) rfl (by decide) (by decide) (Nat.le_of_ble_eq_true rfl) rfl dX0_fits_52 (by omega) (by omega) (qV.k ?_)
          refine J.eq (w' := ((mu w.1 w.2 w.2 (.inr (16, [.int (nI u), .ref x]))), w.2 + 1)) ?_ (congrArg (fun z => (z, w.2 + 1)) mu_mu) rfl rfl
          refine j_abs (P := fun w' => FA G w0 w' x O W ∧ w'.1 w.2 = some (w.2, .inr (16, [.int (nI u), .ref x])) ∧ w'.2 = w.2 + 1) ⟨hA.ext (fun b σ e hb => (mu_n (by have := hA.wf b σ e hb; omega)).trans hb) (by show w.2 ≤ w.2 + 1; omega) hA.wf.new, mu_s, rfl⟩ (fun w1 hw1 => ?_)
          obtain ⟨hA1, htb, hs1⟩ := hw1
          have hB := FA.rebase (O' := fun σ => O σ ∨ σ = w.2) hA1 (fun σ h => by rcases h with h | h; exact Or.inl h; exact Or.inr ⟨by omega, by have := hA.fresh (σ := σ) (by omega); exact this⟩)
          rcases (show u = 0 ∨ u = 1 by omega) with rfl | rfl
          · refine j_in (w := w1) C (iv_V C (ci := 0) (Tt := TX0) (hA1.d0 hv) rfl (Or.inl q1166) 6 q1163 q1165 qs27 (by decide +kernel) rfl rfl dX0_fits_55) (kX0_told_F0 G hG w1 w1 x (fun σ => O σ ∨ σ = w.2) V Z ⟨W, hB, hv⟩ hE r q m i j0 (by omega) (by omega) (by omega) w.2 (Or.inr rfl) htb ht h3 hwf P (fun z0 => (by have g := hb m r q rfl (by omega) (by omega) rfl (by omega) rfl (by omega); rw [barV_1 z0] at g; exact g (by decide))) (fun l1 m1 f1 z0 z1 => (by have g := hb m r q rfl (by omega) (by omega) rfl (by omega) rfl (by omega); rw [barV_2 z0 z1] at g; exact g (by decide))) (fun l1 m1 f1 z0 z1 z2 => (by have g := hb m r q rfl (by omega) (by omega) rfl (by omega) rfl (by omega); rw [barV_3 z0 z1 z2] at g; exact g (by decide))) (fun l1 m1 f1 l2 m2 f2 z0 z1 z2 z3 => (by have g := hb m r q rfl (by omega) (by omega) rfl (by omega) rfl (by omega); rw [barV_4 z0 z1 z2 z3] at g; exact g (by decide))) (fun l1 m1 f1 l2 m2 f2 a b z0 z1 z2 z3 z4 z5 => by subst z2; subst z5; have e1 := hrw r (by omega) z0; have e2 := hrw q (by omega) z3; exact g0 r q a b m rfl (by omega) rfl (by omega) rfl rfl rfl (by omega) (by omega) (by omega) (by omega) (barV_0 z0 (partB_t (by omega) z1) z3 (partB_t (by omega) z4)) rfl)) (Or.inl q1166) (by decide +kernel) (by decide) (by decide) (Nat.le_of_ble_eq_true rfl) (by omega) (by omega) (fun v w5 h5 => ?_) (fun a w5 h5 => ?_)
            · obtain ⟨r5, hr5, V5, Z5, ⟨W5, hA5, hv5⟩, hP5⟩ := h5
              cases hr5
              exact j_iret C (by omega) (by omega) (fC.mk ⟨W5, hA1.unbase hA5 (fun σ h => Or.inl h), hv5⟩ hP5) dX0_fits_58
            · obtain ⟨r5, hr5, _⟩ := h5
              cases hr5
          · refine j_in (w := w1) C (iv_V C (ci := 0) (Tt := TX0) (hA1.d0 hv) rfl (Or.inl q1166) 6 q1163 q1165 qs27 (by decide +kernel) rfl rfl dX0_fits_55) (kX0_told_F1 G hG w1 w1 x (fun σ => O σ ∨ σ = w.2) V Z ⟨W, hB, hv⟩ hE r q m i j0 (by omega) (by omega) (by omega) w.2 (Or.inr rfl) htb ht h3 hwf P (fun z0 => (by have g := hb m r q rfl (by omega) (by omega) rfl (by omega) rfl (by omega); rw [barV_1 z0] at g; exact g (by decide))) (fun l1 m1 f1 z0 z1 => (by have g := hb m r q rfl (by omega) (by omega) rfl (by omega) rfl (by omega); rw [barV_2 z0 z1] at g; exact g (by decide))) (fun l1 m1 f1 z0 z1 z2 => (by have g := hb m r q rfl (by omega) (by omega) rfl (by omega) rfl (by omega); rw [barV_3 z0 z1 z2] at g; exact g (by decide))) (fun l1 m1 f1 l2 m2 f2 z0 z1 z2 z3 => (by have g := hb m r q rfl (by omega) (by omega) rfl (by omega) rfl (by omega); rw [barV_4 z0 z1 z2 z3] at g; exact g (by decide))) (fun l1 m1 f1 l2 m2 f2 a b z0 z1 z2 z3 z4 z5 => by subst z2; subst z5; have e1 := hrw r (by omega) z0; have e2 := hrw q (by omega) z3; exact g1 r q a b m rfl (by omega) rfl (by omega) rfl rfl rfl (by omega) (by omega) (by omega) (by omega) (barV_0 z0 (partB_t (by omega) z1) z3 (partB_t (by omega) z4)) rfl)) (Or.inl q1166) (by decide +kernel) (by decide) (by decide) (Nat.le_of_ble_eq_true rfl) (by omega) (by omega) (fun v w5 h5 => ?_) (fun a w5 h5 => ?_)
            · obtain ⟨r5, hr5, V5, Z5, ⟨W5, hA5, hv5⟩, hP5⟩ := h5
              cases hr5
              exact j_iret C (by omega) (by omega) (fC.mk ⟨W5, hA1.unbase hA5 (fun σ h => Or.inl h), hv5⟩ hP5) dX0_fits_58
            · obtain ⟨r5, hr5, _⟩ := h5
              cases hr5
        · refine j_ldc C q391 dX0_fits_34 ?_
          exact j_iret C (by omega) (by omega) (fC.mk ⟨W, hA, hv⟩ (h1 (of_decide_eq_true c4) (Or.inr (Or.inr (Or.inr c31))))) dX0_fits_36
  · refine j_ldc C q899 dX0_fits_7 ?_
    exact j_iret C (by omega) (by omega) (fC.mk ⟨W, hA, hv⟩ (h0 (by have := of_decide_eq_false c4; omega))) dX0_fits_9
set_option maxHeartbeats 1000000 in
theorem kX0_fitsOf (G : gl_T) (hG : GH G) (w0 w : wd_T) (x : Nat) (O : Nat → Prop) (V : fv_T) (Z : fz_T) (hF : FX G w0 w x O V Z) (hE : GE G) (cn row i oth j0 n what : Int32) (ht : smT V.2.1) (h3 : V.2.1 3 ≤ 1000) (hwf : ∀ y, y < V.2.1 25 → V.2.1 (26 + 2 * y + 1) < V.2.1 6) (P : Int32 → fv_T → Prop) (h1 : inB cn (nI 0) (nI (V.2.1 6) - nI 1) = false ∨ inB row (nI 0) (nI 7) = false ∨ inB oth (nI 0) (nI 7) = false ∨ inB n (nI 1) (nI 8) = false ∨ inB what (nI 0) (nI 1) = false → P kBAD V) (hb : inB cn (nI 0) (nI (V.2.1 6) - nI 1) = true → inB what (nI 0) (nI 1) = true → ∀ m r q, n = nI m → 1 ≤ m → m ≤ 8 → row = nI r → r < 8 → oth = nI q → q < 8 → ¬ barV V.2.2.2.2.1 r i q j0 (nI m) = 0 → P ((-1000010) - nI (barV V.2.2.2.2.1 r i q j0 (nI m))) (vN V 3 (barV V.2.2.2.2.1 r i q j0 (nI m)))) (g0 : ∀ c r q a b m, cn = nI c → c < V.2.1 6 → row = nI r → r < 8 → oth = nI q → q < 8 → i = nI a → j0 = nI b → n = nI m → 1 ≤ m → m ≤ 8 → a ≤ 40 → b ≤ 40 → barV V.2.2.2.2.1 r (nI a) q (nI b) (nI m) = 0 → what = nI 0 → P (nI (alF (itV V.2.2.2.2.1) V.2.1 (7 + 3 * c) 1 (40 * r + a) (40 * q + b) m 5)) (vN V 3 0)) (g1 : ∀ c r q a b m, cn = nI c → c < V.2.1 6 → row = nI r → r < 8 → oth = nI q → q < 8 → i = nI a → j0 = nI b → n = nI m → 1 ≤ m → m ≤ 8 → a ≤ 40 → b ≤ 40 → barV V.2.2.2.2.1 r (nI a) q (nI b) (nI m) = 0 → what = nI 1 → P (nI (alF (itV V.2.2.2.2.1) V.2.1 (7 + 3 * c + 1) 0 (40 * r + a) (40 * q + b) m 10)) (vN V 3 0)) : Mt G yX0_fitsOf cX0_fitsOf 8 (some .int) 10 [.ref x, .int cn, .int row, .int i, .int oth, .int j0, .int n, .int what] w (fC G w0 x O P) 13 119 := by
  refine Mt.start (by decide) (Nat.le_of_ble_eq_true rfl) (fun k C => ?_)
  have C : Cx G k cX0_fitsOf "MoodFare" "fitsOf" 8 (some .int) 10 13 119 _ := C
  obtain ⟨W, hA, hv⟩ := id hF
  obtain ⟨r0, r1, r2, r3, r4, r5, r6, r7, r25, r26⟩ := id ht
  have hrw : ∀ {l m : Nat} {f : Nat → Int32} (j : Nat), j < 8 → V.2.2.2.2.1 j = some (l, m, f) → m ≤ 40 := by
    intro l m f j hj e
    rcases RW.full hA hv (k := j) hj with ⟨hr2, -⟩ | ⟨l2, m2, f2, b, hr2, -, -, -, hm40, -⟩
    · rw [e] at hr2; cases hr2
    · rw [e] at hr2; cases hr2; exact hm40
  refine j_aload_n C dX0_fitsOf_0 rfl 0 rfl ?_
  refine j_iload_n C dX0_fitsOf_1 rfl 1 rfl ?_
  refine j_callV (w := w) C (kX0_isCorner G hG w0 w x O V Z ⟨W, hA, hv⟩ cn) pI.ret (ci := 0) (T := TX0) (hA.d0 hv) rfl 1 q956 q958 qs20 q66 q959 (by decide +kernel) rfl (by decide) (by decide) (Nat.le_of_ble_eq_true rfl) rfl dX0_fitsOf_2 (by omega) (by omega) (qI.k ?_)
  refine j_if_eqB C 33 dX0_fitsOf_5 (by decide) (fun c5 => ?_) (fun c5 => ?_)
  · refine j_ldc C q391 dX0_fitsOf_33 ?_
    exact j_iret C (by omega) (by omega) (fC.mk ⟨W, hA, hv⟩ (h1 (Or.inl c5))) dX0_fitsOf_35
  · replace hb := hb c5
    obtain ⟨c, rfl, hc⟩ := inB_p (by omega) c5
    refine j_iload_n C dX0_fitsOf_8 rfl 2 rfl ?_
    refine j_iload C dX0_fitsOf_9 6 rfl ?_
    refine j_callS (w := w) C (kX0_isMany G w row n) pI.ret 2 q1147 q1148 q66 q1149 (by decide +kernel) rfl (by decide) (by decide) (Nat.le_of_ble_eq_true rfl) rfl dX0_fitsOf_11 (by omega) (by omega) (qI.k ?_)
    refine j_if_eqB C 33 dX0_fitsOf_14 (by decide) (fun c14 => ?_) (fun c14 => ?_)
    · refine j_ldc C q391 dX0_fitsOf_33 ?_
      exact j_iret C (by omega) (by omega) (fC.mk ⟨W, hA, hv⟩ (h1 ((by rcases Bool.and_eq_false_iff.mp c14 with z | z; exact Or.inr (Or.inl z); exact Or.inr (Or.inr (Or.inr (Or.inl z))))))) dX0_fitsOf_35
    · obtain ⟨cr, cn⟩ := Bool.and_eq_true_iff.mp c14
      obtain ⟨r, rfl, -, hr⟩ := inB_n (by decide) cr (by decide)
      obtain ⟨m, rfl, hm1, hm⟩ := inB_n (by decide) cn (by decide)
      refine j_iload C dX0_fitsOf_17 4 rfl ?_
      refine j_callS (w := w) C (kX0_isRow G w oth) pI.ret 1 q383 q384 q66 q385 (by decide +kernel) rfl (by decide) (by decide) (Nat.le_of_ble_eq_true rfl) rfl dX0_fitsOf_19 (by omega) (by omega) (qI.k ?_)
      refine j_if_eqB C 33 dX0_fitsOf_22 (by decide) (fun c22 => ?_) (fun c22 => ?_)
      · refine j_ldc C q391 dX0_fitsOf_33 ?_
        exact j_iret C (by omega) (by omega) (fC.mk ⟨W, hA, hv⟩ (h1 (Or.inr (Or.inr (Or.inl c22))))) dX0_fitsOf_35
      · obtain ⟨q, rfl, -, hq⟩ := inB_n (by decide) c22 (by decide)
        refine j_iload C dX0_fitsOf_25 7 rfl ?_
        refine j_callS (w := w) C (kX0_isHalf G w what) pI.ret 1 q974 q975 q66 q976 (by decide +kernel) rfl (by decide) (by decide) (Nat.le_of_ble_eq_true rfl) rfl dX0_fitsOf_27 (by omega) (by omega) (qI.k ?_)
        refine j_if_neB C 36 dX0_fitsOf_30 (by decide) (fun c30 => ?_) (fun c30 => ?_)
        · replace hb := hb c30
          obtain ⟨u, rfl, -, hu⟩ := inB_n (by decide) c30 (by decide)
          refine j_aload_n C dX0_fitsOf_36 rfl 0 rfl ?_
          refine j_iload_n C dX0_fitsOf_37 rfl 2 rfl ?_
          refine j_iload_n C dX0_fitsOf_38 rfl 3 rfl ?_
          refine j_iload C dX0_fitsOf_39 4 rfl ?_
          refine j_iload C dX0_fitsOf_41 5 rfl ?_
          refine j_iload C dX0_fitsOf_43 6 rfl ?_
          refine j_new (w := w) C w.2 (fs := [.int (nI 0), .int (nI 0), .null]) (ty := tyX18) in_X18 tyX18_ok (ci := 17) (T := TX18) rfl q1230 q1231 q105 (by decide) (by omega) (by omega) dX0_fitsOf_45 ?_
          refine j_dup C dX0_fitsOf_48 rfl ?_
          refine j_aload_n C dX0_fitsOf_49 rfl 0 rfl ?_
          refine j_iload_n C dX0_fitsOf_50 rfl 1 rfl ?_
          refine j_iload C dX0_fitsOf_51 7 rfl ?_
          refine j_callI (w := ((mu w.1 w.2 w.2 (.inr (17, [.int (nI 0), .int (nI 0), .null]))), w.2 + 1)) C (kX18_init G ((mu w.1 w.2 w.2 (.inr (17, [.int (nI 0), .int (nI 0), .null]))), w.2 + 1) w.2 w.2 x c u mu_s) pV.ret 3 q1232 q1233 q105 q1234 rfl (by decide +kernel) rfl (by decide) (by decide) (Nat.le_of_ble_eq_true rfl) rfl dX0_fitsOf_53 (by omega) (by omega) (qV.k ?_)
          refine J.eq (w' := ((mu w.1 w.2 w.2 (.inr (17, [.int (nI c), .int (nI u), .ref x]))), w.2 + 1)) ?_ (congrArg (fun z => (z, w.2 + 1)) mu_mu) rfl rfl
          refine j_abs (P := fun w' => FA G w0 w' x O W ∧ w'.1 w.2 = some (w.2, .inr (17, [.int (nI c), .int (nI u), .ref x])) ∧ w'.2 = w.2 + 1) ⟨hA.ext (fun b σ e hb => (mu_n (by have := hA.wf b σ e hb; omega)).trans hb) (by show w.2 ≤ w.2 + 1; omega) hA.wf.new, mu_s, rfl⟩ (fun w1 hw1 => ?_)
          obtain ⟨hA1, htb, hs1⟩ := hw1
          have hB := FA.rebase (O' := fun σ => O σ ∨ σ = w.2) hA1 (fun σ h => by rcases h with h | h; exact Or.inl h; exact Or.inr ⟨by omega, by have := hA.fresh (σ := σ) (by omega); exact this⟩)
          rcases (show u = 0 ∨ u = 1 by omega) with rfl | rfl
          · refine j_in (w := w1) C (iv_V C (ci := 0) (Tt := TX0) (hA1.d0 hv) rfl (Or.inl q1166) 6 q1163 q1165 qs27 (by decide +kernel) rfl rfl dX0_fitsOf_56) (kX0_told_O0 G hG w1 w1 x (fun σ => O σ ∨ σ = w.2) V Z ⟨W, hB, hv⟩ hE r q m i j0 (by omega) (by omega) (by omega) w.2 c hc (Or.inr rfl) htb ht h3 hwf P (fun z0 => (by have g := hb m r q rfl (by omega) (by omega) rfl (by omega) rfl (by omega); rw [barV_1 z0] at g; exact g (by decide))) (fun l1 m1 f1 z0 z1 => (by have g := hb m r q rfl (by omega) (by omega) rfl (by omega) rfl (by omega); rw [barV_2 z0 z1] at g; exact g (by decide))) (fun l1 m1 f1 z0 z1 z2 => (by have g := hb m r q rfl (by omega) (by omega) rfl (by omega) rfl (by omega); rw [barV_3 z0 z1 z2] at g; exact g (by decide))) (fun l1 m1 f1 l2 m2 f2 z0 z1 z2 z3 => (by have g := hb m r q rfl (by omega) (by omega) rfl (by omega) rfl (by omega); rw [barV_4 z0 z1 z2 z3] at g; exact g (by decide))) (fun l1 m1 f1 l2 m2 f2 a b z0 z1 z2 z3 z4 z5 => by subst z2; subst z5; have e1 := hrw r (by omega) z0; have e2 := hrw q (by omega) z3; exact g0 c r q a b m rfl hc rfl (by omega) rfl (by omega) rfl rfl rfl (by omega) (by omega) (by omega) (by omega) (barV_0 z0 (partB_t (by omega) z1) z3 (partB_t (by omega) z4)) rfl)) (Or.inl q1166) (by decide +kernel) (by decide) (by decide) (Nat.le_of_ble_eq_true rfl) (by omega) (by omega) (fun v w5 h5 => ?_) (fun a w5 h5 => ?_)
            · obtain ⟨r5, hr5, V5, Z5, ⟨W5, hA5, hv5⟩, hP5⟩ := h5
              cases hr5
              exact j_iret C (by omega) (by omega) (fC.mk ⟨W5, hA1.unbase hA5 (fun σ h => Or.inl h), hv5⟩ hP5) dX0_fitsOf_59
            · obtain ⟨r5, hr5, _⟩ := h5
              cases hr5
          · refine j_in (w := w1) C (iv_V C (ci := 0) (Tt := TX0) (hA1.d0 hv) rfl (Or.inl q1166) 6 q1163 q1165 qs27 (by decide +kernel) rfl rfl dX0_fitsOf_56) (kX0_told_O1 G hG w1 w1 x (fun σ => O σ ∨ σ = w.2) V Z ⟨W, hB, hv⟩ hE r q m i j0 (by omega) (by omega) (by omega) w.2 c hc (Or.inr rfl) htb ht h3 hwf P (fun z0 => (by have g := hb m r q rfl (by omega) (by omega) rfl (by omega) rfl (by omega); rw [barV_1 z0] at g; exact g (by decide))) (fun l1 m1 f1 z0 z1 => (by have g := hb m r q rfl (by omega) (by omega) rfl (by omega) rfl (by omega); rw [barV_2 z0 z1] at g; exact g (by decide))) (fun l1 m1 f1 z0 z1 z2 => (by have g := hb m r q rfl (by omega) (by omega) rfl (by omega) rfl (by omega); rw [barV_3 z0 z1 z2] at g; exact g (by decide))) (fun l1 m1 f1 l2 m2 f2 z0 z1 z2 z3 => (by have g := hb m r q rfl (by omega) (by omega) rfl (by omega) rfl (by omega); rw [barV_4 z0 z1 z2 z3] at g; exact g (by decide))) (fun l1 m1 f1 l2 m2 f2 a b z0 z1 z2 z3 z4 z5 => by subst z2; subst z5; have e1 := hrw r (by omega) z0; have e2 := hrw q (by omega) z3; exact g1 c r q a b m rfl hc rfl (by omega) rfl (by omega) rfl rfl rfl (by omega) (by omega) (by omega) (by omega) (barV_0 z0 (partB_t (by omega) z1) z3 (partB_t (by omega) z4)) rfl)) (Or.inl q1166) (by decide +kernel) (by decide) (by decide) (Nat.le_of_ble_eq_true rfl) (by omega) (by omega) (fun v w5 h5 => ?_) (fun a w5 h5 => ?_)
            · obtain ⟨r5, hr5, V5, Z5, ⟨W5, hA5, hv5⟩, hP5⟩ := h5
              cases hr5
              exact j_iret C (by omega) (by omega) (fC.mk ⟨W5, hA1.unbase hA5 (fun σ h => Or.inl h), hv5⟩ hP5) dX0_fitsOf_59
            · obtain ⟨r5, hr5, _⟩ := h5
              cases hr5
        · refine j_ldc C q391 dX0_fitsOf_33 ?_
          exact j_iret C (by omega) (by omega) (fC.mk ⟨W, hA, hv⟩ (h1 (Or.inr (Or.inr (Or.inr (Or.inr c30)))))) dX0_fitsOf_35
set_option maxHeartbeats 1000000 in
theorem kX0_share (G : gl_T) (hG : GH G) (w0 w : wd_T) (x : Nat) (O : Nat → Prop) (V : fv_T) (Z : fz_T) (hF : FX G w0 w x O V Z) (hE : GE G) (row i n kk : Int32) (ht : smT V.2.1) (h3 : V.2.1 3 ≤ 1000) (hwf : ∀ y, y < V.2.1 25 → V.2.1 (26 + 2 * y + 1) < V.2.1 6) (P : Int32 → fv_T → Prop) (h0 : V.2.1 0 = 0 → P kSTATE V) (h1 : 0 < V.2.1 0 → inB row (nI 0) (nI 7) = false ∨ inB n (nI 1) (nI 8) = false ∨ inB kk (nI 0) (n - nI 1) = false → P kBAD V) (h2 : 0 < V.2.1 0 → ∀ r c m, row = nI r → r < 8 → n = nI m → kk = nI c → 1 ≤ m → m ≤ 8 → c < m → V.2.2.2.2.1 r = none → P ((-1000010) - nI 1) (vN V 3 1)) (h4 : 0 < V.2.1 0 → ∀ r c m l1 m1 f1, row = nI r → r < 8 → n = nI m → kk = nI c → 1 ≤ m → m ≤ 8 → c < m → V.2.2.2.2.1 r = some (l1, m1, f1) → partB m1 i (nI m) = false → P ((-1000010) - nI 2) (vN V 3 2)) (h5 : 0 < V.2.1 0 → ∀ r a c m l1 m1 f1, row = nI r → r < 8 → i = nI a → n = nI m → kk = nI c → 1 ≤ m → m ≤ 8 → c < m → V.2.2.2.2.1 r = some (l1, m1, f1) → a + m ≤ m1 → P (if shB (itV V.2.2.2.2.1) V.2.1 (40 * r + a) m then nI (shA (itV V.2.2.2.2.1) V.2.1 (40 * r + a) c m) else kNONE) (vN V 3 0)) : Mt G yX0_share cX0_share 5 (some .int) 10 [.ref x, .int row, .int i, .int n, .int kk] w (fC G w0 x O P) 13 118 := by
  refine Mt.start (by decide) (Nat.le_of_ble_eq_true rfl) (fun k C => ?_)
  have C : Cx G k cX0_share "MoodFare" "share" 5 (some .int) 10 13 118 _ := C
  obtain ⟨W, hA, hv⟩ := id hF
  obtain ⟨r0, r1, r2, r3, r4, r5, r6, r7, r25, r26⟩ := id ht
  have hrw : ∀ {l m : Nat} {f : Nat → Int32} (j : Nat), j < 8 → V.2.2.2.2.1 j = some (l, m, f) → m ≤ 40 := by
    intro l m f j hj e
    rcases RW.full hA hv (k := j) hj with ⟨hr2, -⟩ | ⟨l2, m2, f2, b, hr2, -, -, -, hm40, -⟩
    · rw [e] at hr2; cases hr2
    · rw [e] at hr2; cases hr2; exact hm40
  refine j_aload_n C dX0_share_0 rfl 0 rfl ?_
  refine j_callV (w := w) C (kX0_isThere G hG w0 w x O V Z ⟨W, hA, hv⟩ ht) pI.ret (ci := 0) (T := TX0) (hA.d0 hv) rfl 0 q966 q968 qs21 q66 q969 (by decide +kernel) rfl (by decide) (by decide) (Nat.le_of_ble_eq_true rfl) rfl dX0_share_1 (by omega) (by omega) (qI.k ?_)
  refine j_if_neB C 10 dX0_share_4 (by decide) (fun c4 => ?_) (fun c4 => ?_)
  · refine j_iload_n C dX0_share_10 rfl 1 rfl ?_
    refine j_iload_n C dX0_share_11 rfl 3 rfl ?_
    refine j_callS (w := w) C (kX0_isMany G w row n) pI.ret 2 q1147 q1148 q66 q1149 (by decide +kernel) rfl (by decide) (by decide) (Nat.le_of_ble_eq_true rfl) rfl dX0_share_12 (by omega) (by omega) (qI.k ?_)
    refine j_if_eqB C 32 dX0_share_15 (by decide) (fun c15 => ?_) (fun c15 => ?_)
    · refine j_ldc C q391 dX0_share_32 ?_
      exact j_iret C (by omega) (by omega) (fC.mk ⟨W, hA, hv⟩ (h1 (of_decide_eq_true c4) ((by rcases Bool.and_eq_false_iff.mp c15 with z | z; exact Or.inl z; exact Or.inr (Or.inl z))))) dX0_share_34
    · obtain ⟨cr, cn⟩ := Bool.and_eq_true_iff.mp c15
      obtain ⟨r, rfl, -, hr⟩ := inB_n (by decide) cr (by decide)
      obtain ⟨m, rfl, hm1, hm⟩ := inB_n (by decide) cn (by decide)
      refine j_iload C dX0_share_18 4 rfl ?_
      refine j_i2l C dX0_share_20 ?_
      refine j_lconst (v := (nI 0).toInt64) C dX0_share_21 (by decide +kernel) ?_
      refine j_iload_n C dX0_share_22 rfl 3 rfl ?_
      refine j_iconst (v := nI 1) C dX0_share_23 rfl ?_
      refine j_isub C dX0_share_24 ?_
      refine j_i2l C dX0_share_25 ?_
      refine j_callS (w := w) C (kX0_isIn G w kk ((nI 0)) ((nI m - nI 1))) pI.ret 3 q387 q388 q66 q389 (by decide +kernel) rfl (by decide) (by decide) (Nat.le_of_ble_eq_true rfl) rfl dX0_share_26 (by omega) (by omega) (qI.k ?_)
      refine j_if_neB C 35 dX0_share_29 (by decide) (fun c29 => ?_) (fun c29 => ?_)
      · replace h2 := h2 (of_decide_eq_true c4)
        replace h4 := h4 (of_decide_eq_true c4)
        replace h5 := h5 (of_decide_eq_true c4)
        obtain ⟨c, rfl, hc⟩ := inB_p (by omega) c29
        refine j_aload_n C dX0_share_35 rfl 0 rfl ?_
        refine j_iload_n C dX0_share_36 rfl 1 rfl ?_
        refine j_iload_n C dX0_share_37 rfl 2 rfl ?_
        refine j_iload_n C dX0_share_38 rfl 1 rfl ?_
        refine j_iload_n C dX0_share_39 rfl 2 rfl ?_
        refine j_iload_n C dX0_share_40 rfl 3 rfl ?_
        refine j_new (w := w) C w.2 (fs := [.int (nI 0), .null]) (ty := tyX19) in_X19 tyX19_ok (ci := 18) (T := TX19) rfl q1250 q1251 q106 (by decide) (by omega) (by omega) dX0_share_41 ?_
        refine j_dup C dX0_share_44 rfl ?_
        refine j_aload_n C dX0_share_45 rfl 0 rfl ?_
        refine j_iload C dX0_share_46 4 rfl ?_
        refine j_callI (w := ((mu w.1 w.2 w.2 (.inr (18, [.int (nI 0), .null]))), w.2 + 1)) C (kX19_init G ((mu w.1 w.2 w.2 (.inr (18, [.int (nI 0), .null]))), w.2 + 1) w.2 w.2 x c mu_s) pV.ret 2 q1252 q1253 q106 q1254 rfl (by decide +kernel) rfl (by decide) (by decide) (Nat.le_of_ble_eq_true rfl) rfl dX0_share_48 (by omega) (by omega) (qV.k ?_)
        refine J.eq (w' := ((mu w.1 w.2 w.2 (.inr (18, [.int (nI c), .ref x]))), w.2 + 1)) ?_ (congrArg (fun z => (z, w.2 + 1)) mu_mu) rfl rfl
        refine j_abs (P := fun w' => FA G w0 w' x O W ∧ w'.1 w.2 = some (w.2, .inr (18, [.int (nI c), .ref x])) ∧ w'.2 = w.2 + 1) ⟨hA.ext (fun b σ e hb => (mu_n (by have := hA.wf b σ e hb; omega)).trans hb) (by show w.2 ≤ w.2 + 1; omega) hA.wf.new, mu_s, rfl⟩ (fun w1 hw1 => ?_)
        obtain ⟨hA1, htb, hs1⟩ := hw1
        have hB := FA.rebase (O' := fun σ => O σ ∨ σ = w.2) hA1 (fun σ h => by rcases h with h | h; exact Or.inl h; exact Or.inr ⟨by omega, by have := hA.fresh (σ := σ) (by omega); exact this⟩)
        refine j_in (w := w1) C (iv_V C (ci := 0) (Tt := TX0) (hA1.d0 hv) rfl (Or.inl q1166) 6 q1163 q1165 qs27 (by decide +kernel) rfl rfl dX0_share_51) (kX0_told_S G hG w1 w1 x (fun σ => O σ ∨ σ = w.2) V Z ⟨W, hB, hv⟩ hE r r m i i (by omega) (by omega) (by omega) w.2 c (by omega) (Or.inr rfl) htb ht h3 hwf P (fun z0 => h2 r c m rfl (by omega) rfl rfl (by omega) (by omega) (by omega) z0) (fun l1 m1 f1 z0 z1 => h4 r c m l1 m1 f1 rfl (by omega) rfl rfl (by omega) (by omega) (by omega) z0 z1) (fun l1 m1 f1 z0 z1 z2 => by rw [z0] at z2; cases z2) (fun l1 m1 f1 l2 m2 f2 z0 z1 z2 z3 => by rw [z0] at z2; cases z2; rw [z1] at z3; cases z3) (fun l1 m1 f1 l2 m2 f2 a b z0 z1 z2 z3 z4 z5 => by subst z2; have e1 := hrw r (by omega) z0; have e2 := hrw r (by omega) z3; obtain rfl : a = b := (nI_eq (by omega) (by omega)).mp z5; exact h5 r a c m l1 m1 f1 rfl (by omega) rfl rfl rfl (by omega) (by omega) (by omega) z0 z1)) (Or.inl q1166) (by decide +kernel) (by decide) (by decide) (Nat.le_of_ble_eq_true rfl) (by omega) (by omega) (fun v w5 h5 => ?_) (fun a w5 h5 => ?_)
        · obtain ⟨r5, hr5, V5, Z5, ⟨W5, hA5, hv5⟩, hP5⟩ := h5
          cases hr5
          exact j_iret C (by omega) (by omega) (fC.mk ⟨W5, hA1.unbase hA5 (fun σ h => Or.inl h), hv5⟩ hP5) dX0_share_54
        · obtain ⟨r5, hr5, _⟩ := h5
          cases hr5
      · refine j_ldc C q391 dX0_share_32 ?_
        exact j_iret C (by omega) (by omega) (fC.mk ⟨W, hA, hv⟩ (h1 (of_decide_eq_true c4) (Or.inr (Or.inr c29)))) dX0_share_34
  · refine j_ldc C q899 dX0_share_7 ?_
    exact j_iret C (by omega) (by omega) (fC.mk ⟨W, hA, hv⟩ (h0 (by have := of_decide_eq_false c4; omega))) dX0_share_9
