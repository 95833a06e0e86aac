/-! ===== the reference: fits, shares ===== -/
set_option maxRecDepth 100000
set_option maxHeartbeats 2000000 in
theorem mX4_all (G : gl_T) (M : Nat → Option (Nat × va_E)) (sz o : Nat) (S : ms_T) (pl lo hi p f n : Nat) (h3 : S.2.2.2 6 3 ≤ 999) (hp3 : pl ≠ 3) (hpl : pl < 42) (hlo : lo ≤ hi) (hhi : hi ≤ 9) (hn : n ≤ 8) (hpn : p + n ≤ 320) (hfn : f + n ≤ 320) (hs : ∀ v, lo ≤ v → v ≤ hi → smT (uN (S.2.2.2 6) pl v)) : Mt G yX4_all cX4_all 9 (some .int) 4 [.ref o, .int (nI pl), .int (nI lo), .int (nI hi), .int (nI p), .int (nI f), .int (nI n)] (mset G M o S, sz) (qI (nI (alF (S.2.2.1 3) (S.2.2.2 6) pl lo p f n (hi + 1 - lo))) (mset G M o (sN (sB S 8 (alT (S.2.2.1 3) (S.2.2.2 6) (S.2.2.2 8) pl lo p f n (hi + 1 - lo))) 4 0), sz)) 0 0 := by
  refine Mt.start (by decide) (Nat.le_of_ble_eq_true rfl) (fun k C => ?_)
  have C : Cx G k cX4_all "MoodFareModel" "all" 9 (some .int) 4 0 0 _ := C
  refine j_iconst (v := nI 0) C dX4_all_0 rfl ?_
  refine j_istore (lv' := [(7, .int (nI 0)), (0, .ref o), (1, .int (nI pl)), (2, .int (nI lo)), (3, .int (nI hi)), (4, .int (nI p)), (5, .int (nI f)), (6, .int (nI n))]) C dX4_all_1 (by decide) rfl ?_
  refine j_iload_n C dX4_all_3 rfl 3 rfl ?_
  refine j_istore (lv' := [(8, .int (nI lo)), (7, .int (nI 0)), (0, .ref o), (1, .int (nI pl)), (2, .int (nI lo)), (3, .int (nI hi)), (4, .int (nI p)), (5, .int (nI f)), (6, .int (nI n))]) C dX4_all_4 (by decide) rfl ?_
  have lp : ∀ (n_lp e : Nat), lo ≤ e → e ≤ hi + 1 → hi + 1 < e + n_lp → J G k (mset G M o (sB S 8 (alT (S.2.2.1 3) (S.2.2.2 6) (S.2.2.2 8) pl lo p f n (e - lo))), sz) [(8, .int (nI e)), (7, .int (nI (alF (S.2.2.1 3) (S.2.2.2 6) pl lo p f n (e - lo)))), (0, .ref o), (1, .int (nI pl)), (2, .int (nI lo)), (3, .int (nI hi)), (4, .int (nI p)), (5, .int (nI f)), (6, .int (nI n))] 6 [] 0 0 := by
    intro n_lp
    induction n_lp with
    | zero => intro e h0_lp h1_lp h2_lp; omega
    | succ n_lp ih_lp =>
      intro e h0_lp h1_lp h2_lp
      refine j_iload C dX4_all_6 0 rfl ?_
      refine j_iload_n C dX4_all_8 rfl 5 rfl ?_
      refine j_icmp_gtN C 65 dX4_all_9 (by decide) (by omega) (by omega) (fun c9 => ?_) (fun c9 => ?_)
      · obtain rfl : hi + 1 = e := by omega
        refine j_aload_n C dX4_all_65 rfl 2 rfl ?_
        refine j_iload C dX4_all_66 1 rfl ?_
        refine j_callV C (mX4_well G M sz o (sB S 8 (alT (S.2.2.1 3) (S.2.2.2 6) (S.2.2.2 8) pl lo p f n ((hi + 1) - lo))) (nI (alF (S.2.2.1 3) (S.2.2.2 6) pl lo p f n ((hi + 1) - lo)))) pI.ret mset_o rfl 1 q1588 q1590 qs31 q73 q1591 (by decide +kernel) rfl (by decide) (by decide) (Nat.le_of_ble_eq_true rfl) rfl dX4_all_68 (by omega) (by omega) (qI.k ?_)
        refine j_as (y := nI (alF (S.2.2.1 3) (S.2.2.2 6) pl lo p f n ((hi + 1) - lo))) rfl ?_
        exact j_iret C (by omega) (by omega) (pI.mk ⟨rfl, rfl⟩) dX4_all_71
      · refine j_aload_n C dX4_all_12 rfl 2 rfl ?_
        refine mg13 C q1487 dX4_all_13 ?_
        refine j_iconst (v := nI 0) C dX4_all_16 rfl ?_
        refine j_aload_n C dX4_all_17 rfl 2 rfl ?_
        refine mg15 C q1489 dX4_all_18 ?_
        refine j_iconst (v := nI 0) C dX4_all_21 rfl ?_
        refine j_callS C (mX4_copies G (mset G M o (sB S 8 (alT (S.2.2.1 3) (S.2.2.2 6) (S.2.2.2 8) pl lo p f n (e - lo))), sz) (o + 6) o (o + 8) o 42 42 0 0 (S.2.2.2 6) (alT (S.2.2.1 3) (S.2.2.2 6) (S.2.2.2 8) pl lo p f n (e - lo)) (mset_a 6 (by decide) (by decide)) (mset_a 8 (by decide) (by decide)) (by omega) (by omega) (by omega) (by decide) (by decide)) pV.ret 4 q1668 q1669 q73 q1670 (by decide +kernel) rfl (by decide) (by decide) (Nat.le_of_ble_eq_true rfl) rfl dX4_all_22 (by omega) (by omega) (qV.k ?_)
        refine J.eq (w' := (mset G M o (sB (sB S 8 (alT (S.2.2.1 3) (S.2.2.2 6) (S.2.2.2 8) pl lo p f n (e - lo))) 8 (va_cpy (S.2.2.2 6) (alT (S.2.2.1 3) (S.2.2.2 6) (S.2.2.2 8) pl lo p f n (e - lo)) 0 0 42)), sz)) ?_ (congrArg (fun z => (z, sz)) (mset_ua 8 (by decide) (by decide) (mfs_B _ _ _ _) rfl (mcon_B _ _ _))) rfl rfl
        refine j_cgB 8 (g' := S.2.2.2 6) (by decide) (by decide) (fun i hi => by rw [pk_cpy_in (by omega) (by exact hi)]; simp) ?_
        refine j_aload_n C dX4_all_25 rfl 2 rfl ?_
        refine mg15 C q1489 dX4_all_26 ?_
        refine j_iload_n C dX4_all_29 rfl 3 rfl ?_
        refine j_iload C dX4_all_30 0 rfl ?_
        refine mt8 C (pl) rfl (by omega) dX4_all_32 ?_
        refine j_iload C dX4_all_33 1 rfl ?_
        refine j_aload_n C dX4_all_35 rfl 2 rfl ?_
        refine j_iload C dX4_all_36 6 rfl ?_
        refine j_iload C dX4_all_38 7 rfl ?_
        refine j_iload C dX4_all_40 8 rfl ?_
        refine j_callV C (mX4_goesSo G M sz o (sB (sB (sB S 8 (alT (S.2.2.1 3) (S.2.2.2 6) (S.2.2.2 8) pl lo p f n (e - lo))) 8 (S.2.2.2 6)) 8 (uN (S.2.2.2 6) pl e)) p f n (hs e (by omega) (by omega)) (by show uN (S.2.2.2 6) pl e 3 + n ≤ 1100; rw [uN_n (Ne.symm hp3)]; omega) hpn hfn) pI.ret mset_o rfl 3 q1799 q1801 qs57 q73 q1802 (by decide +kernel) rfl (by decide) (by decide) (Nat.le_of_ble_eq_true rfl) rfl dX4_all_42 (by omega) (by omega) (qI.k ?_)
        refine J.eq (w' := (mset G M o (sB S 8 (gsF (S.2.2.1 3) (uN (S.2.2.2 6) pl e) p f n).2), sz)) ?_ (congrArg (fun z => (mset G M o z, sz)) (by rw [sB_sB, sB_sB, sB_sB]; rfl)) rfl rfl
        refine j_as (y := bZ ((gsF (S.2.2.1 3) (uN (S.2.2.2 6) pl e) p f n).1)) rfl ?_
        refine j_if_eqB C 55 dX4_all_45 (by decide) (fun c45 => ?_) (fun c45 => ?_)
        · refine j_iconst (v := nI 0) C dX4_all_55 rfl ?_
          refine j_iorN C dX4_all_56 ?_
          refine j_istore (lv' := [(7, .int (nI ((alF (S.2.2.1 3) (S.2.2.2 6) pl lo p f n (e - lo)) ||| 0))), (8, .int (nI e)), (0, .ref o), (1, .int (nI pl)), (2, .int (nI lo)), (3, .int (nI hi)), (4, .int (nI p)), (5, .int (nI f)), (6, .int (nI n))]) C dX4_all_57 (by decide) rfl ?_
          refine j_iincN (lv' := [(8, .int (nI (e + 1))), (7, .int (nI ((alF (S.2.2.1 3) (S.2.2.2 6) pl lo p f n (e - lo)) ||| 0))), (0, .ref o), (1, .int (nI pl)), (2, .int (nI lo)), (3, .int (nI hi)), (4, .int (nI p)), (5, .int (nI f)), (6, .int (nI n))]) C dX4_all_59 1 rfl (by decide) rfl ?_
          refine j_goto C 6 dX4_all_62 (by decide) ?_
          refine j_lv [0, 1, 2, 3, 4, 5, 6, 7, 8] (lv' := [(8, .int (nI (e + 1))), (7, .int (nI ((alF (S.2.2.1 3) (S.2.2.2 6) pl lo p f n (e - lo)) ||| 0))), (0, .ref o), (1, .int (nI pl)), (2, .int (nI lo)), (3, .int (nI hi)), (4, .int (nI p)), (5, .int (nI f)), (6, .int (nI n))]) rfl ?_
          refine j_lvN (lv' := [(8, .int (nI (e + 1))), (7, .int (nI (alF (S.2.2.1 3) (S.2.2.2 6) pl lo p f n (e + 1 - lo)))), (0, .ref o), (1, .int (nI pl)), (2, .int (nI lo)), (3, .int (nI hi)), (4, .int (nI p)), (5, .int (nI f)), (6, .int (nI n))]) 1 rfl (by rw [alF_s (by omega)]; simp [c45]) rfl ?_
          refine J.eq (w' := (mset G M o (sB S 8 (alT (S.2.2.1 3) (S.2.2.2 6) (S.2.2.2 8) pl lo p f n (e + 1 - lo))), sz)) ?_ (by rw [alT_s (by omega)]) rfl rfl
          exact ih_lp (e + 1) (by omega) (by omega) (by omega)
        · refine j_iconst (v := nI 1) C dX4_all_48 rfl ?_
          refine j_iload C dX4_all_49 0 rfl ?_
          refine j_shl1 C dX4_all_51 (by omega) ?_
          refine j_goto C 56 dX4_all_52 (by decide) ?_
          refine j_iorN C dX4_all_56 ?_
          refine j_istore (lv' := [(7, .int (nI ((alF (S.2.2.1 3) (S.2.2.2 6) pl lo p f n (e - lo)) ||| (2 ^ e)))), (8, .int (nI e)), (0, .ref o), (1, .int (nI pl)), (2, .int (nI lo)), (3, .int (nI hi)), (4, .int (nI p)), (5, .int (nI f)), (6, .int (nI n))]) C dX4_all_57 (by decide) rfl ?_
          refine j_iincN (lv' := [(8, .int (nI (e + 1))), (7, .int (nI ((alF (S.2.2.1 3) (S.2.2.2 6) pl lo p f n (e - lo)) ||| (2 ^ e)))), (0, .ref o), (1, .int (nI pl)), (2, .int (nI lo)), (3, .int (nI hi)), (4, .int (nI p)), (5, .int (nI f)), (6, .int (nI n))]) C dX4_all_59 1 rfl (by decide) rfl ?_
          refine j_goto C 6 dX4_all_62 (by decide) ?_
          refine j_lv [0, 1, 2, 3, 4, 5, 6, 7, 8] (lv' := [(8, .int (nI (e + 1))), (7, .int (nI ((alF (S.2.2.1 3) (S.2.2.2 6) pl lo p f n (e - lo)) ||| (2 ^ e)))), (0, .ref o), (1, .int (nI pl)), (2, .int (nI lo)), (3, .int (nI hi)), (4, .int (nI p)), (5, .int (nI f)), (6, .int (nI n))]) rfl ?_
          refine j_lvN (lv' := [(8, .int (nI (e + 1))), (7, .int (nI (alF (S.2.2.1 3) (S.2.2.2 6) pl lo p f n (e + 1 - lo)))), (0, .ref o), (1, .int (nI pl)), (2, .int (nI lo)), (3, .int (nI hi)), (4, .int (nI p)), (5, .int (nI f)), (6, .int (nI n))]) 1 rfl (by rw [alF_s (by omega)]; simp [c45]) rfl ?_
          refine J.eq (w' := (mset G M o (sB S 8 (alT (S.2.2.1 3) (S.2.2.2 6) (S.2.2.2 8) pl lo p f n (e + 1 - lo))), sz)) ?_ (by rw [alT_s (by omega)]) rfl rfl
          exact ih_lp (e + 1) (by omega) (by omega) (by omega)
  refine j_lv [0, 1, 2, 3, 4, 5, 6, 7, 8] (lv' := [(8, .int (nI lo)), (7, .int (nI 0)), (0, .ref o), (1, .int (nI pl)), (2, .int (nI lo)), (3, .int (nI hi)), (4, .int (nI p)), (5, .int (nI f)), (6, .int (nI n))]) rfl ?_
  refine j_lvN (lv' := [(8, .int (nI lo)), (7, .int (nI (alF (S.2.2.1 3) (S.2.2.2 6) pl lo p f n (lo - lo)))), (0, .ref o), (1, .int (nI pl)), (2, .int (nI lo)), (3, .int (nI hi)), (4, .int (nI p)), (5, .int (nI f)), (6, .int (nI n))]) 1 rfl (by rw [Nat.sub_self]; rfl) rfl ?_
  refine J.eq (w' := (mset G M o (sB S 8 (alT (S.2.2.1 3) (S.2.2.2 6) (S.2.2.2 8) pl lo p f n (lo - lo))), sz)) ?_ (by rw [Nat.sub_self]; exact congrArg (fun z => (mset G M o z, sz)) (sB_self S 8).symm) rfl rfl
  exact lp (hi + 1 + 1 - lo) (lo) (by omega) (by omega) (by omega)
set_option maxHeartbeats 2000000 in
theorem mX4_fits (G : gl_T) (M : Nat → Option (Nat × va_E)) (sz o : Nat) (S : ms_T) (row i oth j0 n what : Int32) (ht : smT (S.2.2.2 6)) (h3 : S.2.2.2 6 3 ≤ 999) (hM : ∀ j, j < 8 → S.2.2.2 2 j ≤ 40) (P : Int32 → ms_T → Prop) (h0 : S.2.2.2 6 0 = 0 → P kSTATE S) (h1 : 0 < S.2.2.2 6 0 → inB row (nI 0) (nI 7) = false ∨ inB oth (nI 0) (nI 7) = false ∨ inB n (nI 1) (nI 8) = false ∨ inB what (nI 0) (nI 1) = false → P kBAD S) (hb : 0 < S.2.2.2 6 0 → inB what (nI 0) (nI 1) = true → ∀ m r q, n = nI m → 1 ≤ m → row = nI r → r < 8 → oth = nI q → q < 8 → m ≤ 8 → ¬ barN S r i q j0 (nI m) = 0 → P ((-1000010) - nI (barN S r i q j0 (nI m))) (sN S 4 (barN S r i q j0 (nI m)))) (g0 : 0 < S.2.2.2 6 0 → ∀ r q a b m, row = nI r → r < 8 → oth = nI q → q < 8 → i = nI a → j0 = nI b → n = nI m → 1 ≤ m → m ≤ 8 → a + m ≤ S.2.2.2 2 r → b + m ≤ S.2.2.2 2 q → barN S r (nI a) q (nI b) (nI m) = 0 → what = nI 0 → ∀ t8, P (nI (alF (S.2.2.1 3) (S.2.2.2 6) 1 0 (40 * r + a) (40 * q + b) m 10)) (sN (sB S 8 t8) 4 0)) (g1 : 0 < S.2.2.2 6 0 → ∀ r q a b m, row = nI r → r < 8 → oth = nI q → q < 8 → i = nI a → j0 = nI b → n = nI m → 1 ≤ m → m ≤ 8 → a + m ≤ S.2.2.2 2 r → b + m ≤ S.2.2.2 2 q → barN S r (nI a) q (nI b) (nI m) = 0 → what = nI 1 → ∀ t8, P (nI (alF (S.2.2.1 3) (S.2.2.2 6) 0 1 (40 * r + a) (40 * q + b) m 9)) (sN (sB S 8 t8) 4 0)) : Mt G yX4_fits cX4_fits 8 (some .int) 5 [.ref o, .int row, .int i, .int oth, .int j0, .int n, .int what] (mset G M o S, sz) (pM G M o sz P) 0 0 := by
  refine Mt.start (by decide) (Nat.le_of_ble_eq_true rfl) (fun k C => ?_)
  have C : Cx G k cX4_fits "MoodFareModel" "fits" 8 (some .int) 5 0 0 _ := C
  have ht0 := ht
  obtain ⟨r0, r1, r2, r3, r4, r5, r6, r7, r25, r26⟩ := ht
  refine j_aload_n C dX4_fits_0 rfl 0 rfl ?_
  refine j_callV C (mX4_isTown G M sz o S (by first | omega | assumption | (intro x hx; have := r26 x hx; omega))) pI.ret mset_o rfl 0 q1715 q1717 qs47 q73 q1718 (by decide +kernel) rfl (by decide) (by decide) (Nat.le_of_ble_eq_true rfl) rfl dX4_fits_1 (by omega) (by omega) (qI.k ?_)
  refine j_if_neB C 10 dX4_fits_4 (by decide) (fun c4 => ?_) (fun c4 => ?_)
  · refine j_iload_n C dX4_fits_10 rfl 1 rfl ?_
    refine j_callS C (mX4_isRow G (mset G M o S, sz) row) pI.ret 1 q1576 q1577 q73 q1578 (by decide +kernel) rfl (by decide) (by decide) (Nat.le_of_ble_eq_true rfl) rfl dX4_fits_11 (by omega) (by omega) (qI.k ?_)
    refine j_if_eqB C 45 dX4_fits_14 (by decide) (fun c14 => ?_) (fun c14 => ?_)
    · refine j_ldc C q1582 dX4_fits_45 ?_
      exact j_iret C (by omega) (by omega) (pM.mk (h1 (of_decide_eq_true c4) (Or.inl c14))) dX4_fits_47
    · obtain ⟨r, rfl, -, hr⟩ := inB_n (by decide) c14 (by decide)
      refine j_iload_n C dX4_fits_17 rfl 3 rfl ?_
      refine j_callS C (mX4_isRow G (mset G M o S, sz) oth) pI.ret 1 q1576 q1577 q73 q1578 (by decide +kernel) rfl (by decide) (by decide) (Nat.le_of_ble_eq_true rfl) rfl dX4_fits_18 (by omega) (by omega) (qI.k ?_)
      refine j_if_eqB C 45 dX4_fits_21 (by decide) (fun c21 => ?_) (fun c21 => ?_)
      · refine j_ldc C q1582 dX4_fits_45 ?_
        exact j_iret C (by omega) (by omega) (pM.mk (h1 (of_decide_eq_true c4) (Or.inr (Or.inl c21)))) dX4_fits_47
      · obtain ⟨q, rfl, -, hq⟩ := inB_n (by decide) c21 (by decide)
        refine j_iload C dX4_fits_24 5 rfl ?_
        refine j_iconst (v := nI 1) C dX4_fits_26 rfl ?_
        refine j_bipush (v := nI 8) C dX4_fits_27 rfl ?_
        refine j_callS C (mX4_in G (mset G M o S, sz) n (nI 1) (nI 8)) pI.ret 3 q1579 q1580 q73 q1581 (by decide +kernel) rfl (by decide) (by decide) (Nat.le_of_ble_eq_true rfl) rfl dX4_fits_29 (by omega) (by omega) (qI.k ?_)
        refine j_if_eqB C 45 dX4_fits_32 (by decide) (fun c32 => ?_) (fun c32 => ?_)
        · refine j_ldc C q1582 dX4_fits_45 ?_
          exact j_iret C (by omega) (by omega) (pM.mk (h1 (of_decide_eq_true c4) (Or.inr (Or.inr (Or.inl c32))))) dX4_fits_47
        · obtain ⟨m, rfl, lm, hm⟩ := inB_n (by decide) c32 (by decide)
          refine j_iload C dX4_fits_35 6 rfl ?_
          refine j_iconst (v := nI 0) C dX4_fits_37 rfl ?_
          refine j_iconst (v := nI 1) C dX4_fits_38 rfl ?_
          refine j_callS C (mX4_in G (mset G M o S, sz) what (nI 0) (nI 1)) pI.ret 3 q1579 q1580 q73 q1581 (by decide +kernel) rfl (by decide) (by decide) (Nat.le_of_ble_eq_true rfl) rfl dX4_fits_39 (by omega) (by omega) (qI.k ?_)
          refine j_if_neB C 48 dX4_fits_42 (by decide) (fun c42 => ?_) (fun c42 => ?_)
          · replace hb := hb (of_decide_eq_true c4) c42
            obtain ⟨u, rfl, -, hu⟩ := inB_n (by decide) c42 (by decide)
            refine j_aload_n C dX4_fits_48 rfl 0 rfl ?_
            refine j_iload_n C dX4_fits_49 rfl 1 rfl ?_
            refine j_iload_n C dX4_fits_50 rfl 2 rfl ?_
            refine j_iload_n C dX4_fits_51 rfl 3 rfl ?_
            refine j_iload C dX4_fits_52 4 rfl ?_
            refine j_iload C dX4_fits_54 5 rfl ?_
            refine j_callV C (mX4_bar G M sz o S r q i j0 (nI m) (by omega) (by omega) (fun r1 S1 => (¬ r1 = 0 ∧ P r1 S1) ∨ (r1 = nI 0 ∧ S = S1 ∧ barN S r i q j0 (nI m) = 0)) (fun z0 => Or.inl ⟨by decide +kernel, (by have e : barN S r i q j0 (nI m) = 1 := (by unfold barN; rw [if_pos z0]); have g := hb m r q rfl (by omega) rfl (by omega) rfl (by omega) (by omega) (by rw [e]; decide); rw [e] at g; exact g)⟩) (fun z0 z1 => Or.inl ⟨by decide +kernel, (by have e : barN S r i q j0 (nI m) = 2 := (by unfold barN; rw [if_neg z0, if_pos z1]); have g := hb m r q rfl (by omega) rfl (by omega) rfl (by omega) (by omega) (by rw [e]; decide); rw [e] at g; exact g)⟩) (fun z0 z1 z2 => Or.inl ⟨by decide +kernel, (by have e : barN S r i q j0 (nI m) = 1 := (by unfold barN; rw [if_neg z0, if_neg (by rw [z1]; decide), if_pos z2]); have g := hb m r q rfl (by omega) rfl (by omega) rfl (by omega) (by omega) (by rw [e]; decide); rw [e] at g; exact g)⟩) (fun z0 z1 z2 z3 => Or.inl ⟨by decide +kernel, (by have e : barN S r i q j0 (nI m) = 2 := (by unfold barN; rw [if_neg z0, if_neg (by rw [z1]; decide), if_neg z2, if_pos z3]); have g := hb m r q rfl (by omega) rfl (by omega) rfl (by omega) (by omega) (by rw [e]; decide); rw [e] at g; exact g)⟩) (fun z0 z1 z2 z3 => Or.inr ⟨rfl, rfl, by unfold barN; rw [if_neg z0, if_neg (by rw [z1]; decide), if_neg z2, if_neg (by rw [z3]; decide)]⟩)) pM.ret mset_o rfl 5 q1791 q1793 qs55 q73 q1794 (by decide +kernel) rfl (by decide) (by decide) (Nat.le_of_ble_eq_true rfl) rfl dX4_fits_56 (by omega) (by omega) (pM.k (fun r1 S1 hP => ?_))
            rcases hP with ⟨hr, hP⟩ | ⟨rfl, rfl, hb0⟩
            case' inl =>
              refine j_istore (lv' := [(7, .int r1), (0, .ref o), (1, .int (nI r)), (2, .int i), (3, .int (nI q)), (4, .int j0), (5, .int (nI m)), (6, .int (nI u))]) C dX4_fits_59 (by decide) rfl ?_
              refine j_iload C dX4_fits_61 0 rfl ?_
              refine j_if_eq C 69 dX4_fits_63 (by decide) (fun c63 => ?_) (fun c63 => ?_)
              · exact absurd c63 hr
              · refine j_iload C dX4_fits_66 0 rfl ?_
                exact j_iret C (by omega) (by omega) (pM.mk hP) dX4_fits_68
            case' inr =>
              obtain ⟨b1, b2, b3, b4⟩ := barN_0 hb0
              have hm1 := hM r (by omega)
              have hm2 := hM q (by omega)
              obtain ⟨a, rfl, ha⟩ := partB_m (by omega) (by omega) b2
              obtain ⟨b, rfl, hbb⟩ := partB_m (by omega) (by omega) b4
              refine j_istore (lv' := [(7, .int (nI 0)), (0, .ref o), (1, .int (nI r)), (2, .int (nI a)), (3, .int (nI q)), (4, .int (nI b)), (5, .int (nI m)), (6, .int (nI u))]) C dX4_fits_59 (by decide) rfl ?_
              refine j_iload C dX4_fits_61 0 rfl ?_
              refine j_if_eqN C 69 dX4_fits_63 (by decide) (by first | omega | assumption | (intro x hx; have := r26 x hx; omega)) (fun c63 => ?_) (fun c63 => ?_)
              · refine j_iload C dX4_fits_69 7 rfl ?_
                refine j_if_neN C 100 dX4_fits_71 (by decide) (by first | omega | assumption | (intro x hx; have := r26 x hx; omega)) (fun c71 => ?_) (fun c71 => ?_)
                · refine j_aload_n C dX4_fits_100 rfl 1 rfl ?_
                  refine j_iconst (v := nI 0) C dX4_fits_101 rfl ?_
                  refine j_iconst (v := nI 1) C dX4_fits_102 rfl ?_
                  refine j_bipush (v := nI 9) C dX4_fits_103 rfl ?_
                  refine j_bipush (v := nI 40) C dX4_fits_105 rfl ?_
                  refine j_iload_n C dX4_fits_107 rfl 2 rfl ?_
                  refine j_imulN C dX4_fits_108 ?_
                  refine j_iload_n C dX4_fits_109 rfl 3 rfl ?_
                  refine j_iaddN C dX4_fits_110 ?_
                  refine j_bipush (v := nI 40) C dX4_fits_111 rfl ?_
                  refine j_iload_n C dX4_fits_113 rfl 4 rfl ?_
                  refine j_imulN C dX4_fits_114 ?_
                  refine j_iload C dX4_fits_115 5 rfl ?_
                  refine j_iaddN C dX4_fits_117 ?_
                  refine j_iload C dX4_fits_118 6 rfl ?_
                  refine j_callV C (mX4_all G M sz o S 0 1 9 ((40 * r) + a) ((40 * q) + b) m h3 (by omega) (by omega) (by decide) (by decide) (by omega) (by omega) (by omega) (fun v h1 h2 => smT_u ht0 (Or.inl ⟨rfl, h2⟩))) pI.ret mset_o rfl 6 q1795 q1797 qs56 q73 q1798 (by decide +kernel) rfl (by decide) (by decide) (Nat.le_of_ble_eq_true rfl) rfl dX4_fits_120 (by omega) (by omega) (qI.k ?_)
                  exact j_iret C (by omega) (by omega) (pM.mk (g1 (of_decide_eq_true c4) r q a b m rfl (by omega) rfl (by omega) rfl rfl rfl (by omega) (by omega) (by omega) (by omega) hb0 (by rw [show u = 1 by omega]) _)) dX4_fits_123
                · refine j_aload_n C dX4_fits_74 rfl 1 rfl ?_
                  refine j_iconst (v := nI 1) C dX4_fits_75 rfl ?_
                  refine j_iconst (v := nI 0) C dX4_fits_76 rfl ?_
                  refine j_bipush (v := nI 9) C dX4_fits_77 rfl ?_
                  refine j_bipush (v := nI 40) C dX4_fits_79 rfl ?_
                  refine j_iload_n C dX4_fits_81 rfl 2 rfl ?_
                  refine j_imulN C dX4_fits_82 ?_
                  refine j_iload_n C dX4_fits_83 rfl 3 rfl ?_
                  refine j_iaddN C dX4_fits_84 ?_
                  refine j_bipush (v := nI 40) C dX4_fits_85 rfl ?_
                  refine j_iload_n C dX4_fits_87 rfl 4 rfl ?_
                  refine j_imulN C dX4_fits_88 ?_
                  refine j_iload C dX4_fits_89 5 rfl ?_
                  refine j_iaddN C dX4_fits_91 ?_
                  refine j_iload C dX4_fits_92 6 rfl ?_
                  refine j_callV C (mX4_all G M sz o S 1 0 9 ((40 * r) + a) ((40 * q) + b) m h3 (by omega) (by omega) (by decide) (by decide) (by omega) (by omega) (by omega) (fun v h1 h2 => smT_u ht0 (Or.inr (Or.inl ⟨rfl, h2⟩)))) pI.ret mset_o rfl 6 q1795 q1797 qs56 q73 q1798 (by decide +kernel) rfl (by decide) (by decide) (Nat.le_of_ble_eq_true rfl) rfl dX4_fits_94 (by omega) (by omega) (qI.k ?_)
                  refine j_goto C 123 dX4_fits_97 (by decide) ?_
                  exact j_iret C (by omega) (by omega) (pM.mk (g0 (of_decide_eq_true c4) r q a b m rfl (by omega) rfl (by omega) rfl rfl rfl (by omega) (by omega) (by omega) (by omega) hb0 (by rw [show u = 0 by omega]) _)) dX4_fits_123
              · exfalso; omega
          · refine j_ldc C q1582 dX4_fits_45 ?_
            exact j_iret C (by omega) (by omega) (pM.mk (h1 (of_decide_eq_true c4) (Or.inr (Or.inr (Or.inr c42))))) dX4_fits_47
  · refine j_ldc C q1689 dX4_fits_7 ?_
    exact j_iret C (by omega) (by omega) (pM.mk (h0 (by have := of_decide_eq_false c4; omega))) dX4_fits_9
set_option maxHeartbeats 2000000 in
theorem mX4_fitsOf (G : gl_T) (M : Nat → Option (Nat × va_E)) (sz o : Nat) (S : ms_T) (cn row i oth j0 n what : Int32) (ht : smT (S.2.2.2 6)) (h3 : S.2.2.2 6 3 ≤ 999) (hM : ∀ j, j < 8 → S.2.2.2 2 j ≤ 40) (P : Int32 → ms_T → Prop) (h1 : inB cn (nI 0) (nI (S.2.2.2 6 6) - nI 1) = false ∨ inB row (nI 0) (nI 7) = false ∨ inB oth (nI 0) (nI 7) = false ∨ inB n (nI 1) (nI 8) = false ∨ inB what (nI 0) (nI 1) = false → P kBAD S) (hb : inB cn (nI 0) (nI (S.2.2.2 6 6) - nI 1) = true → inB what (nI 0) (nI 1) = true → ∀ m r q, n = nI m → 1 ≤ m → row = nI r → r < 8 → oth = nI q → q < 8 → m ≤ 8 → ¬ barN S r i q j0 (nI m) = 0 → P ((-1000010) - nI (barN S r i q j0 (nI m))) (sN S 4 (barN S r i q j0 (nI m)))) (g0 : ∀ c r q a b m, cn = nI c → c < S.2.2.2 6 6 → row = nI r → r < 8 → oth = nI q → q < 8 → i = nI a → j0 = nI b → n = nI m → 1 ≤ m → m ≤ 8 → a + m ≤ S.2.2.2 2 r → b + m ≤ S.2.2.2 2 q → barN S r (nI a) q (nI b) (nI m) = 0 → what = nI 0 → ∀ t8, P (nI (alF (S.2.2.1 3) (S.2.2.2 6) (7 + 3 * c) 1 (40 * r + a) (40 * q + b) m 5)) (sN (sB S 8 t8) 4 0)) (g1 : ∀ c r q a b m, cn = nI c → c < S.2.2.2 6 6 → row = nI r → r < 8 → oth = nI q → q < 8 → i = nI a → j0 = nI b → n = nI m → 1 ≤ m → m ≤ 8 → a + m ≤ S.2.2.2 2 r → b + m ≤ S.2.2.2 2 q → barN S r (nI a) q (nI b) (nI m) = 0 → what = nI 1 → ∀ t8, P (nI (alF (S.2.2.1 3) (S.2.2.2 6) (7 + 3 * c + 1) 0 (40 * r + a) (40 * q + b) m 10)) (sN (sB S 8 t8) 4 0)) : Mt G yX4_fitsOf cX4_fitsOf 10 (some .int) 5 [.ref o, .int cn, .int row, .int i, .int oth, .int j0, .int n, .int what] (mset G M o S, sz) (pM G M o sz P) 0 0 := by
  refine Mt.start (by decide) (Nat.le_of_ble_eq_true rfl) (fun k C => ?_)
  have C : Cx G k cX4_fitsOf "MoodFareModel" "fitsOf" 10 (some .int) 5 0 0 _ := C
  have ht0 := ht
  obtain ⟨r0, r1, r2, r3, r4, r5, r6, r7, r25, r26⟩ := ht
  refine j_aload_n C dX4_fitsOf_0 rfl 0 rfl ?_
  refine j_iload_n C dX4_fitsOf_1 rfl 1 rfl ?_
  refine j_callV C (mX4_isCorner G M sz o S cn) pI.ret mset_o rfl 1 q1707 q1709 qs46 q73 q1710 (by decide +kernel) rfl (by decide) (by decide) (Nat.le_of_ble_eq_true rfl) rfl dX4_fitsOf_2 (by omega) (by omega) (qI.k ?_)
  refine j_if_eqB C 44 dX4_fitsOf_5 (by decide) (fun c5 => ?_) (fun c5 => ?_)
  · refine j_ldc C q1582 dX4_fitsOf_44 ?_
    exact j_iret C (by omega) (by omega) (pM.mk (h1 (Or.inl c5))) dX4_fitsOf_46
  · have hcb := c5
    obtain ⟨c, rfl, hc⟩ := inB_p (by first | omega | assumption | (intro x hx; have := r26 x hx; omega)) c5
    refine j_iload_n C dX4_fitsOf_8 rfl 2 rfl ?_
    refine j_callS C (mX4_isRow G (mset G M o S, sz) row) pI.ret 1 q1576 q1577 q73 q1578 (by decide +kernel) rfl (by decide) (by decide) (Nat.le_of_ble_eq_true rfl) rfl dX4_fitsOf_9 (by omega) (by omega) (qI.k ?_)
    refine j_if_eqB C 44 dX4_fitsOf_12 (by decide) (fun c12 => ?_) (fun c12 => ?_)
    · refine j_ldc C q1582 dX4_fitsOf_44 ?_
      exact j_iret C (by omega) (by omega) (pM.mk (h1 (Or.inr (Or.inl c12)))) dX4_fitsOf_46
    · obtain ⟨r, rfl, -, hr⟩ := inB_n (by decide) c12 (by decide)
      refine j_iload C dX4_fitsOf_15 4 rfl ?_
      refine j_callS C (mX4_isRow G (mset G M o S, sz) oth) pI.ret 1 q1576 q1577 q73 q1578 (by decide +kernel) rfl (by decide) (by decide) (Nat.le_of_ble_eq_true rfl) rfl dX4_fitsOf_17 (by omega) (by omega) (qI.k ?_)
      refine j_if_eqB C 44 dX4_fitsOf_20 (by decide) (fun c20 => ?_) (fun c20 => ?_)
      · refine j_ldc C q1582 dX4_fitsOf_44 ?_
        exact j_iret C (by omega) (by omega) (pM.mk (h1 (Or.inr (Or.inr (Or.inl c20))))) dX4_fitsOf_46
      · obtain ⟨q, rfl, -, hq⟩ := inB_n (by decide) c20 (by decide)
        refine j_iload C dX4_fitsOf_23 6 rfl ?_
        refine j_iconst (v := nI 1) C dX4_fitsOf_25 rfl ?_
        refine j_bipush (v := nI 8) C dX4_fitsOf_26 rfl ?_
        refine j_callS C (mX4_in G (mset G M o S, sz) n (nI 1) (nI 8)) pI.ret 3 q1579 q1580 q73 q1581 (by decide +kernel) rfl (by decide) (by decide) (Nat.le_of_ble_eq_true rfl) rfl dX4_fitsOf_28 (by omega) (by omega) (qI.k ?_)
        refine j_if_eqB C 44 dX4_fitsOf_31 (by decide) (fun c31 => ?_) (fun c31 => ?_)
        · refine j_ldc C q1582 dX4_fitsOf_44 ?_
          exact j_iret C (by omega) (by omega) (pM.mk (h1 (Or.inr (Or.inr (Or.inr (Or.inl c31)))))) dX4_fitsOf_46
        · obtain ⟨m, rfl, lm, hm⟩ := inB_n (by decide) c31 (by decide)
          refine j_iload C dX4_fitsOf_34 7 rfl ?_
          refine j_iconst (v := nI 0) C dX4_fitsOf_36 rfl ?_
          refine j_iconst (v := nI 1) C dX4_fitsOf_37 rfl ?_
          refine j_callS C (mX4_in G (mset G M o S, sz) what (nI 0) (nI 1)) pI.ret 3 q1579 q1580 q73 q1581 (by decide +kernel) rfl (by decide) (by decide) (Nat.le_of_ble_eq_true rfl) rfl dX4_fitsOf_38 (by omega) (by omega) (qI.k ?_)
          refine j_if_neB C 47 dX4_fitsOf_41 (by decide) (fun c41 => ?_) (fun c41 => ?_)
          · replace hb := fun z => hb z c41
            obtain ⟨u, rfl, -, hu⟩ := inB_n (by decide) c41 (by decide)
            replace hb := hb hcb
            refine j_aload_n C dX4_fitsOf_47 rfl 0 rfl ?_
            refine j_iload_n C dX4_fitsOf_48 rfl 2 rfl ?_
            refine j_iload_n C dX4_fitsOf_49 rfl 3 rfl ?_
            refine j_iload C dX4_fitsOf_50 4 rfl ?_
            refine j_iload C dX4_fitsOf_52 5 rfl ?_
            refine j_iload C dX4_fitsOf_54 6 rfl ?_
            refine j_callV C (mX4_bar G M sz o S r q i j0 (nI m) (by omega) (by omega) (fun r1 S1 => (¬ r1 = 0 ∧ P r1 S1) ∨ (r1 = nI 0 ∧ S = S1 ∧ barN S r i q j0 (nI m) = 0)) (fun z0 => Or.inl ⟨by decide +kernel, (by have e : barN S r i q j0 (nI m) = 1 := (by unfold barN; rw [if_pos z0]); have g := hb m r q rfl (by omega) rfl (by omega) rfl (by omega) (by omega) (by rw [e]; decide); rw [e] at g; exact g)⟩) (fun z0 z1 => Or.inl ⟨by decide +kernel, (by have e : barN S r i q j0 (nI m) = 2 := (by unfold barN; rw [if_neg z0, if_pos z1]); have g := hb m r q rfl (by omega) rfl (by omega) rfl (by omega) (by omega) (by rw [e]; decide); rw [e] at g; exact g)⟩) (fun z0 z1 z2 => Or.inl ⟨by decide +kernel, (by have e : barN S r i q j0 (nI m) = 1 := (by unfold barN; rw [if_neg z0, if_neg (by rw [z1]; decide), if_pos z2]); have g := hb m r q rfl (by omega) rfl (by omega) rfl (by omega) (by omega) (by rw [e]; decide); rw [e] at g; exact g)⟩) (fun z0 z1 z2 z3 => Or.inl ⟨by decide +kernel, (by have e : barN S r i q j0 (nI m) = 2 := (by unfold barN; rw [if_neg z0, if_neg (by rw [z1]; decide), if_neg z2, if_pos z3]); have g := hb m r q rfl (by omega) rfl (by omega) rfl (by omega) (by omega) (by rw [e]; decide); rw [e] at g; exact g)⟩) (fun z0 z1 z2 z3 => Or.inr ⟨rfl, rfl, by unfold barN; rw [if_neg z0, if_neg (by rw [z1]; decide), if_neg z2, if_neg (by rw [z3]; decide)]⟩)) pM.ret mset_o rfl 5 q1791 q1793 qs55 q73 q1794 (by decide +kernel) rfl (by decide) (by decide) (Nat.le_of_ble_eq_true rfl) rfl dX4_fitsOf_56 (by omega) (by omega) (pM.k (fun r1 S1 hP => ?_))
            rcases hP with ⟨hr, hP⟩ | ⟨rfl, rfl, hb0⟩
            case' inl =>
              refine j_istore (lv' := [(8, .int r1), (0, .ref o), (1, .int (nI c)), (2, .int (nI r)), (3, .int i), (4, .int (nI q)), (5, .int j0), (6, .int (nI m)), (7, .int (nI u))]) C dX4_fitsOf_59 (by decide) rfl ?_
              refine j_iload C dX4_fitsOf_61 0 rfl ?_
              refine j_if_eq C 69 dX4_fitsOf_63 (by decide) (fun c63 => ?_) (fun c63 => ?_)
              · exact absurd c63 hr
              · refine j_iload C dX4_fitsOf_66 0 rfl ?_
                exact j_iret C (by omega) (by omega) (pM.mk hP) dX4_fitsOf_68
            case' inr =>
              obtain ⟨b1, b2, b3, b4⟩ := barN_0 hb0
              have hm1 := hM r (by omega)
              have hm2 := hM q (by omega)
              obtain ⟨a, rfl, ha⟩ := partB_m (by omega) (by omega) b2
              obtain ⟨b, rfl, hbb⟩ := partB_m (by omega) (by omega) b4
              refine j_istore (lv' := [(8, .int (nI 0)), (0, .ref o), (1, .int (nI c)), (2, .int (nI r)), (3, .int (nI a)), (4, .int (nI q)), (5, .int (nI b)), (6, .int (nI m)), (7, .int (nI u))]) C dX4_fitsOf_59 (by decide) rfl ?_
              refine j_iload C dX4_fitsOf_61 0 rfl ?_
              refine j_if_eqN C 69 dX4_fitsOf_63 (by decide) (by first | omega | assumption | (intro x hx; have := r26 x hx; omega)) (fun c63 => ?_) (fun c63 => ?_)
              · refine j_bipush (v := nI 7) C dX4_fitsOf_69 rfl ?_
                refine j_iconst (v := nI 3) C dX4_fitsOf_71 rfl ?_
                refine j_iload_n C dX4_fitsOf_72 rfl 2 rfl ?_
                refine j_imulN C dX4_fitsOf_73 ?_
                refine j_iaddN C dX4_fitsOf_74 ?_
                refine j_istore (lv' := [(9, .int (nI (7 + (3 * c)))), (8, .int (nI 0)), (0, .ref o), (1, .int (nI c)), (2, .int (nI r)), (3, .int (nI a)), (4, .int (nI q)), (5, .int (nI b)), (6, .int (nI m)), (7, .int (nI u))]) C dX4_fitsOf_75 (by decide) rfl ?_
                refine j_iload C dX4_fitsOf_77 9 rfl ?_
                refine j_if_neN C 109 dX4_fitsOf_79 (by decide) (by first | omega | assumption | (intro x hx; have := r26 x hx; omega)) (fun c79 => ?_) (fun c79 => ?_)
                · refine j_aload_n C dX4_fitsOf_109 rfl 2 rfl ?_
                  refine j_iload C dX4_fitsOf_110 0 rfl ?_
                  refine j_iconst (v := nI 1) C dX4_fitsOf_112 rfl ?_
                  refine j_iaddN C dX4_fitsOf_113 ?_
                  refine j_iconst (v := nI 0) C dX4_fitsOf_114 rfl ?_
                  refine j_bipush (v := nI 9) C dX4_fitsOf_115 rfl ?_
                  refine j_bipush (v := nI 40) C dX4_fitsOf_117 rfl ?_
                  refine j_iload_n C dX4_fitsOf_119 rfl 4 rfl ?_
                  refine j_imulN C dX4_fitsOf_120 ?_
                  refine j_iload_n C dX4_fitsOf_121 rfl 5 rfl ?_
                  refine j_iaddN C dX4_fitsOf_122 ?_
                  refine j_bipush (v := nI 40) C dX4_fitsOf_123 rfl ?_
                  refine j_iload C dX4_fitsOf_125 6 rfl ?_
                  refine j_imulN C dX4_fitsOf_127 ?_
                  refine j_iload C dX4_fitsOf_128 7 rfl ?_
                  refine j_iaddN C dX4_fitsOf_130 ?_
                  refine j_iload C dX4_fitsOf_131 8 rfl ?_
                  refine j_callV C (mX4_all G M sz o S ((7 + (3 * c)) + 1) 0 9 ((40 * r) + a) ((40 * q) + b) m h3 (by omega) (by omega) (by decide) (by decide) (by omega) (by omega) (by omega) (fun v h1 h2 => smT_u ht0 (Or.inr (Or.inr ⟨c, by omega, Or.inr ⟨rfl, h2⟩⟩)))) pI.ret mset_o rfl 6 q1795 q1797 qs56 q73 q1798 (by decide +kernel) rfl (by decide) (by decide) (Nat.le_of_ble_eq_true rfl) rfl dX4_fitsOf_133 (by omega) (by omega) (qI.k ?_)
                  exact j_iret C (by omega) (by omega) (pM.mk (g1 c r q a b m rfl hc rfl (by omega) rfl (by omega) rfl rfl rfl (by omega) (by omega) (by omega) (by omega) hb0 (by rw [show u = 1 by omega]) _)) dX4_fitsOf_136
                · refine j_aload_n C dX4_fitsOf_82 rfl 2 rfl ?_
                  refine j_iload C dX4_fitsOf_83 0 rfl ?_
                  refine j_iconst (v := nI 1) C dX4_fitsOf_85 rfl ?_
                  refine j_iconst (v := nI 5) C dX4_fitsOf_86 rfl ?_
                  refine j_bipush (v := nI 40) C dX4_fitsOf_87 rfl ?_
                  refine j_iload_n C dX4_fitsOf_89 rfl 4 rfl ?_
                  refine j_imulN C dX4_fitsOf_90 ?_
                  refine j_iload_n C dX4_fitsOf_91 rfl 5 rfl ?_
                  refine j_iaddN C dX4_fitsOf_92 ?_
                  refine j_bipush (v := nI 40) C dX4_fitsOf_93 rfl ?_
                  refine j_iload C dX4_fitsOf_95 6 rfl ?_
                  refine j_imulN C dX4_fitsOf_97 ?_
                  refine j_iload C dX4_fitsOf_98 7 rfl ?_
                  refine j_iaddN C dX4_fitsOf_100 ?_
                  refine j_iload C dX4_fitsOf_101 8 rfl ?_
                  refine j_callV C (mX4_all G M sz o S (7 + (3 * c)) 1 5 ((40 * r) + a) ((40 * q) + b) m h3 (by omega) (by omega) (by decide) (by decide) (by omega) (by omega) (by omega) (fun v h1 h2 => smT_u ht0 (Or.inr (Or.inr ⟨c, by omega, Or.inl ⟨rfl, h2⟩⟩)))) pI.ret mset_o rfl 6 q1795 q1797 qs56 q73 q1798 (by decide +kernel) rfl (by decide) (by decide) (Nat.le_of_ble_eq_true rfl) rfl dX4_fitsOf_103 (by omega) (by omega) (qI.k ?_)
                  refine j_goto C 136 dX4_fitsOf_106 (by decide) ?_
                  exact j_iret C (by omega) (by omega) (pM.mk (g0 c r q a b m rfl hc rfl (by omega) rfl (by omega) rfl rfl rfl (by omega) (by omega) (by omega) (by omega) hb0 (by rw [show u = 0 by omega]) _)) dX4_fitsOf_136
              · exfalso; omega
          · refine j_ldc C q1582 dX4_fitsOf_44 ?_
            exact j_iret C (by omega) (by omega) (pM.mk (h1 (Or.inr (Or.inr (Or.inr (Or.inr c41)))))) dX4_fitsOf_46
set_option maxHeartbeats 2000000 in
theorem mX4_share (G : gl_T) (M : Nat → Option (Nat × va_E)) (sz o : Nat) (S : ms_T) (row i n kk : Int32) (ht : smT (S.2.2.2 6)) (h3 : S.2.2.2 6 3 ≤ 999) (hM : ∀ j, j < 8 → S.2.2.2 2 j ≤ 40) (P : Int32 → ms_T → Prop) (h0 : S.2.2.2 6 0 = 0 → P kSTATE S) (h1 : 0 < S.2.2.2 6 0 → inB row (nI 0) (nI 7) = false ∨ inB n (nI 1) (nI 8) = false ∨ inB kk (nI 0) (n - nI 1) = false → P kBAD S) (h2 : 0 < S.2.2.2 6 0 → ∀ r c m, row = nI r → r < 8 → n = nI m → kk = nI c → 1 ≤ m → m ≤ 8 → c < m → S.2.2.1 1 r = kNONE → P ((-1000010) - nI 1) (sN S 4 1)) (h4 : 0 < S.2.2.2 6 0 → ∀ r c m, row = nI r → r < 8 → n = nI m → kk = nI c → 1 ≤ m → m ≤ 8 → c < m → ¬ S.2.2.1 1 r = kNONE → partB (S.2.2.2 2 r) i (nI m) = false → P ((-1000010) - nI 2) (sN S 4 2)) (h5 : 0 < S.2.2.2 6 0 → ∀ r a c m, row = nI r → r < 8 → i = nI a → n = nI m → kk = nI c → 1 ≤ m → m ≤ 8 → c < m → ¬ S.2.2.1 1 r = kNONE → a + m ≤ S.2.2.2 2 r → shB (S.2.2.1 3) (S.2.2.2 6) (40 * r + a) m = false → ∀ t8, P kNONE (sN (sB S 8 t8) 4 0)) (h6 : 0 < S.2.2.2 6 0 → ∀ r a c m, row = nI r → r < 8 → i = nI a → n = nI m → kk = nI c → 1 ≤ m → m ≤ 8 → c < m → ¬ S.2.2.1 1 r = kNONE → a + m ≤ S.2.2.2 2 r → shB (S.2.2.1 3) (S.2.2.2 6) (40 * r + a) m = true → ∀ t8, P (nI (shA (S.2.2.1 3) (S.2.2.2 6) (40 * r + a) c m)) (sN (sB S 8 t8) 4 0)) : Mt G yX4_share cX4_share 8 (some .int) 4 [.ref o, .int row, .int i, .int n, .int kk] (mset G M o S, sz) (pM G M o sz P) 0 0 := by
  refine Mt.start (by decide) (Nat.le_of_ble_eq_true rfl) (fun k C => ?_)
  have C : Cx G k cX4_share "MoodFareModel" "share" 8 (some .int) 4 0 0 _ := C
  have ht0 := ht
  obtain ⟨r0, r1, r2, r3, r4, r5, r6, r7, r25, r26⟩ := ht
  refine j_aload_n C dX4_share_0 rfl 0 rfl ?_
  refine j_callV C (mX4_isTown G M sz o S (by first | omega | assumption | (intro z hz; have := q26 z hz; omega))) pI.ret mset_o rfl 0 q1715 q1717 qs47 q73 q1718 (by decide +kernel) rfl (by decide) (by decide) (Nat.le_of_ble_eq_true rfl) rfl dX4_share_1 (by omega) (by omega) (qI.k ?_)
  refine j_if_neB C 10 dX4_share_4 (by decide) (fun c4 => ?_) (fun c4 => ?_)
  · refine j_iload_n C dX4_share_10 rfl 1 rfl ?_
    refine j_callS C (mX4_isRow G (mset G M o S, sz) row) pI.ret 1 q1576 q1577 q73 q1578 (by decide +kernel) rfl (by decide) (by decide) (Nat.le_of_ble_eq_true rfl) rfl dX4_share_11 (by omega) (by omega) (qI.k ?_)
    refine j_if_eqB C 39 dX4_share_14 (by decide) (fun c14 => ?_) (fun c14 => ?_)
    · refine j_ldc C q1582 dX4_share_39 ?_
      exact j_iret C (by omega) (by omega) (pM.mk (h1 (of_decide_eq_true c4) (Or.inl c14))) dX4_share_41
    · obtain ⟨r, rfl, -, hr⟩ := inB_n (by decide) c14 (by decide)
      refine j_iload_n C dX4_share_17 rfl 3 rfl ?_
      refine j_iconst (v := nI 1) C dX4_share_18 rfl ?_
      refine j_bipush (v := nI 8) C dX4_share_19 rfl ?_
      refine j_callS C (mX4_in G (mset G M o S, sz) n (nI 1) (nI 8)) pI.ret 3 q1579 q1580 q73 q1581 (by decide +kernel) rfl (by decide) (by decide) (Nat.le_of_ble_eq_true rfl) rfl dX4_share_21 (by omega) (by omega) (qI.k ?_)
      refine j_if_eqB C 39 dX4_share_24 (by decide) (fun c24 => ?_) (fun c24 => ?_)
      · refine j_ldc C q1582 dX4_share_39 ?_
        exact j_iret C (by omega) (by omega) (pM.mk (h1 (of_decide_eq_true c4) (Or.inr (Or.inl c24)))) dX4_share_41
      · obtain ⟨m, rfl, lm, hm⟩ := inB_n (by decide) c24 (by decide)
        have hM1 := hM r (by omega)
        refine j_iload C dX4_share_27 4 rfl ?_
        refine j_iconst (v := nI 0) C dX4_share_29 rfl ?_
        refine j_iload_n C dX4_share_30 rfl 3 rfl ?_
        refine j_iconst (v := nI 1) C dX4_share_31 rfl ?_
        refine j_isub C dX4_share_32 ?_
        refine j_callS C (mX4_in G (mset G M o S, sz) kk (nI 0) (nI m - nI 1)) pI.ret 3 q1579 q1580 q73 q1581 (by decide +kernel) rfl (by decide) (by decide) (Nat.le_of_ble_eq_true rfl) rfl dX4_share_33 (by omega) (by omega) (qI.k ?_)
        refine j_if_neB C 42 dX4_share_36 (by decide) (fun c36 => ?_) (fun c36 => ?_)
        · obtain ⟨c, rfl, hc⟩ := inB_p (by first | omega | assumption | (intro z hz; have := q26 z hz; omega)) c36
          refine j_aload_n C dX4_share_42 rfl 0 rfl ?_
          refine j_iload_n C dX4_share_43 rfl 1 rfl ?_
          refine j_callV C (mX4_isMissing G M sz o S r (by first | omega | assumption | (intro z hz; have := q26 z hz; omega))) pI.ret mset_o rfl 1 q1596 q1598 qs32 q73 q1599 (by decide +kernel) rfl (by decide) (by decide) (Nat.le_of_ble_eq_true rfl) rfl dX4_share_44 (by omega) (by omega) (qI.k ?_)
          refine j_if_eqB C 56 dX4_share_47 (by decide) (fun c47 => ?_) (fun c47 => ?_)
          · refine j_aload_n C dX4_share_56 rfl 0 rfl ?_
            refine j_iload_n C dX4_share_57 rfl 1 rfl ?_
            refine j_iload_n C dX4_share_58 rfl 2 rfl ?_
            refine j_iload_n C dX4_share_59 rfl 3 rfl ?_
            refine j_callV C (mX4_isPart G M sz o S r i (nI m) (by first | omega | assumption | (intro z hz; have := q26 z hz; omega))) pI.ret mset_o rfl 3 q1607 q1609 qs33 q73 q1610 (by decide +kernel) rfl (by decide) (by decide) (Nat.le_of_ble_eq_true rfl) rfl dX4_share_60 (by omega) (by omega) (qI.k ?_)
            refine j_if_neB C 72 dX4_share_63 (by decide) (fun c63 => ?_) (fun c63 => ?_)
            · obtain ⟨a, rfl, ha⟩ := partB_m (by omega) (by omega) c63
              refine j_aload_n C dX4_share_72 rfl 0 rfl ?_
              refine mg13 C q1487 dX4_share_73 ?_
              refine j_iconst (v := nI 0) C dX4_share_76 rfl ?_
              refine j_aload_n C dX4_share_77 rfl 0 rfl ?_
              refine mg15 C q1489 dX4_share_78 ?_
              refine j_iconst (v := nI 0) C dX4_share_81 rfl ?_
              refine j_callS C (mX4_copies G (mset G M o S, sz) (o + 6) o (o + 8) o 42 42 0 0 (S.2.2.2 6) (S.2.2.2 8) (mset_a 6 (by decide) (by decide)) (mset_a 8 (by decide) (by decide)) (by omega) (by first | omega | assumption | (intro z hz; have := q26 z hz; omega)) (by first | omega | assumption | (intro z hz; have := q26 z hz; omega)) (by decide) (by decide)) pV.ret 4 q1668 q1669 q73 q1670 (by decide +kernel) rfl (by decide) (by decide) (Nat.le_of_ble_eq_true rfl) rfl dX4_share_82 (by omega) (by omega) (qV.k ?_)
              refine J.eq (w' := (mset G M o (sB S 8 (va_cpy (S.2.2.2 6) (S.2.2.2 8) 0 0 42)), sz)) ?_ (congrArg (fun z => (z, sz)) (mset_ua 8 (by decide) (by decide) (mfs_B _ _ _ _) rfl (mcon_B _ _ _))) rfl rfl
              refine j_cgB 8 (g' := S.2.2.2 6) (by decide) (by decide) (fun i hi => by rw [pk_cpy_in (by omega) (by exact hi)]; simp) ?_
              refine j_iconst (v := nI 0) C dX4_share_85 rfl ?_
              refine j_istore (lv' := [(5, .int (nI 0)), (0, .ref o), (1, .int (nI r)), (2, .int (nI a)), (3, .int (nI m)), (4, .int (nI c))]) C dX4_share_86 (by decide) rfl ?_
              refine j_iconst (v := nI 0) C dX4_share_88 rfl ?_
              refine j_istore (lv' := [(6, .int (nI 0)), (5, .int (nI 0)), (0, .ref o), (1, .int (nI r)), (2, .int (nI a)), (3, .int (nI m)), (4, .int (nI c))]) C dX4_share_89 (by decide) rfl ?_
              have lp : ∀ (n_lp e : Nat), 0 ≤ e → e ≤ m → m < e + n_lp → shB (S.2.2.1 3) (S.2.2.2 6) (40 * r + a) e = true → J G k (mset G M o (sB S 8 (shU (S.2.2.1 3) (S.2.2.2 6) (40 * r + a) e)), sz) [(6, .int (nI e)), (5, .int (nI (shA (S.2.2.1 3) (S.2.2.2 6) (40 * r + a) c e))), (0, .ref o), (1, .int (nI r)), (2, .int (nI a)), (3, .int (nI m)), (4, .int (nI c))] 91 [] 0 0 := by
                intro n_lp
                induction n_lp with
                | zero => intro e h0_lp h1_lp h2_lp; omega
                | succ n_lp ih_lp =>
                  intro e h0_lp h1_lp h2_lp hI_lp
                  refine j_iload C dX4_share_91 0 rfl ?_
                  refine j_iload_n C dX4_share_93 rfl 5 rfl ?_
                  refine j_icmp_geN C 204 dX4_share_94 (by decide) (by first | omega | assumption | (intro z hz; have := q26 z hz; omega)) (by first | omega | assumption | (intro z hz; have := q26 z hz; omega)) (fun c94 => ?_) (fun c94 => ?_)
                  · obtain rfl : m = e := by omega
                    refine j_aload_n C dX4_share_204 rfl 2 rfl ?_
                    refine j_iload C dX4_share_205 1 rfl ?_
                    refine j_callV C (mX4_well G M sz o (sB S 8 (shU (S.2.2.1 3) (S.2.2.2 6) (40 * r + a) m)) (nI (shA (S.2.2.1 3) (S.2.2.2 6) (40 * r + a) c m))) pI.ret mset_o rfl 1 q1588 q1590 qs31 q73 q1591 (by decide +kernel) rfl (by decide) (by decide) (Nat.le_of_ble_eq_true rfl) rfl dX4_share_207 (by omega) (by omega) (qI.k ?_)
                    refine j_as (y := nI (shA (S.2.2.1 3) (S.2.2.2 6) (40 * r + a) c m)) rfl ?_
                    exact j_iret C (by omega) (by omega) (pM.mk (h6 (of_decide_eq_true c4) r a c m rfl (by omega) rfl rfl rfl (by omega) (by omega) (by omega) (of_decide_eq_false c47) (by omega) hI_lp _)) dX4_share_210
                  · obtain ⟨hsm, hs3⟩ := shU_sm (it := S.2.2.1 3) (f := 40 * r + a) ht0 e (by omega) hI_lp
                    have hA := shA_le (it := S.2.2.1 3) (f := 40 * r + a) (c := c) ht0 e (by omega) hI_lp
                    have hsm0 := hsm
                    obtain ⟨q0, q1, q2, q3, q4, q5, q6, q7, q25, q26⟩ := hsm
                    refine j_aload_n C dX4_share_97 rfl 2 rfl ?_
                    refine mg2 C q1476 dX4_share_98 ?_
                    refine j_bipush (v := nI 40) C dX4_share_101 rfl ?_
                    refine j_iload_n C dX4_share_103 rfl 3 rfl ?_
                    refine j_imulN C dX4_share_104 ?_
                    refine j_iload_n C dX4_share_105 rfl 4 rfl ?_
                    refine j_iaddN C dX4_share_106 ?_
                    refine j_iload C dX4_share_107 0 rfl ?_
                    refine j_iaddN C dX4_share_109 ?_
                    refine ml3 C (((40 * r) + a) + e) rfl (by first | omega | assumption | (intro z hz; have := q26 z hz; omega)) dX4_share_110 (v := S.2.2.1 3 (((40 * r) + a) + e)) rfl ?_
                    refine j_istore (lv' := [(7, .int (S.2.2.1 3 (((40 * r) + a) + e))), (6, .int (nI e)), (5, .int (nI (shA (S.2.2.1 3) (S.2.2.2 6) (40 * r + a) c e))), (0, .ref o), (1, .int (nI r)), (2, .int (nI a)), (3, .int (nI m)), (4, .int (nI c))]) C dX4_share_111 (by decide) rfl ?_
                    refine j_aload_n C dX4_share_113 rfl 3 rfl ?_
                    refine mg15 C q1489 dX4_share_114 ?_
                    refine j_iload C dX4_share_117 0 rfl ?_
                    refine j_aload_n C dX4_share_119 rfl 3 rfl ?_
                    refine mg15 C q1489 dX4_share_120 ?_
                    refine j_iconst (v := nI 4) C dX4_share_123 rfl ?_
                    refine ml8 C (4) rfl (by first | omega | assumption | (intro z hz; have := q26 z hz; omega)) dX4_share_124 (v := (shU (S.2.2.1 3) (S.2.2.2 6) (40 * r + a) e) 4) rfl ?_
                    refine j_callS C (mX4_goes G (mset G M o (sB S 8 (shU (S.2.2.1 3) (S.2.2.2 6) (40 * r + a) e)), sz) (o + 8) o (shU (S.2.2.1 3) (S.2.2.2 6) (40 * r + a) e) (S.2.2.1 3 (((40 * r) + a) + e)) ((shU (S.2.2.1 3) (S.2.2.2 6) (40 * r + a) e) 4) (mset_a 8 (by decide) (by decide)) (by first | omega | assumption | (intro z hz; have := q26 z hz; omega)) (by first | omega | assumption | (intro z hz; have := q26 z hz; omega)) (by first | omega | assumption | (intro z hz; have := q26 z hz; omega)) (by first | omega | assumption | (intro z hz; have := q26 z hz; omega))) pI.ret 3 q1683 q1684 q73 q1685 (by decide +kernel) rfl (by decide) (by decide) (Nat.le_of_ble_eq_true rfl) rfl dX4_share_125 (by omega) (by omega) (qI.k ?_)
                    refine j_as (y := bZ (goB (shU (S.2.2.1 3) (S.2.2.2 6) (40 * r + a) e) (S.2.2.1 3 (((40 * r) + a) + e)) ((shU (S.2.2.1 3) (S.2.2.2 6) (40 * r + a) e) 4))) rfl ?_
                    refine j_if_neB C 138 dX4_share_128 (by decide) (fun c128 => ?_) (fun c128 => ?_)
                    · obtain ⟨x, hx, hxl, hgo⟩ := goB_n (by omega) c128
                      have hx8 : x < 8 := by omega
                      have rx := q26 x hx8
                      have rc := q7 _ rx.2
                      have hcs := csd_le (step := shU (S.2.2.1 3) (S.2.2.2 6) (40 * r + a) e 3) hsm0 rx.2 q1
                      refine j_lvI (lv' := [(7, .int (nI x)), (6, .int (nI e)), (5, .int (nI (shA (S.2.2.1 3) (S.2.2.2 6) (40 * r + a) c e))), (0, .ref o), (1, .int (nI r)), (2, .int (nI a)), (3, .int (nI m)), (4, .int (nI c))]) 0 rfl hx rfl ?_
                      refine j_iload C dX4_share_138 2 rfl ?_
                      refine j_iload C dX4_share_140 1 rfl ?_
                      refine j_iload C dX4_share_142 7 rfl ?_
                      refine j_icmp_geN C 151 dX4_share_144 (by decide) (by first | omega | assumption | (intro z hz; have := q26 z hz; omega)) (by first | omega | assumption | (intro z hz; have := q26 z hz; omega)) (fun c144 => ?_) (fun c144 => ?_)
                      · refine j_aload_n C dX4_share_151 rfl 3 rfl ?_
                        refine mg15 C q1489 dX4_share_152 ?_
                        refine j_aload_n C dX4_share_155 rfl 3 rfl ?_
                        refine mg15 C q1489 dX4_share_156 ?_
                        refine j_bipush (v := nI 26) C dX4_share_159 rfl ?_
                        refine j_iconst (v := nI 2) C dX4_share_161 rfl ?_
                        refine j_iload C dX4_share_162 0 rfl ?_
                        refine j_imulN C dX4_share_164 ?_
                        refine j_iaddN C dX4_share_165 ?_
                        refine j_iconst (v := nI 1) C dX4_share_166 rfl ?_
                        refine j_iaddN C dX4_share_167 ?_
                        refine ml8 C ((26 + (2 * x)) + 1) rfl (by first | omega | assumption | (intro z hz; have := q26 z hz; omega)) dX4_share_168 (v := (shU (S.2.2.1 3) (S.2.2.2 6) (40 * r + a) e) ((26 + (2 * x)) + 1)) rfl ?_
                        refine j_aload_n C dX4_share_169 rfl 3 rfl ?_
                        refine mg15 C q1489 dX4_share_170 ?_
                        refine j_iconst (v := nI 1) C dX4_share_173 rfl ?_
                        refine ml8 C (1) rfl (by first | omega | assumption | (intro z hz; have := q26 z hz; omega)) dX4_share_174 (v := (shU (S.2.2.1 3) (S.2.2.2 6) (40 * r + a) e) 1) rfl ?_
                        refine j_aload_n C dX4_share_175 rfl 3 rfl ?_
                        refine mg15 C q1489 dX4_share_176 ?_
                        refine j_iconst (v := nI 3) C dX4_share_179 rfl ?_
                        refine ml8 C (3) rfl (by first | omega | assumption | (intro z hz; have := q26 z hz; omega)) dX4_share_180 (v := (shU (S.2.2.1 3) (S.2.2.2 6) (40 * r + a) e) 3) rfl ?_
                        refine j_callS C (mX4_cost G (mset G M o (sB S 8 (shU (S.2.2.1 3) (S.2.2.2 6) (40 * r + a) e)), sz) (o + 8) o (shU (S.2.2.1 3) (S.2.2.2 6) (40 * r + a) e) ((shU (S.2.2.1 3) (S.2.2.2 6) (40 * r + a) e) ((26 + (2 * x)) + 1)) ((shU (S.2.2.1 3) (S.2.2.2 6) (40 * r + a) e) 1) ((shU (S.2.2.1 3) (S.2.2.2 6) (40 * r + a) e) 3) (mset_a 8 (by decide) (by decide)) (by first | omega | assumption | (intro z hz; have := q26 z hz; omega)) (by first | omega | assumption | (intro z hz; have := q26 z hz; omega)) (by first | omega | assumption | (intro z hz; have := q26 z hz; omega)) (by first | omega | assumption | (intro z hz; have := q26 z hz; omega)) (by first | omega | assumption | (intro z hz; have := q26 z hz; omega))) pI.ret 4 q1697 q1698 q73 q1699 (by decide +kernel) rfl (by decide) (by decide) (Nat.le_of_ble_eq_true rfl) rfl dX4_share_181 (by omega) (by omega) (qI.k ?_)
                        refine j_as (y := nI (csd (shU (S.2.2.1 3) (S.2.2.2 6) (40 * r + a) e) ((shU (S.2.2.1 3) (S.2.2.2 6) (40 * r + a) e) ((26 + (2 * x)) + 1)) ((shU (S.2.2.1 3) (S.2.2.2 6) (40 * r + a) e) 1) ((shU (S.2.2.1 3) (S.2.2.2 6) (40 * r + a) e) 3))) rfl ?_
                        refine j_iconst (v := nI 2) C dX4_share_184 rfl ?_
                        refine j_idivN C dX4_share_185 (by first | omega | assumption | (intro z hz; have := q26 z hz; omega)) (by first | omega | assumption | (intro z hz; have := q26 z hz; omega)) (by first | omega | assumption | (intro z hz; have := q26 z hz; omega)) ?_
                        refine j_iaddN C dX4_share_186 ?_
                        refine j_istore (lv' := [(5, .int (nI ((shA (S.2.2.1 3) (S.2.2.2 6) (40 * r + a) c e) + ((csd (shU (S.2.2.1 3) (S.2.2.2 6) (40 * r + a) e) ((shU (S.2.2.1 3) (S.2.2.2 6) (40 * r + a) e) ((26 + (2 * x)) + 1)) ((shU (S.2.2.1 3) (S.2.2.2 6) (40 * r + a) e) 1) ((shU (S.2.2.1 3) (S.2.2.2 6) (40 * r + a) e) 3)) / 2)))), (7, .int (nI x)), (6, .int (nI e)), (0, .ref o), (1, .int (nI r)), (2, .int (nI a)), (3, .int (nI m)), (4, .int (nI c))]) C dX4_share_187 (by decide) rfl ?_
                        refine j_aload_n C dX4_share_189 rfl 3 rfl ?_
                        refine mg15 C q1489 dX4_share_190 ?_
                        refine j_iload C dX4_share_193 1 rfl ?_
                        refine j_callS C (mX4_rides G (mset G M o (sB S 8 (shU (S.2.2.1 3) (S.2.2.2 6) (40 * r + a) e)), sz) (o + 8) o (shU (S.2.2.1 3) (S.2.2.2 6) (40 * r + a) e) x (mset_a 8 (by decide) (by decide)) hsm0 (by first | omega | assumption | (intro z hz; have := q26 z hz; omega))) pV.ret 2 q1694 q1695 q73 q1696 (by decide +kernel) rfl (by decide) (by decide) (Nat.le_of_ble_eq_true rfl) rfl dX4_share_195 (by omega) (by omega) (qV.k ?_)
                        refine J.eq (w' := (mset G M o (sB (sB S 8 (shU (S.2.2.1 3) (S.2.2.2 6) (40 * r + a) e)) 8 (rdT (shU (S.2.2.1 3) (S.2.2.2 6) (40 * r + a) e) x)), sz)) ?_ (congrArg (fun z => (z, sz)) (mset_ua 8 (by decide) (by decide) (mfs_B _ _ _ _) rfl (mcon_B _ _ _))) rfl rfl
                        refine j_iincN (lv' := [(6, .int (nI (e + 1))), (5, .int (nI ((shA (S.2.2.1 3) (S.2.2.2 6) (40 * r + a) c e) + ((csd (shU (S.2.2.1 3) (S.2.2.2 6) (40 * r + a) e) ((shU (S.2.2.1 3) (S.2.2.2 6) (40 * r + a) e) ((26 + (2 * x)) + 1)) ((shU (S.2.2.1 3) (S.2.2.2 6) (40 * r + a) e) 1) ((shU (S.2.2.1 3) (S.2.2.2 6) (40 * r + a) e) 3)) / 2)))), (7, .int (nI x)), (0, .ref o), (1, .int (nI r)), (2, .int (nI a)), (3, .int (nI m)), (4, .int (nI c))]) C dX4_share_198 2 rfl (by decide) rfl ?_
                        refine j_goto C 91 dX4_share_201 (by decide) ?_
                        refine j_lv [0, 1, 3, 4, 5, 6, 7] (lv' := [(6, .int (nI (e + 1))), (5, .int (nI ((shA (S.2.2.1 3) (S.2.2.2 6) (40 * r + a) c e) + ((csd (shU (S.2.2.1 3) (S.2.2.2 6) (40 * r + a) e) ((shU (S.2.2.1 3) (S.2.2.2 6) (40 * r + a) e) ((26 + (2 * x)) + 1)) ((shU (S.2.2.1 3) (S.2.2.2 6) (40 * r + a) e) 1) ((shU (S.2.2.1 3) (S.2.2.2 6) (40 * r + a) e) 3)) / 2)))), (0, .ref o), (1, .int (nI r)), (2, .int (nI a)), (3, .int (nI m)), (4, .int (nI c))]) rfl ?_
                        refine j_lvN (lv' := [(6, .int (nI (e + 1))), (5, .int (nI (shA (S.2.2.1 3) (S.2.2.2 6) (40 * r + a) c (e + 1)))), (0, .ref o), (1, .int (nI r)), (2, .int (nI a)), (3, .int (nI m)), (4, .int (nI c))]) 1 rfl (by show _ = shA (S.2.2.1 3) (S.2.2.2 6) (40 * r + a) c e + _; rw [hx, nI_clamp (show x < 2 ^ 31 by omega)]; first | rw [if_pos (by omega)] | rw [if_neg (by omega)]) rfl ?_
                        refine J.eq (w' := (mset G M o (sB S 8 (shU (S.2.2.1 3) (S.2.2.2 6) (40 * r + a) (e + 1))), sz)) ?_ (by show _ = (mset G M o (sB S 8 (rdT (shU (S.2.2.1 3) (S.2.2.2 6) (40 * r + a) e) (S.2.2.1 3 (40 * r + a + e)).toNatClampNeg)), sz); rw [hx, nI_clamp (show x < 2 ^ 31 by omega)]; exact congrArg (fun z => (mset G M o z, sz)) (sB_sB _ _ _ _)) rfl rfl
                        exact ih_lp (e + 1) (by omega) (by omega) (by omega) (by show (shB (S.2.2.1 3) (S.2.2.2 6) (40 * r + a) e && _) = true; rw [hI_lp, c128]; rfl)
                      · refine j_iconst (v := nI 0) C dX4_share_147 rfl ?_
                        refine j_goto C 186 dX4_share_148 (by decide) ?_
                        refine j_iaddN C dX4_share_186 ?_
                        refine j_istore (lv' := [(5, .int (nI ((shA (S.2.2.1 3) (S.2.2.2 6) (40 * r + a) c e) + 0))), (7, .int (nI x)), (6, .int (nI e)), (0, .ref o), (1, .int (nI r)), (2, .int (nI a)), (3, .int (nI m)), (4, .int (nI c))]) C dX4_share_187 (by decide) rfl ?_
                        refine j_aload_n C dX4_share_189 rfl 3 rfl ?_
                        refine mg15 C q1489 dX4_share_190 ?_
                        refine j_iload C dX4_share_193 1 rfl ?_
                        refine j_callS C (mX4_rides G (mset G M o (sB S 8 (shU (S.2.2.1 3) (S.2.2.2 6) (40 * r + a) e)), sz) (o + 8) o (shU (S.2.2.1 3) (S.2.2.2 6) (40 * r + a) e) x (mset_a 8 (by decide) (by decide)) hsm0 (by first | omega | assumption | (intro z hz; have := q26 z hz; omega))) pV.ret 2 q1694 q1695 q73 q1696 (by decide +kernel) rfl (by decide) (by decide) (Nat.le_of_ble_eq_true rfl) rfl dX4_share_195 (by omega) (by omega) (qV.k ?_)
                        refine J.eq (w' := (mset G M o (sB (sB S 8 (shU (S.2.2.1 3) (S.2.2.2 6) (40 * r + a) e)) 8 (rdT (shU (S.2.2.1 3) (S.2.2.2 6) (40 * r + a) e) x)), sz)) ?_ (congrArg (fun z => (z, sz)) (mset_ua 8 (by decide) (by decide) (mfs_B _ _ _ _) rfl (mcon_B _ _ _))) rfl rfl
                        refine j_iincN (lv' := [(6, .int (nI (e + 1))), (5, .int (nI ((shA (S.2.2.1 3) (S.2.2.2 6) (40 * r + a) c e) + 0))), (7, .int (nI x)), (0, .ref o), (1, .int (nI r)), (2, .int (nI a)), (3, .int (nI m)), (4, .int (nI c))]) C dX4_share_198 2 rfl (by decide) rfl ?_
                        refine j_goto C 91 dX4_share_201 (by decide) ?_
                        refine j_lv [0, 1, 3, 4, 5, 6, 7] (lv' := [(6, .int (nI (e + 1))), (5, .int (nI ((shA (S.2.2.1 3) (S.2.2.2 6) (40 * r + a) c e) + 0))), (0, .ref o), (1, .int (nI r)), (2, .int (nI a)), (3, .int (nI m)), (4, .int (nI c))]) rfl ?_
                        refine j_lvN (lv' := [(6, .int (nI (e + 1))), (5, .int (nI (shA (S.2.2.1 3) (S.2.2.2 6) (40 * r + a) c (e + 1)))), (0, .ref o), (1, .int (nI r)), (2, .int (nI a)), (3, .int (nI m)), (4, .int (nI c))]) 1 rfl (by show _ = shA (S.2.2.1 3) (S.2.2.2 6) (40 * r + a) c e + _; rw [hx, nI_clamp (show x < 2 ^ 31 by omega)]; first | rw [if_pos (by omega)] | rw [if_neg (by omega)]) rfl ?_
                        refine J.eq (w' := (mset G M o (sB S 8 (shU (S.2.2.1 3) (S.2.2.2 6) (40 * r + a) (e + 1))), sz)) ?_ (by show _ = (mset G M o (sB S 8 (rdT (shU (S.2.2.1 3) (S.2.2.2 6) (40 * r + a) e) (S.2.2.1 3 (40 * r + a + e)).toNatClampNeg)), sz); rw [hx, nI_clamp (show x < 2 ^ 31 by omega)]; exact congrArg (fun z => (mset G M o z, sz)) (sB_sB _ _ _ _)) rfl rfl
                        exact ih_lp (e + 1) (by omega) (by omega) (by omega) (by show (shB (S.2.2.1 3) (S.2.2.2 6) (40 * r + a) e && _) = true; rw [hI_lp, c128]; rfl)
                    · refine j_aload_n C dX4_share_131 rfl 3 rfl ?_
                      refine j_ldc C q1473 dX4_share_132 ?_
                      refine j_callV C (mX4_well G M sz o (sB S 8 (shU (S.2.2.1 3) (S.2.2.2 6) (40 * r + a) e)) ((-1000000))) pI.ret mset_o rfl 1 q1588 q1590 qs31 q73 q1591 (by decide +kernel) rfl (by decide) (by decide) (Nat.le_of_ble_eq_true rfl) rfl dX4_share_134 (by omega) (by omega) (qI.k ?_)
                      refine j_as (y := (-1000000)) rfl ?_
                      exact j_iret C (by omega) (by omega) (pM.mk (h5 (of_decide_eq_true c4) r a c m rfl (by omega) rfl rfl rfl (by omega) (by omega) (by omega) (of_decide_eq_false c47) (by omega) (shB_f (k := e + 1) (show (shB (S.2.2.1 3) (S.2.2.2 6) (40 * r + a) e && _) = false by rw [hI_lp, c128]; rfl) m (by omega)) _)) dX4_share_137
              refine j_lv [0, 1, 2, 3, 4, 5, 6] (lv' := [(6, .int (nI 0)), (5, .int (nI 0)), (0, .ref o), (1, .int (nI r)), (2, .int (nI a)), (3, .int (nI m)), (4, .int (nI c))]) rfl ?_
              refine j_lvN (lv' := [(6, .int (nI 0)), (5, .int (nI (shA (S.2.2.1 3) (S.2.2.2 6) (40 * r + a) c 0))), (0, .ref o), (1, .int (nI r)), (2, .int (nI a)), (3, .int (nI m)), (4, .int (nI c))]) 1 rfl rfl rfl ?_
              refine J.eq (w' := (mset G M o (sB S 8 (shU (S.2.2.1 3) (S.2.2.2 6) (40 * r + a) 0)), sz)) ?_ (by rfl) rfl rfl
              exact lp (m + 1 - 0) (0) (by omega) (by omega) (by omega) (by rfl)
            · refine j_aload_n C dX4_share_66 rfl 0 rfl ?_
              refine j_iconst (v := nI 2) C dX4_share_67 rfl ?_
              refine j_callV C (mX4_found G M sz o S 2) pI.ret mset_o rfl 1 q1583 q1585 qs30 q73 q1586 (by decide +kernel) rfl (by decide) (by decide) (Nat.le_of_ble_eq_true rfl) rfl dX4_share_68 (by omega) (by omega) (qI.k ?_)
              exact j_iret C (by omega) (by omega) (pM.mk (h4 (of_decide_eq_true c4) r c m rfl (by omega) rfl rfl (by omega) (by omega) (by omega) (of_decide_eq_false c47) c63)) dX4_share_71
          · refine j_aload_n C dX4_share_50 rfl 0 rfl ?_
            refine j_iconst (v := nI 1) C dX4_share_51 rfl ?_
            refine j_callV C (mX4_found G M sz o S 1) pI.ret mset_o rfl 1 q1583 q1585 qs30 q73 q1586 (by decide +kernel) rfl (by decide) (by decide) (Nat.le_of_ble_eq_true rfl) rfl dX4_share_52 (by omega) (by omega) (qI.k ?_)
            exact j_iret C (by omega) (by omega) (pM.mk (h2 (of_decide_eq_true c4) r c m rfl (by omega) rfl rfl (by omega) (by omega) (by omega) (of_decide_eq_true c47))) dX4_share_55
        · refine j_ldc C q1582 dX4_share_39 ?_
          exact j_iret C (by omega) (by omega) (pM.mk (h1 (of_decide_eq_true c4) (Or.inr (Or.inr c36)))) dX4_share_41
  · refine j_ldc C q1689 dX4_share_7 ?_
    exact j_iret C (by omega) (by omega) (pM.mk (h0 (by have := of_decide_eq_false c4; omega))) dX4_share_9
