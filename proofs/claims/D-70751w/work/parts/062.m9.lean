/-! ===== the reference: streets drawn ===== -/
set_option maxRecDepth 100000
set_option maxHeartbeats 1000000 in
theorem mX4_streetAfter (G : gl_T) (M : Nat → Option (Nat × va_E)) (sz o : Nat) (S : ms_T) (a : Nat) (ha : a < 2 ^ 31) (ht : smT (S.2.2.2 8)) (P : Int32 → ms_T → Prop) (h1 : ∀ x, x < S.2.2.2 8 25 → goN (S.2.2.2 8) x (S.2.2.2 8 4) = true → ctS (S.2.2.2 8) (S.2.2.2 8 4) x = a → P (nI x) S) (h2 : ctS (S.2.2.2 8) (S.2.2.2 8 4) (S.2.2.2 8 25) ≤ a → P kNONE S) : Mt G yX4_streetAfter cX4_streetAfter 4 (some .int) 2 [.ref o, .int (nI a)] (mset G M o S, sz) (pM G M o sz P) 0 0 := by
  refine Mt.start (by decide) (Nat.le_of_ble_eq_true rfl) (fun k C => ?_)
  have C : Cx G k cX4_streetAfter "MoodFareModel" "streetAfter" 4 (some .int) 2 0 0 _ := C
  have ht0 := ht
  obtain ⟨r0, r1, r2, r3, r4, r5, r6, r7, r25, r26⟩ := ht
  refine j_iload_n C dX4_streetAfter_0 rfl 1 rfl ?_
  refine j_istore_n (lv' := [(2, .int (nI a)), (0, .ref o), (1, .int (nI a))]) C dX4_streetAfter_1 rfl (by decide) rfl ?_
  refine j_iconst (v := nI 0) C dX4_streetAfter_2 rfl ?_
  refine j_istore_n (lv' := [(3, .int (nI 0)), (2, .int (nI a)), (0, .ref o), (1, .int (nI a))]) C dX4_streetAfter_3 rfl (by decide) rfl ?_
  have lp : ∀ (n_lp e : Nat), 0 ≤ e → e ≤ S.2.2.2 8 25 → S.2.2.2 8 25 < e + n_lp → ctS (S.2.2.2 8) (S.2.2.2 8 4) e ≤ a → J G k (mset G M o S, sz) [(3, .int (nI e)), (2, .int (nI (a - ctS (S.2.2.2 8) (S.2.2.2 8 4) e))), (0, .ref o), (1, .int (nI a))] 4 [] 0 0 := by
    intro n_lp
    induction n_lp with
    | zero => intro e h0_lp h1_lp h2_lp; omega
    | succ n_lp ih_lp =>
      intro e h0_lp h1_lp h2_lp hI_lp
      refine j_iload_n C dX4_streetAfter_4 rfl 0 rfl ?_
      refine j_aload_n C dX4_streetAfter_5 rfl 2 rfl ?_
      refine mg15 C q1489 dX4_streetAfter_6 ?_
      refine j_bipush (v := nI 25) C dX4_streetAfter_9 rfl ?_
      refine ml8 C (25) rfl (by first | omega | assumption | (intro z hz; have := r26 z hz; omega)) dX4_streetAfter_11 (v := S.2.2.2 8 25) rfl ?_
      refine j_icmp_geN C 47 dX4_streetAfter_12 (by decide) (by first | omega | assumption | (intro z hz; have := r26 z hz; omega)) (by first | omega | assumption | (intro z hz; have := r26 z hz; omega)) (fun c12 => ?_) (fun c12 => ?_)
      · obtain rfl : S.2.2.2 8 25 = e := by omega
        refine j_ldc C q1473 dX4_streetAfter_47 ?_
        exact j_iret C (by omega) (by omega) (pM.mk (h2 hI_lp)) dX4_streetAfter_49
      · refine j_aload_n C dX4_streetAfter_15 rfl 2 rfl ?_
        refine mg15 C q1489 dX4_streetAfter_16 ?_
        refine j_iload_n C dX4_streetAfter_19 rfl 0 rfl ?_
        refine j_aload_n C dX4_streetAfter_20 rfl 2 rfl ?_
        refine mg15 C q1489 dX4_streetAfter_21 ?_
        refine j_iconst (v := nI 4) C dX4_streetAfter_24 rfl ?_
        refine ml8 C (4) rfl (by first | omega | assumption | (intro z hz; have := r26 z hz; omega)) dX4_streetAfter_25 (v := S.2.2.2 8 4) rfl ?_
        refine j_callS C (mX4_goes G (mset G M o S, sz) (o + 8) o (S.2.2.2 8) (nI e) (S.2.2.2 8 4) (mset_a 8 (by decide) (by decide)) (by first | omega | assumption | (intro z hz; have := r26 z hz; omega)) (by first | omega | assumption | (intro z hz; have := r26 z hz; omega)) (by first | omega | assumption | (intro z hz; have := r26 z hz; omega)) (by first | omega | assumption | (intro z hz; have := r26 z hz; omega))) pI.ret 3 q1683 q1684 q73 q1685 (by decide +kernel) rfl (by decide) (by decide) (Nat.le_of_ble_eq_true rfl) rfl dX4_streetAfter_26 (by omega) (by omega) (qI.k ?_)
        refine j_if_eqB C 41 dX4_streetAfter_29 (by decide) (fun c29 => ?_) (fun c29 => ?_)
        · have hgo : goN (S.2.2.2 8) e (S.2.2.2 8 4) = false := by rw [← goB_i (by omega) (by omega)]; exact c29
          refine j_iincN (lv' := [(3, .int (nI (e + 1))), (2, .int (nI (a - ctS (S.2.2.2 8) (S.2.2.2 8 4) e))), (0, .ref o), (1, .int (nI a))]) C dX4_streetAfter_41 0 rfl (by decide) rfl ?_
          refine j_goto C 4 dX4_streetAfter_44 (by decide) ?_
          refine j_lv [0, 1, 2, 3] (lv' := [(3, .int (nI (e + 1))), (2, .int (nI (a - ctS (S.2.2.2 8) (S.2.2.2 8 4) e))), (0, .ref o), (1, .int (nI a))]) rfl ?_
          refine j_lvN (lv' := [(3, .int (nI (e + 1))), (2, .int (nI (a - ctS (S.2.2.2 8) (S.2.2.2 8 4) (e + 1)))), (0, .ref o), (1, .int (nI a))]) 1 rfl (by first | (rw [nI_dec (by omega)]; exact congrArg nI (by show _ = a - (ctS (S.2.2.2 8) (S.2.2.2 8 4) e + _); rw [hgo]; simp only [if_true]; omega)) | (show _ = a - (ctS (S.2.2.2 8) (S.2.2.2 8 4) e + _); rw [hgo]; rfl)) rfl ?_
          exact ih_lp (e + 1) (by omega) (by omega) (by omega) (by show ctS (S.2.2.2 8) (S.2.2.2 8 4) e + (if goN (S.2.2.2 8) e (S.2.2.2 8 4) then 1 else 0) ≤ a; rw [hgo]; first | (simp only [if_true]; omega) | exact hI_lp)
        · have hgo : goN (S.2.2.2 8) e (S.2.2.2 8 4) = true := by rw [← goB_i (by omega) (by omega)]; exact c29
          refine j_iload_n C dX4_streetAfter_32 rfl 1 rfl ?_
          refine j_if_neN C 38 dX4_streetAfter_33 (by decide) (by first | omega | assumption | (intro z hz; have := r26 z hz; omega)) (fun c33 => ?_) (fun c33 => ?_)
          · refine j_iinc (lv' := [(2, .int (nI (a - ctS (S.2.2.2 8) (S.2.2.2 8 4) e) + (-1))), (3, .int (nI e)), (0, .ref o), (1, .int (nI a))]) C dX4_streetAfter_38 1 rfl rfl (by decide) rfl ?_
            refine j_iincN (lv' := [(3, .int (nI (e + 1))), (2, .int (nI (a - ctS (S.2.2.2 8) (S.2.2.2 8 4) e) + (-1))), (0, .ref o), (1, .int (nI a))]) C dX4_streetAfter_41 1 rfl (by decide) rfl ?_
            refine j_goto C 4 dX4_streetAfter_44 (by decide) ?_
            refine j_lv [0, 1, 2, 3] (lv' := [(3, .int (nI (e + 1))), (2, .int (nI (a - ctS (S.2.2.2 8) (S.2.2.2 8 4) e) + (-1))), (0, .ref o), (1, .int (nI a))]) rfl ?_
            refine j_lvI (lv' := [(3, .int (nI (e + 1))), (2, .int (nI (a - ctS (S.2.2.2 8) (S.2.2.2 8 4) (e + 1)))), (0, .ref o), (1, .int (nI a))]) 1 rfl (by first | (rw [nI_dec (by omega)]; exact congrArg nI (by show _ = a - (ctS (S.2.2.2 8) (S.2.2.2 8 4) e + _); rw [hgo]; simp only [if_true]; omega)) | (show _ = a - (ctS (S.2.2.2 8) (S.2.2.2 8 4) e + _); rw [hgo]; rfl)) rfl ?_
            exact ih_lp (e + 1) (by omega) (by omega) (by omega) (by show ctS (S.2.2.2 8) (S.2.2.2 8 4) e + (if goN (S.2.2.2 8) e (S.2.2.2 8 4) then 1 else 0) ≤ a; rw [hgo]; first | (simp only [if_true]; omega) | exact hI_lp)
          · refine j_iload_n C dX4_streetAfter_36 rfl 0 rfl ?_
            exact j_iret C (by omega) (by omega) (pM.mk (h1 e (by omega) hgo (by omega))) dX4_streetAfter_37
  refine j_lv [0, 1, 2, 3] (lv' := [(3, .int (nI 0)), (2, .int (nI a)), (0, .ref o), (1, .int (nI a))]) rfl ?_
  refine j_lvN (lv' := [(3, .int (nI 0)), (2, .int (nI (a - ctS (S.2.2.2 8) (S.2.2.2 8 4) 0))), (0, .ref o), (1, .int (nI a))]) 1 rfl (show a = a - 0 by omega) rfl ?_
  exact lp (S.2.2.2 8 25 + 1 - 0) (0) (by omega) (by omega) (by omega) (by exact Nat.zero_le _)
set_option maxHeartbeats 4000000 in
theorem mX4_drawn (G : gl_T) (M : Nat → Option (Nat × va_E)) (sz o : Nat) (S : ms_T) (n seed what : Int32) (ht : smT (S.2.2.2 6)) (h3 : S.2.2.2 6 3 ≤ 999) (P : Int32 → ms_T → Prop) (h0 : S.2.2.2 6 0 = 0 → P kSTATE S) (h1 : 0 < S.2.2.2 6 0 → inB n (nI 0) (nI 60) = false ∨ inB seed (nI 1) (nI 999999) = false ∨ inB what (nI 0) (nI 1) = false → P kBAD S) (g0 : 0 < S.2.2.2 6 0 → ∀ m s, n = nI m → m ≤ 60 → seed = nI s → 1 ≤ s → s ≤ 999999 → what = nI 0 → ∀ t8, P (nI (drT (S.2.2.2 6) s m 2)) (sB S 8 t8)) (g1 : 0 < S.2.2.2 6 0 → ∀ m s, n = nI m → m ≤ 60 → seed = nI s → 1 ≤ s → s ≤ 999999 → what = nI 1 → ∀ t8, P (nI (drT (S.2.2.2 6) s m 4)) (sB S 8 t8)) : Mt G yX4_drawn cX4_drawn 8 (some .int) 3 [.ref o, .int n, .int seed, .int what] (mset G M o S, sz) (pM G M o sz P) 0 0 := by
  refine Mt.start (by decide) (Nat.le_of_ble_eq_true rfl) (fun k C => ?_)
  have C : Cx G k cX4_drawn "MoodFareModel" "drawn" 8 (some .int) 3 0 0 _ := C
  have ht0 := ht
  obtain ⟨r0, r1, r2, r3, r4, r5, r6, r7, r25, r26⟩ := ht
  refine j_aload_n C dX4_drawn_0 rfl 0 rfl ?_
  refine j_callV C (mX4_isTown G M sz o S (by first | omega | assumption | (intro z hz; have := q26 z hz; omega) | (show drX s e * 16807 < 2 ^ 63; omega) | (have := Nat.mod_lt (drX s e * 16807 % 2147483647) (show 0 < ctS (drT (S.2.2.2 6) s e) ((drT (S.2.2.2 6) s e) 4) ((drT (S.2.2.2 6) s e) 25) by omega); omega))) pI.ret mset_o rfl 0 q1715 q1717 qs47 q73 q1718 (by decide +kernel) rfl (by decide) (by decide) (Nat.le_of_ble_eq_true rfl) rfl dX4_drawn_1 (by omega) (by omega) (qI.k ?_)
  refine j_if_neB C 10 dX4_drawn_4 (by decide) (fun c4 => ?_) (fun c4 => ?_)
  · refine j_iload_n C dX4_drawn_10 rfl 1 rfl ?_
    refine j_iconst (v := nI 0) C dX4_drawn_11 rfl ?_
    refine j_bipush (v := nI 60) C dX4_drawn_12 rfl ?_
    refine j_callS C (mX4_in G (mset G M o S, sz) n (nI 0) (nI 60)) pI.ret 3 q1579 q1580 q73 q1581 (by decide +kernel) rfl (by decide) (by decide) (Nat.le_of_ble_eq_true rfl) rfl dX4_drawn_14 (by omega) (by omega) (qI.k ?_)
    refine j_if_eqB C 39 dX4_drawn_17 (by decide) (fun c17 => ?_) (fun c17 => ?_)
    · refine j_ldc C q1582 dX4_drawn_39 ?_
      exact j_iret C (by omega) (by omega) (pM.mk (h1 (of_decide_eq_true c4) (Or.inl c17))) dX4_drawn_41
    · obtain ⟨m, rfl, -, hm⟩ := inB_n (by decide) c17 (by decide)
      refine j_iload_n C dX4_drawn_20 rfl 2 rfl ?_
      refine j_iconst (v := nI 1) C dX4_drawn_21 rfl ?_
      refine j_ldc C q1819 dX4_drawn_22 ?_
      refine j_as (y := nI 999999) (by decide +kernel) ?_
      refine j_callS C (mX4_in G (mset G M o S, sz) seed (nI 1) (nI 999999)) pI.ret 3 q1579 q1580 q73 q1581 (by decide +kernel) rfl (by decide) (by decide) (Nat.le_of_ble_eq_true rfl) rfl dX4_drawn_24 (by omega) (by omega) (qI.k ?_)
      refine j_if_eqB C 39 dX4_drawn_27 (by decide) (fun c27 => ?_) (fun c27 => ?_)
      · refine j_ldc C q1582 dX4_drawn_39 ?_
        exact j_iret C (by omega) (by omega) (pM.mk (h1 (of_decide_eq_true c4) (Or.inr (Or.inl c27)))) dX4_drawn_41
      · obtain ⟨s, rfl, ls, hs⟩ := inB_n (by decide) c27 (by decide)
        refine j_iload_n C dX4_drawn_30 rfl 3 rfl ?_
        refine j_iconst (v := nI 0) C dX4_drawn_31 rfl ?_
        refine j_iconst (v := nI 1) C dX4_drawn_32 rfl ?_
        refine j_callS C (mX4_in G (mset G M o S, sz) what (nI 0) (nI 1)) pI.ret 3 q1579 q1580 q73 q1581 (by decide +kernel) rfl (by decide) (by decide) (Nat.le_of_ble_eq_true rfl) rfl dX4_drawn_33 (by omega) (by omega) (qI.k ?_)
        refine j_if_neB C 42 dX4_drawn_36 (by decide) (fun c36 => ?_) (fun c36 => ?_)
        · obtain ⟨u, rfl, -, hu⟩ := inB_n (by decide) c36 (by decide)
          refine j_aload_n C dX4_drawn_42 rfl 0 rfl ?_
          refine mg13 C q1487 dX4_drawn_43 ?_
          refine j_iconst (v := nI 0) C dX4_drawn_46 rfl ?_
          refine j_aload_n C dX4_drawn_47 rfl 0 rfl ?_
          refine mg15 C q1489 dX4_drawn_48 ?_
          refine j_iconst (v := nI 0) C dX4_drawn_51 rfl ?_
          refine j_callS C (mX4_copies G (mset G M o S, sz) (o + 6) o (o + 8) o 42 42 0 0 (S.2.2.2 6) (S.2.2.2 8) (mset_a 6 (by decide) (by decide)) (mset_a 8 (by decide) (by decide)) (by omega) (by first | omega | assumption | (intro z hz; have := q26 z hz; omega) | (show drX s e * 16807 < 2 ^ 63; omega) | (have := Nat.mod_lt (drX s e * 16807 % 2147483647) (show 0 < ctS (drT (S.2.2.2 6) s e) ((drT (S.2.2.2 6) s e) 4) ((drT (S.2.2.2 6) s e) 25) by omega); omega)) (by first | omega | assumption | (intro z hz; have := q26 z hz; omega) | (show drX s e * 16807 < 2 ^ 63; omega) | (have := Nat.mod_lt (drX s e * 16807 % 2147483647) (show 0 < ctS (drT (S.2.2.2 6) s e) ((drT (S.2.2.2 6) s e) 4) ((drT (S.2.2.2 6) s e) 25) by omega); omega)) (by decide) (by decide)) pV.ret 4 q1668 q1669 q73 q1670 (by decide +kernel) rfl (by decide) (by decide) (Nat.le_of_ble_eq_true rfl) rfl dX4_drawn_52 (by omega) (by omega) (qV.k ?_)
          refine J.eq (w' := (mset G M o (sB S 8 (va_cpy (S.2.2.2 6) (S.2.2.2 8) 0 0 42)), sz)) ?_ (congrArg (fun z => (z, sz)) (mset_ua 8 (by decide) (by decide) (mfs_B _ _ _ _) rfl (mcon_B _ _ _))) rfl rfl
          refine j_cgB 8 (g' := S.2.2.2 6) (by decide) (by decide) (fun i hi => by rw [pk_cpy_in (by omega) (by exact hi)]; simp) ?_
          refine j_iload_n C dX4_drawn_55 rfl 2 rfl ?_
          refine j_i2lN C dX4_drawn_56 (by first | omega | assumption | (intro z hz; have := q26 z hz; omega) | (show drX s e * 16807 < 2 ^ 63; omega) | (have := Nat.mod_lt (drX s e * 16807 % 2147483647) (show 0 < ctS (drT (S.2.2.2 6) s e) ((drT (S.2.2.2 6) s e) 4) ((drT (S.2.2.2 6) s e) 25) by omega); omega)) ?_
          refine j_lstore (lv' := [(4, .long (lN s)), (0, .ref o), (1, .int (nI m)), (2, .int (nI s)), (3, .int (nI u))]) C dX4_drawn_57 (by decide) rfl ?_
          refine j_iconst (v := nI 0) C dX4_drawn_59 rfl ?_
          refine j_istore (lv' := [(6, .int (nI 0)), (4, .long (lN s)), (0, .ref o), (1, .int (nI m)), (2, .int (nI s)), (3, .int (nI u))]) C dX4_drawn_60 (by decide) rfl ?_
          have lp : ∀ (n_lp e : Nat), 0 ≤ e → e ≤ m → m < e + n_lp → J G k (mset G M o (sB S 8 (drT (S.2.2.2 6) s e)), sz) [(6, .int (nI e)), (4, .long (lN (drX s e))), (0, .ref o), (1, .int (nI m)), (2, .int (nI s)), (3, .int (nI u))] 62 [] 0 0 := by
            intro n_lp
            induction n_lp with
            | zero => intro e h0_lp h1_lp h2_lp; omega
            | succ n_lp ih_lp =>
              intro e h0_lp h1_lp h2_lp
              refine j_iload C dX4_drawn_62 0 rfl ?_
              refine j_iload_n C dX4_drawn_64 rfl 3 rfl ?_
              refine j_icmp_geN C 142 dX4_drawn_65 (by decide) (by first | omega | assumption | (intro z hz; have := q26 z hz; omega) | (show drX s e * 16807 < 2 ^ 63; omega) | (have := Nat.mod_lt (drX s e * 16807 % 2147483647) (show 0 < ctS (drT (S.2.2.2 6) s e) ((drT (S.2.2.2 6) s e) 4) ((drT (S.2.2.2 6) s e) 25) by omega); omega)) (by first | omega | assumption | (intro z hz; have := q26 z hz; omega) | (show drX s e * 16807 < 2 ^ 63; omega) | (have := Nat.mod_lt (drX s e * 16807 % 2147483647) (show 0 < ctS (drT (S.2.2.2 6) s e) ((drT (S.2.2.2 6) s e) 4) ((drT (S.2.2.2 6) s e) 25) by omega); omega)) (fun c65 => ?_) (fun c65 => ?_)
              · obtain rfl : m = e := by omega
                refine j_iload_n C dX4_drawn_142 rfl 5 rfl ?_
                refine j_if_neN C 155 dX4_drawn_143 (by decide) (by first | omega | assumption | (intro z hz; have := q26 z hz; omega) | (show drX s e * 16807 < 2 ^ 63; omega) | (have := Nat.mod_lt (drX s e * 16807 % 2147483647) (show 0 < ctS (drT (S.2.2.2 6) s e) ((drT (S.2.2.2 6) s e) 4) ((drT (S.2.2.2 6) s e) 25) by omega); omega)) (fun c143 => ?_) (fun c143 => ?_)
                · refine j_aload_n C dX4_drawn_155 rfl 2 rfl ?_
                  refine mg15 C q1489 dX4_drawn_156 ?_
                  refine j_iconst (v := nI 4) C dX4_drawn_159 rfl ?_
                  refine ml8 C (4) rfl (by first | omega | assumption | (intro z hz; have := q26 z hz; omega) | (show drX s e * 16807 < 2 ^ 63; omega) | (have := Nat.mod_lt (drX s e * 16807 % 2147483647) (show 0 < ctS (drT (S.2.2.2 6) s e) ((drT (S.2.2.2 6) s e) 4) ((drT (S.2.2.2 6) s e) 25) by omega); omega)) dX4_drawn_160 (v := (drT (S.2.2.2 6) s m) 4) rfl ?_
                  exact j_iret C (by omega) (by omega) (pM.mk (g1 (of_decide_eq_true c4) m s rfl (by omega) rfl (by omega) (by omega) (by rw [show u = 1 by omega]) _)) dX4_drawn_161
                · refine j_aload_n C dX4_drawn_146 rfl 2 rfl ?_
                  refine mg15 C q1489 dX4_drawn_147 ?_
                  refine j_iconst (v := nI 2) C dX4_drawn_150 rfl ?_
                  refine ml8 C (2) rfl (by first | omega | assumption | (intro z hz; have := q26 z hz; omega) | (show drX s e * 16807 < 2 ^ 63; omega) | (have := Nat.mod_lt (drX s e * 16807 % 2147483647) (show 0 < ctS (drT (S.2.2.2 6) s e) ((drT (S.2.2.2 6) s e) 4) ((drT (S.2.2.2 6) s e) 25) by omega); omega)) dX4_drawn_151 (v := (drT (S.2.2.2 6) s m) 2) rfl ?_
                  refine j_goto C 161 dX4_drawn_152 (by decide) ?_
                  exact j_iret C (by omega) (by omega) (pM.mk (g0 (of_decide_eq_true c4) m s rfl (by omega) rfl (by omega) (by omega) (by rw [show u = 0 by omega]) _)) dX4_drawn_161
              · obtain ⟨hsm, hs3⟩ := drT_sm (s := s) ht0 e (by omega)
                have hsm0 := hsm
                obtain ⟨q0, q1, q2, q3, q4, q5, q6, q7, q25, q26⟩ := hsm
                have hW8 : ctS (drT (S.2.2.2 6) s e) ((drT (S.2.2.2 6) s e) 4) ((drT (S.2.2.2 6) s e) 25) ≤ (drT (S.2.2.2 6) s e) 25 := ctS_le _
                have hX := drX_lt (show s < 2147483647 by omega) e
                have hX1 := drX_lt (show s < 2147483647 by omega) (e + 1)
                refine j_lload C dX4_drawn_68 1 rfl ?_
                refine j_ldc2 C q1820 dX4_drawn_70 ?_
                refine j_asl (y := lN 16807) (by decide +kernel) ?_
                refine j_lmulN C dX4_drawn_73 ?_
                refine j_ldc2 C q1821 dX4_drawn_74 ?_
                refine j_asl (y := lN 2147483647) (by decide +kernel) ?_
                refine j_lremN C dX4_drawn_77 (by first | omega | assumption | (intro z hz; have := q26 z hz; omega) | (show drX s e * 16807 < 2 ^ 63; omega) | (have := Nat.mod_lt (drX s e * 16807 % 2147483647) (show 0 < ctS (drT (S.2.2.2 6) s e) ((drT (S.2.2.2 6) s e) 4) ((drT (S.2.2.2 6) s e) 25) by omega); omega)) (by first | omega | assumption | (intro z hz; have := q26 z hz; omega) | (show drX s e * 16807 < 2 ^ 63; omega) | (have := Nat.mod_lt (drX s e * 16807 % 2147483647) (show 0 < ctS (drT (S.2.2.2 6) s e) ((drT (S.2.2.2 6) s e) 4) ((drT (S.2.2.2 6) s e) 25) by omega); omega)) (by first | omega | assumption | (intro z hz; have := q26 z hz; omega) | (show drX s e * 16807 < 2 ^ 63; omega) | (have := Nat.mod_lt (drX s e * 16807 % 2147483647) (show 0 < ctS (drT (S.2.2.2 6) s e) ((drT (S.2.2.2 6) s e) 4) ((drT (S.2.2.2 6) s e) 25) by omega); omega)) ?_
                refine j_lstore (lv' := [(4, .long (lN (((drX s e) * 16807) % 2147483647))), (6, .int (nI e)), (0, .ref o), (1, .int (nI m)), (2, .int (nI s)), (3, .int (nI u))]) C dX4_drawn_78 (by decide) rfl ?_
                refine j_iconst (v := nI 0) C dX4_drawn_80 rfl ?_
                refine j_istore (lv' := [(7, .int (nI 0)), (4, .long (lN (((drX s e) * 16807) % 2147483647))), (6, .int (nI e)), (0, .ref o), (1, .int (nI m)), (2, .int (nI s)), (3, .int (nI u))]) C dX4_drawn_81 (by decide) rfl ?_
                have li : ∀ (n_li g : Nat), 0 ≤ g → g ≤ ctS (drT (S.2.2.2 6) s e) ((drT (S.2.2.2 6) s e) 4) ((drT (S.2.2.2 6) s e) 25) → ctS (drT (S.2.2.2 6) s e) ((drT (S.2.2.2 6) s e) 4) ((drT (S.2.2.2 6) s e) 25) < g + n_li → J G k (mset G M o (sB S 8 (drT (S.2.2.2 6) s e)), sz) [(7, .int (nI g)), (4, .long (lN (((drX s e) * 16807) % 2147483647))), (6, .int (nI e)), (0, .ref o), (1, .int (nI m)), (2, .int (nI s)), (3, .int (nI u))] 83 [] 0 0 := by
                  intro n_li
                  induction n_li with
                  | zero => intro g h0_li h1_li h2_li; omega
                  | succ n_li ih_li =>
                    intro g h0_li h1_li h2_li
                    refine j_aload_n C dX4_drawn_83 rfl 3 rfl ?_
                    refine j_iload C dX4_drawn_84 0 rfl ?_
                    refine j_callV C (mX4_streetAfter G M sz o (sB S 8 (drT (S.2.2.2 6) s e)) g (by first | omega | assumption | (intro z hz; have := q26 z hz; omega) | (show drX s e * 16807 < 2 ^ 63; omega) | (have := Nat.mod_lt (drX s e * 16807 % 2147483647) (show 0 < ctS (drT (S.2.2.2 6) s e) ((drT (S.2.2.2 6) s e) 4) ((drT (S.2.2.2 6) s e) 25) by omega); omega)) hsm0 (fun r1 S1 => (sB S 8 (drT (S.2.2.2 6) s e)) = S1 ∧ (r1 = kNONE → ctS (drT (S.2.2.2 6) s e) ((drT (S.2.2.2 6) s e) 4) ((drT (S.2.2.2 6) s e) 25) ≤ g) ∧ (¬ r1 = kNONE → g < ctS (drT (S.2.2.2 6) s e) ((drT (S.2.2.2 6) s e) 4) ((drT (S.2.2.2 6) s e) 25))) (fun x (h1 : x < (drT (S.2.2.2 6) s e) 25) (h2 : goN (drT (S.2.2.2 6) s e) x ((drT (S.2.2.2 6) s e) 4) = true) (h3 : ctS (drT (S.2.2.2 6) s e) ((drT (S.2.2.2 6) s e) 4) x = g) => ⟨rfl, fun z => absurd z (nI_none (by omega)), fun _ => by have := ctS_lt h1 h2; omega⟩) (fun (h : ctS (drT (S.2.2.2 6) s e) ((drT (S.2.2.2 6) s e) 4) ((drT (S.2.2.2 6) s e) 25) ≤ g) => ⟨rfl, fun _ => h, fun z => absurd rfl z⟩)) pM.ret mset_o rfl 1 q1822 q1824 qs58 q73 q1825 (by decide +kernel) rfl (by decide) (by decide) (Nat.le_of_ble_eq_true rfl) rfl dX4_drawn_86 (by omega) (by omega) (pM.k (fun r1 S1 ⟨hS1, hP1, hP2⟩ => ?_))
                    subst hS1
                    refine j_ldc C q1473 dX4_drawn_89 ?_
                    refine j_icmp_eq C 100 dX4_drawn_91 (by decide) (fun c91 => ?_) (fun c91 => ?_)
                    · have hW1 := hP1 c91
                      obtain rfl : ctS (drT (S.2.2.2 6) s e) ((drT (S.2.2.2 6) s e) 4) ((drT (S.2.2.2 6) s e) 25) = g := by omega
                      refine j_iload C dX4_drawn_100 0 rfl ?_
                      refine j_if_leN C 126 dX4_drawn_102 (by decide) (by first | omega | assumption | (intro z hz; have := q26 z hz; omega) | (show drX s e * 16807 < 2 ^ 63; omega) | (have := Nat.mod_lt (drX s e * 16807 % 2147483647) (show 0 < ctS (drT (S.2.2.2 6) s e) ((drT (S.2.2.2 6) s e) 4) ((drT (S.2.2.2 6) s e) 25) by omega); omega)) (fun c102 => ?_) (fun c102 => ?_)
                      · refine j_aload_n C dX4_drawn_126 rfl 3 rfl ?_
                        refine mg15 C q1489 dX4_drawn_127 ?_
                        refine j_iconst (v := nI 3) C dX4_drawn_130 rfl ?_
                        refine j_dup2 C dX4_drawn_131 rfl rfl ?_
                        refine ml8 C (3) rfl (by first | omega | assumption | (intro z hz; have := q26 z hz; omega) | (show drX s e * 16807 < 2 ^ 63; omega) | (have := Nat.mod_lt (drX s e * 16807 % 2147483647) (show 0 < ctS (drT (S.2.2.2 6) s e) ((drT (S.2.2.2 6) s e) 4) ((drT (S.2.2.2 6) s e) 25) by omega); omega)) dX4_drawn_132 (v := (drT (S.2.2.2 6) s e) 3) rfl ?_
                        refine j_iconst (v := nI 1) C dX4_drawn_133 rfl ?_
                        refine j_iaddN C dX4_drawn_134 ?_
                        refine mt8 C (3) rfl (by first | omega | assumption | (intro z hz; have := q26 z hz; omega) | (show drX s e * 16807 < 2 ^ 63; omega) | (have := Nat.mod_lt (drX s e * 16807 % 2147483647) (show 0 < ctS (drT (S.2.2.2 6) s e) ((drT (S.2.2.2 6) s e) 4) ((drT (S.2.2.2 6) s e) 25) by omega); omega)) dX4_drawn_135 ?_
                        refine j_iincN (lv' := [(6, .int (nI (e + 1))), (7, .int (nI ((ctS (drT (S.2.2.2 6) s e) ((drT (S.2.2.2 6) s e) 4) ((drT (S.2.2.2 6) s e) 25))))), (4, .long (lN (((drX s e) * 16807) % 2147483647))), (0, .ref o), (1, .int (nI m)), (2, .int (nI s)), (3, .int (nI u))]) C dX4_drawn_136 2 rfl (by decide) rfl ?_
                        refine j_goto C 62 dX4_drawn_139 (by decide) ?_
                        refine j_lv [0, 2, 3, 4, 5, 6] (lv' := [(6, .int (nI (e + 1))), (4, .long (lN (((drX s e) * 16807) % 2147483647))), (0, .ref o), (1, .int (nI m)), (2, .int (nI s)), (3, .int (nI u))]) rfl ?_
                        refine j_lv [0, 1, 2, 3, 4, 5] (lv' := [(6, .int (nI (e + 1))), (4, .long (lN (drX s (e + 1)))), (0, .ref o), (1, .int (nI m)), (2, .int (nI s)), (3, .int (nI u))]) rfl ?_
                        refine J.eq (w' := (mset G M o (sB S 8 (drT (S.2.2.2 6) s (e + 1))), sz)) ?_ (by show _ = (mset G M o (sB S 8 (drS (drT (S.2.2.2 6) s e) (drX s (e + 1)))), sz); unfold drS; first | (rw [if_pos (by omega)]; exact congrArg (fun z => (mset G M o z, sz)) (sB_sB _ _ _ _)) | (rw [if_neg (by omega)]; exact congrArg (fun z => (mset G M o z, sz)) (sB_sB _ _ _ _))) rfl rfl
                        exact ih_lp (e + 1) (by omega) (by omega) (by omega)
                      · refine j_aload_n C dX4_drawn_105 rfl 3 rfl ?_
                        refine mg15 C q1489 dX4_drawn_106 ?_
                        refine j_aload_n C dX4_drawn_109 rfl 3 rfl ?_
                        refine j_lload C dX4_drawn_110 1 rfl ?_
                        refine j_iload C dX4_drawn_112 0 rfl ?_
                        refine j_i2lN C dX4_drawn_114 (by first | omega | assumption | (intro z hz; have := q26 z hz; omega) | (show drX s e * 16807 < 2 ^ 63; omega) | (have := Nat.mod_lt (drX s e * 16807 % 2147483647) (show 0 < ctS (drT (S.2.2.2 6) s e) ((drT (S.2.2.2 6) s e) 4) ((drT (S.2.2.2 6) s e) 25) by omega); omega)) ?_
                        refine j_lremN C dX4_drawn_115 (by first | omega | assumption | (intro z hz; have := q26 z hz; omega) | (show drX s e * 16807 < 2 ^ 63; omega) | (have := Nat.mod_lt (drX s e * 16807 % 2147483647) (show 0 < ctS (drT (S.2.2.2 6) s e) ((drT (S.2.2.2 6) s e) 4) ((drT (S.2.2.2 6) s e) 25) by omega); omega)) (by first | omega | assumption | (intro z hz; have := q26 z hz; omega) | (show drX s e * 16807 < 2 ^ 63; omega) | (have := Nat.mod_lt (drX s e * 16807 % 2147483647) (show 0 < ctS (drT (S.2.2.2 6) s e) ((drT (S.2.2.2 6) s e) 4) ((drT (S.2.2.2 6) s e) 25) by omega); omega)) (by first | omega | assumption | (intro z hz; have := q26 z hz; omega) | (show drX s e * 16807 < 2 ^ 63; omega) | (have := Nat.mod_lt (drX s e * 16807 % 2147483647) (show 0 < ctS (drT (S.2.2.2 6) s e) ((drT (S.2.2.2 6) s e) 4) ((drT (S.2.2.2 6) s e) 25) by omega); omega)) ?_
                        refine j_l2iN C dX4_drawn_116 ?_
                        refine j_callV C (mX4_streetAfter G M sz o (sB S 8 (drT (S.2.2.2 6) s e)) ((((drX s e) * 16807) % 2147483647) % ((ctS (drT (S.2.2.2 6) s e) ((drT (S.2.2.2 6) s e) 4) ((drT (S.2.2.2 6) s e) 25)))) (by first | omega | assumption | (intro z hz; have := q26 z hz; omega) | (show drX s e * 16807 < 2 ^ 63; omega) | (have := Nat.mod_lt (drX s e * 16807 % 2147483647) (show 0 < ctS (drT (S.2.2.2 6) s e) ((drT (S.2.2.2 6) s e) 4) ((drT (S.2.2.2 6) s e) 25) by omega); omega)) hsm0 (fun r1 S1 => (sB S 8 (drT (S.2.2.2 6) s e)) = S1 ∧ r1 = nI (nthS (drT (S.2.2.2 6) s e) ((drT (S.2.2.2 6) s e) 4) ((((drX s e) * 16807) % 2147483647) % ((ctS (drT (S.2.2.2 6) s e) ((drT (S.2.2.2 6) s e) 4) ((drT (S.2.2.2 6) s e) 25)))) ((drT (S.2.2.2 6) s e) 25)) ∧ nthS (drT (S.2.2.2 6) s e) ((drT (S.2.2.2 6) s e) 4) ((((drX s e) * 16807) % 2147483647) % ((ctS (drT (S.2.2.2 6) s e) ((drT (S.2.2.2 6) s e) 4) ((drT (S.2.2.2 6) s e) 25)))) ((drT (S.2.2.2 6) s e) 25) < 8) (fun x (h1 : x < (drT (S.2.2.2 6) s e) 25) (h2 : goN (drT (S.2.2.2 6) s e) x ((drT (S.2.2.2 6) s e) 4) = true) (h3 : ctS (drT (S.2.2.2 6) s e) ((drT (S.2.2.2 6) s e) 4) x = (((drX s e) * 16807) % 2147483647) % ((ctS (drT (S.2.2.2 6) s e) ((drT (S.2.2.2 6) s e) 4) ((drT (S.2.2.2 6) s e) 25)))) => ⟨rfl, by rw [nthS_eq h2 h3 _ h1], by rw [nthS_eq h2 h3 _ h1]; omega⟩) (fun (h : ctS (drT (S.2.2.2 6) s e) ((drT (S.2.2.2 6) s e) 4) ((drT (S.2.2.2 6) s e) 25) ≤ (((drX s e) * 16807) % 2147483647) % ((ctS (drT (S.2.2.2 6) s e) ((drT (S.2.2.2 6) s e) 4) ((drT (S.2.2.2 6) s e) 25)))) => absurd h (by have := Nat.mod_lt (drX s e * 16807 % 2147483647) (show 0 < ctS (drT (S.2.2.2 6) s e) ((drT (S.2.2.2 6) s e) 4) ((drT (S.2.2.2 6) s e) 25) by omega); omega))) pM.ret mset_o rfl 1 q1822 q1824 qs58 q73 q1825 (by decide +kernel) rfl (by decide) (by decide) (Nat.le_of_ble_eq_true rfl) rfl dX4_drawn_117 (by omega) (by omega) (pM.k (fun r1 S1 ⟨hS1, hr1, hx8⟩ => ?_))
                        subst hS1
                        subst hr1
                        refine j_callS C (mX4_rides G (mset G M o (sB S 8 (drT (S.2.2.2 6) s e)), sz) (o + 8) o (drT (S.2.2.2 6) s e) (nthS (drT (S.2.2.2 6) s e) ((drT (S.2.2.2 6) s e) 4) ((((drX s e) * 16807) % 2147483647) % ((ctS (drT (S.2.2.2 6) s e) ((drT (S.2.2.2 6) s e) 4) ((drT (S.2.2.2 6) s e) 25)))) ((drT (S.2.2.2 6) s e) 25)) (mset_a 8 (by decide) (by decide)) hsm0 (by first | omega | assumption | (intro z hz; have := q26 z hz; omega) | (show drX s e * 16807 < 2 ^ 63; omega) | (have := Nat.mod_lt (drX s e * 16807 % 2147483647) (show 0 < ctS (drT (S.2.2.2 6) s e) ((drT (S.2.2.2 6) s e) 4) ((drT (S.2.2.2 6) s e) 25) by omega); omega))) pV.ret 2 q1694 q1695 q73 q1696 (by decide +kernel) rfl (by decide) (by decide) (Nat.le_of_ble_eq_true rfl) rfl dX4_drawn_120 (by omega) (by omega) (qV.k ?_)
                        refine J.eq (w' := (mset G M o (sB (sB S 8 (drT (S.2.2.2 6) s e)) 8 (rdT (drT (S.2.2.2 6) s e) (nthS (drT (S.2.2.2 6) s e) ((drT (S.2.2.2 6) s e) 4) ((((drX s e) * 16807) % 2147483647) % ((ctS (drT (S.2.2.2 6) s e) ((drT (S.2.2.2 6) s e) 4) ((drT (S.2.2.2 6) s e) 25)))) ((drT (S.2.2.2 6) s e) 25)))), sz)) ?_ (congrArg (fun z => (z, sz)) (mset_ua 8 (by decide) (by decide) (mfs_B _ _ _ _) rfl (mcon_B _ _ _))) rfl rfl
                        refine j_goto C 136 dX4_drawn_123 (by decide) ?_
                        refine j_iincN (lv' := [(6, .int (nI (e + 1))), (7, .int (nI ((ctS (drT (S.2.2.2 6) s e) ((drT (S.2.2.2 6) s e) 4) ((drT (S.2.2.2 6) s e) 25))))), (4, .long (lN (((drX s e) * 16807) % 2147483647))), (0, .ref o), (1, .int (nI m)), (2, .int (nI s)), (3, .int (nI u))]) C dX4_drawn_136 2 rfl (by decide) rfl ?_
                        refine j_goto C 62 dX4_drawn_139 (by decide) ?_
                        refine j_lv [0, 2, 3, 4, 5, 6] (lv' := [(6, .int (nI (e + 1))), (4, .long (lN (((drX s e) * 16807) % 2147483647))), (0, .ref o), (1, .int (nI m)), (2, .int (nI s)), (3, .int (nI u))]) rfl ?_
                        refine j_lv [0, 1, 2, 3, 4, 5] (lv' := [(6, .int (nI (e + 1))), (4, .long (lN (drX s (e + 1)))), (0, .ref o), (1, .int (nI m)), (2, .int (nI s)), (3, .int (nI u))]) rfl ?_
                        refine J.eq (w' := (mset G M o (sB S 8 (drT (S.2.2.2 6) s (e + 1))), sz)) ?_ (by show _ = (mset G M o (sB S 8 (drS (drT (S.2.2.2 6) s e) (drX s (e + 1)))), sz); unfold drS; first | (rw [if_pos (by omega)]; exact congrArg (fun z => (mset G M o z, sz)) (sB_sB _ _ _ _)) | (rw [if_neg (by omega)]; exact congrArg (fun z => (mset G M o z, sz)) (sB_sB _ _ _ _))) rfl rfl
                        exact ih_lp (e + 1) (by omega) (by omega) (by omega)
                    · have hW2 := hP2 c91
                      refine j_iincN (lv' := [(7, .int (nI (g + 1))), (4, .long (lN (((drX s e) * 16807) % 2147483647))), (6, .int (nI e)), (0, .ref o), (1, .int (nI m)), (2, .int (nI s)), (3, .int (nI u))]) C dX4_drawn_94 0 rfl (by decide) rfl ?_
                      refine j_goto C 83 dX4_drawn_97 (by decide) ?_
                      refine j_lv [0, 1, 2, 3, 4, 5, 6] (lv' := [(7, .int (nI (g + 1))), (4, .long (lN (((drX s e) * 16807) % 2147483647))), (6, .int (nI e)), (0, .ref o), (1, .int (nI m)), (2, .int (nI s)), (3, .int (nI u))]) rfl ?_
                      exact ih_li (g + 1) (by omega) (by omega) (by omega)
                refine j_lv [0, 1, 2, 3, 4, 5, 6] (lv' := [(7, .int (nI 0)), (4, .long (lN (((drX s e) * 16807) % 2147483647))), (6, .int (nI e)), (0, .ref o), (1, .int (nI m)), (2, .int (nI s)), (3, .int (nI u))]) rfl ?_
                exact li (ctS (drT (S.2.2.2 6) s e) ((drT (S.2.2.2 6) s e) 4) ((drT (S.2.2.2 6) s e) 25) + 1 - 0) (0) (by omega) (by omega) (by omega)
          refine j_lv [0, 1, 2, 3, 4, 5] (lv' := [(6, .int (nI 0)), (4, .long (lN s)), (0, .ref o), (1, .int (nI m)), (2, .int (nI s)), (3, .int (nI u))]) rfl ?_
          refine j_lv [0, 1, 2, 3, 4, 5] (lv' := [(6, .int (nI 0)), (4, .long (lN (drX s 0))), (0, .ref o), (1, .int (nI m)), (2, .int (nI s)), (3, .int (nI u))]) rfl ?_
          refine J.eq (w' := (mset G M o (sB S 8 (drT (S.2.2.2 6) s 0)), sz)) ?_ (by rfl) rfl rfl
          exact lp (m + 1 - 0) (0) (by omega) (by omega) (by omega)
        · refine j_ldc C q1582 dX4_drawn_39 ?_
          exact j_iret C (by omega) (by omega) (pM.mk (h1 (of_decide_eq_true c4) (Or.inr (Or.inr c36)))) dX4_drawn_41
  · refine j_ldc C q1689 dX4_drawn_7 ?_
    exact j_iret C (by omega) (by omega) (pM.mk (h0 (by have := of_decide_eq_false c4; omega))) dX4_drawn_9
