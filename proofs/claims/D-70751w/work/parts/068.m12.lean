/-! ===== the reference: a town is read ===== -/
set_option maxRecDepth 100000
set_option maxHeartbeats 1000000 in
theorem mX4_isStreetTold (G : gl_T) (M : Nat → Option (Nat × va_E)) (sz o : Nat) (S : ms_T) (f : Nat) (v : Int32) (hx : S.2.2.2 7 25 ≤ 8) : Mt G yX4_isStreetTold cX4_isStreetTold 5 (some .boolean) 0 [.ref o, .int (nI f), .int v] (mset G M o S, sz) (qI (bZ (stB (S.2.2.2 7) f v (S.2.2.2 7 25))) (mset G M o S, sz)) 0 0 := by
  refine Mt.start (by decide) (Nat.le_of_ble_eq_true rfl) (fun k C => ?_)
  have C : Cx G k cX4_isStreetTold "MoodFareModel" "isStreetTold" 5 (some .boolean) 0 0 0 _ := C
  refine j_iconst (v := nI 0) C dX4_isStreetTold_0 rfl ?_
  refine j_istore_n (lv' := [(3, .int (nI 0)), (0, .ref o), (1, .int (nI f)), (2, .int v)]) C dX4_isStreetTold_1 rfl (by decide) rfl ?_
  refine j_iconst (v := nI 0) C dX4_isStreetTold_2 rfl ?_
  refine j_istore (lv' := [(4, .int (nI 0)), (3, .int (nI 0)), (0, .ref o), (1, .int (nI f)), (2, .int v)]) C dX4_isStreetTold_3 (by decide) rfl ?_
  have lp : ∀ (n_lp e : Nat), 0 ≤ e → e ≤ S.2.2.2 7 25 → S.2.2.2 7 25 < e + n_lp → J G k (mset G M o S, sz) [(4, .int (nI e)), (3, .int (bZ (stB (S.2.2.2 7) f v e))), (0, .ref o), (1, .int (nI f)), (2, .int v)] 5 [] 0 0 := by
    intro n_lp
    induction n_lp with
    | zero => intro e h0_lp h1_lp h2_lp; omega
    | succ n_lp ih_lp =>
      intro e h0_lp h1_lp h2_lp
      refine j_iload C dX4_isStreetTold_5 0 rfl ?_
      refine j_aload_n C dX4_isStreetTold_7 rfl 2 rfl ?_
      refine mg14 C q1488 dX4_isStreetTold_8 ?_
      refine j_bipush (v := nI 25) C dX4_isStreetTold_11 rfl ?_
      refine ml7 C (25) rfl (by omega) dX4_isStreetTold_13 (v := S.2.2.2 7 25) rfl ?_
      refine j_icmp_geN C 67 dX4_isStreetTold_14 (by decide) (by omega) (by omega) (fun c14 => ?_) (fun c14 => ?_)
      · obtain rfl : S.2.2.2 7 25 = e := by omega
        refine j_iload_n C dX4_isStreetTold_67 rfl 1 rfl ?_
        exact j_zret C (bZ_n _) (by omega) (by omega) (pI.mk ⟨rfl, rfl⟩) dX4_isStreetTold_68
      · refine j_iload_n C dX4_isStreetTold_17 rfl 1 rfl ?_
        refine j_if_neB C 55 dX4_isStreetTold_18 (by decide) (fun c18 => ?_) (fun c18 => ?_)
        · refine j_iconst (v := nI 1) C dX4_isStreetTold_55 rfl ?_
          refine j_goto C 60 dX4_isStreetTold_56 (by decide) ?_
          refine j_istore_n (lv' := [(3, .int (nI 1)), (4, .int (nI e)), (0, .ref o), (1, .int (nI f)), (2, .int v)]) C dX4_isStreetTold_60 rfl (by decide) rfl ?_
          refine j_iincN (lv' := [(4, .int (nI (e + 1))), (3, .int (nI 1)), (0, .ref o), (1, .int (nI f)), (2, .int v)]) C dX4_isStreetTold_61 1 rfl (by decide) rfl ?_
          refine j_goto C 5 dX4_isStreetTold_64 (by decide) ?_
          refine j_lv [0, 1, 2, 3, 4] (lv' := [(4, .int (nI (e + 1))), (3, .int (nI 1)), (0, .ref o), (1, .int (nI f)), (2, .int v)]) rfl ?_
          refine j_lvI (lv' := [(4, .int (nI (e + 1))), (3, .int (bZ (stB (S.2.2.2 7) f v (e + 1)))), (0, .ref o), (1, .int (nI f)), (2, .int v)]) 1 rfl (by show nI 1 = bZ (stB (S.2.2.2 7) f v e || _); simp [bZ, c18]) rfl ?_
          exact ih_lp (e + 1) (by omega) (by omega) (by omega)
        · refine j_aload_n C dX4_isStreetTold_21 rfl 2 rfl ?_
          refine mg14 C q1488 dX4_isStreetTold_22 ?_
          refine j_bipush (v := nI 26) C dX4_isStreetTold_25 rfl ?_
          refine j_iconst (v := nI 2) C dX4_isStreetTold_27 rfl ?_
          refine j_iload C dX4_isStreetTold_28 0 rfl ?_
          refine j_imulN C dX4_isStreetTold_30 ?_
          refine j_iaddN C dX4_isStreetTold_31 ?_
          refine ml7 C (26 + (2 * e)) rfl (by omega) dX4_isStreetTold_32 (v := S.2.2.2 7 (26 + (2 * e))) rfl ?_
          refine j_iload_n C dX4_isStreetTold_33 rfl 3 rfl ?_
          refine j_icmp_ne C 59 dX4_isStreetTold_34 (by decide) (fun c34 => ?_) (fun c34 => ?_)
          · refine j_iconst (v := nI 0) C dX4_isStreetTold_59 rfl ?_
            refine j_istore_n (lv' := [(3, .int (nI 0)), (4, .int (nI e)), (0, .ref o), (1, .int (nI f)), (2, .int v)]) C dX4_isStreetTold_60 rfl (by decide) rfl ?_
            refine j_iincN (lv' := [(4, .int (nI (e + 1))), (3, .int (nI 0)), (0, .ref o), (1, .int (nI f)), (2, .int v)]) C dX4_isStreetTold_61 1 rfl (by decide) rfl ?_
            refine j_goto C 5 dX4_isStreetTold_64 (by decide) ?_
            refine j_lv [0, 1, 2, 3, 4] (lv' := [(4, .int (nI (e + 1))), (3, .int (nI 0)), (0, .ref o), (1, .int (nI f)), (2, .int v)]) rfl ?_
            refine j_lvI (lv' := [(4, .int (nI (e + 1))), (3, .int (bZ (stB (S.2.2.2 7) f v (e + 1)))), (0, .ref o), (1, .int (nI f)), (2, .int v)]) 1 rfl (by show nI 0 = bZ (stB (S.2.2.2 7) f v e || _); simp [bZ, c18, c34]) rfl ?_
            exact ih_lp (e + 1) (by omega) (by omega) (by omega)
          · refine j_aload_n C dX4_isStreetTold_37 rfl 2 rfl ?_
            refine mg14 C q1488 dX4_isStreetTold_38 ?_
            refine j_bipush (v := nI 26) C dX4_isStreetTold_41 rfl ?_
            refine j_iconst (v := nI 2) C dX4_isStreetTold_43 rfl ?_
            refine j_iload C dX4_isStreetTold_44 0 rfl ?_
            refine j_imulN C dX4_isStreetTold_46 ?_
            refine j_iaddN C dX4_isStreetTold_47 ?_
            refine j_iconst (v := nI 1) C dX4_isStreetTold_48 rfl ?_
            refine j_iaddN C dX4_isStreetTold_49 ?_
            refine ml7 C ((26 + (2 * e)) + 1) rfl (by omega) dX4_isStreetTold_50 (v := S.2.2.2 7 ((26 + (2 * e)) + 1)) rfl ?_
            refine j_iload_n C dX4_isStreetTold_51 rfl 4 rfl ?_
            refine j_icmp_ne C 59 dX4_isStreetTold_52 (by decide) (fun c52 => ?_) (fun c52 => ?_)
            · refine j_iconst (v := nI 0) C dX4_isStreetTold_59 rfl ?_
              refine j_istore_n (lv' := [(3, .int (nI 0)), (4, .int (nI e)), (0, .ref o), (1, .int (nI f)), (2, .int v)]) C dX4_isStreetTold_60 rfl (by decide) rfl ?_
              refine j_iincN (lv' := [(4, .int (nI (e + 1))), (3, .int (nI 0)), (0, .ref o), (1, .int (nI f)), (2, .int v)]) C dX4_isStreetTold_61 1 rfl (by decide) rfl ?_
              refine j_goto C 5 dX4_isStreetTold_64 (by decide) ?_
              refine j_lv [0, 1, 2, 3, 4] (lv' := [(4, .int (nI (e + 1))), (3, .int (nI 0)), (0, .ref o), (1, .int (nI f)), (2, .int v)]) rfl ?_
              refine j_lvI (lv' := [(4, .int (nI (e + 1))), (3, .int (bZ (stB (S.2.2.2 7) f v (e + 1)))), (0, .ref o), (1, .int (nI f)), (2, .int v)]) 1 rfl (by show nI 0 = bZ (stB (S.2.2.2 7) f v e || _); simp [bZ, c18, c34, c52]) rfl ?_
              exact ih_lp (e + 1) (by omega) (by omega) (by omega)
            · refine j_iconst (v := nI 1) C dX4_isStreetTold_55 rfl ?_
              refine j_goto C 60 dX4_isStreetTold_56 (by decide) ?_
              refine j_istore_n (lv' := [(3, .int (nI 1)), (4, .int (nI e)), (0, .ref o), (1, .int (nI f)), (2, .int v)]) C dX4_isStreetTold_60 rfl (by decide) rfl ?_
              refine j_iincN (lv' := [(4, .int (nI (e + 1))), (3, .int (nI 1)), (0, .ref o), (1, .int (nI f)), (2, .int v)]) C dX4_isStreetTold_61 1 rfl (by decide) rfl ?_
              refine j_goto C 5 dX4_isStreetTold_64 (by decide) ?_
              refine j_lv [0, 1, 2, 3, 4] (lv' := [(4, .int (nI (e + 1))), (3, .int (nI 1)), (0, .ref o), (1, .int (nI f)), (2, .int v)]) rfl ?_
              refine j_lvI (lv' := [(4, .int (nI (e + 1))), (3, .int (bZ (stB (S.2.2.2 7) f v (e + 1)))), (0, .ref o), (1, .int (nI f)), (2, .int v)]) 1 rfl (by show nI 1 = bZ (stB (S.2.2.2 7) f v e || _); simp [bZ, c34, c52]) rfl ?_
              exact ih_lp (e + 1) (by omega) (by omega) (by omega)
  refine j_lv [0, 1, 2, 3, 4] (lv' := [(4, .int (nI 0)), (3, .int (nI 0)), (0, .ref o), (1, .int (nI f)), (2, .int v)]) rfl ?_
  refine j_lvI (lv' := [(4, .int (nI 0)), (3, .int (bZ (stB (S.2.2.2 7) f v 0))), (0, .ref o), (1, .int (nI f)), (2, .int v)]) 1 rfl rfl rfl ?_
  exact lp (S.2.2.2 7 25 + 1 - 0) (0) (by omega) (by omega) (by omega)
set_option maxHeartbeats 400000 in
theorem mX4_toFigure (G : gl_T) (M : Nat → Option (Nat × va_E)) (sz o : Nat) (S : ms_T) (f : Nat) (hp : pOK S) : Mt G yX4_toFigure cX4_toFigure 2 (some .int) 3 [.ref o, .int (nI f)] (mset G M o S, sz) (qI (nI (tofV S f)) (mset G M o (tofS S f), sz)) 0 0 := by
  refine Mt.start (by decide) (Nat.le_of_ble_eq_true rfl) (fun k C => ?_)
  have C : Cx G k cX4_toFigure "MoodFareModel" "toFigure" 2 (some .int) 3 0 0 _ := C
  refine j_aload_n C dX4_toFigure_0 rfl 0 rfl ?_
  refine j_callV C (mX4_isWell G M sz o S) pI.ret mset_o rfl 0 q1636 q1638 qs37 q73 q1639 (by decide +kernel) rfl (by decide) (by decide) (Nat.le_of_ble_eq_true rfl) rfl dX4_toFigure_1 (by omega) (by omega) (qI.k ?_)
  refine j_if_eqB C 22 dX4_toFigure_4 (by decide) (fun c4 => ?_) (fun c4 => ?_)
  · refine j_aload_n C dX4_toFigure_22 rfl 0 rfl ?_
    have jn68 : J G k (mset G M o S, sz) [(0, .ref o), (1, .int (nI f))] 68 [.int (bZ (inB (S.1 12) (nI 0) (nI (S.2.2.2 7 6) - nI 1) && (!decide (S.1 12 = nI f) && !stB (S.2.2.2 7) f (S.1 12) (S.2.2.2 7 25)))), .ref o] 0 0 := by
      refine j_iconst (v := nI 2) C dX4_toFigure_68 rfl ?_
      refine j_callV C (mX4_takes G M sz o S (inB (S.1 12) (nI 0) (nI (S.2.2.2 7 6) - nI 1) && (!decide (S.1 12 = nI f) && !stB (S.2.2.2 7) f (S.1 12) (S.2.2.2 7 25))) 2 (by repeat' (first | exact hp | apply takS_ok | apply figS_ok | apply tofS_ok | apply advS_ok))) pI.ret mset_o rfl 2 q1632 q1634 qs36 q73 q1635 (by decide +kernel) rfl (by decide) (by decide) (Nat.le_of_ble_eq_true rfl) rfl dX4_toFigure_69 (by omega) (by omega) (qI.k ?_)
      exact j_iret C (by omega) (by omega) (pI.mk ⟨(tofE (S := S) (f := f) (fun z => absurd z.1 (of_decide_eq_false c4))).1, congrArg (fun z => (mset G M o z, sz)) (tofE (S := S) (f := f) (fun z => absurd z.1 (of_decide_eq_false c4))).2⟩) dX4_toFigure_72
    refine j_aload_n C dX4_toFigure_23 rfl 0 rfl ?_
    refine mg12 C q1486 dX4_toFigure_24 (v := S.1 12) rfl ?_
    refine j_iconst (v := nI 0) C dX4_toFigure_27 rfl ?_
    refine j_aload_n C dX4_toFigure_28 rfl 0 rfl ?_
    refine mg14 C q1488 dX4_toFigure_29 ?_
    refine j_bipush (v := nI 6) C dX4_toFigure_32 rfl ?_
    refine ml7 C (6) rfl (by first | omega | (have := hp.2.2.2.1; omega) | exact hp.2.2.2.2.2.2.1) dX4_toFigure_34 (v := S.2.2.2 7 6) rfl ?_
    refine j_iconst (v := nI 1) C dX4_toFigure_35 rfl ?_
    refine j_isub C dX4_toFigure_36 ?_
    refine j_callS C (mX4_in G (mset G M o S, sz) (S.1 12) (nI 0) (nI (S.2.2.2 7 6) - nI 1)) pI.ret 3 q1579 q1580 q73 q1581 (by decide +kernel) rfl (by decide) (by decide) (Nat.le_of_ble_eq_true rfl) rfl dX4_toFigure_37 (by omega) (by omega) (qI.k ?_)
    refine j_if_eqB C 67 dX4_toFigure_40 (by decide) (fun c40 => ?_) (fun c40 => ?_)
    · refine j_iconst (v := nI 0) C dX4_toFigure_67 rfl ?_
      refine j_as (y := bZ (inB (S.1 12) (nI 0) (nI (S.2.2.2 7 6) - nI 1) && (!decide (S.1 12 = nI f) && !stB (S.2.2.2 7) f (S.1 12) (S.2.2.2 7 25)))) (by simp [bZ, c40]) ?_
      exact jn68
    · refine j_aload_n C dX4_toFigure_43 rfl 0 rfl ?_
      refine mg12 C q1486 dX4_toFigure_44 (v := S.1 12) rfl ?_
      refine j_iload_n C dX4_toFigure_47 rfl 1 rfl ?_
      refine j_icmp_eq C 67 dX4_toFigure_48 (by decide) (fun c48 => ?_) (fun c48 => ?_)
      · refine j_iconst (v := nI 0) C dX4_toFigure_67 rfl ?_
        refine j_as (y := bZ (inB (S.1 12) (nI 0) (nI (S.2.2.2 7 6) - nI 1) && (!decide (S.1 12 = nI f) && !stB (S.2.2.2 7) f (S.1 12) (S.2.2.2 7 25)))) (by simp [bZ, c40, c48]) ?_
        exact jn68
      · refine j_aload_n C dX4_toFigure_51 rfl 0 rfl ?_
        refine j_iload_n C dX4_toFigure_52 rfl 1 rfl ?_
        refine j_aload_n C dX4_toFigure_53 rfl 0 rfl ?_
        refine mg12 C q1486 dX4_toFigure_54 (v := S.1 12) rfl ?_
        refine j_callV C (mX4_isStreetTold G M sz o S f (S.1 12) (by first | omega | (have := hp.2.2.2.1; omega) | exact hp.2.2.2.2.2.2.1)) pI.ret mset_o rfl 2 q1663 q1665 qs43 q73 q1666 (by decide +kernel) rfl (by decide) (by decide) (Nat.le_of_ble_eq_true rfl) rfl dX4_toFigure_57 (by omega) (by omega) (qI.k ?_)
        refine j_if_neB C 67 dX4_toFigure_60 (by decide) (fun c60 => ?_) (fun c60 => ?_)
        · refine j_iconst (v := nI 0) C dX4_toFigure_67 rfl ?_
          refine j_as (y := bZ (inB (S.1 12) (nI 0) (nI (S.2.2.2 7 6) - nI 1) && (!decide (S.1 12 = nI f) && !stB (S.2.2.2 7) f (S.1 12) (S.2.2.2 7 25)))) (by simp [bZ, c40, c48, c60]) ?_
          exact jn68
        · refine j_iconst (v := nI 1) C dX4_toFigure_63 rfl ?_
          refine j_goto C 68 dX4_toFigure_64 (by decide) ?_
          refine j_as (y := bZ (inB (S.1 12) (nI 0) (nI (S.2.2.2 7 6) - nI 1) && (!decide (S.1 12 = nI f) && !stB (S.2.2.2 7) f (S.1 12) (S.2.2.2 7 25)))) (by simp [bZ, c40, c48, c60]) ?_
          exact jn68
  · refine j_aload_n C dX4_toFigure_7 rfl 0 rfl ?_
    refine mg11 C q1485 dX4_toFigure_8 (v := S.2.1 11) rfl ?_
    refine j_iconst (v := nI 2) C dX4_toFigure_11 rfl ?_
    refine j_icmp_eqN C 22 dX4_toFigure_12 (by decide) (by first | omega | (have := hp.2.2.2.1; omega) | exact hp.2.2.2.2.2.2.1) (by first | omega | (have := hp.2.2.2.1; omega) | exact hp.2.2.2.2.2.2.1) (fun c12 => ?_) (fun c12 => ?_)
    · refine j_aload_n C dX4_toFigure_22 rfl 0 rfl ?_
      have jn68 : J G k (mset G M o S, sz) [(0, .ref o), (1, .int (nI f))] 68 [.int (bZ (inB (S.1 12) (nI 0) (nI (S.2.2.2 7 6) - nI 1) && (!decide (S.1 12 = nI f) && !stB (S.2.2.2 7) f (S.1 12) (S.2.2.2 7 25)))), .ref o] 0 0 := by
        refine j_iconst (v := nI 2) C dX4_toFigure_68 rfl ?_
        refine j_callV C (mX4_takes G M sz o S (inB (S.1 12) (nI 0) (nI (S.2.2.2 7 6) - nI 1) && (!decide (S.1 12 = nI f) && !stB (S.2.2.2 7) f (S.1 12) (S.2.2.2 7 25))) 2 (by repeat' (first | exact hp | apply takS_ok | apply figS_ok | apply tofS_ok | apply advS_ok))) pI.ret mset_o rfl 2 q1632 q1634 qs36 q73 q1635 (by decide +kernel) rfl (by decide) (by decide) (Nat.le_of_ble_eq_true rfl) rfl dX4_toFigure_69 (by omega) (by omega) (qI.k ?_)
        exact j_iret C (by omega) (by omega) (pI.mk ⟨(tofE (S := S) (f := f) (fun z => z.2 c12)).1, congrArg (fun z => (mset G M o z, sz)) (tofE (S := S) (f := f) (fun z => z.2 c12)).2⟩) dX4_toFigure_72
      refine j_aload_n C dX4_toFigure_23 rfl 0 rfl ?_
      refine mg12 C q1486 dX4_toFigure_24 (v := S.1 12) rfl ?_
      refine j_iconst (v := nI 0) C dX4_toFigure_27 rfl ?_
      refine j_aload_n C dX4_toFigure_28 rfl 0 rfl ?_
      refine mg14 C q1488 dX4_toFigure_29 ?_
      refine j_bipush (v := nI 6) C dX4_toFigure_32 rfl ?_
      refine ml7 C (6) rfl (by first | omega | (have := hp.2.2.2.1; omega) | exact hp.2.2.2.2.2.2.1) dX4_toFigure_34 (v := S.2.2.2 7 6) rfl ?_
      refine j_iconst (v := nI 1) C dX4_toFigure_35 rfl ?_
      refine j_isub C dX4_toFigure_36 ?_
      refine j_callS C (mX4_in G (mset G M o S, sz) (S.1 12) (nI 0) (nI (S.2.2.2 7 6) - nI 1)) pI.ret 3 q1579 q1580 q73 q1581 (by decide +kernel) rfl (by decide) (by decide) (Nat.le_of_ble_eq_true rfl) rfl dX4_toFigure_37 (by omega) (by omega) (qI.k ?_)
      refine j_if_eqB C 67 dX4_toFigure_40 (by decide) (fun c40 => ?_) (fun c40 => ?_)
      · refine j_iconst (v := nI 0) C dX4_toFigure_67 rfl ?_
        refine j_as (y := bZ (inB (S.1 12) (nI 0) (nI (S.2.2.2 7 6) - nI 1) && (!decide (S.1 12 = nI f) && !stB (S.2.2.2 7) f (S.1 12) (S.2.2.2 7 25)))) (by simp [bZ, c40]) ?_
        exact jn68
      · refine j_aload_n C dX4_toFigure_43 rfl 0 rfl ?_
        refine mg12 C q1486 dX4_toFigure_44 (v := S.1 12) rfl ?_
        refine j_iload_n C dX4_toFigure_47 rfl 1 rfl ?_
        refine j_icmp_eq C 67 dX4_toFigure_48 (by decide) (fun c48 => ?_) (fun c48 => ?_)
        · refine j_iconst (v := nI 0) C dX4_toFigure_67 rfl ?_
          refine j_as (y := bZ (inB (S.1 12) (nI 0) (nI (S.2.2.2 7 6) - nI 1) && (!decide (S.1 12 = nI f) && !stB (S.2.2.2 7) f (S.1 12) (S.2.2.2 7 25)))) (by simp [bZ, c40, c48]) ?_
          exact jn68
        · refine j_aload_n C dX4_toFigure_51 rfl 0 rfl ?_
          refine j_iload_n C dX4_toFigure_52 rfl 1 rfl ?_
          refine j_aload_n C dX4_toFigure_53 rfl 0 rfl ?_
          refine mg12 C q1486 dX4_toFigure_54 (v := S.1 12) rfl ?_
          refine j_callV C (mX4_isStreetTold G M sz o S f (S.1 12) (by first | omega | (have := hp.2.2.2.1; omega) | exact hp.2.2.2.2.2.2.1)) pI.ret mset_o rfl 2 q1663 q1665 qs43 q73 q1666 (by decide +kernel) rfl (by decide) (by decide) (Nat.le_of_ble_eq_true rfl) rfl dX4_toFigure_57 (by omega) (by omega) (qI.k ?_)
          refine j_if_neB C 67 dX4_toFigure_60 (by decide) (fun c60 => ?_) (fun c60 => ?_)
          · refine j_iconst (v := nI 0) C dX4_toFigure_67 rfl ?_
            refine j_as (y := bZ (inB (S.1 12) (nI 0) (nI (S.2.2.2 7 6) - nI 1) && (!decide (S.1 12 = nI f) && !stB (S.2.2.2 7) f (S.1 12) (S.2.2.2 7 25)))) (by simp [bZ, c40, c48, c60]) ?_
            exact jn68
          · refine j_iconst (v := nI 1) C dX4_toFigure_63 rfl ?_
            refine j_goto C 68 dX4_toFigure_64 (by decide) ?_
            refine j_as (y := bZ (inB (S.1 12) (nI 0) (nI (S.2.2.2 7 6) - nI 1) && (!decide (S.1 12 = nI f) && !stB (S.2.2.2 7) f (S.1 12) (S.2.2.2 7 25)))) (by simp [bZ, c40, c48, c60]) ?_
            exact jn68
    · refine j_aload_n C dX4_toFigure_15 rfl 0 rfl ?_
      refine j_iconst (v := nI 0) C dX4_toFigure_16 rfl ?_
      refine j_iconst (v := nI 1) C dX4_toFigure_17 rfl ?_
      refine j_callV C (mX4_takes G M sz o S false 1 (by repeat' (first | exact hp | apply takS_ok | apply figS_ok | apply tofS_ok | apply advS_ok))) pI.ret mset_o rfl 2 q1632 q1634 qs36 q73 q1635 (by decide +kernel) rfl (by decide) (by decide) (Nat.le_of_ble_eq_true rfl) rfl dX4_toFigure_18 (by omega) (by omega) (qI.k ?_)
      exact j_iret C (by omega) (by omega) (pI.mk ⟨(tofA (S := S) (f := f) ⟨of_decide_eq_true c4, c12⟩).1, congrArg (fun z => (mset G M o z, sz)) (tofA (S := S) (f := f) ⟨of_decide_eq_true c4, c12⟩).2⟩) dX4_toFigure_21
set_option maxHeartbeats 2000000 in
theorem mX4_readsCorner (G : gl_T) (M : Nat → Option (Nat × va_E)) (sz o : Nat) (S : ms_T) (hp : pOK S) : Mt G yX4_readsCorner cX4_readsCorner 5 none 5 [.ref o] (mset G M o S, sz) (qV (mset G M o (rcS S), sz)) 0 0 := by
  refine Mt.start (by decide) (Nat.le_of_ble_eq_true rfl) (fun k C => ?_)
  have C : Cx G k cX4_readsCorner "MoodFareModel" "readsCorner" 5 none 5 0 0 _ := C
  have p6 := hp.2.2.2.2.2.1
  refine j_aload_n C dX4_readsCorner_0 rfl 0 rfl ?_
  refine mg12 C q1486 dX4_readsCorner_1 (v := S.1 12) rfl ?_
  refine j_callS C (mX4_kindOf G (mset G M o S, sz) (S.1 12)) pI.ret 1 q1648 q1649 q73 q1650 (by decide +kernel) rfl (by decide) (by decide) (Nat.le_of_ble_eq_true rfl) rfl dX4_readsCorner_4 (by omega) (by omega) (qI.k ?_)
  refine j_istore_n (lv' := [(1, .int (nI (kndN (S.1 12)))), (0, .ref o)]) C dX4_readsCorner_7 rfl (by decide) rfl ?_
  refine j_aload_n C dX4_readsCorner_8 rfl 1 rfl ?_
  have jn26 : J G k (mset G M o S, sz) [(1, .int (nI (kndN (S.1 12)))), (0, .ref o)] 26 [.int (bZ (decide (S.2.2.2 7 6 < 6))), .ref o] 0 0 := by
    refine j_iconst (v := nI 3) C dX4_readsCorner_26 rfl ?_
    refine j_callV C (mX4_takes G M sz o S (decide (S.2.2.2 7 6 < 6)) 3 hp) pI.ret mset_o rfl 2 q1632 q1634 qs36 q73 q1635 (by decide +kernel) rfl (by decide) (by decide) (Nat.le_of_ble_eq_true rfl) rfl dX4_readsCorner_27 (by omega) (by omega) (qI.k ?_)
    refine J.eq (w' := (mset G M o (rcA S), sz)) (lv' := [(1, .int (nI (kndN (S.1 12)))), (0, .ref o)]) (st' := [.int (takV S (decide (S.2.2.2 7 6 < 6)))]) ?_ rfl rfl rfl
    have hpA : pOK (rcA S) := takS_ok hp
    have pA6 := hpA.2.2.2.2.2.1
    refine j_pop C dX4_readsCorner_30 rfl ?_
    refine j_bipush (v := nI 7) C dX4_readsCorner_31 rfl ?_
    refine j_iconst (v := nI 3) C dX4_readsCorner_33 rfl ?_
    have jn57 : J G k (mset G M o (rcA S), sz) [(1, .int (nI (kndN (S.1 12)))), (0, .ref o)] 57 [.int (nI (if (rcA S).2.2.2 7 6 < 6 then (rcA S).2.2.2 7 6 else 0)), .int (nI 3), .int (nI 7)] 0 0 := by
      refine j_imulN C dX4_readsCorner_57 ?_
      refine j_iaddN C dX4_readsCorner_58 ?_
      refine j_as (y := nI (rcK S)) rfl ?_
      have ek := rcK_le S
      refine j_istore_n (lv' := [(2, .int (nI (rcK S))), (1, .int (nI (kndN (S.1 12)))), (0, .ref o)]) C dX4_readsCorner_59 rfl (by decide) rfl ?_
      refine j_aload_n C dX4_readsCorner_60 rfl 2 rfl ?_
      refine j_iconst (v := nI 0) C dX4_readsCorner_61 rfl ?_
      refine j_bipush (v := nI 9) C dX4_readsCorner_62 rfl ?_
      refine j_callV C (mX4_figure G M sz o (rcA S) (nI 0) (nI 9) (by first | exact h0 | decide +kernel) hpA) pI.ret mset_o rfl 2 q1640 q1642 qs38 q73 q1643 (by decide +kernel) rfl (by decide) (by decide) (Nat.le_of_ble_eq_true rfl) rfl dX4_readsCorner_64 (by omega) (by omega) (qI.k ?_)
      have hpA2 := figS_ok (lo := nI 0) (hi := nI 9) hpA
      refine j_istore_n (lv' := [(3, .int (nI (figV (rcA S) (nI 0) (nI 9)))), (2, .int (nI (rcK S))), (1, .int (nI (kndN (S.1 12)))), (0, .ref o)]) C dX4_readsCorner_67 rfl (by decide) rfl ?_
      refine j_aload_n C dX4_readsCorner_68 rfl 3 rfl ?_
      refine j_iconst (v := nI 0) C dX4_readsCorner_69 rfl ?_
      refine j_bipush (v := nI 9) C dX4_readsCorner_70 rfl ?_
      refine j_callV C (mX4_follows G M sz o (figS (rcA S) (nI 0) (nI 9)) (nI 0) (nI 9) (by decide +kernel) hpA2) pI.ret mset_o rfl 2 q1644 q1646 qs39 q73 q1647 (by decide +kernel) rfl (by decide) (by decide) (Nat.le_of_ble_eq_true rfl) rfl dX4_readsCorner_72 (by omega) (by omega) (qI.k ?_)
      refine J.eq (w' := (mset G M o (rcC S), sz)) (lv' := [(3, .int (nI (figV (rcA S) (nI 0) (nI 9)))), (2, .int (nI (rcK S))), (1, .int (nI (kndN (S.1 12)))), (0, .ref o)]) (st' := [.int (nI (figV (rcB S) (nI 0) (nI 9)))]) ?_ rfl rfl rfl
      have hpC : pOK (rcC S) := figS_ok (takS_ok hpA2)
      refine j_istore (lv' := [(4, .int (nI (figV (rcB S) (nI 0) (nI 9)))), (3, .int (nI (figV (rcA S) (nI 0) (nI 9)))), (2, .int (nI (rcK S))), (1, .int (nI (kndN (S.1 12)))), (0, .ref o)]) C dX4_readsCorner_75 (by decide) rfl ?_
      refine j_aload_n C dX4_readsCorner_77 rfl 4 rfl ?_
      have ht_91 := hpC.2.2.2.1
      have jn91 : J G k (mset G M o (rcC S), sz) [(4, .int (nI (figV (rcB S) (nI 0) (nI 9)))), (3, .int (nI (figV (rcA S) (nI 0) (nI 9)))), (2, .int (nI (rcK S))), (1, .int (nI (kndN (S.1 12)))), (0, .ref o)] 91 [.int (bZ (decide ((rcC S).2.1 11 = 4))), .ref o] 0 0 := by
        refine j_iconst (v := nI 1) C dX4_readsCorner_91 rfl ?_
        refine j_callV C (mX4_takes G M sz o (rcC S) (decide ((rcC S).2.1 11 = 4)) 1 hpC) pI.ret mset_o rfl 2 q1632 q1634 qs36 q73 q1635 (by decide +kernel) rfl (by decide) (by decide) (Nat.le_of_ble_eq_true rfl) rfl dX4_readsCorner_92 (by omega) (by omega) (qI.k ?_)
        refine J.eq (w' := (mset G M o (rcD S), sz)) (lv' := [(4, .int (nI (figV (rcB S) (nI 0) (nI 9)))), (3, .int (nI (figV (rcA S) (nI 0) (nI 9)))), (2, .int (nI (rcK S))), (1, .int (nI (kndN (S.1 12)))), (0, .ref o)]) (st' := [.int (takV (rcC S) (decide ((rcC S).2.1 11 = 4)))]) ?_ rfl rfl rfl
        have hpD := rcD_ok hp
        refine j_pop C dX4_readsCorner_95 rfl ?_
        refine j_aload_n C dX4_readsCorner_96 rfl 4 rfl ?_
        refine j_callV C (mX4_isWell G M sz o (rcD S)) pI.ret mset_o rfl 0 q1636 q1638 qs37 q73 q1639 (by decide +kernel) rfl (by decide) (by decide) (Nat.le_of_ble_eq_true rfl) rfl dX4_readsCorner_97 (by omega) (by omega) (qI.k ?_)
        refine j_as (y := bZ (decide ((rcD S).1 8 < 0))) rfl ?_
        refine j_if_eqB C 140 dX4_readsCorner_100 (by decide) (fun c100 => ?_) (fun c100 => ?_)
        · exact j_vret C (by omega) (by omega) (pV.mk (congrArg (fun z => (mset G M o z, sz)) (by unfold rcS; rw [if_neg (of_decide_eq_false c100)]))) dX4_readsCorner_140
        · refine j_aload_n C dX4_readsCorner_103 rfl 4 rfl ?_
          refine mg14 C q1488 dX4_readsCorner_104 ?_
          refine j_iload_n C dX4_readsCorner_107 rfl 2 rfl ?_
          refine j_iload_n C dX4_readsCorner_108 rfl 3 rfl ?_
          refine mt7 C (rcK S) rfl (by first | omega | (have := hp.2.2.2.1; omega)) dX4_readsCorner_109 ?_
          refine j_aload_n C dX4_readsCorner_110 rfl 4 rfl ?_
          refine mg14 C q1488 dX4_readsCorner_111 ?_
          refine j_iload_n C dX4_readsCorner_114 rfl 2 rfl ?_
          refine j_iconst (v := nI 1) C dX4_readsCorner_115 rfl ?_
          refine j_iaddN C dX4_readsCorner_116 ?_
          refine j_iload_n C dX4_readsCorner_117 rfl 1 rfl ?_
          refine mt7 C ((rcK S) + 1) rfl (by first | omega | (have := hp.2.2.2.1; omega)) dX4_readsCorner_118 ?_
          refine j_aload_n C dX4_readsCorner_119 rfl 4 rfl ?_
          refine mg14 C q1488 dX4_readsCorner_120 ?_
          refine j_iload_n C dX4_readsCorner_123 rfl 2 rfl ?_
          refine j_iconst (v := nI 2) C dX4_readsCorner_124 rfl ?_
          refine j_iaddN C dX4_readsCorner_125 ?_
          refine j_iload C dX4_readsCorner_126 0 rfl ?_
          refine mt7 C ((rcK S) + 2) rfl (by first | omega | (have := hp.2.2.2.1; omega)) dX4_readsCorner_128 ?_
          refine j_aload_n C dX4_readsCorner_129 rfl 4 rfl ?_
          refine mg14 C q1488 dX4_readsCorner_130 ?_
          refine j_bipush (v := nI 6) C dX4_readsCorner_133 rfl ?_
          refine j_dup2 C dX4_readsCorner_135 rfl rfl ?_
          refine ml7 C (6) rfl (by first | omega | (have := hp.2.2.2.1; omega)) dX4_readsCorner_136 (v := (uN (uN (uN ((rcD S).2.2.2 7) (rcK S) (kndN (S.1 12))) ((rcK S) + 1) (figV (rcA S) (nI 0) (nI 9))) ((rcK S) + 2) (figV (rcB S) (nI 0) (nI 9))) 6) rfl ?_
          refine j_as (y := nI ((rcD S).2.2.2 7 6)) (congrArg nI (by rw [uN_n (by omega), uN_n (by omega), uN_n (by omega)])) ?_
          refine j_iconst (v := nI 1) C dX4_readsCorner_137 rfl ?_
          refine j_iaddN C dX4_readsCorner_138 ?_
          refine mt7 C (6) rfl (by first | omega | (have := hp.2.2.2.1; omega)) dX4_readsCorner_139 ?_
          exact j_vret C (by omega) (by omega) (pV.mk (congrArg (fun z => (mset G M o z, sz)) (by unfold rcS; rw [if_pos (of_decide_eq_true c100), sB_sB, sB_sB, sB_sB]; unfold rcT; rfl))) dX4_readsCorner_140
      refine j_aload_n C dX4_readsCorner_78 rfl 4 rfl ?_
      refine mg11 C q1485 dX4_readsCorner_79 (v := (rcC S).2.1 11) rfl ?_
      refine j_iconst (v := nI 4) C dX4_readsCorner_82 rfl ?_
      refine j_icmp_neN C 90 dX4_readsCorner_83 (by decide) (by first | omega | (have := hp.2.2.2.1; omega)) (by first | omega | (have := hp.2.2.2.1; omega)) (fun c83 => ?_) (fun c83 => ?_)
      · refine j_iconst (v := nI 0) C dX4_readsCorner_90 rfl ?_
        refine j_as (y := bZ (decide ((rcC S).2.1 11 = 4))) (by simp [bZ, c83]) ?_
        exact jn91
      · refine j_iconst (v := nI 1) C dX4_readsCorner_86 rfl ?_
        refine j_goto C 91 dX4_readsCorner_87 (by decide) ?_
        refine j_as (y := bZ (decide ((rcC S).2.1 11 = 4))) (by simp [bZ, c83]) ?_
        exact jn91
    refine j_aload_n C dX4_readsCorner_34 rfl 1 rfl ?_
    refine mg14 C q1488 dX4_readsCorner_35 ?_
    refine j_bipush (v := nI 6) C dX4_readsCorner_38 rfl ?_
    refine ml7 C (6) rfl (by first | omega | (have := hp.2.2.2.1; omega)) dX4_readsCorner_40 (v := ((rcA S).2.2.2 7) 6) rfl ?_
    refine j_bipush (v := nI 6) C dX4_readsCorner_41 rfl ?_
    refine j_icmp_geN C 56 dX4_readsCorner_43 (by decide) (by first | omega | (have := hp.2.2.2.1; omega)) (by first | omega | (have := hp.2.2.2.1; omega)) (fun c43 => ?_) (fun c43 => ?_)
    · refine j_iconst (v := nI 0) C dX4_readsCorner_56 rfl ?_
      refine j_as (y := nI (if (rcA S).2.2.2 7 6 < 6 then (rcA S).2.2.2 7 6 else 0)) (by rw [if_neg (by omega)]) ?_
      exact jn57
    · refine j_aload_n C dX4_readsCorner_46 rfl 1 rfl ?_
      refine mg14 C q1488 dX4_readsCorner_47 ?_
      refine j_bipush (v := nI 6) C dX4_readsCorner_50 rfl ?_
      refine ml7 C (6) rfl (by first | omega | (have := hp.2.2.2.1; omega)) dX4_readsCorner_52 (v := ((rcA S).2.2.2 7) 6) rfl ?_
      refine j_goto C 57 dX4_readsCorner_53 (by decide) ?_
      refine j_as (y := nI (if (rcA S).2.2.2 7 6 < 6 then (rcA S).2.2.2 7 6 else 0)) (by rw [if_pos (by omega)]) ?_
      exact jn57
  refine j_aload_n C dX4_readsCorner_9 rfl 1 rfl ?_
  refine mg14 C q1488 dX4_readsCorner_10 ?_
  refine j_bipush (v := nI 6) C dX4_readsCorner_13 rfl ?_
  refine ml7 C (6) rfl (by first | omega | (have := hp.2.2.2.1; omega)) dX4_readsCorner_15 (v := S.2.2.2 7 6) rfl ?_
  refine j_bipush (v := nI 6) C dX4_readsCorner_16 rfl ?_
  refine j_icmp_geN C 25 dX4_readsCorner_18 (by decide) (by first | omega | (have := hp.2.2.2.1; omega)) (by first | omega | (have := hp.2.2.2.1; omega)) (fun c18 => ?_) (fun c18 => ?_)
  · refine j_iconst (v := nI 0) C dX4_readsCorner_25 rfl ?_
    refine j_as (y := bZ (decide (S.2.2.2 7 6 < 6))) (by rw [show decide (S.2.2.2 7 6 < 6) = false from decide_eq_false (by omega)]; rfl) ?_
    exact jn26
  · refine j_iconst (v := nI 1) C dX4_readsCorner_21 rfl ?_
    refine j_goto C 26 dX4_readsCorner_22 (by decide) ?_
    refine j_as (y := bZ (decide (S.2.2.2 7 6 < 6))) (by simp [bZ, c18]) ?_
    exact jn26
set_option maxHeartbeats 2000000 in
theorem mX4_readsStreet (G : gl_T) (M : Nat → Option (Nat × va_E)) (sz o : Nat) (S : ms_T) (hp : pOK S) : Mt G yX4_readsStreet cX4_readsStreet 4 none 5 [.ref o] (mset G M o S, sz) (qV (mset G M o (rsS S), sz)) 0 0 := by
  refine Mt.start (by decide) (Nat.le_of_ble_eq_true rfl) (fun k C => ?_)
  have C : Cx G k cX4_readsStreet "MoodFareModel" "readsStreet" 4 none 5 0 0 _ := C
  have p6 := hp.2.2.2.2.2.2.1
  refine j_aload_n C dX4_readsStreet_0 rfl 0 rfl ?_
  have jn18 : J G k (mset G M o S, sz) [(0, .ref o)] 18 [.int (bZ (decide (S.2.2.2 7 25 < 8))), .ref o] 0 0 := by
    refine j_iconst (v := nI 3) C dX4_readsStreet_18 rfl ?_
    refine j_callV C (mX4_takes G M sz o S (decide (S.2.2.2 7 25 < 8)) 3 hp) pI.ret mset_o rfl 2 q1632 q1634 qs36 q73 q1635 (by decide +kernel) rfl (by decide) (by decide) (Nat.le_of_ble_eq_true rfl) rfl dX4_readsStreet_19 (by omega) (by omega) (qI.k ?_)
    refine J.eq (w' := (mset G M o (rsA S), sz)) (lv' := [(0, .ref o)]) (st' := [.int (takV S (decide (S.2.2.2 7 25 < 8)))]) ?_ rfl rfl rfl
    have hpA : pOK (rsA S) := takS_ok hp
    have pA6 := hpA.2.2.2.2.2.2.1
    refine j_pop C dX4_readsStreet_22 rfl ?_
    refine j_bipush (v := nI 26) C dX4_readsStreet_23 rfl ?_
    refine j_iconst (v := nI 2) C dX4_readsStreet_25 rfl ?_
    have jn49 : J G k (mset G M o (rsA S), sz) [(0, .ref o)] 49 [.int (nI (if (rsA S).2.2.2 7 25 < 8 then (rsA S).2.2.2 7 25 else 0)), .int (nI 2), .int (nI 26)] 0 0 := by
      refine j_imulN C dX4_readsStreet_49 ?_
      refine j_iaddN C dX4_readsStreet_50 ?_
      refine j_as (y := nI (rsK S)) rfl ?_
      have ek := rsK_le S
      refine j_istore_n (lv' := [(1, .int (nI (rsK S))), (0, .ref o)]) C dX4_readsStreet_51 rfl (by decide) rfl ?_
      refine j_aload_n C dX4_readsStreet_52 rfl 1 rfl ?_
      refine j_iconst (v := nI 0) C dX4_readsStreet_53 rfl ?_
      refine j_aload_n C dX4_readsStreet_54 rfl 1 rfl ?_
      refine mg14 C q1488 dX4_readsStreet_55 ?_
      refine j_bipush (v := nI 6) C dX4_readsStreet_58 rfl ?_
      refine ml7 C (6) rfl (by first | omega | (have := hp.2.2.2.1; omega)) dX4_readsStreet_60 (v := ((rsA S).2.2.2 7) 6) rfl ?_
      refine j_iconst (v := nI 1) C dX4_readsStreet_61 rfl ?_
      refine j_isub C dX4_readsStreet_62 ?_
      refine j_callV C (mX4_figure G M sz o (rsA S) (nI 0) (nI (((rsA S).2.2.2 7) 6) - nI 1) (by first | exact h0 | decide +kernel) hpA) pI.ret mset_o rfl 2 q1640 q1642 qs38 q73 q1643 (by decide +kernel) rfl (by decide) (by decide) (Nat.le_of_ble_eq_true rfl) rfl dX4_readsStreet_63 (by omega) (by omega) (qI.k ?_)
      refine j_as (y := nI (rsF S)) rfl ?_
      have hpA2 := figS_ok (lo := nI 0) (hi := nI ((rsA S).2.2.2 7 6) - nI 1) hpA
      refine j_istore_n (lv' := [(2, .int (nI (rsF S))), (1, .int (nI (rsK S))), (0, .ref o)]) C dX4_readsStreet_66 rfl (by decide) rfl ?_
      refine j_aload_n C dX4_readsStreet_67 rfl 2 rfl ?_
      have ht_81 := hpA2.2.2.2.1
      have jn81 : J G k (mset G M o (figS (rsA S) (nI 0) (nI (((rsA S).2.2.2 7) 6) - nI 1)), sz) [(2, .int (nI (rsF S))), (1, .int (nI (rsK S))), (0, .ref o)] 81 [.int (bZ (decide ((figS (rsA S) (nI 0) (nI (((rsA S).2.2.2 7) 6) - nI 1)).2.1 11 = 3))), .ref o] 0 0 := by
        refine j_iconst (v := nI 1) C dX4_readsStreet_81 rfl ?_
        refine j_callV C (mX4_takes G M sz o (figS (rsA S) (nI 0) (nI (((rsA S).2.2.2 7) 6) - nI 1)) (decide ((figS (rsA S) (nI 0) (nI (((rsA S).2.2.2 7) 6) - nI 1)).2.1 11 = 3)) 1 hpA2) pI.ret mset_o rfl 2 q1632 q1634 qs36 q73 q1635 (by decide +kernel) rfl (by decide) (by decide) (Nat.le_of_ble_eq_true rfl) rfl dX4_readsStreet_82 (by omega) (by omega) (qI.k ?_)
        refine J.eq (w' := (mset G M o (rsB S), sz)) (lv' := [(2, .int (nI (rsF S))), (1, .int (nI (rsK S))), (0, .ref o)]) (st' := [.int (takV (figS (rsA S) (nI 0) (nI (((rsA S).2.2.2 7) 6) - nI 1)) (decide ((figS (rsA S) (nI 0) (nI (((rsA S).2.2.2 7) 6) - nI 1)).2.1 11 = 3)))]) ?_ rfl rfl rfl
        have hpB : pOK (rsB S) := takS_ok hpA2
        refine j_pop C dX4_readsStreet_85 rfl ?_
        refine j_aload_n C dX4_readsStreet_86 rfl 2 rfl ?_
        refine j_iload_n C dX4_readsStreet_87 rfl 0 rfl ?_
        refine j_callV C (mX4_toFigure G M sz o (rsB S) (rsF S) hpB) pI.ret mset_o rfl 1 q1659 q1661 qs42 q73 q1662 (by decide +kernel) rfl (by decide) (by decide) (Nat.le_of_ble_eq_true rfl) rfl dX4_readsStreet_88 (by omega) (by omega) (qI.k ?_)
        refine J.eq (w' := (mset G M o (rsC S), sz)) (lv' := [(2, .int (nI (rsF S))), (1, .int (nI (rsK S))), (0, .ref o)]) (st' := [.int (nI (tofV (rsB S) (rsF S)))]) ?_ rfl rfl rfl
        have hpC : pOK (rsC S) := tofS_ok hpB
        refine j_istore_n (lv' := [(3, .int (nI (tofV (rsB S) (rsF S)))), (2, .int (nI (rsF S))), (1, .int (nI (rsK S))), (0, .ref o)]) C dX4_readsStreet_91 rfl (by decide) rfl ?_
        refine j_aload_n C dX4_readsStreet_92 rfl 3 rfl ?_
        have ht_106 := hpC.2.2.2.1
        have jn106 : J G k (mset G M o (rsC S), sz) [(3, .int (nI (tofV (rsB S) (rsF S)))), (2, .int (nI (rsF S))), (1, .int (nI (rsK S))), (0, .ref o)] 106 [.int (bZ (decide ((rsC S).2.1 11 = 4))), .ref o] 0 0 := by
          refine j_iconst (v := nI 1) C dX4_readsStreet_106 rfl ?_
          refine j_callV C (mX4_takes G M sz o (rsC S) (decide ((rsC S).2.1 11 = 4)) 1 hpC) pI.ret mset_o rfl 2 q1632 q1634 qs36 q73 q1635 (by decide +kernel) rfl (by decide) (by decide) (Nat.le_of_ble_eq_true rfl) rfl dX4_readsStreet_107 (by omega) (by omega) (qI.k ?_)
          refine J.eq (w' := (mset G M o (rsD S), sz)) (lv' := [(3, .int (nI (tofV (rsB S) (rsF S)))), (2, .int (nI (rsF S))), (1, .int (nI (rsK S))), (0, .ref o)]) (st' := [.int (takV (rsC S) (decide ((rsC S).2.1 11 = 4)))]) ?_ rfl rfl rfl
          have hpD := rsD_ok hp
          have pD := hpD.2.2.2.2.2.2.1
          refine j_pop C dX4_readsStreet_110 rfl ?_
          refine j_aload_n C dX4_readsStreet_111 rfl 3 rfl ?_
          refine j_callV C (mX4_isWell G M sz o (rsD S)) pI.ret mset_o rfl 0 q1636 q1638 qs37 q73 q1639 (by decide +kernel) rfl (by decide) (by decide) (Nat.le_of_ble_eq_true rfl) rfl dX4_readsStreet_112 (by omega) (by omega) (qI.k ?_)
          refine j_as (y := bZ (decide ((rsD S).1 8 < 0))) rfl ?_
          refine j_if_eqB C 163 dX4_readsStreet_115 (by decide) (fun c115 => ?_) (fun c115 => ?_)
          · exact j_vret C (by omega) (by omega) (pV.mk (congrArg (fun z => (mset G M o z, sz)) (by unfold rsS; rw [if_neg (of_decide_eq_false c115)]))) dX4_readsStreet_163
          · refine j_aload_n C dX4_readsStreet_118 rfl 3 rfl ?_
            refine mg14 C q1488 dX4_readsStreet_119 ?_
            refine j_iload_n C dX4_readsStreet_122 rfl 2 rfl ?_
            refine j_iload_n C dX4_readsStreet_123 rfl 1 rfl ?_
            refine mt7 C (rsK S) rfl (by first | omega | (have := hp.2.2.2.1; omega)) dX4_readsStreet_124 ?_
            refine j_aload_n C dX4_readsStreet_125 rfl 3 rfl ?_
            refine mg14 C q1488 dX4_readsStreet_126 ?_
            refine j_iload_n C dX4_readsStreet_129 rfl 2 rfl ?_
            refine j_iconst (v := nI 1) C dX4_readsStreet_130 rfl ?_
            refine j_iaddN C dX4_readsStreet_131 ?_
            refine j_iload_n C dX4_readsStreet_132 rfl 0 rfl ?_
            refine mt7 C ((rsK S) + 1) rfl (by first | omega | (have := hp.2.2.2.1; omega)) dX4_readsStreet_133 ?_
            refine j_aload_n C dX4_readsStreet_134 rfl 3 rfl ?_
            refine mg14 C q1488 dX4_readsStreet_135 ?_
            refine j_iconst (v := nI 5) C dX4_readsStreet_138 rfl ?_
            refine j_dup2 C dX4_readsStreet_139 rfl rfl ?_
            refine ml7 C (5) rfl (by first | omega | (have := hp.2.2.2.1; omega)) dX4_readsStreet_140 (v := (uN (uN ((rsD S).2.2.2 7) (rsK S) (rsF S)) ((rsK S) + 1) (tofV (rsB S) (rsF S))) 5) rfl ?_
            refine j_as (y := nI ((rsD S).2.2.2 7 5)) (congrArg nI (by rw [uN_n (by omega), uN_n (by omega)])) ?_
            refine j_iconst (v := nI 1) C dX4_readsStreet_141 rfl ?_
            refine j_aload_n C dX4_readsStreet_142 rfl 3 rfl ?_
            refine mg14 C q1488 dX4_readsStreet_143 ?_
            refine j_bipush (v := nI 25) C dX4_readsStreet_146 rfl ?_
            refine ml7 C (25) rfl (by first | omega | (have := hp.2.2.2.1; omega)) dX4_readsStreet_148 (v := (uN (uN ((rsD S).2.2.2 7) (rsK S) (rsF S)) ((rsK S) + 1) (tofV (rsB S) (rsF S))) 25) rfl ?_
            refine j_as (y := nI ((rsD S).2.2.2 7 25)) (congrArg nI (by rw [uN_n (by omega), uN_n (by omega)])) ?_
            refine j_shl1 C dX4_readsStreet_149 (by first | omega | (have := hp.2.2.2.1; omega)) ?_
            refine j_iorN C dX4_readsStreet_150 ?_
            refine mt7 C (5) rfl (by first | omega | (have := hp.2.2.2.1; omega)) dX4_readsStreet_151 ?_
            refine j_aload_n C dX4_readsStreet_152 rfl 3 rfl ?_
            refine mg14 C q1488 dX4_readsStreet_153 ?_
            refine j_bipush (v := nI 25) C dX4_readsStreet_156 rfl ?_
            refine j_dup2 C dX4_readsStreet_158 rfl rfl ?_
            refine ml7 C (25) rfl (by first | omega | (have := hp.2.2.2.1; omega)) dX4_readsStreet_159 (v := (uN (uN (uN ((rsD S).2.2.2 7) (rsK S) (rsF S)) ((rsK S) + 1) (tofV (rsB S) (rsF S))) 5 (((rsD S).2.2.2 7 5) ||| (2 ^ ((rsD S).2.2.2 7 25)))) 25) rfl ?_
            refine j_as (y := nI ((rsD S).2.2.2 7 25)) (congrArg nI (by rw [uN_n (by omega), uN_n (by omega), uN_n (by omega)])) ?_
            refine j_iconst (v := nI 1) C dX4_readsStreet_160 rfl ?_
            refine j_iaddN C dX4_readsStreet_161 ?_
            refine mt7 C (25) rfl (by first | omega | (have := hp.2.2.2.1; omega)) dX4_readsStreet_162 ?_
            exact j_vret C (by omega) (by omega) (pV.mk (congrArg (fun z => (mset G M o z, sz)) (by unfold rsS; rw [if_pos (of_decide_eq_true c115), sB_sB, sB_sB, sB_sB]; unfold rsT; rfl))) dX4_readsStreet_163
        refine j_aload_n C dX4_readsStreet_93 rfl 3 rfl ?_
        refine mg11 C q1485 dX4_readsStreet_94 (v := (rsC S).2.1 11) rfl ?_
        refine j_iconst (v := nI 4) C dX4_readsStreet_97 rfl ?_
        refine j_icmp_neN C 105 dX4_readsStreet_98 (by decide) (by first | omega | (have := hp.2.2.2.1; omega)) (by first | omega | (have := hp.2.2.2.1; omega)) (fun c98 => ?_) (fun c98 => ?_)
        · refine j_iconst (v := nI 0) C dX4_readsStreet_105 rfl ?_
          refine j_as (y := bZ (decide ((rsC S).2.1 11 = 4))) (by simp [bZ, c98]) ?_
          exact jn106
        · refine j_iconst (v := nI 1) C dX4_readsStreet_101 rfl ?_
          refine j_goto C 106 dX4_readsStreet_102 (by decide) ?_
          refine j_as (y := bZ (decide ((rsC S).2.1 11 = 4))) (by simp [bZ, c98]) ?_
          exact jn106
      refine j_aload_n C dX4_readsStreet_68 rfl 2 rfl ?_
      refine mg11 C q1485 dX4_readsStreet_69 (v := (figS (rsA S) (nI 0) (nI (((rsA S).2.2.2 7) 6) - nI 1)).2.1 11) rfl ?_
      refine j_iconst (v := nI 3) C dX4_readsStreet_72 rfl ?_
      refine j_icmp_neN C 80 dX4_readsStreet_73 (by decide) (by first | omega | (have := hp.2.2.2.1; omega)) (by first | omega | (have := hp.2.2.2.1; omega)) (fun c73 => ?_) (fun c73 => ?_)
      · refine j_iconst (v := nI 0) C dX4_readsStreet_80 rfl ?_
        refine j_as (y := bZ (decide ((figS (rsA S) (nI 0) (nI (((rsA S).2.2.2 7) 6) - nI 1)).2.1 11 = 3))) (by simp [bZ, c73]) ?_
        exact jn81
      · refine j_iconst (v := nI 1) C dX4_readsStreet_76 rfl ?_
        refine j_goto C 81 dX4_readsStreet_77 (by decide) ?_
        refine j_as (y := bZ (decide ((figS (rsA S) (nI 0) (nI (((rsA S).2.2.2 7) 6) - nI 1)).2.1 11 = 3))) (by simp [bZ, c73]) ?_
        exact jn81
    refine j_aload_n C dX4_readsStreet_26 rfl 0 rfl ?_
    refine mg14 C q1488 dX4_readsStreet_27 ?_
    refine j_bipush (v := nI 25) C dX4_readsStreet_30 rfl ?_
    refine ml7 C (25) rfl (by first | omega | (have := hp.2.2.2.1; omega)) dX4_readsStreet_32 (v := ((rsA S).2.2.2 7) 25) rfl ?_
    refine j_bipush (v := nI 8) C dX4_readsStreet_33 rfl ?_
    refine j_icmp_geN C 48 dX4_readsStreet_35 (by decide) (by first | omega | (have := hp.2.2.2.1; omega)) (by first | omega | (have := hp.2.2.2.1; omega)) (fun c35 => ?_) (fun c35 => ?_)
    · refine j_iconst (v := nI 0) C dX4_readsStreet_48 rfl ?_
      refine j_as (y := nI (if (rsA S).2.2.2 7 25 < 8 then (rsA S).2.2.2 7 25 else 0)) (by rw [if_neg (by omega)]) ?_
      exact jn49
    · refine j_aload_n C dX4_readsStreet_38 rfl 0 rfl ?_
      refine mg14 C q1488 dX4_readsStreet_39 ?_
      refine j_bipush (v := nI 25) C dX4_readsStreet_42 rfl ?_
      refine ml7 C (25) rfl (by first | omega | (have := hp.2.2.2.1; omega)) dX4_readsStreet_44 (v := ((rsA S).2.2.2 7) 25) rfl ?_
      refine j_goto C 49 dX4_readsStreet_45 (by decide) ?_
      refine j_as (y := nI (if (rsA S).2.2.2 7 25 < 8 then (rsA S).2.2.2 7 25 else 0)) (by rw [if_pos (by omega)]) ?_
      exact jn49
  refine j_aload_n C dX4_readsStreet_1 rfl 0 rfl ?_
  refine mg14 C q1488 dX4_readsStreet_2 ?_
  refine j_bipush (v := nI 25) C dX4_readsStreet_5 rfl ?_
  refine ml7 C (25) rfl (by first | omega | (have := hp.2.2.2.1; omega)) dX4_readsStreet_7 (v := S.2.2.2 7 25) rfl ?_
  refine j_bipush (v := nI 8) C dX4_readsStreet_8 rfl ?_
  refine j_icmp_geN C 17 dX4_readsStreet_10 (by decide) (by first | omega | (have := hp.2.2.2.1; omega)) (by first | omega | (have := hp.2.2.2.1; omega)) (fun c10 => ?_) (fun c10 => ?_)
  · refine j_iconst (v := nI 0) C dX4_readsStreet_17 rfl ?_
    refine j_as (y := bZ (decide (S.2.2.2 7 25 < 8))) (by rw [show decide (S.2.2.2 7 25 < 8) = false from decide_eq_false (by omega)]; rfl) ?_
    exact jn18
  · refine j_iconst (v := nI 1) C dX4_readsStreet_13 rfl ?_
    refine j_goto C 18 dX4_readsStreet_14 (by decide) ?_
    refine j_as (y := bZ (decide (S.2.2.2 7 25 < 8))) (by simp [bZ, c10]) ?_
    exact jn18
