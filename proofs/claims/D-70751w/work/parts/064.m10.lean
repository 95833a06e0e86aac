/-! ===== the reference: streets shut by chance ===== -/
set_option maxRecDepth 100000
set_option maxHeartbeats 8000000 in
theorem mX4_shut (G : gl_T) (M : Nat → Option (Nat × va_E)) (sz o : Nat) (S : ms_T) (cn q c what : Int32) (ht : smT (S.2.2.2 6)) (h3 : S.2.2.2 6 3 ≤ 999) (P : Int32 → ms_T → Prop) (h1 : inB cn (nI 0) (nI (S.2.2.2 6 6) - nI 1) = false ∨ inB q (nI 0) (nI 999) = false ∨ inB c (nI 0) (nI 10) = false ∨ inB what (nI 0) (nI 1) = false → P kBAD S) (hF : ∀ j qq cc u, cn = nI j → j < S.2.2.2 6 6 → q = nI qq → qq ≤ 999 → c = nI cc → cc ≤ 10 → what = nI u → u ≤ 1 → ∃ W, shW S j cc qq W ∧ P (nI ((if u = 0 then abF (S.2.2.2 6) W cc qq ((S.2.2.2 6 5 + 1)) else belF (S.2.2.2 6) (S.2.2.2 6 25)) / Nat.gcd (abF (S.2.2.2 6) W cc qq ((S.2.2.2 6 5 + 1))) (belF (S.2.2.2 6) (S.2.2.2 6 25)))) (scr S (W (S.2.2.2 6 5 + 1)))) : Mt G yX4_shut cX4_shut 10 (some .int) 5 [.ref o, .int cn, .int q, .int c, .int what] (mset G M o S, sz) (pM G M o sz P) 0 0 := by
  refine Mt.start (by decide) (Nat.le_of_ble_eq_true rfl) (fun k C => ?_)
  have C : Cx G k cX4_shut "MoodFareModel" "shut" 10 (some .int) 5 0 0 _ := C
  have ht0 := ht
  obtain ⟨r0, r1, r2, r3, r4, r5, r6, r7, r25, r26⟩ := ht
  refine j_aload_n C dX4_shut_0 rfl 0 rfl ?_
  refine j_iload_n C dX4_shut_1 rfl 1 rfl ?_
  refine j_callV C (mX4_isCorner G M sz o S cn) pI.ret mset_o rfl 1 q1707 q1709 qs46 q73 q1710 (by decide +kernel) rfl (by decide) (by decide) (Nat.le_of_ble_eq_true rfl) rfl dX4_shut_2 (by omega) (by omega) (qI.k ?_)
  refine j_if_eqB C 39 dX4_shut_5 (by decide) (fun c5 => ?_) (fun c5 => ?_)
  · refine j_ldc C q1582 dX4_shut_39 ?_
    exact j_iret C (by omega) (by omega) (pM.mk (h1 (Or.inl c5))) dX4_shut_41
  · obtain ⟨j, rfl, hj⟩ := inB_p (by first | omega | assumption) c5
    refine j_iload_n C dX4_shut_8 rfl 2 rfl ?_
    refine j_iconst (v := nI 0) C dX4_shut_9 rfl ?_
    refine j_sipush (v := nI 999) C dX4_shut_10 rfl ?_
    refine j_callS C (mX4_in G (mset G M o S, sz) q (nI 0) (nI 999)) pI.ret 3 q1579 q1580 q73 q1581 (by decide +kernel) rfl (by decide) (by decide) (Nat.le_of_ble_eq_true rfl) rfl dX4_shut_13 (by omega) (by omega) (qI.k ?_)
    refine j_if_eqB C 39 dX4_shut_16 (by decide) (fun c16 => ?_) (fun c16 => ?_)
    · refine j_ldc C q1582 dX4_shut_39 ?_
      exact j_iret C (by omega) (by omega) (pM.mk (h1 (Or.inr (Or.inl c16)))) dX4_shut_41
    · obtain ⟨qq, rfl, -, hqq⟩ := inB_n (by decide) c16 (by decide)
      refine j_iload_n C dX4_shut_19 rfl 3 rfl ?_
      refine j_iconst (v := nI 0) C dX4_shut_20 rfl ?_
      refine j_bipush (v := nI 10) C dX4_shut_21 rfl ?_
      refine j_callS C (mX4_in G (mset G M o S, sz) c (nI 0) (nI 10)) pI.ret 3 q1579 q1580 q73 q1581 (by decide +kernel) rfl (by decide) (by decide) (Nat.le_of_ble_eq_true rfl) rfl dX4_shut_23 (by omega) (by omega) (qI.k ?_)
      refine j_if_eqB C 39 dX4_shut_26 (by decide) (fun c26 => ?_) (fun c26 => ?_)
      · refine j_ldc C q1582 dX4_shut_39 ?_
        exact j_iret C (by omega) (by omega) (pM.mk (h1 (Or.inr (Or.inr (Or.inl c26))))) dX4_shut_41
      · obtain ⟨cc, rfl, -, hcc⟩ := inB_n (by decide) c26 (by decide)
        refine j_iload C dX4_shut_29 4 rfl ?_
        refine j_iconst (v := nI 0) C dX4_shut_31 rfl ?_
        refine j_iconst (v := nI 1) C dX4_shut_32 rfl ?_
        refine j_callS C (mX4_in G (mset G M o S, sz) what (nI 0) (nI 1)) pI.ret 3 q1579 q1580 q73 q1581 (by decide +kernel) rfl (by decide) (by decide) (Nat.le_of_ble_eq_true rfl) rfl dX4_shut_33 (by omega) (by omega) (qI.k ?_)
        refine j_if_neB C 42 dX4_shut_36 (by decide) (fun c36 => ?_) (fun c36 => ?_)
        · obtain ⟨u, rfl, -, hu⟩ := inB_n (by decide) c36 (by decide)
          obtain ⟨W, ⟨hW0, hW28, hWz, hWs, hWa⟩, hP⟩ := hF j qq cc u rfl hj rfl (by omega) rfl (by omega) rfl (by omega)
          obtain ⟨hbe0, hbe1⟩ := belF_le (S.2.2.2 6) (S.2.2.2 6 25)
          have hp8 := p10_8 r25
          refine j_iconst (v := nI 0) C dX4_shut_42 rfl ?_
          refine j_istore (lv' := [(5, .int (nI 0)), (0, .ref o), (1, .int (nI j)), (2, .int (nI qq)), (3, .int (nI cc)), (4, .int (nI u))]) C dX4_shut_43 (by decide) rfl ?_
          refine j_iconst (v := nI 1) C dX4_shut_45 rfl ?_
          refine j_istore (lv' := [(6, .int (nI 1)), (5, .int (nI 0)), (0, .ref o), (1, .int (nI j)), (2, .int (nI qq)), (3, .int (nI cc)), (4, .int (nI u))]) C dX4_shut_46 (by decide) rfl ?_
          refine j_iconst (v := nI 0) C dX4_shut_48 rfl ?_
          refine j_istore (lv' := [(7, .int (nI 0)), (6, .int (nI 1)), (5, .int (nI 0)), (0, .ref o), (1, .int (nI j)), (2, .int (nI qq)), (3, .int (nI cc)), (4, .int (nI u))]) C dX4_shut_49 (by decide) rfl ?_
          have l1 : ∀ (n_l1 g : Nat), 0 ≤ g → g ≤ S.2.2.2 6 25 → S.2.2.2 6 25 < g + n_l1 → J G k (mset G M o S, sz) [(7, .int (nI g)), (6, .int (nI (belF (S.2.2.2 6) g))), (5, .int (nI 0)), (0, .ref o), (1, .int (nI j)), (2, .int (nI qq)), (3, .int (nI cc)), (4, .int (nI u))] 51 [] 0 0 := by
            intro n_l1
            induction n_l1 with
            | zero => intro g h0_l1 h1_l1 h2_l1; omega
            | succ n_l1 ih_l1 =>
              intro g h0_l1 h1_l1 h2_l1
              refine j_iload C dX4_shut_51 0 rfl ?_
              refine j_aload_n C dX4_shut_53 rfl 3 rfl ?_
              refine mg13 C q1487 dX4_shut_54 ?_
              refine j_bipush (v := nI 25) C dX4_shut_57 rfl ?_
              refine ml6 C (25) rfl (by first | omega | assumption) dX4_shut_59 (v := S.2.2.2 6 25) rfl ?_
              refine j_icmp_geN C 94 dX4_shut_60 (by decide) (by first | omega | assumption) (by first | omega | assumption) (fun c60 => ?_) (fun c60 => ?_)
              · obtain rfl : S.2.2.2 6 25 = g := by omega
                refine j_iconst (v := nI 0) C dX4_shut_94 rfl ?_
                refine j_istore (lv' := [(7, .int (nI 0)), (6, .int (nI (belF (S.2.2.2 6) (S.2.2.2 6 25)))), (5, .int (nI 0)), (0, .ref o), (1, .int (nI j)), (2, .int (nI qq)), (3, .int (nI cc)), (4, .int (nI u))]) C dX4_shut_95 (by decide) rfl ?_
                have l2 : ∀ (n_l2 e : Nat), 0 ≤ e → e ≤ S.2.2.2 6 5 + 1 → S.2.2.2 6 5 + 1 < e + n_l2 → J G k (mset G M o (scr S (W e)), sz) [(7, .int (nI e)), (6, .int (nI (belF (S.2.2.2 6) (S.2.2.2 6 25)))), (5, .int (nI (abF (S.2.2.2 6) W cc qq e))), (0, .ref o), (1, .int (nI j)), (2, .int (nI qq)), (3, .int (nI cc)), (4, .int (nI u))] 97 [] 0 0 := by
                  intro n_l2
                  induction n_l2 with
                  | zero => intro e h0_l2 h1_l2 h2_l2; omega
                  | succ n_l2 ih_l2 =>
                    intro e h0_l2 h1_l2 h2_l2
                    refine j_iload C dX4_shut_97 0 rfl ?_
                    refine j_aload_n C dX4_shut_99 rfl 3 rfl ?_
                    refine mg13 C q1487 dX4_shut_100 ?_
                    refine j_iconst (v := nI 5) C dX4_shut_103 rfl ?_
                    refine ml6 C (5) rfl (by first | omega | assumption) dX4_shut_104 (v := S.2.2.2 6 5) rfl ?_
                    refine j_icmp_gtN C 237 dX4_shut_105 (by decide) (by first | omega | assumption) (by first | omega | assumption) (fun c105 => ?_) (fun c105 => ?_)
                    · obtain rfl : S.2.2.2 6 5 + 1 = e := by omega
                      refine j_iload C dX4_shut_237 2 rfl ?_
                      refine j_istore (lv' := [(7, .int (nI (abF (S.2.2.2 6) W cc qq (S.2.2.2 6 5 + 1)))), (6, .int (nI (belF (S.2.2.2 6) (S.2.2.2 6 25)))), (5, .int (nI (abF (S.2.2.2 6) W cc qq (S.2.2.2 6 5 + 1)))), (0, .ref o), (1, .int (nI j)), (2, .int (nI qq)), (3, .int (nI cc)), (4, .int (nI u))]) C dX4_shut_239 (by decide) rfl ?_
                      refine j_iload C dX4_shut_241 1 rfl ?_
                      refine j_istore (lv' := [(8, .int (nI (belF (S.2.2.2 6) (S.2.2.2 6 25)))), (7, .int (nI (abF (S.2.2.2 6) W cc qq (S.2.2.2 6 5 + 1)))), (6, .int (nI (belF (S.2.2.2 6) (S.2.2.2 6 25)))), (5, .int (nI (abF (S.2.2.2 6) W cc qq (S.2.2.2 6 5 + 1)))), (0, .ref o), (1, .int (nI j)), (2, .int (nI qq)), (3, .int (nI cc)), (4, .int (nI u))]) C dX4_shut_243 (by decide) rfl ?_
                      have hab := hWa (S.2.2.2 6 5 + 1) (by omega)
                      have lg : ∀ (n_lg x y : Nat), y < n_lg → x < 2 ^ 31 → y < 2 ^ 31 → Nat.gcd x y = Nat.gcd (abF (S.2.2.2 6) W cc qq (S.2.2.2 6 5 + 1)) (belF (S.2.2.2 6) (S.2.2.2 6 25)) → J G k (mset G M o (scr S (W (S.2.2.2 6 5 + 1))), sz) [(0, .ref o), (4, .int (nI u)), (5, .int (nI (abF (S.2.2.2 6) W cc qq (S.2.2.2 6 5 + 1)))), (6, .int (nI (belF (S.2.2.2 6) (S.2.2.2 6 25)))), (7, .int (nI x)), (8, .int (nI y))] 245 [] 0 0 := by
                        intro n_lg
                        induction n_lg with
                        | zero => intro x y hy; omega
                        | succ n_lg ih =>
                          intro x y hy hx2 hy2 hg
                          have hgp : 0 < Nat.gcd (abF (S.2.2.2 6) W cc qq (S.2.2.2 6 5 + 1)) (belF (S.2.2.2 6) (S.2.2.2 6 25)) := Nat.gcd_pos_of_pos_right _ hbe0
                          refine j_iload C dX4_shut_245 5 rfl ?_
                          refine j_if_eqN C 268 dX4_shut_247 (by decide) (by first | omega | assumption) (fun c247 => ?_) (fun c247 => ?_)
                          · subst c247
                            rw [Nat.gcd_zero_right] at hg
                            subst hg
                            refine j_iload C dX4_shut_268 1 rfl ?_
                            refine j_if_neN C 278 dX4_shut_270 (by decide) (by first | omega | assumption) (fun c270 => ?_) (fun c270 => ?_)
                            · refine j_iload C dX4_shut_278 3 rfl ?_
                              refine j_iload C dX4_shut_280 4 rfl ?_
                              refine j_idivN C dX4_shut_282 (by first | omega | assumption) (by first | omega | assumption) (by first | omega | assumption) ?_
                              exact j_iret C (by omega) (by omega) (pM.mk (by rw [if_neg (show ¬ u = 0 by omega)] at hP; exact hP)) dX4_shut_283
                            · refine j_iload C dX4_shut_273 2 rfl ?_
                              refine j_goto C 280 dX4_shut_275 (by decide) ?_
                              refine j_iload C dX4_shut_280 4 rfl ?_
                              refine j_idivN C dX4_shut_282 (by first | omega | assumption) (by first | omega | assumption) (by first | omega | assumption) ?_
                              exact j_iret C (by omega) (by omega) (pM.mk (by rw [if_pos (show u = 0 by omega)] at hP; exact hP)) dX4_shut_283
                          · refine j_iload C dX4_shut_250 4 rfl ?_
                            refine j_iload C dX4_shut_252 5 rfl ?_
                            refine j_iremN C dX4_shut_254 (by first | omega | assumption) (by first | omega | assumption) (by first | omega | assumption) ?_
                            refine j_istore (lv' := [(9, .int (nI (x % y))), (0, .ref o), (4, .int (nI u)), (5, .int (nI (abF (S.2.2.2 6) W cc qq (S.2.2.2 6 5 + 1)))), (6, .int (nI (belF (S.2.2.2 6) (S.2.2.2 6 25)))), (7, .int (nI x)), (8, .int (nI y))]) C dX4_shut_255 (by decide) rfl ?_
                            refine j_iload C dX4_shut_257 6 rfl ?_
                            refine j_istore (lv' := [(7, .int (nI y)), (9, .int (nI (x % y))), (0, .ref o), (4, .int (nI u)), (5, .int (nI (abF (S.2.2.2 6) W cc qq (S.2.2.2 6 5 + 1)))), (6, .int (nI (belF (S.2.2.2 6) (S.2.2.2 6 25)))), (8, .int (nI y))]) C dX4_shut_259 (by decide) rfl ?_
                            refine j_iload C dX4_shut_261 1 rfl ?_
                            refine j_istore (lv' := [(8, .int (nI (x % y))), (7, .int (nI y)), (9, .int (nI (x % y))), (0, .ref o), (4, .int (nI u)), (5, .int (nI (abF (S.2.2.2 6) W cc qq (S.2.2.2 6 5 + 1)))), (6, .int (nI (belF (S.2.2.2 6) (S.2.2.2 6 25))))]) C dX4_shut_263 (by decide) rfl ?_
                            refine j_goto C 245 dX4_shut_265 (by decide) ?_
                            refine j_lv [3, 4, 5, 6, 1, 0] (lv' := [(0, .ref o), (4, .int (nI u)), (5, .int (nI (abF (S.2.2.2 6) W cc qq (S.2.2.2 6 5 + 1)))), (6, .int (nI (belF (S.2.2.2 6) (S.2.2.2 6 25)))), (7, .int (nI y)), (8, .int (nI (x % y)))]) rfl ?_
                            exact ih y (x % y) (by have := Nat.mod_lt x (show 0 < y by omega); omega) hy2 (by have := Nat.mod_lt x (show 0 < y by omega); omega) (by rw [← hg, Nat.gcd_comm x y, Nat.gcd_rec y x, Nat.gcd_comm])
                      refine j_lv [4, 8, 3, 2, 1, 0] (lv' := [(0, .ref o), (4, .int (nI u)), (5, .int (nI (abF (S.2.2.2 6) W cc qq (S.2.2.2 6 5 + 1)))), (6, .int (nI (belF (S.2.2.2 6) (S.2.2.2 6 25)))), (7, .int (nI (abF (S.2.2.2 6) W cc qq (S.2.2.2 6 5 + 1)))), (8, .int (nI (belF (S.2.2.2 6) (S.2.2.2 6 25))))]) rfl ?_
                      exact lg (belF (S.2.2.2 6) (S.2.2.2 6 25) + 1) (abF (S.2.2.2 6) W cc qq (S.2.2.2 6 5 + 1)) (belF (S.2.2.2 6) (S.2.2.2 6 25)) (by omega) hab (by omega) rfl
                    · refine j_iload C dX4_shut_108 0 rfl ?_
                      refine j_aload_n C dX4_shut_110 rfl 3 rfl ?_
                      refine mg13 C q1487 dX4_shut_111 ?_
                      refine j_iconst (v := nI 5) C dX4_shut_114 rfl ?_
                      refine ml6 C (5) rfl (by first | omega | assumption) dX4_shut_115 (v := S.2.2.2 6 5) rfl ?_
                      refine j_iconst (v := -1) C dX4_shut_116 rfl ?_
                      refine j_ixor C dX4_shut_117 ?_
                      refine j_iand C dX4_shut_118 ?_
                      refine j_if_ne C 126 dX4_shut_119 (by decide) (fun c119 => ?_) (fun c119 => ?_)
                      · refine j_iconst (v := nI 0) C dX4_shut_126 rfl ?_
                        refine j_istore (lv' := [(8, .int (nI 0)), (7, .int (nI e)), (6, .int (nI (belF (S.2.2.2 6) (S.2.2.2 6 25)))), (5, .int (nI (abF (S.2.2.2 6) W cc qq e))), (0, .ref o), (1, .int (nI j)), (2, .int (nI qq)), (3, .int (nI cc)), (4, .int (nI u))]) C dX4_shut_127 (by decide) rfl ?_
                        refine j_iconst (v := nI 0) C dX4_shut_129 rfl ?_
                        refine j_istore (lv' := [(9, .int (nI 0)), (8, .int (nI 0)), (7, .int (nI e)), (6, .int (nI (belF (S.2.2.2 6) (S.2.2.2 6 25)))), (5, .int (nI (abF (S.2.2.2 6) W cc qq e))), (0, .ref o), (1, .int (nI j)), (2, .int (nI qq)), (3, .int (nI cc)), (4, .int (nI u))]) C dX4_shut_130 (by decide) rfl ?_
                        have l3 : ∀ (n_l3 g : Nat), 0 ≤ g → g ≤ S.2.2.2 6 25 → S.2.2.2 6 25 < g + n_l3 → J G k (mset G M o (scr S (W e)), sz) [(9, .int (nI g)), (8, .int (nI (wayF (S.2.2.2 6) cc e g))), (7, .int (nI e)), (6, .int (nI (belF (S.2.2.2 6) (S.2.2.2 6 25)))), (5, .int (nI (abF (S.2.2.2 6) W cc qq e))), (0, .ref o), (1, .int (nI j)), (2, .int (nI qq)), (3, .int (nI cc)), (4, .int (nI u))] 132 [] 0 0 := by
                          intro n_l3
                          induction n_l3 with
                          | zero => intro g h0_l3 h1_l3 h2_l3; omega
                          | succ n_l3 ih_l3 =>
                            intro g h0_l3 h1_l3 h2_l3
                            refine j_iload C dX4_shut_132 0 rfl ?_
                            refine j_aload_n C dX4_shut_134 rfl 5 rfl ?_
                            refine mg13 C q1487 dX4_shut_135 ?_
                            refine j_bipush (v := nI 25) C dX4_shut_138 rfl ?_
                            refine ml6 C (25) rfl (by first | omega | assumption) dX4_shut_140 (v := S.2.2.2 6 25) rfl ?_
                            refine j_icmp_geN C 191 dX4_shut_141 (by decide) (by first | omega | assumption) (by first | omega | assumption) (fun c141 => ?_) (fun c141 => ?_)
                            · obtain rfl : S.2.2.2 6 25 = g := by omega
                              have hwy := wayF_le (t := (S.2.2.2 6)) (s := e) (show cc ≤ 10 by omega) (S.2.2.2 6 25)
                              have hab := hWa e (by omega)
                              refine j_iload C dX4_shut_191 1 rfl ?_
                              refine j_if_leN C 231 dX4_shut_193 (by decide) (by first | omega | assumption) (fun c193 => ?_) (fun c193 => ?_)
                              · refine j_iincN (lv' := [(7, .int (nI (e + 1))), (9, .int (nI ((S.2.2.2 6 25)))), (8, .int (nI (wayF (S.2.2.2 6) cc e (S.2.2.2 6 25)))), (6, .int (nI (belF (S.2.2.2 6) (S.2.2.2 6 25)))), (5, .int (nI (abF (S.2.2.2 6) W cc qq e))), (0, .ref o), (1, .int (nI j)), (2, .int (nI qq)), (3, .int (nI cc)), (4, .int (nI u))]) C dX4_shut_231 2 rfl (by decide) rfl ?_
                                refine j_goto C 97 dX4_shut_234 (by decide) ?_
                                refine j_lv [0, 3, 4, 5, 6, 7, 8, 9] (lv' := [(7, .int (nI (e + 1))), (6, .int (nI (belF (S.2.2.2 6) (S.2.2.2 6 25)))), (5, .int (nI (abF (S.2.2.2 6) W cc qq e))), (0, .ref o), (1, .int (nI j)), (2, .int (nI qq)), (3, .int (nI cc)), (4, .int (nI u))]) rfl ?_
                                refine j_lvN (lv' := [(7, .int (nI (e + 1))), (6, .int (nI (belF (S.2.2.2 6) (S.2.2.2 6 25)))), (5, .int (nI (abF (S.2.2.2 6) W cc qq (e + 1)))), (0, .ref o), (1, .int (nI j)), (2, .int (nI qq)), (3, .int (nI cc)), (4, .int (nI u))]) 2 rfl (by show _ = abF (S.2.2.2 6) W cc qq e + _; rw [if_neg (fun z => absurd z.1 (by omega))]; exact (Nat.add_zero _).symm) rfl ?_
                                refine J.eq (w' := (mset G M o (scr S (W (e + 1))), sz)) ?_ (by rw [hWz e (by omega) c193]) rfl rfl
                                exact ih_l2 (e + 1) (by omega) (by omega) (by omega)
                              · refine j_aload_n C dX4_shut_196 rfl 5 rfl ?_
                                refine j_iload_n C dX4_shut_197 rfl 6 rfl ?_
                                refine j_iload C dX4_shut_198 2 rfl ?_
                                obtain ⟨n, R, hR, hRe⟩ := hWs e (by omega) c193
                                refine j_callV C (mX4_finds G M sz o (scr S (W e)) j e 0 n R (by omega) (dOK_fnd (S := scr S (W e)) ht0 h3 (by omega)) (hW28 e) hR) pV.ret mset_o rfl 2 q1751 q1753 qs49 q73 q1754 (by decide +kernel) rfl (by decide) (by decide) (Nat.le_of_ble_eq_true rfl) rfl dX4_shut_200 (by omega) (by omega) (qV.k ?_)
                                refine J.eq (w' := (mset G M o (scr S (W (e + 1))), sz)) ?_ (by rw [hRe]) rfl rfl
                                refine j_iload C dX4_shut_203 4 rfl ?_
                                refine j_aload_n C dX4_shut_205 rfl 5 rfl ?_
                                refine mg27 C q1501 dX4_shut_206 (v := (W (e + 1)).1 27) rfl ?_
                                refine j_ldc C q1473 dX4_shut_209 ?_
                                refine j_icmp_eq C 227 dX4_shut_211 (by decide) (fun c211 => ?_) (fun c211 => ?_)
                                · refine j_iconst (v := nI 0) C dX4_shut_227 rfl ?_
                                  refine j_iaddN C dX4_shut_228 ?_
                                  refine j_istore (lv' := [(5, .int (nI ((abF (S.2.2.2 6) W cc qq e) + 0))), (9, .int (nI ((S.2.2.2 6 25)))), (8, .int (nI (wayF (S.2.2.2 6) cc e (S.2.2.2 6 25)))), (7, .int (nI e)), (6, .int (nI (belF (S.2.2.2 6) (S.2.2.2 6 25)))), (0, .ref o), (1, .int (nI j)), (2, .int (nI qq)), (3, .int (nI cc)), (4, .int (nI u))]) C dX4_shut_229 (by decide) rfl ?_
                                  refine j_iincN (lv' := [(7, .int (nI (e + 1))), (5, .int (nI ((abF (S.2.2.2 6) W cc qq e) + 0))), (9, .int (nI ((S.2.2.2 6 25)))), (8, .int (nI (wayF (S.2.2.2 6) cc e (S.2.2.2 6 25)))), (6, .int (nI (belF (S.2.2.2 6) (S.2.2.2 6 25)))), (0, .ref o), (1, .int (nI j)), (2, .int (nI qq)), (3, .int (nI cc)), (4, .int (nI u))]) C dX4_shut_231 3 rfl (by decide) rfl ?_
                                  refine j_goto C 97 dX4_shut_234 (by decide) ?_
                                  refine j_lv [0, 4, 1, 5, 6, 7, 8, 9] (lv' := [(7, .int (nI (e + 1))), (6, .int (nI (belF (S.2.2.2 6) (S.2.2.2 6 25)))), (5, .int (nI ((abF (S.2.2.2 6) W cc qq e) + 0))), (0, .ref o), (1, .int (nI j)), (2, .int (nI qq)), (3, .int (nI cc)), (4, .int (nI u))]) rfl ?_
                                  refine j_lvN (lv' := [(7, .int (nI (e + 1))), (6, .int (nI (belF (S.2.2.2 6) (S.2.2.2 6 25)))), (5, .int (nI (abF (S.2.2.2 6) W cc qq (e + 1)))), (0, .ref o), (1, .int (nI j)), (2, .int (nI qq)), (3, .int (nI cc)), (4, .int (nI u))]) 2 rfl (by show _ = abF (S.2.2.2 6) W cc qq e + _; rw [if_neg (fun z => z.2.1 c211)]) rfl ?_
                                  exact ih_l2 (e + 1) (by omega) (by omega) (by omega)
                                · refine j_aload_n C dX4_shut_214 rfl 5 rfl ?_
                                  refine mg27 C q1501 dX4_shut_215 (v := (W (e + 1)).1 27) rfl ?_
                                  refine j_iload_n C dX4_shut_218 rfl 7 rfl ?_
                                  refine j_icmp_gt C 227 dX4_shut_219 (by decide) (fun c219 => ?_) (fun c219 => ?_)
                                  · refine j_iconst (v := nI 0) C dX4_shut_227 rfl ?_
                                    refine j_iaddN C dX4_shut_228 ?_
                                    refine j_istore (lv' := [(5, .int (nI ((abF (S.2.2.2 6) W cc qq e) + 0))), (9, .int (nI ((S.2.2.2 6 25)))), (8, .int (nI (wayF (S.2.2.2 6) cc e (S.2.2.2 6 25)))), (7, .int (nI e)), (6, .int (nI (belF (S.2.2.2 6) (S.2.2.2 6 25)))), (0, .ref o), (1, .int (nI j)), (2, .int (nI qq)), (3, .int (nI cc)), (4, .int (nI u))]) C dX4_shut_229 (by decide) rfl ?_
                                    refine j_iincN (lv' := [(7, .int (nI (e + 1))), (5, .int (nI ((abF (S.2.2.2 6) W cc qq e) + 0))), (9, .int (nI ((S.2.2.2 6 25)))), (8, .int (nI (wayF (S.2.2.2 6) cc e (S.2.2.2 6 25)))), (6, .int (nI (belF (S.2.2.2 6) (S.2.2.2 6 25)))), (0, .ref o), (1, .int (nI j)), (2, .int (nI qq)), (3, .int (nI cc)), (4, .int (nI u))]) C dX4_shut_231 3 rfl (by decide) rfl ?_
                                    refine j_goto C 97 dX4_shut_234 (by decide) ?_
                                    refine j_lv [0, 4, 1, 5, 6, 7, 8, 9] (lv' := [(7, .int (nI (e + 1))), (6, .int (nI (belF (S.2.2.2 6) (S.2.2.2 6 25)))), (5, .int (nI ((abF (S.2.2.2 6) W cc qq e) + 0))), (0, .ref o), (1, .int (nI j)), (2, .int (nI qq)), (3, .int (nI cc)), (4, .int (nI u))]) rfl ?_
                                    refine j_lvN (lv' := [(7, .int (nI (e + 1))), (6, .int (nI (belF (S.2.2.2 6) (S.2.2.2 6 25)))), (5, .int (nI (abF (S.2.2.2 6) W cc qq (e + 1)))), (0, .ref o), (1, .int (nI j)), (2, .int (nI qq)), (3, .int (nI cc)), (4, .int (nI u))]) 2 rfl (by show _ = abF (S.2.2.2 6) W cc qq e + _; rw [if_neg (fun z => absurd z.2.2 (Int32.not_le.mpr c219))]) rfl ?_
                                    exact ih_l2 (e + 1) (by omega) (by omega) (by omega)
                                  · refine j_iload C dX4_shut_222 1 rfl ?_
                                    refine j_goto C 228 dX4_shut_224 (by decide) ?_
                                    refine j_iaddN C dX4_shut_228 ?_
                                    refine j_istore (lv' := [(5, .int (nI ((abF (S.2.2.2 6) W cc qq e) + (wayF (S.2.2.2 6) cc e (S.2.2.2 6 25))))), (9, .int (nI ((S.2.2.2 6 25)))), (8, .int (nI (wayF (S.2.2.2 6) cc e (S.2.2.2 6 25)))), (7, .int (nI e)), (6, .int (nI (belF (S.2.2.2 6) (S.2.2.2 6 25)))), (0, .ref o), (1, .int (nI j)), (2, .int (nI qq)), (3, .int (nI cc)), (4, .int (nI u))]) C dX4_shut_229 (by decide) rfl ?_
                                    refine j_iincN (lv' := [(7, .int (nI (e + 1))), (5, .int (nI ((abF (S.2.2.2 6) W cc qq e) + (wayF (S.2.2.2 6) cc e (S.2.2.2 6 25))))), (9, .int (nI ((S.2.2.2 6 25)))), (8, .int (nI (wayF (S.2.2.2 6) cc e (S.2.2.2 6 25)))), (6, .int (nI (belF (S.2.2.2 6) (S.2.2.2 6 25)))), (0, .ref o), (1, .int (nI j)), (2, .int (nI qq)), (3, .int (nI cc)), (4, .int (nI u))]) C dX4_shut_231 3 rfl (by decide) rfl ?_
                                    refine j_goto C 97 dX4_shut_234 (by decide) ?_
                                    refine j_lv [0, 4, 1, 5, 6, 7, 8, 9] (lv' := [(7, .int (nI (e + 1))), (6, .int (nI (belF (S.2.2.2 6) (S.2.2.2 6 25)))), (5, .int (nI ((abF (S.2.2.2 6) W cc qq e) + (wayF (S.2.2.2 6) cc e (S.2.2.2 6 25))))), (0, .ref o), (1, .int (nI j)), (2, .int (nI qq)), (3, .int (nI cc)), (4, .int (nI u))]) rfl ?_
                                    refine j_lvN (lv' := [(7, .int (nI (e + 1))), (6, .int (nI (belF (S.2.2.2 6) (S.2.2.2 6 25)))), (5, .int (nI (abF (S.2.2.2 6) W cc qq (e + 1)))), (0, .ref o), (1, .int (nI j)), (2, .int (nI qq)), (3, .int (nI cc)), (4, .int (nI u))]) 2 rfl (by show _ = abF (S.2.2.2 6) W cc qq e + _; rw [if_pos ⟨by omega, c211, Int32.not_lt.mp c219⟩]) rfl ?_
                                    exact ih_l2 (e + 1) (by omega) (by omega) (by omega)
                            · refine j_iload C dX4_shut_144 1 rfl ?_
                              refine j_aload_n C dX4_shut_146 rfl 5 rfl ?_
                              refine mg13 C q1487 dX4_shut_147 ?_
                              refine j_iconst (v := nI 5) C dX4_shut_150 rfl ?_
                              refine ml6 C (5) rfl (by first | omega | assumption) dX4_shut_151 (v := S.2.2.2 6 5) rfl ?_
                              refine j_iload C dX4_shut_152 0 rfl ?_
                              refine j_callS C (mX4_has G (mset G M o (scr S (W e)), sz) (S.2.2.2 6 5) g (by first | omega | assumption) (by first | omega | assumption)) pI.ret 2 q1686 q1687 q73 q1688 (by decide +kernel) rfl (by decide) (by decide) (Nat.le_of_ble_eq_true rfl) rfl dX4_shut_154 (by omega) (by omega) (qI.k ?_)
                              refine j_as (y := bZ (hasN (S.2.2.2 6 5) g)) rfl ?_
                              refine j_if_neB C 164 dX4_shut_157 (by decide) (fun c157 => ?_) (fun c157 => ?_)
                              · refine j_iload C dX4_shut_164 2 rfl ?_
                                refine j_iload C dX4_shut_166 0 rfl ?_
                                refine j_callS C (mX4_has G (mset G M o (scr S (W e)), sz) e g (by first | omega | assumption) (by first | omega | assumption)) pI.ret 2 q1686 q1687 q73 q1688 (by decide +kernel) rfl (by decide) (by decide) (Nat.le_of_ble_eq_true rfl) rfl dX4_shut_168 (by omega) (by omega) (qI.k ?_)
                                refine j_as (y := bZ (hasN e g)) rfl ?_
                                refine j_if_eqB C 181 dX4_shut_171 (by decide) (fun c171 => ?_) (fun c171 => ?_)
                                · refine j_iload_n C dX4_shut_181 rfl 8 rfl ?_
                                  refine j_imulN C dX4_shut_182 ?_
                                  refine j_istore (lv' := [(8, .int (nI ((wayF (S.2.2.2 6) cc e g) * cc))), (9, .int (nI g)), (7, .int (nI e)), (6, .int (nI (belF (S.2.2.2 6) (S.2.2.2 6 25)))), (5, .int (nI (abF (S.2.2.2 6) W cc qq e))), (0, .ref o), (1, .int (nI j)), (2, .int (nI qq)), (3, .int (nI cc)), (4, .int (nI u))]) C dX4_shut_183 (by decide) rfl ?_
                                  refine j_iincN (lv' := [(9, .int (nI (g + 1))), (8, .int (nI ((wayF (S.2.2.2 6) cc e g) * cc))), (7, .int (nI e)), (6, .int (nI (belF (S.2.2.2 6) (S.2.2.2 6 25)))), (5, .int (nI (abF (S.2.2.2 6) W cc qq e))), (0, .ref o), (1, .int (nI j)), (2, .int (nI qq)), (3, .int (nI cc)), (4, .int (nI u))]) C dX4_shut_185 1 rfl (by decide) rfl ?_
                                  refine j_goto C 132 dX4_shut_188 (by decide) ?_
                                  refine j_lv [0, 1, 2, 3, 4, 5, 6, 7, 8, 9] (lv' := [(9, .int (nI (g + 1))), (8, .int (nI ((wayF (S.2.2.2 6) cc e g) * cc))), (7, .int (nI e)), (6, .int (nI (belF (S.2.2.2 6) (S.2.2.2 6 25)))), (5, .int (nI (abF (S.2.2.2 6) W cc qq e))), (0, .ref o), (1, .int (nI j)), (2, .int (nI qq)), (3, .int (nI cc)), (4, .int (nI u))]) rfl ?_
                                  refine j_lvN (lv' := [(9, .int (nI (g + 1))), (8, .int (nI (wayF (S.2.2.2 6) cc e (g + 1)))), (7, .int (nI e)), (6, .int (nI (belF (S.2.2.2 6) (S.2.2.2 6 25)))), (5, .int (nI (abF (S.2.2.2 6) W cc qq e))), (0, .ref o), (1, .int (nI j)), (2, .int (nI qq)), (3, .int (nI cc)), (4, .int (nI u))]) 1 rfl (by show _ = wayF (S.2.2.2 6) cc e g * _; first | (simp [c157]; done) | (simp [c157, c171]; done)) rfl ?_
                                  exact ih_l3 (g + 1) (by omega) (by omega) (by omega)
                                · refine j_bipush (v := nI 10) C dX4_shut_174 rfl ?_
                                  refine j_iload_n C dX4_shut_176 rfl 8 rfl ?_
                                  refine j_isubN C dX4_shut_177 (by first | omega | assumption) ?_
                                  refine j_goto C 182 dX4_shut_178 (by decide) ?_
                                  refine j_imulN C dX4_shut_182 ?_
                                  refine j_istore (lv' := [(8, .int (nI ((wayF (S.2.2.2 6) cc e g) * (10 - cc)))), (9, .int (nI g)), (7, .int (nI e)), (6, .int (nI (belF (S.2.2.2 6) (S.2.2.2 6 25)))), (5, .int (nI (abF (S.2.2.2 6) W cc qq e))), (0, .ref o), (1, .int (nI j)), (2, .int (nI qq)), (3, .int (nI cc)), (4, .int (nI u))]) C dX4_shut_183 (by decide) rfl ?_
                                  refine j_iincN (lv' := [(9, .int (nI (g + 1))), (8, .int (nI ((wayF (S.2.2.2 6) cc e g) * (10 - cc)))), (7, .int (nI e)), (6, .int (nI (belF (S.2.2.2 6) (S.2.2.2 6 25)))), (5, .int (nI (abF (S.2.2.2 6) W cc qq e))), (0, .ref o), (1, .int (nI j)), (2, .int (nI qq)), (3, .int (nI cc)), (4, .int (nI u))]) C dX4_shut_185 1 rfl (by decide) rfl ?_
                                  refine j_goto C 132 dX4_shut_188 (by decide) ?_
                                  refine j_lv [0, 1, 2, 3, 4, 5, 6, 7, 8, 9] (lv' := [(9, .int (nI (g + 1))), (8, .int (nI ((wayF (S.2.2.2 6) cc e g) * (10 - cc)))), (7, .int (nI e)), (6, .int (nI (belF (S.2.2.2 6) (S.2.2.2 6 25)))), (5, .int (nI (abF (S.2.2.2 6) W cc qq e))), (0, .ref o), (1, .int (nI j)), (2, .int (nI qq)), (3, .int (nI cc)), (4, .int (nI u))]) rfl ?_
                                  refine j_lvN (lv' := [(9, .int (nI (g + 1))), (8, .int (nI (wayF (S.2.2.2 6) cc e (g + 1)))), (7, .int (nI e)), (6, .int (nI (belF (S.2.2.2 6) (S.2.2.2 6 25)))), (5, .int (nI (abF (S.2.2.2 6) W cc qq e))), (0, .ref o), (1, .int (nI j)), (2, .int (nI qq)), (3, .int (nI cc)), (4, .int (nI u))]) 1 rfl (by show _ = wayF (S.2.2.2 6) cc e g * _; first | (simp [c157]; done) | (simp [c157, c171]; done)) rfl ?_
                                  exact ih_l3 (g + 1) (by omega) (by omega) (by omega)
                              · refine j_iconst (v := nI 1) C dX4_shut_160 rfl ?_
                                refine j_goto C 182 dX4_shut_161 (by decide) ?_
                                refine j_imulN C dX4_shut_182 ?_
                                refine j_istore (lv' := [(8, .int (nI ((wayF (S.2.2.2 6) cc e g) * 1))), (9, .int (nI g)), (7, .int (nI e)), (6, .int (nI (belF (S.2.2.2 6) (S.2.2.2 6 25)))), (5, .int (nI (abF (S.2.2.2 6) W cc qq e))), (0, .ref o), (1, .int (nI j)), (2, .int (nI qq)), (3, .int (nI cc)), (4, .int (nI u))]) C dX4_shut_183 (by decide) rfl ?_
                                refine j_iincN (lv' := [(9, .int (nI (g + 1))), (8, .int (nI ((wayF (S.2.2.2 6) cc e g) * 1))), (7, .int (nI e)), (6, .int (nI (belF (S.2.2.2 6) (S.2.2.2 6 25)))), (5, .int (nI (abF (S.2.2.2 6) W cc qq e))), (0, .ref o), (1, .int (nI j)), (2, .int (nI qq)), (3, .int (nI cc)), (4, .int (nI u))]) C dX4_shut_185 1 rfl (by decide) rfl ?_
                                refine j_goto C 132 dX4_shut_188 (by decide) ?_
                                refine j_lv [0, 1, 2, 3, 4, 5, 6, 7, 8, 9] (lv' := [(9, .int (nI (g + 1))), (8, .int (nI ((wayF (S.2.2.2 6) cc e g) * 1))), (7, .int (nI e)), (6, .int (nI (belF (S.2.2.2 6) (S.2.2.2 6 25)))), (5, .int (nI (abF (S.2.2.2 6) W cc qq e))), (0, .ref o), (1, .int (nI j)), (2, .int (nI qq)), (3, .int (nI cc)), (4, .int (nI u))]) rfl ?_
                                refine j_lvN (lv' := [(9, .int (nI (g + 1))), (8, .int (nI (wayF (S.2.2.2 6) cc e (g + 1)))), (7, .int (nI e)), (6, .int (nI (belF (S.2.2.2 6) (S.2.2.2 6 25)))), (5, .int (nI (abF (S.2.2.2 6) W cc qq e))), (0, .ref o), (1, .int (nI j)), (2, .int (nI qq)), (3, .int (nI cc)), (4, .int (nI u))]) 1 rfl (by show _ = wayF (S.2.2.2 6) cc e g * _; first | (simp [c157]; done) | (simp [c157, c171]; done)) rfl ?_
                                exact ih_l3 (g + 1) (by omega) (by omega) (by omega)
                        refine j_lv [0, 1, 2, 3, 4, 5, 6, 7, 8, 9] (lv' := [(9, .int (nI 0)), (8, .int (nI 0)), (7, .int (nI e)), (6, .int (nI (belF (S.2.2.2 6) (S.2.2.2 6 25)))), (5, .int (nI (abF (S.2.2.2 6) W cc qq e))), (0, .ref o), (1, .int (nI j)), (2, .int (nI qq)), (3, .int (nI cc)), (4, .int (nI u))]) rfl ?_
                        refine j_lvN (lv' := [(9, .int (nI 0)), (8, .int (nI (wayF (S.2.2.2 6) cc e 0))), (7, .int (nI e)), (6, .int (nI (belF (S.2.2.2 6) (S.2.2.2 6 25)))), (5, .int (nI (abF (S.2.2.2 6) W cc qq e))), (0, .ref o), (1, .int (nI j)), (2, .int (nI qq)), (3, .int (nI cc)), (4, .int (nI u))]) 1 rfl (by show _ = (if subB e (S.2.2.2 6 5) then 1 else 0); first | rw [if_pos (show subB e (S.2.2.2 6 5) = true from decide_eq_true c119)] | rw [if_neg (show ¬ subB e (S.2.2.2 6 5) = true from fun z => c119 (of_decide_eq_true z))]) rfl ?_
                        exact l3 (S.2.2.2 6 25 + 1 - 0) (0) (by omega) (by omega) (by omega)
                      · refine j_iconst (v := nI 1) C dX4_shut_122 rfl ?_
                        refine j_goto C 127 dX4_shut_123 (by decide) ?_
                        refine j_istore (lv' := [(8, .int (nI 1)), (7, .int (nI e)), (6, .int (nI (belF (S.2.2.2 6) (S.2.2.2 6 25)))), (5, .int (nI (abF (S.2.2.2 6) W cc qq e))), (0, .ref o), (1, .int (nI j)), (2, .int (nI qq)), (3, .int (nI cc)), (4, .int (nI u))]) C dX4_shut_127 (by decide) rfl ?_
                        refine j_iconst (v := nI 0) C dX4_shut_129 rfl ?_
                        refine j_istore (lv' := [(9, .int (nI 0)), (8, .int (nI 1)), (7, .int (nI e)), (6, .int (nI (belF (S.2.2.2 6) (S.2.2.2 6 25)))), (5, .int (nI (abF (S.2.2.2 6) W cc qq e))), (0, .ref o), (1, .int (nI j)), (2, .int (nI qq)), (3, .int (nI cc)), (4, .int (nI u))]) C dX4_shut_130 (by decide) rfl ?_
                        have l3 : ∀ (n_l3 g : Nat), 0 ≤ g → g ≤ S.2.2.2 6 25 → S.2.2.2 6 25 < g + n_l3 → J G k (mset G M o (scr S (W e)), sz) [(9, .int (nI g)), (8, .int (nI (wayF (S.2.2.2 6) cc e g))), (7, .int (nI e)), (6, .int (nI (belF (S.2.2.2 6) (S.2.2.2 6 25)))), (5, .int (nI (abF (S.2.2.2 6) W cc qq e))), (0, .ref o), (1, .int (nI j)), (2, .int (nI qq)), (3, .int (nI cc)), (4, .int (nI u))] 132 [] 0 0 := by
                          intro n_l3
                          induction n_l3 with
                          | zero => intro g h0_l3 h1_l3 h2_l3; omega
                          | succ n_l3 ih_l3 =>
                            intro g h0_l3 h1_l3 h2_l3
                            refine j_iload C dX4_shut_132 0 rfl ?_
                            refine j_aload_n C dX4_shut_134 rfl 5 rfl ?_
                            refine mg13 C q1487 dX4_shut_135 ?_
                            refine j_bipush (v := nI 25) C dX4_shut_138 rfl ?_
                            refine ml6 C (25) rfl (by first | omega | assumption) dX4_shut_140 (v := S.2.2.2 6 25) rfl ?_
                            refine j_icmp_geN C 191 dX4_shut_141 (by decide) (by first | omega | assumption) (by first | omega | assumption) (fun c141 => ?_) (fun c141 => ?_)
                            · obtain rfl : S.2.2.2 6 25 = g := by omega
                              have hwy := wayF_le (t := (S.2.2.2 6)) (s := e) (show cc ≤ 10 by omega) (S.2.2.2 6 25)
                              have hab := hWa e (by omega)
                              refine j_iload C dX4_shut_191 1 rfl ?_
                              refine j_if_leN C 231 dX4_shut_193 (by decide) (by first | omega | assumption) (fun c193 => ?_) (fun c193 => ?_)
                              · refine j_iincN (lv' := [(7, .int (nI (e + 1))), (9, .int (nI ((S.2.2.2 6 25)))), (8, .int (nI (wayF (S.2.2.2 6) cc e (S.2.2.2 6 25)))), (6, .int (nI (belF (S.2.2.2 6) (S.2.2.2 6 25)))), (5, .int (nI (abF (S.2.2.2 6) W cc qq e))), (0, .ref o), (1, .int (nI j)), (2, .int (nI qq)), (3, .int (nI cc)), (4, .int (nI u))]) C dX4_shut_231 2 rfl (by decide) rfl ?_
                                refine j_goto C 97 dX4_shut_234 (by decide) ?_
                                refine j_lv [0, 3, 4, 5, 6, 7, 8, 9] (lv' := [(7, .int (nI (e + 1))), (6, .int (nI (belF (S.2.2.2 6) (S.2.2.2 6 25)))), (5, .int (nI (abF (S.2.2.2 6) W cc qq e))), (0, .ref o), (1, .int (nI j)), (2, .int (nI qq)), (3, .int (nI cc)), (4, .int (nI u))]) rfl ?_
                                refine j_lvN (lv' := [(7, .int (nI (e + 1))), (6, .int (nI (belF (S.2.2.2 6) (S.2.2.2 6 25)))), (5, .int (nI (abF (S.2.2.2 6) W cc qq (e + 1)))), (0, .ref o), (1, .int (nI j)), (2, .int (nI qq)), (3, .int (nI cc)), (4, .int (nI u))]) 2 rfl (by show _ = abF (S.2.2.2 6) W cc qq e + _; rw [if_neg (fun z => absurd z.1 (by omega))]; exact (Nat.add_zero _).symm) rfl ?_
                                refine J.eq (w' := (mset G M o (scr S (W (e + 1))), sz)) ?_ (by rw [hWz e (by omega) c193]) rfl rfl
                                exact ih_l2 (e + 1) (by omega) (by omega) (by omega)
                              · refine j_aload_n C dX4_shut_196 rfl 5 rfl ?_
                                refine j_iload_n C dX4_shut_197 rfl 6 rfl ?_
                                refine j_iload C dX4_shut_198 2 rfl ?_
                                obtain ⟨n, R, hR, hRe⟩ := hWs e (by omega) c193
                                refine j_callV C (mX4_finds G M sz o (scr S (W e)) j e 0 n R (by omega) (dOK_fnd (S := scr S (W e)) ht0 h3 (by omega)) (hW28 e) hR) pV.ret mset_o rfl 2 q1751 q1753 qs49 q73 q1754 (by decide +kernel) rfl (by decide) (by decide) (Nat.le_of_ble_eq_true rfl) rfl dX4_shut_200 (by omega) (by omega) (qV.k ?_)
                                refine J.eq (w' := (mset G M o (scr S (W (e + 1))), sz)) ?_ (by rw [hRe]) rfl rfl
                                refine j_iload C dX4_shut_203 4 rfl ?_
                                refine j_aload_n C dX4_shut_205 rfl 5 rfl ?_
                                refine mg27 C q1501 dX4_shut_206 (v := (W (e + 1)).1 27) rfl ?_
                                refine j_ldc C q1473 dX4_shut_209 ?_
                                refine j_icmp_eq C 227 dX4_shut_211 (by decide) (fun c211 => ?_) (fun c211 => ?_)
                                · refine j_iconst (v := nI 0) C dX4_shut_227 rfl ?_
                                  refine j_iaddN C dX4_shut_228 ?_
                                  refine j_istore (lv' := [(5, .int (nI ((abF (S.2.2.2 6) W cc qq e) + 0))), (9, .int (nI ((S.2.2.2 6 25)))), (8, .int (nI (wayF (S.2.2.2 6) cc e (S.2.2.2 6 25)))), (7, .int (nI e)), (6, .int (nI (belF (S.2.2.2 6) (S.2.2.2 6 25)))), (0, .ref o), (1, .int (nI j)), (2, .int (nI qq)), (3, .int (nI cc)), (4, .int (nI u))]) C dX4_shut_229 (by decide) rfl ?_
                                  refine j_iincN (lv' := [(7, .int (nI (e + 1))), (5, .int (nI ((abF (S.2.2.2 6) W cc qq e) + 0))), (9, .int (nI ((S.2.2.2 6 25)))), (8, .int (nI (wayF (S.2.2.2 6) cc e (S.2.2.2 6 25)))), (6, .int (nI (belF (S.2.2.2 6) (S.2.2.2 6 25)))), (0, .ref o), (1, .int (nI j)), (2, .int (nI qq)), (3, .int (nI cc)), (4, .int (nI u))]) C dX4_shut_231 3 rfl (by decide) rfl ?_
                                  refine j_goto C 97 dX4_shut_234 (by decide) ?_
                                  refine j_lv [0, 4, 1, 5, 6, 7, 8, 9] (lv' := [(7, .int (nI (e + 1))), (6, .int (nI (belF (S.2.2.2 6) (S.2.2.2 6 25)))), (5, .int (nI ((abF (S.2.2.2 6) W cc qq e) + 0))), (0, .ref o), (1, .int (nI j)), (2, .int (nI qq)), (3, .int (nI cc)), (4, .int (nI u))]) rfl ?_
                                  refine j_lvN (lv' := [(7, .int (nI (e + 1))), (6, .int (nI (belF (S.2.2.2 6) (S.2.2.2 6 25)))), (5, .int (nI (abF (S.2.2.2 6) W cc qq (e + 1)))), (0, .ref o), (1, .int (nI j)), (2, .int (nI qq)), (3, .int (nI cc)), (4, .int (nI u))]) 2 rfl (by show _ = abF (S.2.2.2 6) W cc qq e + _; rw [if_neg (fun z => z.2.1 c211)]) rfl ?_
                                  exact ih_l2 (e + 1) (by omega) (by omega) (by omega)
                                · refine j_aload_n C dX4_shut_214 rfl 5 rfl ?_
                                  refine mg27 C q1501 dX4_shut_215 (v := (W (e + 1)).1 27) rfl ?_
                                  refine j_iload_n C dX4_shut_218 rfl 7 rfl ?_
                                  refine j_icmp_gt C 227 dX4_shut_219 (by decide) (fun c219 => ?_) (fun c219 => ?_)
                                  · refine j_iconst (v := nI 0) C dX4_shut_227 rfl ?_
                                    refine j_iaddN C dX4_shut_228 ?_
                                    refine j_istore (lv' := [(5, .int (nI ((abF (S.2.2.2 6) W cc qq e) + 0))), (9, .int (nI ((S.2.2.2 6 25)))), (8, .int (nI (wayF (S.2.2.2 6) cc e (S.2.2.2 6 25)))), (7, .int (nI e)), (6, .int (nI (belF (S.2.2.2 6) (S.2.2.2 6 25)))), (0, .ref o), (1, .int (nI j)), (2, .int (nI qq)), (3, .int (nI cc)), (4, .int (nI u))]) C dX4_shut_229 (by decide) rfl ?_
                                    refine j_iincN (lv' := [(7, .int (nI (e + 1))), (5, .int (nI ((abF (S.2.2.2 6) W cc qq e) + 0))), (9, .int (nI ((S.2.2.2 6 25)))), (8, .int (nI (wayF (S.2.2.2 6) cc e (S.2.2.2 6 25)))), (6, .int (nI (belF (S.2.2.2 6) (S.2.2.2 6 25)))), (0, .ref o), (1, .int (nI j)), (2, .int (nI qq)), (3, .int (nI cc)), (4, .int (nI u))]) C dX4_shut_231 3 rfl (by decide) rfl ?_
                                    refine j_goto C 97 dX4_shut_234 (by decide) ?_
                                    refine j_lv [0, 4, 1, 5, 6, 7, 8, 9] (lv' := [(7, .int (nI (e + 1))), (6, .int (nI (belF (S.2.2.2 6) (S.2.2.2 6 25)))), (5, .int (nI ((abF (S.2.2.2 6) W cc qq e) + 0))), (0, .ref o), (1, .int (nI j)), (2, .int (nI qq)), (3, .int (nI cc)), (4, .int (nI u))]) rfl ?_
                                    refine j_lvN (lv' := [(7, .int (nI (e + 1))), (6, .int (nI (belF (S.2.2.2 6) (S.2.2.2 6 25)))), (5, .int (nI (abF (S.2.2.2 6) W cc qq (e + 1)))), (0, .ref o), (1, .int (nI j)), (2, .int (nI qq)), (3, .int (nI cc)), (4, .int (nI u))]) 2 rfl (by show _ = abF (S.2.2.2 6) W cc qq e + _; rw [if_neg (fun z => absurd z.2.2 (Int32.not_le.mpr c219))]) rfl ?_
                                    exact ih_l2 (e + 1) (by omega) (by omega) (by omega)
                                  · refine j_iload C dX4_shut_222 1 rfl ?_
                                    refine j_goto C 228 dX4_shut_224 (by decide) ?_
                                    refine j_iaddN C dX4_shut_228 ?_
                                    refine j_istore (lv' := [(5, .int (nI ((abF (S.2.2.2 6) W cc qq e) + (wayF (S.2.2.2 6) cc e (S.2.2.2 6 25))))), (9, .int (nI ((S.2.2.2 6 25)))), (8, .int (nI (wayF (S.2.2.2 6) cc e (S.2.2.2 6 25)))), (7, .int (nI e)), (6, .int (nI (belF (S.2.2.2 6) (S.2.2.2 6 25)))), (0, .ref o), (1, .int (nI j)), (2, .int (nI qq)), (3, .int (nI cc)), (4, .int (nI u))]) C dX4_shut_229 (by decide) rfl ?_
                                    refine j_iincN (lv' := [(7, .int (nI (e + 1))), (5, .int (nI ((abF (S.2.2.2 6) W cc qq e) + (wayF (S.2.2.2 6) cc e (S.2.2.2 6 25))))), (9, .int (nI ((S.2.2.2 6 25)))), (8, .int (nI (wayF (S.2.2.2 6) cc e (S.2.2.2 6 25)))), (6, .int (nI (belF (S.2.2.2 6) (S.2.2.2 6 25)))), (0, .ref o), (1, .int (nI j)), (2, .int (nI qq)), (3, .int (nI cc)), (4, .int (nI u))]) C dX4_shut_231 3 rfl (by decide) rfl ?_
                                    refine j_goto C 97 dX4_shut_234 (by decide) ?_
                                    refine j_lv [0, 4, 1, 5, 6, 7, 8, 9] (lv' := [(7, .int (nI (e + 1))), (6, .int (nI (belF (S.2.2.2 6) (S.2.2.2 6 25)))), (5, .int (nI ((abF (S.2.2.2 6) W cc qq e) + (wayF (S.2.2.2 6) cc e (S.2.2.2 6 25))))), (0, .ref o), (1, .int (nI j)), (2, .int (nI qq)), (3, .int (nI cc)), (4, .int (nI u))]) rfl ?_
                                    refine j_lvN (lv' := [(7, .int (nI (e + 1))), (6, .int (nI (belF (S.2.2.2 6) (S.2.2.2 6 25)))), (5, .int (nI (abF (S.2.2.2 6) W cc qq (e + 1)))), (0, .ref o), (1, .int (nI j)), (2, .int (nI qq)), (3, .int (nI cc)), (4, .int (nI u))]) 2 rfl (by show _ = abF (S.2.2.2 6) W cc qq e + _; rw [if_pos ⟨by omega, c211, Int32.not_lt.mp c219⟩]) rfl ?_
                                    exact ih_l2 (e + 1) (by omega) (by omega) (by omega)
                            · refine j_iload C dX4_shut_144 1 rfl ?_
                              refine j_aload_n C dX4_shut_146 rfl 5 rfl ?_
                              refine mg13 C q1487 dX4_shut_147 ?_
                              refine j_iconst (v := nI 5) C dX4_shut_150 rfl ?_
                              refine ml6 C (5) rfl (by first | omega | assumption) dX4_shut_151 (v := S.2.2.2 6 5) rfl ?_
                              refine j_iload C dX4_shut_152 0 rfl ?_
                              refine j_callS C (mX4_has G (mset G M o (scr S (W e)), sz) (S.2.2.2 6 5) g (by first | omega | assumption) (by first | omega | assumption)) pI.ret 2 q1686 q1687 q73 q1688 (by decide +kernel) rfl (by decide) (by decide) (Nat.le_of_ble_eq_true rfl) rfl dX4_shut_154 (by omega) (by omega) (qI.k ?_)
                              refine j_as (y := bZ (hasN (S.2.2.2 6 5) g)) rfl ?_
                              refine j_if_neB C 164 dX4_shut_157 (by decide) (fun c157 => ?_) (fun c157 => ?_)
                              · refine j_iload C dX4_shut_164 2 rfl ?_
                                refine j_iload C dX4_shut_166 0 rfl ?_
                                refine j_callS C (mX4_has G (mset G M o (scr S (W e)), sz) e g (by first | omega | assumption) (by first | omega | assumption)) pI.ret 2 q1686 q1687 q73 q1688 (by decide +kernel) rfl (by decide) (by decide) (Nat.le_of_ble_eq_true rfl) rfl dX4_shut_168 (by omega) (by omega) (qI.k ?_)
                                refine j_as (y := bZ (hasN e g)) rfl ?_
                                refine j_if_eqB C 181 dX4_shut_171 (by decide) (fun c171 => ?_) (fun c171 => ?_)
                                · refine j_iload_n C dX4_shut_181 rfl 8 rfl ?_
                                  refine j_imulN C dX4_shut_182 ?_
                                  refine j_istore (lv' := [(8, .int (nI ((wayF (S.2.2.2 6) cc e g) * cc))), (9, .int (nI g)), (7, .int (nI e)), (6, .int (nI (belF (S.2.2.2 6) (S.2.2.2 6 25)))), (5, .int (nI (abF (S.2.2.2 6) W cc qq e))), (0, .ref o), (1, .int (nI j)), (2, .int (nI qq)), (3, .int (nI cc)), (4, .int (nI u))]) C dX4_shut_183 (by decide) rfl ?_
                                  refine j_iincN (lv' := [(9, .int (nI (g + 1))), (8, .int (nI ((wayF (S.2.2.2 6) cc e g) * cc))), (7, .int (nI e)), (6, .int (nI (belF (S.2.2.2 6) (S.2.2.2 6 25)))), (5, .int (nI (abF (S.2.2.2 6) W cc qq e))), (0, .ref o), (1, .int (nI j)), (2, .int (nI qq)), (3, .int (nI cc)), (4, .int (nI u))]) C dX4_shut_185 1 rfl (by decide) rfl ?_
                                  refine j_goto C 132 dX4_shut_188 (by decide) ?_
                                  refine j_lv [0, 1, 2, 3, 4, 5, 6, 7, 8, 9] (lv' := [(9, .int (nI (g + 1))), (8, .int (nI ((wayF (S.2.2.2 6) cc e g) * cc))), (7, .int (nI e)), (6, .int (nI (belF (S.2.2.2 6) (S.2.2.2 6 25)))), (5, .int (nI (abF (S.2.2.2 6) W cc qq e))), (0, .ref o), (1, .int (nI j)), (2, .int (nI qq)), (3, .int (nI cc)), (4, .int (nI u))]) rfl ?_
                                  refine j_lvN (lv' := [(9, .int (nI (g + 1))), (8, .int (nI (wayF (S.2.2.2 6) cc e (g + 1)))), (7, .int (nI e)), (6, .int (nI (belF (S.2.2.2 6) (S.2.2.2 6 25)))), (5, .int (nI (abF (S.2.2.2 6) W cc qq e))), (0, .ref o), (1, .int (nI j)), (2, .int (nI qq)), (3, .int (nI cc)), (4, .int (nI u))]) 1 rfl (by show _ = wayF (S.2.2.2 6) cc e g * _; first | (simp [c157]; done) | (simp [c157, c171]; done)) rfl ?_
                                  exact ih_l3 (g + 1) (by omega) (by omega) (by omega)
                                · refine j_bipush (v := nI 10) C dX4_shut_174 rfl ?_
                                  refine j_iload_n C dX4_shut_176 rfl 8 rfl ?_
                                  refine j_isubN C dX4_shut_177 (by first | omega | assumption) ?_
                                  refine j_goto C 182 dX4_shut_178 (by decide) ?_
                                  refine j_imulN C dX4_shut_182 ?_
                                  refine j_istore (lv' := [(8, .int (nI ((wayF (S.2.2.2 6) cc e g) * (10 - cc)))), (9, .int (nI g)), (7, .int (nI e)), (6, .int (nI (belF (S.2.2.2 6) (S.2.2.2 6 25)))), (5, .int (nI (abF (S.2.2.2 6) W cc qq e))), (0, .ref o), (1, .int (nI j)), (2, .int (nI qq)), (3, .int (nI cc)), (4, .int (nI u))]) C dX4_shut_183 (by decide) rfl ?_
                                  refine j_iincN (lv' := [(9, .int (nI (g + 1))), (8, .int (nI ((wayF (S.2.2.2 6) cc e g) * (10 - cc)))), (7, .int (nI e)), (6, .int (nI (belF (S.2.2.2 6) (S.2.2.2 6 25)))), (5, .int (nI (abF (S.2.2.2 6) W cc qq e))), (0, .ref o), (1, .int (nI j)), (2, .int (nI qq)), (3, .int (nI cc)), (4, .int (nI u))]) C dX4_shut_185 1 rfl (by decide) rfl ?_
                                  refine j_goto C 132 dX4_shut_188 (by decide) ?_
                                  refine j_lv [0, 1, 2, 3, 4, 5, 6, 7, 8, 9] (lv' := [(9, .int (nI (g + 1))), (8, .int (nI ((wayF (S.2.2.2 6) cc e g) * (10 - cc)))), (7, .int (nI e)), (6, .int (nI (belF (S.2.2.2 6) (S.2.2.2 6 25)))), (5, .int (nI (abF (S.2.2.2 6) W cc qq e))), (0, .ref o), (1, .int (nI j)), (2, .int (nI qq)), (3, .int (nI cc)), (4, .int (nI u))]) rfl ?_
                                  refine j_lvN (lv' := [(9, .int (nI (g + 1))), (8, .int (nI (wayF (S.2.2.2 6) cc e (g + 1)))), (7, .int (nI e)), (6, .int (nI (belF (S.2.2.2 6) (S.2.2.2 6 25)))), (5, .int (nI (abF (S.2.2.2 6) W cc qq e))), (0, .ref o), (1, .int (nI j)), (2, .int (nI qq)), (3, .int (nI cc)), (4, .int (nI u))]) 1 rfl (by show _ = wayF (S.2.2.2 6) cc e g * _; first | (simp [c157]; done) | (simp [c157, c171]; done)) rfl ?_
                                  exact ih_l3 (g + 1) (by omega) (by omega) (by omega)
                              · refine j_iconst (v := nI 1) C dX4_shut_160 rfl ?_
                                refine j_goto C 182 dX4_shut_161 (by decide) ?_
                                refine j_imulN C dX4_shut_182 ?_
                                refine j_istore (lv' := [(8, .int (nI ((wayF (S.2.2.2 6) cc e g) * 1))), (9, .int (nI g)), (7, .int (nI e)), (6, .int (nI (belF (S.2.2.2 6) (S.2.2.2 6 25)))), (5, .int (nI (abF (S.2.2.2 6) W cc qq e))), (0, .ref o), (1, .int (nI j)), (2, .int (nI qq)), (3, .int (nI cc)), (4, .int (nI u))]) C dX4_shut_183 (by decide) rfl ?_
                                refine j_iincN (lv' := [(9, .int (nI (g + 1))), (8, .int (nI ((wayF (S.2.2.2 6) cc e g) * 1))), (7, .int (nI e)), (6, .int (nI (belF (S.2.2.2 6) (S.2.2.2 6 25)))), (5, .int (nI (abF (S.2.2.2 6) W cc qq e))), (0, .ref o), (1, .int (nI j)), (2, .int (nI qq)), (3, .int (nI cc)), (4, .int (nI u))]) C dX4_shut_185 1 rfl (by decide) rfl ?_
                                refine j_goto C 132 dX4_shut_188 (by decide) ?_
                                refine j_lv [0, 1, 2, 3, 4, 5, 6, 7, 8, 9] (lv' := [(9, .int (nI (g + 1))), (8, .int (nI ((wayF (S.2.2.2 6) cc e g) * 1))), (7, .int (nI e)), (6, .int (nI (belF (S.2.2.2 6) (S.2.2.2 6 25)))), (5, .int (nI (abF (S.2.2.2 6) W cc qq e))), (0, .ref o), (1, .int (nI j)), (2, .int (nI qq)), (3, .int (nI cc)), (4, .int (nI u))]) rfl ?_
                                refine j_lvN (lv' := [(9, .int (nI (g + 1))), (8, .int (nI (wayF (S.2.2.2 6) cc e (g + 1)))), (7, .int (nI e)), (6, .int (nI (belF (S.2.2.2 6) (S.2.2.2 6 25)))), (5, .int (nI (abF (S.2.2.2 6) W cc qq e))), (0, .ref o), (1, .int (nI j)), (2, .int (nI qq)), (3, .int (nI cc)), (4, .int (nI u))]) 1 rfl (by show _ = wayF (S.2.2.2 6) cc e g * _; first | (simp [c157]; done) | (simp [c157, c171]; done)) rfl ?_
                                exact ih_l3 (g + 1) (by omega) (by omega) (by omega)
                        refine j_lv [0, 1, 2, 3, 4, 5, 6, 7, 8, 9] (lv' := [(9, .int (nI 0)), (8, .int (nI 1)), (7, .int (nI e)), (6, .int (nI (belF (S.2.2.2 6) (S.2.2.2 6 25)))), (5, .int (nI (abF (S.2.2.2 6) W cc qq e))), (0, .ref o), (1, .int (nI j)), (2, .int (nI qq)), (3, .int (nI cc)), (4, .int (nI u))]) rfl ?_
                        refine j_lvN (lv' := [(9, .int (nI 0)), (8, .int (nI (wayF (S.2.2.2 6) cc e 0))), (7, .int (nI e)), (6, .int (nI (belF (S.2.2.2 6) (S.2.2.2 6 25)))), (5, .int (nI (abF (S.2.2.2 6) W cc qq e))), (0, .ref o), (1, .int (nI j)), (2, .int (nI qq)), (3, .int (nI cc)), (4, .int (nI u))]) 1 rfl (by show _ = (if subB e (S.2.2.2 6 5) then 1 else 0); first | rw [if_pos (show subB e (S.2.2.2 6 5) = true from decide_eq_true c119)] | rw [if_neg (show ¬ subB e (S.2.2.2 6 5) = true from fun z => c119 (of_decide_eq_true z))]) rfl ?_
                        exact l3 (S.2.2.2 6 25 + 1 - 0) (0) (by omega) (by omega) (by omega)
                refine j_lv [0, 1, 2, 3, 4, 5, 6, 7] (lv' := [(7, .int (nI 0)), (6, .int (nI (belF (S.2.2.2 6) (S.2.2.2 6 25)))), (5, .int (nI 0)), (0, .ref o), (1, .int (nI j)), (2, .int (nI qq)), (3, .int (nI cc)), (4, .int (nI u))]) rfl ?_
                refine j_lvN (lv' := [(7, .int (nI 0)), (6, .int (nI (belF (S.2.2.2 6) (S.2.2.2 6 25)))), (5, .int (nI (abF (S.2.2.2 6) W cc qq 0))), (0, .ref o), (1, .int (nI j)), (2, .int (nI qq)), (3, .int (nI cc)), (4, .int (nI u))]) 2 rfl rfl rfl ?_
                refine J.eq (w' := (mset G M o (scr S (W 0)), sz)) ?_ (by rw [hW0]) rfl rfl
                exact l2 (S.2.2.2 6 5 + 1 + 1 - 0) (0) (by omega) (by omega) (by omega)
              · refine j_iload C dX4_shut_63 1 rfl ?_
                refine j_aload_n C dX4_shut_65 rfl 3 rfl ?_
                refine mg13 C q1487 dX4_shut_66 ?_
                refine j_iconst (v := nI 5) C dX4_shut_69 rfl ?_
                refine ml6 C (5) rfl (by first | omega | assumption) dX4_shut_70 (v := S.2.2.2 6 5) rfl ?_
                refine j_iload C dX4_shut_71 0 rfl ?_
                refine j_callS C (mX4_has G (mset G M o S, sz) (S.2.2.2 6 5) g (by first | omega | assumption) (by first | omega | assumption)) pI.ret 2 q1686 q1687 q73 q1688 (by decide +kernel) rfl (by decide) (by decide) (Nat.le_of_ble_eq_true rfl) rfl dX4_shut_73 (by omega) (by omega) (qI.k ?_)
                refine j_if_eqB C 84 dX4_shut_76 (by decide) (fun c76 => ?_) (fun c76 => ?_)
                · refine j_iconst (v := nI 1) C dX4_shut_84 rfl ?_
                  refine j_imulN C dX4_shut_85 ?_
                  refine j_istore (lv' := [(6, .int (nI ((belF (S.2.2.2 6) g) * 1))), (7, .int (nI g)), (5, .int (nI 0)), (0, .ref o), (1, .int (nI j)), (2, .int (nI qq)), (3, .int (nI cc)), (4, .int (nI u))]) C dX4_shut_86 (by decide) rfl ?_
                  refine j_iincN (lv' := [(7, .int (nI (g + 1))), (6, .int (nI ((belF (S.2.2.2 6) g) * 1))), (5, .int (nI 0)), (0, .ref o), (1, .int (nI j)), (2, .int (nI qq)), (3, .int (nI cc)), (4, .int (nI u))]) C dX4_shut_88 1 rfl (by decide) rfl ?_
                  refine j_goto C 51 dX4_shut_91 (by decide) ?_
                  refine j_lv [0, 1, 2, 3, 4, 5, 6, 7] (lv' := [(7, .int (nI (g + 1))), (6, .int (nI ((belF (S.2.2.2 6) g) * 1))), (5, .int (nI 0)), (0, .ref o), (1, .int (nI j)), (2, .int (nI qq)), (3, .int (nI cc)), (4, .int (nI u))]) rfl ?_
                  refine j_lvN (lv' := [(7, .int (nI (g + 1))), (6, .int (nI (belF (S.2.2.2 6) (g + 1)))), (5, .int (nI 0)), (0, .ref o), (1, .int (nI j)), (2, .int (nI qq)), (3, .int (nI cc)), (4, .int (nI u))]) 1 rfl (by show _ = belF (S.2.2.2 6) g * _; simp [c76]) rfl ?_
                  exact ih_l1 (g + 1) (by omega) (by omega) (by omega)
                · refine j_bipush (v := nI 10) C dX4_shut_79 rfl ?_
                  refine j_goto C 85 dX4_shut_81 (by decide) ?_
                  refine j_imulN C dX4_shut_85 ?_
                  refine j_istore (lv' := [(6, .int (nI ((belF (S.2.2.2 6) g) * 10))), (7, .int (nI g)), (5, .int (nI 0)), (0, .ref o), (1, .int (nI j)), (2, .int (nI qq)), (3, .int (nI cc)), (4, .int (nI u))]) C dX4_shut_86 (by decide) rfl ?_
                  refine j_iincN (lv' := [(7, .int (nI (g + 1))), (6, .int (nI ((belF (S.2.2.2 6) g) * 10))), (5, .int (nI 0)), (0, .ref o), (1, .int (nI j)), (2, .int (nI qq)), (3, .int (nI cc)), (4, .int (nI u))]) C dX4_shut_88 1 rfl (by decide) rfl ?_
                  refine j_goto C 51 dX4_shut_91 (by decide) ?_
                  refine j_lv [0, 1, 2, 3, 4, 5, 6, 7] (lv' := [(7, .int (nI (g + 1))), (6, .int (nI ((belF (S.2.2.2 6) g) * 10))), (5, .int (nI 0)), (0, .ref o), (1, .int (nI j)), (2, .int (nI qq)), (3, .int (nI cc)), (4, .int (nI u))]) rfl ?_
                  refine j_lvN (lv' := [(7, .int (nI (g + 1))), (6, .int (nI (belF (S.2.2.2 6) (g + 1)))), (5, .int (nI 0)), (0, .ref o), (1, .int (nI j)), (2, .int (nI qq)), (3, .int (nI cc)), (4, .int (nI u))]) 1 rfl (by show _ = belF (S.2.2.2 6) g * _; simp [c76]) rfl ?_
                  exact ih_l1 (g + 1) (by omega) (by omega) (by omega)
          refine j_lv [0, 1, 2, 3, 4, 5, 6, 7] (lv' := [(7, .int (nI 0)), (6, .int (nI 1)), (5, .int (nI 0)), (0, .ref o), (1, .int (nI j)), (2, .int (nI qq)), (3, .int (nI cc)), (4, .int (nI u))]) rfl ?_
          refine j_lvN (lv' := [(7, .int (nI 0)), (6, .int (nI (belF (S.2.2.2 6) 0))), (5, .int (nI 0)), (0, .ref o), (1, .int (nI j)), (2, .int (nI qq)), (3, .int (nI cc)), (4, .int (nI u))]) 1 rfl rfl rfl ?_
          exact l1 (S.2.2.2 6 25 + 1 - 0) (0) (by omega) (by omega) (by omega)
        · refine j_ldc C q1582 dX4_shut_39 ?_
          exact j_iret C (by omega) (by omega) (pM.mk (h1 (Or.inr (Or.inr (Or.inr c36))))) dX4_shut_41
