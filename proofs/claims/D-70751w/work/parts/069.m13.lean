/-! ===== plain words: an empty draft ===== -/
def zN (f : Nat → Nat) (k : Nat) : Nat → Nat := fun i => if i < k then 0 else f i
theorem zN_0 (f : Nat → Nat) : zN f 0 = f := by
  funext i
  unfold zN
  rw [if_neg (by omega)]
theorem zN_s (f : Nat → Nat) (k : Nat) : uN (zN f k) k 0 = zN f (k + 1) := by
  funext i
  unfold uN zN
  by_cases h : i = k
  · rw [if_pos h, if_pos (by omega)]
  · rw [if_neg h]
    by_cases h2 : i < k
    · rw [if_pos h2, if_pos (by omega)]
    · rw [if_neg h2, if_neg (by omega)]
/-! ===== the reference: town ===== -/
set_option maxRecDepth 100000
set_option maxHeartbeats 1000000 in
theorem mX4_town_c (G : gl_T) (M : Nat → Option (Nat × va_E)) (sz o : Nat) (k : KX) (P : Int32 → ms_T → Prop) (R : ms_T) (C : Cx G k cX4_town "MoodFareModel" "town" 2 (some .int) 6 0 0 (pM G M o sz P)) (hK : J G k (mset G M o R, sz) [(0, .ref o)] 172 [] 0 0) : ∀ (n : Nat) (S : ms_T), pOK S → rcL n S = some R → J G k (mset G M o S, sz) [(0, .ref o)] 140 [] 0 0 := by
  intro n
  induction n with
  | zero => intro S hp hR; cases hR
  | succ n ih =>
    intro S hp hR
    refine j_aload_n C dX4_town_140 rfl 0 rfl ?_
    refine j_callV C (mX4_isWell G M sz o S) pI.ret mset_o rfl 0 q1636 q1638 qs37 q73 q1639 (by decide +kernel) rfl (by decide) (by decide) (Nat.le_of_ble_eq_true rfl) rfl dX4_town_141 (by omega) (by omega) (qI.k ?_)
    refine j_if_eqB C 172 dX4_town_144 (by decide) (fun c144 => ?_) (fun c144 => ?_)
    · have e : rcG S = false := by unfold rcG; simp [c144]
      have e2 : some S = some R := by rw [← hR]; show _ = (if rcG S then _ else _); rw [e]; rfl
      obtain rfl := Option.some.inj e2
      exact hK
    · refine j_aload_n C dX4_town_147 rfl 0 rfl ?_
      refine mg11 C q1485 dX4_town_148 (v := S.2.1 11) rfl ?_
      refine j_iconst (v := nI 1) C dX4_town_151 rfl ?_
      refine j_icmp_neN C 172 dX4_town_152 (by decide) (by first | omega | (have := kndN_le (S.1 12); omega) | (have := hp.2.2.2.1; omega)) (by first | omega | (have := kndN_le (S.1 12); omega) | (have := hp.2.2.2.1; omega)) (fun c152 => ?_) (fun c152 => ?_)
      · have e : rcG S = false := by unfold rcG; simp [c144, c152]
        have e2 : some S = some R := by rw [← hR]; show _ = (if rcG S then _ else _); rw [e]; rfl
        obtain rfl := Option.some.inj e2
        exact hK
      · refine j_aload_n C dX4_town_155 rfl 0 rfl ?_
        refine mg12 C q1486 dX4_town_156 (v := S.1 12) rfl ?_
        refine j_callS C (mX4_kindOf G (mset G M o S, sz) (S.1 12)) pI.ret 1 q1648 q1649 q73 q1650 (by decide +kernel) rfl (by decide) (by decide) (Nat.le_of_ble_eq_true rfl) rfl dX4_town_159 (by omega) (by omega) (qI.k ?_)
        refine j_if_leN C 172 dX4_town_162 (by decide) (by first | omega | (have := kndN_le (S.1 12); omega) | (have := hp.2.2.2.1; omega)) (fun c162 => ?_) (fun c162 => ?_)
        · have e : rcG S = false := by unfold rcG; simp [c144, c152, c162]
          have e2 : some S = some R := by rw [← hR]; show _ = (if rcG S then _ else _); rw [e]; rfl
          obtain rfl := Option.some.inj e2
          exact hK
        · refine j_aload_n C dX4_town_165 rfl 0 rfl ?_
          refine j_callV C (mX4_readsCorner G M sz o S hp) pV.ret mset_o rfl 0 q1651 q1653 qs40 q73 q1654 (by decide +kernel) rfl (by decide) (by decide) (Nat.le_of_ble_eq_true rfl) rfl dX4_town_166 (by omega) (by omega) (qV.k ?_)
          refine j_goto C 140 dX4_town_169 (by decide) ?_
          have e : rcG S = true := by unfold rcG; simp [c144, c152, c162] <;> omega
          refine ih _ (rcS_ok hp) ?_
          rw [← hR]
          show _ = (if rcG S then _ else _)
          rw [e]
          rfl
set_option maxHeartbeats 1000000 in
theorem mX4_town_x (G : gl_T) (M : Nat → Option (Nat × va_E)) (sz o : Nat) (k : KX) (P : Int32 → ms_T → Prop) (R : ms_T) (C : Cx G k cX4_town "MoodFareModel" "town" 2 (some .int) 6 0 0 (pM G M o sz P)) (hK : J G k (mset G M o R, sz) [(0, .ref o)] 203 [] 0 0) : ∀ (n : Nat) (S : ms_T), pOK S → rsL n S = some R → J G k (mset G M o S, sz) [(0, .ref o)] 172 [] 0 0 := by
  intro n
  induction n with
  | zero => intro S hp hR; cases hR
  | succ n ih =>
    intro S hp hR
    refine j_aload_n C dX4_town_172 rfl 0 rfl ?_
    refine j_callV C (mX4_isWell G M sz o S) pI.ret mset_o rfl 0 q1636 q1638 qs37 q73 q1639 (by decide +kernel) rfl (by decide) (by decide) (Nat.le_of_ble_eq_true rfl) rfl dX4_town_173 (by omega) (by omega) (qI.k ?_)
    refine j_if_eqB C 203 dX4_town_176 (by decide) (fun c176 => ?_) (fun c176 => ?_)
    · have e : rsG S = false := by unfold rsG; simp [c176]
      have e2 : some S = some R := by rw [← hR]; show _ = (if rsG S then _ else _); rw [e]; rfl
      obtain rfl := Option.some.inj e2
      exact hK
    · refine j_aload_n C dX4_town_179 rfl 0 rfl ?_
      refine mg11 C q1485 dX4_town_180 (v := S.2.1 11) rfl ?_
      refine j_iconst (v := nI 1) C dX4_town_183 rfl ?_
      refine j_icmp_neN C 203 dX4_town_184 (by decide) (by first | omega | (have := kndN_le (S.1 12); omega) | (have := hp.2.2.2.1; omega)) (by first | omega | (have := kndN_le (S.1 12); omega) | (have := hp.2.2.2.1; omega)) (fun c184 => ?_) (fun c184 => ?_)
      · have e : rsG S = false := by unfold rsG; simp [c176, c184]
        have e2 : some S = some R := by rw [← hR]; show _ = (if rsG S then _ else _); rw [e]; rfl
        obtain rfl := Option.some.inj e2
        exact hK
      · refine j_aload_n C dX4_town_187 rfl 0 rfl ?_
        refine mg12 C q1486 dX4_town_188 (v := S.1 12) rfl ?_
        refine j_bipush (v := nI 120) C dX4_town_191 rfl ?_
        refine j_icmp_ne C 203 dX4_town_193 (by decide) (fun c193 => ?_) (fun c193 => ?_)
        · have e : rsG S = false := by unfold rsG; simp [c176, c184, c193]
          have e2 : some S = some R := by rw [← hR]; show _ = (if rsG S then _ else _); rw [e]; rfl
          obtain rfl := Option.some.inj e2
          exact hK
        · refine j_aload_n C dX4_town_196 rfl 0 rfl ?_
          refine j_callV C (mX4_readsStreet G M sz o S hp) pV.ret mset_o rfl 0 q1655 q1657 qs41 q73 q1658 (by decide +kernel) rfl (by decide) (by decide) (Nat.le_of_ble_eq_true rfl) rfl dX4_town_197 (by omega) (by omega) (qV.k ?_)
          refine j_goto C 172 dX4_town_200 (by decide) ?_
          have e : rsG S = true := by unfold rsG; simp [c176, c184, c193]
          refine ih _ (rsS_ok hp) ?_
          rw [← hR]
          show _ = (if rsG S then _ else _)
          rw [e]
          rfl
set_option maxHeartbeats 1000000 in
theorem mX4_town_e (G : gl_T) (M : Nat → Option (Nat × va_E)) (sz o : Nat) (k : KX) (P : Int32 → ms_T → Prop) (S : ms_T) (C : Cx G k cX4_town "MoodFareModel" "town" 2 (some .int) 6 0 0 (pM G M o sz P)) (hp : pOK S) (h1 : ¬ (twH S).1 8 < 0 → P ((-1000100) - (twH S).1 8) (sN (twH S) 6 0)) (h2 : (twH S).1 8 < 0 → P (nI ((twH S).2.2.2 7 25)) (sN (sB (sN (twH S) 6 0) 6 ((twH S).2.2.2 7)) 17 0)) : J G k (mset G M o S, sz) [(0, .ref o)] 203 [] 0 0 := by
  have je : J G k (mset G M o (twH S), sz) [(0, .ref o)] 224 [] 0 0 := by
    refine j_aload_n C dX4_town_224 rfl 0 rfl ?_
    refine j_iconst (v := nI 0) C dX4_town_225 rfl ?_
    refine mp6 C q1480 dX4_town_226 ?_
    refine j_aload_n C dX4_town_229 rfl 0 rfl ?_
    refine j_callV C (mX4_isWell G M sz o (sN (twH S) 6 0)) pI.ret mset_o rfl 0 q1636 q1638 qs37 q73 q1639 (by decide +kernel) rfl (by decide) (by decide) (Nat.le_of_ble_eq_true rfl) rfl dX4_town_230 (by omega) (by omega) (qI.k ?_)
    refine j_as (y := bZ (decide ((twH S).1 8 < 0))) rfl ?_
    refine j_if_neB C 244 dX4_town_233 (by decide) (fun c233 => ?_) (fun c233 => ?_)
    · refine j_aload_n C dX4_town_244 rfl 0 rfl ?_
      refine mg14 C q1488 dX4_town_245 ?_
      refine j_iconst (v := nI 0) C dX4_town_248 rfl ?_
      refine j_aload_n C dX4_town_249 rfl 0 rfl ?_
      refine mg13 C q1487 dX4_town_250 ?_
      refine j_iconst (v := nI 0) C dX4_town_253 rfl ?_
      refine j_callS C (mX4_copies G (mset G M o (sN (twH S) 6 0), sz) (o + 7) o (o + 6) o 42 42 0 0 ((twH S).2.2.2 7) ((twH S).2.2.2 6) (mset_a 7 (by decide) (by decide)) (mset_a 6 (by decide) (by decide)) (by omega) (by first | omega | (have := kndN_le (S.1 12); omega) | (have := hp.2.2.2.1; omega)) (by first | omega | (have := kndN_le (S.1 12); omega) | (have := hp.2.2.2.1; omega)) (by decide) (by decide)) pV.ret 4 q1668 q1669 q73 q1670 (by decide +kernel) rfl (by decide) (by decide) (Nat.le_of_ble_eq_true rfl) rfl dX4_town_254 (by omega) (by omega) (qV.k ?_)
      refine J.eq (w' := (mset G M o (sB (sN (twH S) 6 0) 6 (va_cpy ((twH S).2.2.2 7) ((twH S).2.2.2 6) 0 0 42)), sz)) ?_ (congrArg (fun z => (z, sz)) (mset_ua 6 (by decide) (by decide) (mfs_B _ _ _ _) rfl (mcon_B _ _ _))) rfl rfl
      refine j_cgB 6 (g' := (twH S).2.2.2 7) (by decide) (by decide) (fun i hi => by rw [pk_cpy_in (by omega) (by exact hi)]; simp) ?_
      refine j_aload_n C dX4_town_257 rfl 0 rfl ?_
      refine j_iconst (v := nI 0) C dX4_town_258 rfl ?_
      refine mp17 C q1491 dX4_town_259 ?_
      refine j_aload_n C dX4_town_262 rfl 0 rfl ?_
      refine mg13 C q1487 dX4_town_263 ?_
      refine j_bipush (v := nI 25) C dX4_town_266 rfl ?_
      refine ml6 C (25) rfl (by first | omega | (have := kndN_le (S.1 12); omega) | (have := hp.2.2.2.1; omega)) dX4_town_268 (v := ((twH S).2.2.2 7) 25) rfl ?_
      exact j_iret C (by omega) (by omega) (pM.mk (h2 (of_decide_eq_true c233))) dX4_town_269
    · refine j_ldc C q1667 dX4_town_236 ?_
      refine j_aload_n C dX4_town_238 rfl 0 rfl ?_
      refine mg8 C q1482 dX4_town_239 (v := (twH S).1 8) rfl ?_
      refine j_isub C dX4_town_242 ?_
      exact j_iret C (by omega) (by omega) (pM.mk (h1 (of_decide_eq_false c233))) dX4_town_243
  refine j_aload_n C dX4_town_203 rfl 0 rfl ?_
  refine j_callV C (mX4_isWell G M sz o S) pI.ret mset_o rfl 0 q1636 q1638 qs37 q73 q1639 (by decide +kernel) rfl (by decide) (by decide) (Nat.le_of_ble_eq_true rfl) rfl dX4_town_204 (by omega) (by omega) (qI.k ?_)
  refine j_if_eqB C 224 dX4_town_207 (by decide) (fun c207 => ?_) (fun c207 => ?_)
  · refine J.eq (w' := (mset G M o (twH S), sz)) ?_ (congrArg (fun z => (mset G M o z, sz)) (by unfold twH; rw [if_neg (fun z => absurd z.1 (of_decide_eq_false c207))])) rfl rfl
    exact je
  · refine j_aload_n C dX4_town_210 rfl 0 rfl ?_
    refine mg11 C q1485 dX4_town_211 (v := S.2.1 11) rfl ?_
    refine j_if_eqN C 224 dX4_town_214 (by decide) (by first | omega | (have := kndN_le (S.1 12); omega) | (have := hp.2.2.2.1; omega)) (fun c214 => ?_) (fun c214 => ?_)
    · refine J.eq (w' := (mset G M o (twH S), sz)) ?_ (congrArg (fun z => (mset G M o z, sz)) (by unfold twH; rw [if_neg (fun z => z.2 c214)])) rfl rfl
      exact je
    · refine j_aload_n C dX4_town_217 rfl 0 rfl ?_
      refine j_iconst (v := nI 0) C dX4_town_218 rfl ?_
      refine j_iconst (v := nI 1) C dX4_town_219 rfl ?_
      refine j_callV C (mX4_takes G M sz o S false 1 hp) pI.ret mset_o rfl 2 q1632 q1634 qs36 q73 q1635 (by decide +kernel) rfl (by decide) (by decide) (Nat.le_of_ble_eq_true rfl) rfl dX4_town_220 (by omega) (by omega) (qI.k ?_)
      refine j_pop C dX4_town_223 rfl ?_
      refine J.eq (w' := (mset G M o (twH S), sz)) ?_ (congrArg (fun z => (mset G M o z, sz)) (by unfold twH; rw [if_pos ⟨of_decide_eq_true c207, c214⟩])) rfl rfl
      exact je
set_option maxHeartbeats 2000000 in
theorem mX4_town (G : gl_T) (M : Nat → Option (Nat × va_E)) (sz o : Nat) (S : ms_T) (P : Int32 → ms_T → Prop) (h0 : pOK0 S) (nc nx : Nat) (R1 R2 : ms_T) (hC : rcL nc (twG S) = some R1) (hX : rsL nx R1 = some R2) (h1 : ¬ (twH R2).1 8 < 0 → P ((-1000100) - (twH R2).1 8) (sN (twH R2) 6 0)) (h2 : (twH R2).1 8 < 0 → P (nI ((twH R2).2.2.2 7 25)) (sN (sB (sN (twH R2) 6 0) 6 ((twH R2).2.2.2 7)) 17 0)) : Mt G yX4_town cX4_town 2 (some .int) 6 [.ref o] (mset G M o S, sz) (pM G M o sz P) 0 0 := by
  refine Mt.start (by decide) (Nat.le_of_ble_eq_true rfl) (fun k C => ?_)
  have C : Cx G k cX4_town "MoodFareModel" "town" 2 (some .int) 6 0 0 _ := C
  have hp1 := rcL_ok nc (twG S) R1 (twG_ok h0) hC
  have hp2 := rsL_ok nx R1 R2 hp1 hX
  refine j_iconst (v := nI 0) C dX4_town_0 rfl ?_
  refine j_istore_n (lv' := [(1, .int (nI 0)), (0, .ref o)]) C dX4_town_1 rfl (by decide) rfl ?_
  have lp : ∀ (n_lp e : Nat), 0 ≤ e → e ≤ 42 → 42 < e + n_lp → J G k (mset G M o (sB S 7 (zN (S.2.2.2 7) e)), sz) [(1, .int (nI e)), (0, .ref o)] 2 [] 0 0 := by
    intro n_lp
    induction n_lp with
    | zero => intro e h0_lp h1_lp h2_lp; omega
    | succ n_lp ih_lp =>
      intro e h0_lp h1_lp h2_lp
      refine j_iload_n C dX4_town_2 rfl 0 rfl ?_
      refine j_bipush (v := nI 42) C dX4_town_3 rfl ?_
      refine j_icmp_geN C 21 dX4_town_5 (by decide) (by first | omega | (have := kndN_le ((twF S).1 12); omega)) (by first | omega | (have := kndN_le ((twF S).1 12); omega)) (fun c5 => ?_) (fun c5 => ?_)
      · obtain rfl : 42 = e := by omega
        refine j_lv [1] (lv' := [(0, .ref o)]) rfl ?_
        refine j_cgB 7 (g' := fun _ => 0) (by decide) (by decide) (fun i hi => if_pos hi) ?_
        refine j_aload_n C dX4_town_21 rfl 0 rfl ?_
        refine j_iconst (v := nI 0) C dX4_town_22 rfl ?_
        refine mp9 C q1483 dX4_town_23 ?_
        refine j_aload_n C dX4_town_26 rfl 0 rfl ?_
        refine j_iconst (v := -1) C dX4_town_27 rfl ?_
        refine mp8 C q1482 dX4_town_28 ?_
        refine j_aload_n C dX4_town_31 rfl 0 rfl ?_
        refine j_callV C (mX4_advances G M sz o (sF (sN (sB S 7 (fun _ => 0)) 9 0) 8 ((-1))) (pOK_0 h0)) pV.ret mset_o rfl 0 q1624 q1626 qs34 q73 q1627 (by decide +kernel) rfl (by decide) (by decide) (Nat.le_of_ble_eq_true rfl) rfl dX4_town_32 (by omega) (by omega) (qV.k ?_)
        refine J.eq (w' := (mset G M o (twA S), sz)) (lv' := [(0, .ref o)]) (st' := []) ?_ (by unfold twA; rfl) rfl rfl
        have hA : pOK (twA S) := advS_ok (pOK_0 h0)
        have tA := hA.2.2.2.1
        refine j_aload_n C dX4_town_35 rfl 0 rfl ?_
        have jn58 : J G k (mset G M o (twA S), sz) [(0, .ref o)] 58 [.int (bZ (decide ((twA S).2.1 11 = 1) && decide ((twA S).1 12 = nI 116))), .ref o] 0 0 := by
          refine j_iconst (v := nI 1) C dX4_town_58 rfl ?_
          refine j_callV C (mX4_takes G M sz o (twA S) (decide ((twA S).2.1 11 = 1) && decide ((twA S).1 12 = nI 116)) 1 hA) pI.ret mset_o rfl 2 q1632 q1634 qs36 q73 q1635 (by decide +kernel) rfl (by decide) (by decide) (Nat.le_of_ble_eq_true rfl) rfl dX4_town_59 (by omega) (by omega) (qI.k ?_)
          refine J.eq (w' := (mset G M o (twB S), sz)) (lv' := [(0, .ref o)]) (st' := [.int (takV (twA S) (decide ((twA S).2.1 11 = 1) && decide ((twA S).1 12 = nI 116)))]) ?_ (by unfold twB; rfl) rfl rfl
          have hB : pOK (twB S) := takS_ok hA
          refine j_pop C dX4_town_62 rfl ?_
          refine j_aload_n C dX4_town_63 rfl 0 rfl ?_
          refine mg14 C q1488 dX4_town_64 ?_
          refine j_iconst (v := nI 0) C dX4_town_67 rfl ?_
          refine j_aload_n C dX4_town_68 rfl 0 rfl ?_
          refine j_iconst (v := nI 1) C dX4_town_69 rfl ?_
          refine j_bipush (v := nI 9) C dX4_town_70 rfl ?_
          refine j_callV C (mX4_figure G M sz o (twB S) (nI 1) (nI 9) (by first | exact h0 | decide +kernel) hB) pI.ret mset_o rfl 2 q1640 q1642 qs38 q73 q1643 (by decide +kernel) rfl (by decide) (by decide) (Nat.le_of_ble_eq_true rfl) rfl dX4_town_72 (by omega) (by omega) (qI.k ?_)
          refine mt7 C (0) rfl (by first | omega | (have := kndN_le ((twF S).1 12); omega)) dX4_town_75 ?_
          refine J.eq (w' := (mset G M o (twC S), sz)) (lv' := [(0, .ref o)]) (st' := []) ?_ (by unfold twC; rfl) rfl rfl
          have hCo : pOK (twC S) := pOK_d (figS_ok hB) (by decide)
          refine j_aload_n C dX4_town_76 rfl 0 rfl ?_
          refine mg14 C q1488 dX4_town_77 ?_
          refine j_iconst (v := nI 1) C dX4_town_80 rfl ?_
          refine j_aload_n C dX4_town_81 rfl 0 rfl ?_
          refine j_iconst (v := nI 0) C dX4_town_82 rfl ?_
          refine j_bipush (v := nI 9) C dX4_town_83 rfl ?_
          refine j_callV C (mX4_follows G M sz o (twC S) (nI 0) (nI 9) (by decide +kernel) hCo) pI.ret mset_o rfl 2 q1644 q1646 qs39 q73 q1647 (by decide +kernel) rfl (by decide) (by decide) (Nat.le_of_ble_eq_true rfl) rfl dX4_town_85 (by omega) (by omega) (qI.k ?_)
          refine j_as (y := nI (figV (twD S) (nI 0) (nI 9))) (by unfold twD; rfl) ?_
          refine mt7 C (1) rfl (by first | omega | (have := kndN_le ((twF S).1 12); omega)) dX4_town_88 ?_
          refine J.eq (w' := (mset G M o (twE S), sz)) (lv' := [(0, .ref o)]) (st' := []) ?_ (by unfold twE twD; rfl) rfl rfl
          have hE : pOK (twE S) := pOK_d (figS_ok (takS_ok hCo)) (by decide)
          refine j_aload_n C dX4_town_89 rfl 0 rfl ?_
          have ht_103 := hE.2.2.2.1
          have jn103 : J G k (mset G M o (twE S), sz) [(0, .ref o)] 103 [.int (bZ (decide ((twE S).2.1 11 = 4))), .ref o] 0 0 := by
            refine j_iconst (v := nI 1) C dX4_town_103 rfl ?_
            refine j_callV C (mX4_takes G M sz o (twE S) (decide ((twE S).2.1 11 = 4)) 1 hE) pI.ret mset_o rfl 2 q1632 q1634 qs36 q73 q1635 (by decide +kernel) rfl (by decide) (by decide) (Nat.le_of_ble_eq_true rfl) rfl dX4_town_104 (by omega) (by omega) (qI.k ?_)
            refine J.eq (w' := (mset G M o (twF S), sz)) (lv' := [(0, .ref o)]) (st' := [.int (takV (twE S) (decide ((twE S).2.1 11 = 4)))]) ?_ (by unfold twF; rfl) rfl rfl
            have hFo : pOK (twF S) := takS_ok hE
            have tF := hFo.2.2.2.1
            refine j_pop C dX4_town_107 rfl ?_
            refine j_aload_n C dX4_town_108 rfl 0 rfl ?_
            refine j_callV C (mX4_isWell G M sz o (twF S)) pI.ret mset_o rfl 0 q1636 q1638 qs37 q73 q1639 (by decide +kernel) rfl (by decide) (by decide) (Nat.le_of_ble_eq_true rfl) rfl dX4_town_109 (by omega) (by omega) (qI.k ?_)
            refine j_as (y := bZ (decide ((twF S).1 8 < 0))) rfl ?_
            refine j_if_eqB C 140 dX4_town_112 (by decide) (fun c112 => ?_) (fun c112 => ?_)
            · refine J.eq (w' := (mset G M o (twG S), sz)) ?_ (congrArg (fun z => (mset G M o z, sz)) (by unfold twG; rw [if_neg (fun z => absurd z.1 (of_decide_eq_false c112))])) rfl rfl
              exact mX4_town_c G M sz o k P R1 C (mX4_town_x G M sz o k P R2 C (mX4_town_e G M sz o k P R2 C hp2 h1 h2) nx R1 hp1 hX) nc (twG S) (twG_ok h0) hC
            · refine j_aload_n C dX4_town_115 rfl 0 rfl ?_
              refine mg11 C q1485 dX4_town_116 (v := (twF S).2.1 11) rfl ?_
              refine j_iconst (v := nI 1) C dX4_town_119 rfl ?_
              refine j_icmp_neN C 133 dX4_town_120 (by decide) (by first | omega | (have := kndN_le ((twF S).1 12); omega)) (by first | omega | (have := kndN_le ((twF S).1 12); omega)) (fun c120 => ?_) (fun c120 => ?_)
              · refine j_aload_n C dX4_town_133 rfl 0 rfl ?_
                refine j_iconst (v := nI 0) C dX4_town_134 rfl ?_
                refine j_iconst (v := nI 1) C dX4_town_135 rfl ?_
                refine j_callV C (mX4_takes G M sz o (twF S) false 1 hFo) pI.ret mset_o rfl 2 q1632 q1634 qs36 q73 q1635 (by decide +kernel) rfl (by decide) (by decide) (Nat.le_of_ble_eq_true rfl) rfl dX4_town_136 (by omega) (by omega) (qI.k ?_)
                refine j_pop C dX4_town_139 rfl ?_
                refine J.eq (w' := (mset G M o (twG S), sz)) ?_ (congrArg (fun z => (mset G M o z, sz)) (by unfold twG; rw [if_pos ⟨of_decide_eq_true c112, fun z => absurd z.1 c120⟩])) rfl rfl
                exact mX4_town_c G M sz o k P R1 C (mX4_town_x G M sz o k P R2 C (mX4_town_e G M sz o k P R2 C hp2 h1 h2) nx R1 hp1 hX) nc (twG S) (twG_ok h0) hC
              · refine j_aload_n C dX4_town_123 rfl 0 rfl ?_
                refine mg12 C q1486 dX4_town_124 (v := (twF S).1 12) rfl ?_
                refine j_callS C (mX4_kindOf G (mset G M o (twF S), sz) ((twF S).1 12)) pI.ret 1 q1648 q1649 q73 q1650 (by decide +kernel) rfl (by decide) (by decide) (Nat.le_of_ble_eq_true rfl) rfl dX4_town_127 (by omega) (by omega) (qI.k ?_)
                refine j_as (y := nI (kndN ((twF S).1 12))) rfl ?_
                refine j_if_gtN C 140 dX4_town_130 (by decide) (by first | omega | (have := kndN_le ((twF S).1 12); omega)) (fun c130 => ?_) (fun c130 => ?_)
                · refine J.eq (w' := (mset G M o (twG S), sz)) ?_ (congrArg (fun z => (mset G M o z, sz)) (by unfold twG; rw [if_neg (fun z => z.2 ⟨c120, by omega⟩)])) rfl rfl
                  exact mX4_town_c G M sz o k P R1 C (mX4_town_x G M sz o k P R2 C (mX4_town_e G M sz o k P R2 C hp2 h1 h2) nx R1 hp1 hX) nc (twG S) (twG_ok h0) hC
                · refine j_aload_n C dX4_town_133 rfl 0 rfl ?_
                  refine j_iconst (v := nI 0) C dX4_town_134 rfl ?_
                  refine j_iconst (v := nI 1) C dX4_town_135 rfl ?_
                  refine j_callV C (mX4_takes G M sz o (twF S) false 1 hFo) pI.ret mset_o rfl 2 q1632 q1634 qs36 q73 q1635 (by decide +kernel) rfl (by decide) (by decide) (Nat.le_of_ble_eq_true rfl) rfl dX4_town_136 (by omega) (by omega) (qI.k ?_)
                  refine j_pop C dX4_town_139 rfl ?_
                  refine J.eq (w' := (mset G M o (twG S), sz)) ?_ (congrArg (fun z => (mset G M o z, sz)) (by unfold twG; rw [if_pos ⟨of_decide_eq_true c112, fun z => absurd z.2 (by omega)⟩])) rfl rfl
                  exact mX4_town_c G M sz o k P R1 C (mX4_town_x G M sz o k P R2 C (mX4_town_e G M sz o k P R2 C hp2 h1 h2) nx R1 hp1 hX) nc (twG S) (twG_ok h0) hC
          refine j_aload_n C dX4_town_90 rfl 0 rfl ?_
          refine mg11 C q1485 dX4_town_91 (v := (twE S).2.1 11) rfl ?_
          refine j_iconst (v := nI 4) C dX4_town_94 rfl ?_
          refine j_icmp_neN C 102 dX4_town_95 (by decide) (by first | omega | (have := kndN_le ((twF S).1 12); omega)) (by first | omega | (have := kndN_le ((twF S).1 12); omega)) (fun c95 => ?_) (fun c95 => ?_)
          · refine j_iconst (v := nI 0) C dX4_town_102 rfl ?_
            refine j_as (y := bZ (decide ((twE S).2.1 11 = 4))) (by simp [bZ, c95]) ?_
            exact jn103
          · refine j_iconst (v := nI 1) C dX4_town_98 rfl ?_
            refine j_goto C 103 dX4_town_99 (by decide) ?_
            refine j_as (y := bZ (decide ((twE S).2.1 11 = 4))) (by simp [bZ, c95]) ?_
            exact jn103
        refine j_aload_n C dX4_town_36 rfl 0 rfl ?_
        refine mg11 C q1485 dX4_town_37 (v := (twA S).2.1 11) rfl ?_
        refine j_iconst (v := nI 1) C dX4_town_40 rfl ?_
        refine j_icmp_neN C 57 dX4_town_41 (by decide) (by first | omega | (have := kndN_le ((twF S).1 12); omega)) (by first | omega | (have := kndN_le ((twF S).1 12); omega)) (fun c41 => ?_) (fun c41 => ?_)
        · refine j_iconst (v := nI 0) C dX4_town_57 rfl ?_
          refine j_as (y := bZ (decide ((twA S).2.1 11 = 1) && decide ((twA S).1 12 = nI 116))) (by simp [bZ, c41]) ?_
          exact jn58
        · refine j_aload_n C dX4_town_44 rfl 0 rfl ?_
          refine mg12 C q1486 dX4_town_45 (v := (twA S).1 12) rfl ?_
          refine j_bipush (v := nI 116) C dX4_town_48 rfl ?_
          refine j_icmp_ne C 57 dX4_town_50 (by decide) (fun c50 => ?_) (fun c50 => ?_)
          · refine j_iconst (v := nI 0) C dX4_town_57 rfl ?_
            refine j_as (y := bZ (decide ((twA S).2.1 11 = 1) && decide ((twA S).1 12 = nI 116))) (by simp [bZ, c41, c50]) ?_
            exact jn58
          · refine j_iconst (v := nI 1) C dX4_town_53 rfl ?_
            refine j_goto C 58 dX4_town_54 (by decide) ?_
            refine j_as (y := bZ (decide ((twA S).2.1 11 = 1) && decide ((twA S).1 12 = nI 116))) (by simp [bZ, c41, c50]) ?_
            exact jn58
      · refine j_aload_n C dX4_town_8 rfl 1 rfl ?_
        refine mg14 C q1488 dX4_town_9 ?_
        refine j_iload_n C dX4_town_12 rfl 0 rfl ?_
        refine j_iconst (v := nI 0) C dX4_town_13 rfl ?_
        refine mt7 C (e) rfl (by first | omega | (have := kndN_le ((twF S).1 12); omega)) dX4_town_14 ?_
        refine j_iincN (lv' := [(1, .int (nI (e + 1))), (0, .ref o)]) C dX4_town_15 0 rfl (by decide) rfl ?_
        refine j_goto C 2 dX4_town_18 (by decide) ?_
        refine j_lv [0, 1] (lv' := [(1, .int (nI (e + 1))), (0, .ref o)]) rfl ?_
        refine J.eq (w' := (mset G M o (sB S 7 (zN (S.2.2.2 7) (e + 1))), sz)) ?_ (by rw [← zN_s]; exact congrArg (fun z => (mset G M o z, sz)) (sB_sB _ _ _ _)) rfl rfl
        exact ih_lp (e + 1) (by omega) (by omega) (by omega)
  refine j_lv [0, 1] (lv' := [(1, .int (nI 0)), (0, .ref o)]) rfl ?_
  refine J.eq (w' := (mset G M o (sB S 7 (zN (S.2.2.2 7) 0)), sz)) ?_ (by rw [zN_0]; exact congrArg (fun z => (mset G M o z, sz)) (sB_self S 7).symm) rfl rfl
  exact lp (42 + 1 - 0) (0) (by omega) (by omega) (by omega)
