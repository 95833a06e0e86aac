/-! ===== streets shut by chance, the class's way: plain words ===== -/
set_option maxRecDepth 100000
section RWP
variable {α : Type} {bt : (Nat → Nat) → Nat → Nat → α → Bool × α}
theorem rwL_p {f g : Nat → ro_T α → ro_T α} (h : ∀ s (q r : ro_T α), q.1 = r.1 → (f s q).1 = (g s r).1) : ∀ k (q r : ro_T α), q.1 = r.1 → (rwL f k q).1 = (rwL g k r).1 := by
  intro k
  induction k with
  | zero => intro q r e; exact e
  | succ k ih => intro q r e; exact h k _ _ (ih q r e)
/-- what is judged doesn't hang on the scratch -/
theorem rwF_p : ∀ m many cost (t : Nat → Nat) (q r : ro_T α), q.1 = r.1 → (rwF bt m many cost t q).1 = (rwF bt m many cost t r).1 := by
  intro m
  induction m with
  | zero =>
    intro many cost t q r e
    show (bt t many cost q.1).2 = (bt t many cost r.1).2
    rw [e]
  | succ m ih =>
    intro many cost t q r e
    refine rwL_p (fun s q r e => ?_) (t 25) _ _ ?_
    · by_cases z : goN t s (t 4) = true
      · simp only [z, if_true]
        exact ih _ _ _ _ _ e
      · simp only [z]
        exact e
    · show (bt t many cost q.1).2 = (bt t many cost r.1).2
      rw [e]
end RWP
def rpC (j : Nat) (t : Nat → Nat) : Option (Nat × Nat) := (roC j t (fun _ => 0) (fun _ => 0) 0).1
theorem roC_p {j : Nat} {t bs tr : Nat → Nat} {d : Nat} : (roC j t bs tr d).1 = rpC j t := rwF_p 8 0 0 t _ _ rfl
def andn (a s : Nat) : Nat := a &&& (255 ^^^ s)
theorem andn_lt {a s : Nat} (h : a < 256) : andn a s < 256 := Nat.lt_of_le_of_lt Nat.and_le_left h
theorem andn_I {a s : Nat} (ha : a < 256) (hs : s < 256) : nI a &&& (nI s ^^^ (-1)) = nI (andn a s) := by
  apply Int32.toBitVec_inj.mp
  apply BitVec.eq_of_getLsbD_eq
  intro i hi
  have e1 : ∀ n : Nat, (nI n).toBitVec = BitVec.ofNat 32 n := fun n => rfl
  rw [Int32.toBitVec_and, Int32.toBitVec_xor, e1, e1, e1]
  rw [BitVec.getLsbD_and, BitVec.getLsbD_xor, BitVec.getLsbD_ofNat, BitVec.getLsbD_ofNat, BitVec.getLsbD_ofNat]
  have e2 : ((-1 : Int32).toBitVec).getLsbD i = true := by
    have : (-1 : Int32).toBitVec = BitVec.allOnes 32 := by decide
    rw [this, BitVec.getLsbD_allOnes]
    simp [hi]
  rw [e2]
  unfold andn
  rw [Nat.testBit_and, Nat.testBit_xor]
  by_cases z : i < 8
  · have : (255 : Nat).testBit i = true := by
      rcases (show i = 0 ∨ i = 1 ∨ i = 2 ∨ i = 3 ∨ i = 4 ∨ i = 5 ∨ i = 6 ∨ i = 7 by omega) with rfl | rfl | rfl | rfl | rfl | rfl | rfl | rfl <;> decide
    rw [this]
    simp [hi]
  · have h2i : 2 ^ 8 ≤ 2 ^ i := Nat.pow_le_pow_right (by decide) (by omega)
    have : a.testBit i = false := Nat.testBit_lt_two_pow (Nat.lt_of_lt_of_le (show a < 2 ^ 8 from ha) h2i)
    rw [this]
    simp
def wayG (t : Nat → Nat) (c s : Nat) : Nat → Nat
  | 0 => 1
  | k + 1 => wayG t c s k * (if hasN (t 5) k then (if hasN s k then c else 10 - c) else 1)
def dueP (p : Option (Nat × Nat)) (q : Nat) : Bool := match p with
  | none => false
  | some (c, _) => decide (c ≤ q)
def blG (t : Nat → Nat) (c : Nat) : Nat → Nat
  | 0 => 0
  | s + 1 => blG t c s + (if subB s (t 5) then wayG t c s (t 25) else 0)
def abG (t : Nat → Nat) (j c q : Nat) : Nat → Nat
  | 0 => 0
  | s + 1 => abG t j c q s + (if subB s (t 5) && dueP (rpC j (uN t 5 (andn (t 5) s))) q then wayG t c s (t 25) else 0)
theorem abG_le {t : Nat → Nat} {j c q : Nat} : ∀ n, abG t j c q n ≤ blG t c n := by
  intro n
  induction n with
  | zero => exact Nat.le_refl _
  | succ n ih =>
    show abG t j c q n + _ ≤ blG t c n + _
    by_cases h : subB n (t 5) = true
    · rw [if_pos h]
      split <;> omega
    · rw [if_neg h, if_neg (by simp [h])]
      omega
theorem smT_5b {t : Nat → Nat} {v : Nat} (ht : smT t) (h : v < 256) : smT (uN t 5 v) := by
  obtain ⟨r0, r1, r2, r3, r4, r5, r6, r7, r25, r26⟩ := ht
  refine ⟨r0, r1, r2, r3, r4, h, r6, fun c hc => ?_, r25, fun x hx => ?_⟩
  · rw [uN_n (by omega), uN_n (by omega), uN_n (by omega)]
    exact r7 c hc
  · rw [uN_n (by omega), uN_n (by omega)]
    exact r26 x hx
theorem wf_5 {t : Nat → Nat} {v : Nat} (h : ∀ y, y < t 25 → t (26 + 2 * y + 1) < t 6) : ∀ y, y < uN t 5 v 25 → uN t 5 v (26 + 2 * y + 1) < uN t 5 v 6 := by
  intro y hy
  rw [uN_n (by omega), uN_n (by omega)]
  rw [uN_n (by omega)] at hy
  exact h y hy
/-! ===== the class: streets shut by chance ===== -/
set_option maxRecDepth 100000
set_option maxHeartbeats 400000 in
theorem kX0_common (G : gl_T) (w : wd_T) (a b : Nat) (ha : a < 2 ^ 31) (hb : b < 2 ^ 31) : Mt G yX0_common cX0_common 5 (some .int) 0 [.int (nI a), .int (nI b)] w (qI (nI (Nat.gcd a b)) w) 0 0 := by
  refine Mt.start (by decide) (Nat.le_of_ble_eq_true rfl) (fun k C => ?_)
  have C : Cx G k cX0_common "MoodFare" "common" 5 (some .int) 0 0 0 _ := C
  refine j_iload_n C dX0_common_0 rfl 0 rfl ?_
  refine j_istore_n (lv' := [(2, .int (nI a)), (0, .int (nI a)), (1, .int (nI b))]) C dX0_common_1 rfl (by decide) rfl ?_
  refine j_iload_n C dX0_common_2 rfl 2 rfl ?_
  refine j_istore_n (lv' := [(3, .int (nI b)), (2, .int (nI a)), (0, .int (nI a)), (1, .int (nI b))]) C dX0_common_3 rfl (by decide) rfl ?_
  have lp : ∀ (n u v : Nat), v < n → u < 2 ^ 31 → v < 2 ^ 31 → Nat.gcd u v = Nat.gcd a b → J G k w [(3, .int (nI v)), (2, .int (nI u)), (0, .int (nI a)), (1, .int (nI b))] 4 [] 0 0 := by
    intro n
    induction n with
    | zero => intro u v hv; omega
    | succ n ih =>
      intro u v hvn hu hv hg
      refine j_iload_n C dX0_common_4 rfl 0 rfl ?_
      refine j_if_eqN C 21 dX0_common_5 (by decide) (by omega) (fun c5 => ?_) (fun c5 => ?_)
      · refine j_iload_n C dX0_common_21 rfl 1 rfl ?_
        exact j_iret C (by omega) (by omega) (pI.mk ⟨by rw [← hg, c5, Nat.gcd_zero_right], rfl⟩) dX0_common_22
      · refine j_iload_n C dX0_common_8 rfl 1 rfl ?_
        refine j_iload_n C dX0_common_9 rfl 0 rfl ?_
        refine j_iremN C dX0_common_10 (by omega) (by omega) (by omega) ?_
        refine j_istore (lv' := [(4, .int (nI (u % v))), (3, .int (nI v)), (2, .int (nI u)), (0, .int (nI a)), (1, .int (nI b))]) C dX0_common_11 (by decide) rfl ?_
        refine j_iload_n C dX0_common_13 rfl 1 rfl ?_
        refine j_istore_n (lv' := [(2, .int (nI v)), (4, .int (nI (u % v))), (3, .int (nI v)), (0, .int (nI a)), (1, .int (nI b))]) C dX0_common_14 rfl (by decide) rfl ?_
        refine j_iload C dX0_common_15 1 rfl ?_
        refine j_istore_n (lv' := [(3, .int (nI (u % v))), (2, .int (nI v)), (4, .int (nI (u % v))), (0, .int (nI a)), (1, .int (nI b))]) C dX0_common_17 rfl (by decide) rfl ?_
        refine j_goto C 4 dX0_common_18 (by decide) ?_
        refine j_lv [0, 1, 3, 4] (lv' := [(3, .int (nI (u % v))), (2, .int (nI v)), (0, .int (nI a)), (1, .int (nI b))]) rfl ?_
        have hm : u % v < v := Nat.mod_lt _ (by omega)
        exact ih v (u % v) (by omega) (by omega) (by omega) (by rw [Nat.gcd_comm v (u % v), ← Nat.gcd_rec v u, Nat.gcd_comm v u]; exact hg)
  refine j_lv [0, 1, 2, 3] (lv' := [(3, .int (nI b)), (2, .int (nI a)), (0, .int (nI a)), (1, .int (nI b))]) rfl ?_
  exact lp (b + 1) a b (by omega) (by omega) (by omega) rfl
set_option maxHeartbeats 1000000 in
theorem kX0_shut (G : gl_T) (hG : GH G) (w0 w : wd_T) (x : Nat) (O : Nat → Prop) (V : fv_T) (Z : fz_T) (hF : FX G w0 w x O V Z) (y z r q : Int32) (ht : smT V.2.1) (h3 : V.2.1 3 ≤ 1000) (hwf : ∀ y, y < V.2.1 25 → V.2.1 (26 + 2 * y + 1) < V.2.1 6) (hS : ∀ c, c ≤ 10 → blG V.2.1 c (V.2.1 5 + 1) = belF V.2.1 (V.2.1 25)) (P : Int32 → fv_T → Prop) (h1 : inB y (nI 0) (nI (V.2.1 6) - nI 1) = false ∨ inB z (nI 0) (nI 999) = false ∨ inB r (nI 0) (nI 10) = false ∨ inB q (nI 0) (nI 1) = false → P kBAD V) (h2 : ∀ j qq cc u, y = nI j → j < V.2.1 6 → z = nI qq → qq ≤ 999 → r = nI cc → cc ≤ 10 → q = nI u → u ≤ 1 → P (nI ((if u = 0 then abG V.2.1 j cc qq (V.2.1 5 + 1) else blG V.2.1 cc (V.2.1 5 + 1)) / Nat.gcd (abG V.2.1 j cc qq (V.2.1 5 + 1)) (blG V.2.1 cc (V.2.1 5 + 1)))) V) : Mt G yX0_shut cX0_shut 10 (some .int) 18 [.ref x, .int y, .int z, .int r, .int q] w (fC G w0 x O P) 10752 77056 := by
  refine Mt.start (by decide) (Nat.le_of_ble_eq_true rfl) (fun k C => ?_)
  have C : Cx G k cX0_shut "MoodFare" "shut" 10 (some .int) 18 10752 77056 _ := C
  obtain ⟨W, hA, hv⟩ := id hF
  obtain ⟨r0, r1, r2, r3, r4, r5, r6, r7, r25, r26⟩ := id ht
  refine j_aload_n C dX0_shut_0 rfl 0 rfl ?_
  refine j_iload_n C dX0_shut_1 rfl 1 rfl ?_
  refine j_callV (w := w) C (kX0_isCorner G hG w0 w x O V Z ⟨W, hA, hv⟩ y) pI.ret (ci := 0) (T := TX0) (hA.d0 hv) rfl 1 q956 q958 qs20 q66 q959 (by decide +kernel) rfl (by decide) (by decide) (Nat.le_of_ble_eq_true rfl) rfl dX0_shut_2 (by omega) (by omega) (qI.k ?_)
  refine j_if_eqB C 40 dX0_shut_5 (by decide) (fun c5 => ?_) (fun c5 => ?_)
  · refine j_ldc C q391 dX0_shut_40 ?_
    exact j_iret C (by omega) (by omega) (fC.mk ⟨W, hA, hv⟩ (h1 (Or.inl c5))) dX0_shut_42
  · obtain ⟨j, rfl, hj⟩ := inB_p (by omega) c5
    refine j_iload_n C dX0_shut_8 rfl 2 rfl ?_
    refine j_i2l C dX0_shut_9 ?_
    refine j_lconst (v := (nI 0).toInt64) C dX0_shut_10 (by decide +kernel) ?_
    refine j_ldc2 C q1267 dX0_shut_11 ?_
    refine j_asl (y := (nI 999).toInt64) (by decide +kernel) ?_
    refine j_callS (w := w) C (kX0_isIn G w z ((nI 0)) ((nI 999))) pI.ret 3 q387 q388 q66 q389 (by decide +kernel) rfl (by decide) (by decide) (Nat.le_of_ble_eq_true rfl) rfl dX0_shut_14 (by omega) (by omega) (qI.k ?_)
    refine j_if_eqB C 40 dX0_shut_17 (by decide) (fun c17 => ?_) (fun c17 => ?_)
    · refine j_ldc C q391 dX0_shut_40 ?_
      exact j_iret C (by omega) (by omega) (fC.mk ⟨W, hA, hv⟩ (h1 (Or.inr (Or.inl c17)))) dX0_shut_42
    · obtain ⟨pq, rfl, hpql, hpq⟩ := inB_n (by decide) c17 (by decide)
      refine j_iload_n C dX0_shut_20 rfl 3 rfl ?_
      refine j_i2l C dX0_shut_21 ?_
      refine j_lconst (v := (nI 0).toInt64) C dX0_shut_22 (by decide +kernel) ?_
      refine j_ldc2 C q1268 dX0_shut_23 ?_
      refine j_asl (y := (nI 10).toInt64) (by decide +kernel) ?_
      refine j_callS (w := w) C (kX0_isIn G w r ((nI 0)) ((nI 10))) pI.ret 3 q387 q388 q66 q389 (by decide +kernel) rfl (by decide) (by decide) (Nat.le_of_ble_eq_true rfl) rfl dX0_shut_26 (by omega) (by omega) (qI.k ?_)
      refine j_if_eqB C 40 dX0_shut_29 (by decide) (fun c29 => ?_) (fun c29 => ?_)
      · refine j_ldc C q391 dX0_shut_40 ?_
        exact j_iret C (by omega) (by omega) (fC.mk ⟨W, hA, hv⟩ (h1 (Or.inr (Or.inr (Or.inl c29))))) dX0_shut_42
      · obtain ⟨cc, rfl, hccl, hcc⟩ := inB_n (by decide) c29 (by decide)
        refine j_iload C dX0_shut_32 4 rfl ?_
        refine j_callS (w := w) C (kX0_isHalf G w q) pI.ret 1 q974 q975 q66 q976 (by decide +kernel) rfl (by decide) (by decide) (Nat.le_of_ble_eq_true rfl) rfl dX0_shut_34 (by omega) (by omega) (qI.k ?_)
        refine j_if_neB C 43 dX0_shut_37 (by decide) (fun c37 => ?_) (fun c37 => ?_)
        · obtain ⟨u, rfl, hul, hu⟩ := inB_n (by decide) c37 (by decide)
          refine j_iconst (v := nI 0) C dX0_shut_43 rfl ?_
          refine j_istore (lv' := [(5, .int (nI 0)), (0, .ref x), (1, .int (nI j)), (2, .int (nI pq)), (3, .int (nI cc)), (4, .int (nI u))]) C dX0_shut_44 (by decide) rfl ?_
          refine j_iconst (v := nI 0) C dX0_shut_46 rfl ?_
          refine j_istore (lv' := [(6, .int (nI 0)), (5, .int (nI 0)), (0, .ref x), (1, .int (nI j)), (2, .int (nI pq)), (3, .int (nI cc)), (4, .int (nI u))]) C dX0_shut_47 (by decide) rfl ?_
          refine j_iconst (v := nI 0) C dX0_shut_49 rfl ?_
          refine j_istore (lv' := [(7, .int (nI 0)), (6, .int (nI 0)), (5, .int (nI 0)), (0, .ref x), (1, .int (nI j)), (2, .int (nI pq)), (3, .int (nI cc)), (4, .int (nI u))]) C dX0_shut_50 (by decide) rfl ?_
          have lp : ∀ (n s : Nat) (w5 : wd_T) (Z5 : fz_T), s ≤ V.2.1 5 + 1 → V.2.1 5 + 1 < s + n → FX G w0 w5 x O V Z5 → J G k w5 [(7, .int (nI s)), (6, .int (nI (blG V.2.1 cc s))), (5, .int (nI (abG V.2.1 j cc pq s))), (0, .ref x), (1, .int (nI j)), (2, .int (nI pq)), (3, .int (nI cc)), (4, .int (nI u))] 52 [] (42 * s) (301 * s) := by
            intro n
            induction n with
            | zero => intro s w5 Z5 a1 a2; omega
            | succ n ih =>
              intro s w5 Z5 hs1 hs2 hX5
              obtain ⟨W5, hA5, hv5⟩ := id hX5
              refine j_iload C dX0_shut_52 0 rfl ?_
              refine j_aload_n C dX0_shut_54 rfl 3 rfl ?_
              refine j_get (w := w5) C in_X0 (ci := 0) (T := TX0) rfl (hA5.d0 hv5) 4 (by decide) q251 (fun _ z => z) (v := .ref (x + 11)) rfl dX0_shut_55 ?_
              refine j_get (w := w5) C in_X2 (ci := 2) (T := TX2) rfl (hA5.s0 (V := V) hv5).1 10 (by decide) q204 (fun _ z => z) (v := .int (nI (V.2.1 5))) rfl dX0_shut_58 ?_
              refine j_icmp_gtN C 211 dX0_shut_61 (by decide) (by omega) (by omega) (fun c61 => ?_) (fun c61 => ?_)
              · obtain rfl : s = V.2.1 5 + 1 := by omega
                have hbl := hS cc (by omega)
                have hb8 := belF_le V.2.1 (V.2.1 25)
                have hb9 := p10_8 r25
                have hab := abG_le (t := V.2.1) (j := j) (c := cc) (q := pq) (V.2.1 5 + 1)
                have hgp : 0 < Nat.gcd (abG V.2.1 j cc pq (V.2.1 5 + 1)) (blG V.2.1 cc (V.2.1 5 + 1)) := Nat.gcd_pos_of_pos_right _ (by omega)
                have hgl := Nat.gcd_le_right (abG V.2.1 j cc pq (V.2.1 5 + 1)) (n := blG V.2.1 cc (V.2.1 5 + 1)) (by omega)
                refine j_iload C dX0_shut_211 2 rfl ?_
                refine j_iload C dX0_shut_213 1 rfl ?_
                refine j_callS (w := w5) C (kX0_common G w5 (abG V.2.1 j cc pq (V.2.1 5 + 1)) (blG V.2.1 cc (V.2.1 5 + 1)) (by omega) (by omega)) pI.ret 2 q1269 q1270 q66 q1271 (by decide +kernel) rfl (by decide) (by decide) (Nat.le_of_ble_eq_true rfl) rfl dX0_shut_215 (by omega) (by omega) (qI.k ?_)
                refine j_istore (lv' := [(7, .int (nI (Nat.gcd (abG V.2.1 j cc pq (V.2.1 5 + 1)) (blG V.2.1 cc (V.2.1 5 + 1))))), (6, .int (nI (blG V.2.1 cc (V.2.1 5 + 1)))), (5, .int (nI (abG V.2.1 j cc pq (V.2.1 5 + 1)))), (0, .ref x), (1, .int (nI j)), (2, .int (nI pq)), (3, .int (nI cc)), (4, .int (nI u))]) C dX0_shut_218 (by decide) rfl ?_
                refine j_iload C dX0_shut_220 7 rfl ?_
                refine j_if_neN C 230 dX0_shut_222 (by decide) (by omega) (fun c222 => ?_) (fun c222 => ?_)
                · refine j_iload C dX0_shut_230 1 rfl ?_
                  refine j_iload C dX0_shut_232 0 rfl ?_
                  refine j_idivN C dX0_shut_234 (by omega) (by omega) (by omega) ?_
                  exact j_iret C (by omega) (by omega) (fC.mk ⟨W5, hA5, hv5⟩ (by have q := h2 j pq cc u rfl hj rfl hpq rfl hcc rfl hu; first | (rw [if_pos (show u = 0 by omega)] at q; exact q) | (rw [if_neg (show ¬ u = 0 by omega)] at q; exact q))) dX0_shut_235
                · refine j_iload C dX0_shut_225 2 rfl ?_
                  refine j_goto C 232 dX0_shut_227 (by decide) ?_
                  refine j_iload C dX0_shut_232 0 rfl ?_
                  refine j_idivN C dX0_shut_234 (by omega) (by omega) (by omega) ?_
                  exact j_iret C (by omega) (by omega) (fC.mk ⟨W5, hA5, hv5⟩ (by have q := h2 j pq cc u rfl hj rfl hpq rfl hcc rfl hu; first | (rw [if_pos (show u = 0 by omega)] at q; exact q) | (rw [if_neg (show ¬ u = 0 by omega)] at q; exact q))) dX0_shut_235
              · refine j_iload C dX0_shut_64 0 rfl ?_
                refine j_aload_n C dX0_shut_66 rfl 3 rfl ?_
                refine j_get (w := w5) C in_X0 (ci := 0) (T := TX0) rfl (hA5.d0 hv5) 4 (by decide) q251 (fun _ z => z) (v := .ref (x + 11)) rfl dX0_shut_67 ?_
                refine j_get (w := w5) C in_X2 (ci := 2) (T := TX2) rfl (hA5.s0 (V := V) hv5).1 10 (by decide) q204 (fun _ z => z) (v := .int (nI (V.2.1 5))) rfl dX0_shut_70 ?_
                refine j_iconst (v := -1) C dX0_shut_73 rfl ?_
                refine j_ixor C dX0_shut_74 ?_
                refine j_iand C dX0_shut_75 ?_
                refine j_if_eq C 82 dX0_shut_76 (by decide) (fun c76 => ?_) (fun c76 => ?_)
                · have hsub : subB s (V.2.1 5) = true := decide_eq_true c76
                  refine j_iconst (v := nI 1) C dX0_shut_82 rfl ?_
                  refine j_istore (lv' := [(8, .int (nI 1)), (7, .int (nI s)), (6, .int (nI (blG V.2.1 cc s))), (5, .int (nI (abG V.2.1 j cc pq s))), (0, .ref x), (1, .int (nI j)), (2, .int (nI pq)), (3, .int (nI cc)), (4, .int (nI u))]) C dX0_shut_83 (by decide) rfl ?_
                  refine j_iconst (v := nI 0) C dX0_shut_85 rfl ?_
                  refine j_istore (lv' := [(9, .int (nI 0)), (8, .int (nI 1)), (7, .int (nI s)), (6, .int (nI (blG V.2.1 cc s))), (5, .int (nI (abG V.2.1 j cc pq s))), (0, .ref x), (1, .int (nI j)), (2, .int (nI pq)), (3, .int (nI cc)), (4, .int (nI u))]) C dX0_shut_86 (by decide) rfl ?_
                  have lq : ∀ (n_lq e : Nat), 0 ≤ e → e ≤ V.2.1 25 → V.2.1 25 < e + n_lq → J G k w5 [(9, .int (nI e)), (8, .int (nI (wayG V.2.1 cc s e))), (7, .int (nI s)), (6, .int (nI (blG V.2.1 cc s))), (5, .int (nI (abG V.2.1 j cc pq s))), (0, .ref x), (1, .int (nI j)), (2, .int (nI pq)), (3, .int (nI cc)), (4, .int (nI u))] 88 [] (42 * s) (301 * s) := by
                    intro n_lq
                    induction n_lq with
                    | zero => intro e h0_lq h1_lq h2_lq; omega
                    | succ n_lq ih_lq =>
                      intro e h0_lq h1_lq h2_lq
                      refine j_iload C dX0_shut_88 0 rfl ?_
                      refine j_aload_n C dX0_shut_90 rfl 5 rfl ?_
                      refine j_get (w := w5) C in_X0 (ci := 0) (T := TX0) rfl (hA5.d0 hv5) 4 (by decide) q251 (fun _ z => z) (v := .ref (x + 11)) rfl dX0_shut_91 ?_
                      refine j_get (w := w5) C in_X2 (ci := 2) (T := TX2) rfl (hA5.s0 (V := V) hv5).1 7 (by decide) q195 (fun _ z => z) (v := .int (nI (V.2.1 25))) rfl dX0_shut_94 ?_
                      refine j_icmp_geN C 148 dX0_shut_97 (by decide) (by omega) (by omega) (fun c97 => ?_) (fun c97 => ?_)
                      · obtain rfl : V.2.1 25 = e := by omega
                        refine j_aload_n C dX0_shut_148 rfl 5 rfl ?_
                        refine j_callV (w := w5) C (kX0_asNow G hG w0 w5 x O V Z5 ⟨W5, hA5, hv5⟩) pA.ret (ci := 0) (T := TX0) (hA5.d0 hv5) rfl 0 q1014 q1016 qs23 q66 q1017 (by decide +kernel) rfl (by decide) (by decide) (Nat.le_of_ble_eq_true rfl) rfl dX0_shut_149 (by omega) (by omega) (pA.k (fun r1 w1 h1 => ?_))
                        obtain ⟨rfl, h1, hfr1⟩ := h1
                        obtain ⟨W1, hA1, hv1⟩ := h1
                        refine j_dup C dX0_shut_152 rfl ?_
                        refine j_get (w := w1) C in_X2 (ci := 2) (T := TX2) rfl (hA1.s1 (Z := zT Z5 V.2.1) hv1).1 10 (by decide) q204 (fun _ z => z) (v := .int (nI (V.2.1 5))) rfl dX0_shut_153 ?_
                        refine j_iload C dX0_shut_156 2 rfl ?_
                        refine j_iconst (v := -1) C dX0_shut_158 rfl ?_
                        refine j_ixor C dX0_shut_159 ?_
                        refine j_iand C dX0_shut_160 ?_
                        refine j_as (y := nI (andn (V.2.1 5) s)) (andn_I (by omega) (by omega)) ?_
                        have hsm5 : smT (uN V.2.1 5 (andn (V.2.1 5) s)) := smT_5b ht (andn_lt (by omega))
                        refine j_put (w := w1) C (ty0 := tyX2) in_X2 tyX2_ok nmX2 (ci := 2) (T := TX2) rfl (hA1.s1 (Z := zT Z5 V.2.1) hv1).1 10 (by decide) q204 (fun _ z => z) rfl rfl rfl (fs' := [.int (nI (V.2.1 0)), .int (nI (V.2.1 1)), .int (nI (V.2.1 4)), .int (nI (V.2.1 2)), .int (nI (V.2.1 3)), .ref (x + 16 + 1), .ref (x + 16 + 2), .int (nI (V.2.1 25)), .ref (x + 16 + 3), .ref (x + 16 + 4), .int (nI (andn (V.2.1 5) s))]) (Nat.le_of_ble_eq_true rfl) rfl dX0_shut_161 ?_
                        refine j_abs (P := fun w' => FX G w0 w' x O V (zT (zT Z5 V.2.1) (uN V.2.1 5 (andn (V.2.1 5) s)))) (FX.t1 hA1 hv1 (TN.sc (u := uN V.2.1 5 (andn (V.2.1 5) s)) (hA1.s1 (Z := zT Z5 V.2.1) hv1) rfl (fun i h1 h2 => uN_n (by omega))) (FR.upd (hA1.s1 (Z := zT Z5 V.2.1) hv1).1 isC_TE) (hA1.wf.upd (hA1.s1 (Z := zT Z5 V.2.1) hv1).1)) (fun w2 h2 => ?_)
                        obtain ⟨W2, hA2, hv2⟩ := h2
                        refine j_aload_n C dX0_shut_164 rfl 5 rfl ?_
                        refine j_iload_n C dX0_shut_165 rfl 6 rfl ?_
                        refine j_callV (w := w2) C (kX0_cheapestTo G hG w0 w2 x O V (zT (zT Z5 V.2.1) (uN V.2.1 5 (andn (V.2.1 5) s))) ⟨W2, hA2, hv2⟩ j (by omega) hsm5 (by show V.2.1 3 ≤ 1000; omega) (wf_5 hwf) rfl) pA.ret (ci := 0) (T := TX0) (hA2.d0 hv2) rfl 1 q1018 q1020 qs24 q66 q1021 (by decide +kernel) rfl (by decide) (by decide) (Nat.le_of_ble_eq_true rfl) rfl dX0_shut_166 (by omega) (by omega) (pA.k (fun r3 w3 h3 => ?_))
                        obtain ⟨rfl, Z3, hX3, hb3, e31, e3b, hk3⟩ := h3
                        obtain ⟨W3, hA3, hv3⟩ := id hX3
                        have hrp := roC_p (j := j) (t := uN V.2.1 5 (andn (V.2.1 5) s)) (bs := (zT (zT Z5 V.2.1) (uN V.2.1 5 (andn (V.2.1 5) s))).2.2.2.2) (tr := (zT (zT Z5 V.2.1) (uN V.2.1 5 (andn (V.2.1 5) s))).2.2.2.1) (d := (zT (zT Z5 V.2.1) (uN V.2.1 5 (andn (V.2.1 5) s))).2.1)
                        cases hq : (roC j (zT (zT Z5 V.2.1) (uN V.2.1 5 (andn (V.2.1 5) s))).1 (zT (zT Z5 V.2.1) (uN V.2.1 5 (andn (V.2.1 5) s))).2.2.2.2 (zT (zT Z5 V.2.1) (uN V.2.1 5 (andn (V.2.1 5) s))).2.2.2.1 (zT (zT Z5 V.2.1) (uN V.2.1 5 (andn (V.2.1 5) s))).2.1).1 with
                        | none =>
                          rw [hq] at hb3
                          refine j_get (w := w3) C in_X13 (ci := 12) (T := TX13) rfl hb3 1 (by decide) q1031 (fun _ z => z) (v := .int ((-1000000))) rfl dX0_shut_169 ?_
                          refine j_istore (lv' := [(9, .int ((-1000000))), (8, .int (nI (wayG V.2.1 cc s (V.2.1 25)))), (7, .int (nI s)), (6, .int (nI (blG V.2.1 cc s))), (5, .int (nI (abG V.2.1 j cc pq s))), (0, .ref x), (1, .int (nI j)), (2, .int (nI pq)), (3, .int (nI cc)), (4, .int (nI u))]) C dX0_shut_172 (by decide) rfl ?_
                          refine j_iload C dX0_shut_174 3 rfl ?_
                          refine j_iload C dX0_shut_176 1 rfl ?_
                          refine j_iaddN C dX0_shut_178 ?_
                          refine j_istore (lv' := [(6, .int (nI ((blG V.2.1 cc s) + (wayG V.2.1 cc s (V.2.1 25))))), (9, .int ((-1000000))), (8, .int (nI (wayG V.2.1 cc s (V.2.1 25)))), (7, .int (nI s)), (5, .int (nI (abG V.2.1 j cc pq s))), (0, .ref x), (1, .int (nI j)), (2, .int (nI pq)), (3, .int (nI cc)), (4, .int (nI u))]) C dX0_shut_179 (by decide) rfl ?_
                          refine j_iload C dX0_shut_181 4 rfl ?_
                          refine j_iload C dX0_shut_183 1 rfl ?_
                          refine j_ldc C q1003 dX0_shut_185 ?_
                          refine j_icmp_eq C 201 dX0_shut_187 (by decide) (fun c187 => ?_) (fun c187 => ?_)
                          · have hdue : dueP (rpC j (uN V.2.1 5 (andn (V.2.1 5) s))) pq = false := by rw [hrp.symm.trans hq]; rfl
                            refine j_iconst (v := nI 0) C dX0_shut_201 rfl ?_
                            refine j_iaddN C dX0_shut_202 ?_
                            refine j_istore (lv' := [(5, .int (nI ((abG V.2.1 j cc pq s) + 0))), (6, .int (nI ((blG V.2.1 cc s) + (wayG V.2.1 cc s (V.2.1 25))))), (9, .int ((-1000000))), (8, .int (nI (wayG V.2.1 cc s (V.2.1 25)))), (7, .int (nI s)), (0, .ref x), (1, .int (nI j)), (2, .int (nI pq)), (3, .int (nI cc)), (4, .int (nI u))]) C dX0_shut_203 (by decide) rfl ?_
                            refine j_iincN (lv' := [(7, .int (nI (s + 1))), (5, .int (nI ((abG V.2.1 j cc pq s) + 0))), (6, .int (nI ((blG V.2.1 cc s) + (wayG V.2.1 cc s (V.2.1 25))))), (9, .int ((-1000000))), (8, .int (nI (wayG V.2.1 cc s (V.2.1 25)))), (0, .ref x), (1, .int (nI j)), (2, .int (nI pq)), (3, .int (nI cc)), (4, .int (nI u))]) C dX0_shut_205 4 rfl (by decide) rfl ?_
                            refine j_goto C 52 dX0_shut_208 (by decide) ?_
                            refine j_lv [0, 2, 1, 5, 6, 7, 8, 9] (lv' := [(7, .int (nI (s + 1))), (6, .int (nI ((blG V.2.1 cc s) + (wayG V.2.1 cc s (V.2.1 25))))), (5, .int (nI ((abG V.2.1 j cc pq s) + 0))), (0, .ref x), (1, .int (nI j)), (2, .int (nI pq)), (3, .int (nI cc)), (4, .int (nI u))]) rfl ?_
                            refine j_lvN (lv' := [(7, .int (nI (s + 1))), (6, .int (nI (blG V.2.1 cc (s + 1)))), (5, .int (nI ((abG V.2.1 j cc pq s) + 0))), (0, .ref x), (1, .int (nI j)), (2, .int (nI pq)), (3, .int (nI cc)), (4, .int (nI u))]) 1 rfl (by simp [blG, hsub]) rfl ?_
                            refine j_lvN (lv' := [(7, .int (nI (s + 1))), (6, .int (nI (blG V.2.1 cc (s + 1)))), (5, .int (nI (abG V.2.1 j cc pq (s + 1)))), (0, .ref x), (1, .int (nI j)), (2, .int (nI pq)), (3, .int (nI cc)), (4, .int (nI u))]) 2 rfl (by simp [abG, hsub, hdue]) rfl ?_
                            refine j_wide (ce' := 42 * (s + 1)) (sl' := 301 * (s + 1)) (by omega) (by omega) ?_
                            exact ih (s + 1) w3 Z3 (by omega) (by omega) ⟨W3, hA3, hv3⟩
                          · exact absurd rfl c187
                        | some qq =>
                          obtain ⟨qc, qn⟩ := qq
                          rw [hq] at hb3
                          have hqk := hk3 qc qn hq
                          refine j_get (w := w3) C in_X13 (ci := 12) (T := TX13) rfl hb3 1 (by decide) q1031 (fun _ z => z) (v := .int (nI qc)) rfl dX0_shut_169 ?_
                          refine j_istore (lv' := [(9, .int (nI qc)), (8, .int (nI (wayG V.2.1 cc s (V.2.1 25)))), (7, .int (nI s)), (6, .int (nI (blG V.2.1 cc s))), (5, .int (nI (abG V.2.1 j cc pq s))), (0, .ref x), (1, .int (nI j)), (2, .int (nI pq)), (3, .int (nI cc)), (4, .int (nI u))]) C dX0_shut_172 (by decide) rfl ?_
                          refine j_iload C dX0_shut_174 3 rfl ?_
                          refine j_iload C dX0_shut_176 1 rfl ?_
                          refine j_iaddN C dX0_shut_178 ?_
                          refine j_istore (lv' := [(6, .int (nI ((blG V.2.1 cc s) + (wayG V.2.1 cc s (V.2.1 25))))), (9, .int (nI qc)), (8, .int (nI (wayG V.2.1 cc s (V.2.1 25)))), (7, .int (nI s)), (5, .int (nI (abG V.2.1 j cc pq s))), (0, .ref x), (1, .int (nI j)), (2, .int (nI pq)), (3, .int (nI cc)), (4, .int (nI u))]) C dX0_shut_179 (by decide) rfl ?_
                          refine j_iload C dX0_shut_181 4 rfl ?_
                          refine j_iload C dX0_shut_183 1 rfl ?_
                          refine j_ldc C q1003 dX0_shut_185 ?_
                          refine j_icmp_eq C 201 dX0_shut_187 (by decide) (fun c187 => ?_) (fun c187 => ?_)
                          · exact absurd c187 (nI_NONE (by omega))
                          · refine j_iload C dX0_shut_190 1 rfl ?_
                            refine j_iload_n C dX0_shut_192 rfl 7 rfl ?_
                            refine j_icmp_gtN C 201 dX0_shut_193 (by decide) (by omega) (by omega) (fun c193 => ?_) (fun c193 => ?_)
                            · have hdue : dueP (rpC j (uN V.2.1 5 (andn (V.2.1 5) s))) pq = false := by rw [hrp.symm.trans hq]; simp [dueP]; omega
                              refine j_iconst (v := nI 0) C dX0_shut_201 rfl ?_
                              refine j_iaddN C dX0_shut_202 ?_
                              refine j_istore (lv' := [(5, .int (nI ((abG V.2.1 j cc pq s) + 0))), (6, .int (nI ((blG V.2.1 cc s) + (wayG V.2.1 cc s (V.2.1 25))))), (9, .int (nI qc)), (8, .int (nI (wayG V.2.1 cc s (V.2.1 25)))), (7, .int (nI s)), (0, .ref x), (1, .int (nI j)), (2, .int (nI pq)), (3, .int (nI cc)), (4, .int (nI u))]) C dX0_shut_203 (by decide) rfl ?_
                              refine j_iincN (lv' := [(7, .int (nI (s + 1))), (5, .int (nI ((abG V.2.1 j cc pq s) + 0))), (6, .int (nI ((blG V.2.1 cc s) + (wayG V.2.1 cc s (V.2.1 25))))), (9, .int (nI qc)), (8, .int (nI (wayG V.2.1 cc s (V.2.1 25)))), (0, .ref x), (1, .int (nI j)), (2, .int (nI pq)), (3, .int (nI cc)), (4, .int (nI u))]) C dX0_shut_205 4 rfl (by decide) rfl ?_
                              refine j_goto C 52 dX0_shut_208 (by decide) ?_
                              refine j_lv [0, 2, 1, 5, 6, 7, 8, 9] (lv' := [(7, .int (nI (s + 1))), (6, .int (nI ((blG V.2.1 cc s) + (wayG V.2.1 cc s (V.2.1 25))))), (5, .int (nI ((abG V.2.1 j cc pq s) + 0))), (0, .ref x), (1, .int (nI j)), (2, .int (nI pq)), (3, .int (nI cc)), (4, .int (nI u))]) rfl ?_
                              refine j_lvN (lv' := [(7, .int (nI (s + 1))), (6, .int (nI (blG V.2.1 cc (s + 1)))), (5, .int (nI ((abG V.2.1 j cc pq s) + 0))), (0, .ref x), (1, .int (nI j)), (2, .int (nI pq)), (3, .int (nI cc)), (4, .int (nI u))]) 1 rfl (by simp [blG, hsub]) rfl ?_
                              refine j_lvN (lv' := [(7, .int (nI (s + 1))), (6, .int (nI (blG V.2.1 cc (s + 1)))), (5, .int (nI (abG V.2.1 j cc pq (s + 1)))), (0, .ref x), (1, .int (nI j)), (2, .int (nI pq)), (3, .int (nI cc)), (4, .int (nI u))]) 2 rfl (by simp [abG, hsub, hdue]) rfl ?_
                              refine j_wide (ce' := 42 * (s + 1)) (sl' := 301 * (s + 1)) (by omega) (by omega) ?_
                              exact ih (s + 1) w3 Z3 (by omega) (by omega) ⟨W3, hA3, hv3⟩
                            · have hdue : dueP (rpC j (uN V.2.1 5 (andn (V.2.1 5) s))) pq = true := by rw [hrp.symm.trans hq]; simp [dueP]; omega
                              refine j_iload C dX0_shut_196 2 rfl ?_
                              refine j_goto C 202 dX0_shut_198 (by decide) ?_
                              refine j_iaddN C dX0_shut_202 ?_
                              refine j_istore (lv' := [(5, .int (nI ((abG V.2.1 j cc pq s) + (wayG V.2.1 cc s (V.2.1 25))))), (6, .int (nI ((blG V.2.1 cc s) + (wayG V.2.1 cc s (V.2.1 25))))), (9, .int (nI qc)), (8, .int (nI (wayG V.2.1 cc s (V.2.1 25)))), (7, .int (nI s)), (0, .ref x), (1, .int (nI j)), (2, .int (nI pq)), (3, .int (nI cc)), (4, .int (nI u))]) C dX0_shut_203 (by decide) rfl ?_
                              refine j_iincN (lv' := [(7, .int (nI (s + 1))), (5, .int (nI ((abG V.2.1 j cc pq s) + (wayG V.2.1 cc s (V.2.1 25))))), (6, .int (nI ((blG V.2.1 cc s) + (wayG V.2.1 cc s (V.2.1 25))))), (9, .int (nI qc)), (8, .int (nI (wayG V.2.1 cc s (V.2.1 25)))), (0, .ref x), (1, .int (nI j)), (2, .int (nI pq)), (3, .int (nI cc)), (4, .int (nI u))]) C dX0_shut_205 4 rfl (by decide) rfl ?_
                              refine j_goto C 52 dX0_shut_208 (by decide) ?_
                              refine j_lv [0, 2, 1, 5, 6, 7, 8, 9] (lv' := [(7, .int (nI (s + 1))), (6, .int (nI ((blG V.2.1 cc s) + (wayG V.2.1 cc s (V.2.1 25))))), (5, .int (nI ((abG V.2.1 j cc pq s) + (wayG V.2.1 cc s (V.2.1 25))))), (0, .ref x), (1, .int (nI j)), (2, .int (nI pq)), (3, .int (nI cc)), (4, .int (nI u))]) rfl ?_
                              refine j_lvN (lv' := [(7, .int (nI (s + 1))), (6, .int (nI (blG V.2.1 cc (s + 1)))), (5, .int (nI ((abG V.2.1 j cc pq s) + (wayG V.2.1 cc s (V.2.1 25))))), (0, .ref x), (1, .int (nI j)), (2, .int (nI pq)), (3, .int (nI cc)), (4, .int (nI u))]) 1 rfl (by simp [blG, hsub]) rfl ?_
                              refine j_lvN (lv' := [(7, .int (nI (s + 1))), (6, .int (nI (blG V.2.1 cc (s + 1)))), (5, .int (nI (abG V.2.1 j cc pq (s + 1)))), (0, .ref x), (1, .int (nI j)), (2, .int (nI pq)), (3, .int (nI cc)), (4, .int (nI u))]) 2 rfl (by simp [abG, hsub, hdue]) rfl ?_
                              refine j_wide (ce' := 42 * (s + 1)) (sl' := 301 * (s + 1)) (by omega) (by omega) ?_
                              exact ih (s + 1) w3 Z3 (by omega) (by omega) ⟨W3, hA3, hv3⟩
                      · refine j_iload C dX0_shut_100 1 rfl ?_
                        refine j_aload_n C dX0_shut_102 rfl 5 rfl ?_
                        refine j_get (w := w5) C in_X0 (ci := 0) (T := TX0) rfl (hA5.d0 hv5) 4 (by decide) q251 (fun _ z => z) (v := .ref (x + 11)) rfl dX0_shut_103 ?_
                        refine j_get (w := w5) C in_X2 (ci := 2) (T := TX2) rfl (hA5.s0 (V := V) hv5).1 10 (by decide) q204 (fun _ z => z) (v := .int (nI (V.2.1 5))) rfl dX0_shut_106 ?_
                        refine j_iload C dX0_shut_109 0 rfl ?_
                        refine j_callS (w := w5) C (kX0_has G w5 (V.2.1 5) e (by omega) (by omega)) pI.ret 2 q977 q897 q66 q898 (by decide +kernel) rfl (by decide) (by decide) (Nat.le_of_ble_eq_true rfl) rfl dX0_shut_111 (by omega) (by omega) (qI.k ?_)
                        refine j_if_neB C 121 dX0_shut_114 (by decide) (fun c114 => ?_) (fun c114 => ?_)
                        · refine j_iload C dX0_shut_121 2 rfl ?_
                          refine j_iload C dX0_shut_123 0 rfl ?_
                          refine j_callS (w := w5) C (kX0_has G w5 s e (by omega) (by omega)) pI.ret 2 q977 q897 q66 q898 (by decide +kernel) rfl (by decide) (by decide) (Nat.le_of_ble_eq_true rfl) rfl dX0_shut_125 (by omega) (by omega) (qI.k ?_)
                          refine j_if_eqB C 135 dX0_shut_128 (by decide) (fun c128 => ?_) (fun c128 => ?_)
                          · refine j_bipush (v := nI 10) C dX0_shut_135 rfl ?_
                            refine j_iload_n C dX0_shut_137 rfl 8 rfl ?_
                            refine j_isubN C dX0_shut_138 (by omega) ?_
                            refine j_imulN C dX0_shut_139 ?_
                            refine j_istore (lv' := [(8, .int (nI ((wayG V.2.1 cc s e) * (10 - cc)))), (9, .int (nI e)), (7, .int (nI s)), (6, .int (nI (blG V.2.1 cc s))), (5, .int (nI (abG V.2.1 j cc pq s))), (0, .ref x), (1, .int (nI j)), (2, .int (nI pq)), (3, .int (nI cc)), (4, .int (nI u))]) C dX0_shut_140 (by decide) rfl ?_
                            refine j_iincN (lv' := [(9, .int (nI (e + 1))), (8, .int (nI ((wayG V.2.1 cc s e) * (10 - cc)))), (7, .int (nI s)), (6, .int (nI (blG V.2.1 cc s))), (5, .int (nI (abG V.2.1 j cc pq s))), (0, .ref x), (1, .int (nI j)), (2, .int (nI pq)), (3, .int (nI cc)), (4, .int (nI u))]) C dX0_shut_142 1 rfl (by decide) rfl ?_
                            refine j_goto C 88 dX0_shut_145 (by decide) ?_
                            refine j_lv [0, 1, 2, 3, 4, 5, 6, 7, 8, 9] (lv' := [(9, .int (nI (e + 1))), (8, .int (nI ((wayG V.2.1 cc s e) * (10 - cc)))), (7, .int (nI s)), (6, .int (nI (blG V.2.1 cc s))), (5, .int (nI (abG V.2.1 j cc pq s))), (0, .ref x), (1, .int (nI j)), (2, .int (nI pq)), (3, .int (nI cc)), (4, .int (nI u))]) rfl ?_
                            refine j_lvN (lv' := [(9, .int (nI (e + 1))), (8, .int (nI (wayG V.2.1 cc s (e + 1)))), (7, .int (nI s)), (6, .int (nI (blG V.2.1 cc s))), (5, .int (nI (abG V.2.1 j cc pq s))), (0, .ref x), (1, .int (nI j)), (2, .int (nI pq)), (3, .int (nI cc)), (4, .int (nI u))]) 1 rfl (by simp [wayG, c5, c17, c29, c37, c61, c76, c97, c114, c128]) rfl ?_
                            exact ih_lq (e + 1) (by omega) (by omega) (by omega)
                          · refine j_iload_n C dX0_shut_131 rfl 8 rfl ?_
                            refine j_goto C 139 dX0_shut_132 (by decide) ?_
                            refine j_imulN C dX0_shut_139 ?_
                            refine j_istore (lv' := [(8, .int (nI ((wayG V.2.1 cc s e) * cc))), (9, .int (nI e)), (7, .int (nI s)), (6, .int (nI (blG V.2.1 cc s))), (5, .int (nI (abG V.2.1 j cc pq s))), (0, .ref x), (1, .int (nI j)), (2, .int (nI pq)), (3, .int (nI cc)), (4, .int (nI u))]) C dX0_shut_140 (by decide) rfl ?_
                            refine j_iincN (lv' := [(9, .int (nI (e + 1))), (8, .int (nI ((wayG V.2.1 cc s e) * cc))), (7, .int (nI s)), (6, .int (nI (blG V.2.1 cc s))), (5, .int (nI (abG V.2.1 j cc pq s))), (0, .ref x), (1, .int (nI j)), (2, .int (nI pq)), (3, .int (nI cc)), (4, .int (nI u))]) C dX0_shut_142 1 rfl (by decide) rfl ?_
                            refine j_goto C 88 dX0_shut_145 (by decide) ?_
                            refine j_lv [0, 1, 2, 3, 4, 5, 6, 7, 8, 9] (lv' := [(9, .int (nI (e + 1))), (8, .int (nI ((wayG V.2.1 cc s e) * cc))), (7, .int (nI s)), (6, .int (nI (blG V.2.1 cc s))), (5, .int (nI (abG V.2.1 j cc pq s))), (0, .ref x), (1, .int (nI j)), (2, .int (nI pq)), (3, .int (nI cc)), (4, .int (nI u))]) rfl ?_
                            refine j_lvN (lv' := [(9, .int (nI (e + 1))), (8, .int (nI (wayG V.2.1 cc s (e + 1)))), (7, .int (nI s)), (6, .int (nI (blG V.2.1 cc s))), (5, .int (nI (abG V.2.1 j cc pq s))), (0, .ref x), (1, .int (nI j)), (2, .int (nI pq)), (3, .int (nI cc)), (4, .int (nI u))]) 1 rfl (by simp [wayG, c5, c17, c29, c37, c61, c76, c97, c114, c128]) rfl ?_
                            exact ih_lq (e + 1) (by omega) (by omega) (by omega)
                        · refine j_iconst (v := nI 1) C dX0_shut_117 rfl ?_
                          refine j_goto C 139 dX0_shut_118 (by decide) ?_
                          refine j_imulN C dX0_shut_139 ?_
                          refine j_istore (lv' := [(8, .int (nI ((wayG V.2.1 cc s e) * 1))), (9, .int (nI e)), (7, .int (nI s)), (6, .int (nI (blG V.2.1 cc s))), (5, .int (nI (abG V.2.1 j cc pq s))), (0, .ref x), (1, .int (nI j)), (2, .int (nI pq)), (3, .int (nI cc)), (4, .int (nI u))]) C dX0_shut_140 (by decide) rfl ?_
                          refine j_iincN (lv' := [(9, .int (nI (e + 1))), (8, .int (nI ((wayG V.2.1 cc s e) * 1))), (7, .int (nI s)), (6, .int (nI (blG V.2.1 cc s))), (5, .int (nI (abG V.2.1 j cc pq s))), (0, .ref x), (1, .int (nI j)), (2, .int (nI pq)), (3, .int (nI cc)), (4, .int (nI u))]) C dX0_shut_142 1 rfl (by decide) rfl ?_
                          refine j_goto C 88 dX0_shut_145 (by decide) ?_
                          refine j_lv [0, 1, 2, 3, 4, 5, 6, 7, 8, 9] (lv' := [(9, .int (nI (e + 1))), (8, .int (nI ((wayG V.2.1 cc s e) * 1))), (7, .int (nI s)), (6, .int (nI (blG V.2.1 cc s))), (5, .int (nI (abG V.2.1 j cc pq s))), (0, .ref x), (1, .int (nI j)), (2, .int (nI pq)), (3, .int (nI cc)), (4, .int (nI u))]) rfl ?_
                          refine j_lvN (lv' := [(9, .int (nI (e + 1))), (8, .int (nI (wayG V.2.1 cc s (e + 1)))), (7, .int (nI s)), (6, .int (nI (blG V.2.1 cc s))), (5, .int (nI (abG V.2.1 j cc pq s))), (0, .ref x), (1, .int (nI j)), (2, .int (nI pq)), (3, .int (nI cc)), (4, .int (nI u))]) 1 rfl (by simp [wayG, c5, c17, c29, c37, c61, c76, c97, c114]) rfl ?_
                          exact ih_lq (e + 1) (by omega) (by omega) (by omega)
                  refine j_lv [0, 1, 2, 3, 4, 5, 6, 7, 8, 9] (lv' := [(9, .int (nI 0)), (8, .int (nI 1)), (7, .int (nI s)), (6, .int (nI (blG V.2.1 cc s))), (5, .int (nI (abG V.2.1 j cc pq s))), (0, .ref x), (1, .int (nI j)), (2, .int (nI pq)), (3, .int (nI cc)), (4, .int (nI u))]) rfl ?_
                  refine j_lvN (lv' := [(9, .int (nI 0)), (8, .int (nI (wayG V.2.1 cc s 0))), (7, .int (nI s)), (6, .int (nI (blG V.2.1 cc s))), (5, .int (nI (abG V.2.1 j cc pq s))), (0, .ref x), (1, .int (nI j)), (2, .int (nI pq)), (3, .int (nI cc)), (4, .int (nI u))]) 1 rfl rfl rfl ?_
                  exact lq (V.2.1 25 + 1 - 0) (0) (by omega) (by omega) (by omega)
                · have hsub : subB s (V.2.1 5) = false := decide_eq_false c76
                  refine j_goto C 205 dX0_shut_79 (by decide) ?_
                  refine j_iincN (lv' := [(7, .int (nI (s + 1))), (6, .int (nI (blG V.2.1 cc s))), (5, .int (nI (abG V.2.1 j cc pq s))), (0, .ref x), (1, .int (nI j)), (2, .int (nI pq)), (3, .int (nI cc)), (4, .int (nI u))]) C dX0_shut_205 0 rfl (by decide) rfl ?_
                  refine j_goto C 52 dX0_shut_208 (by decide) ?_
                  refine j_lv [0, 1, 2, 3, 4, 5, 6, 7] (lv' := [(7, .int (nI (s + 1))), (6, .int (nI (blG V.2.1 cc s))), (5, .int (nI (abG V.2.1 j cc pq s))), (0, .ref x), (1, .int (nI j)), (2, .int (nI pq)), (3, .int (nI cc)), (4, .int (nI u))]) rfl ?_
                  refine j_lvN (lv' := [(7, .int (nI (s + 1))), (6, .int (nI (blG V.2.1 cc (s + 1)))), (5, .int (nI (abG V.2.1 j cc pq s))), (0, .ref x), (1, .int (nI j)), (2, .int (nI pq)), (3, .int (nI cc)), (4, .int (nI u))]) 1 rfl (by simp [blG, hsub]) rfl ?_
                  refine j_lvN (lv' := [(7, .int (nI (s + 1))), (6, .int (nI (blG V.2.1 cc (s + 1)))), (5, .int (nI (abG V.2.1 j cc pq (s + 1)))), (0, .ref x), (1, .int (nI j)), (2, .int (nI pq)), (3, .int (nI cc)), (4, .int (nI u))]) 2 rfl (by simp [abG, hsub]) rfl ?_
                  refine j_wide (ce' := 42 * (s + 1)) (sl' := 301 * (s + 1)) (by omega) (by omega) ?_
                  exact ih (s + 1) w5 Z5 (by omega) (by omega) ⟨W5, hA5, hv5⟩
          refine j_lv [0, 1, 2, 3, 4, 5, 6, 7] (lv' := [(7, .int (nI 0)), (6, .int (nI 0)), (5, .int (nI 0)), (0, .ref x), (1, .int (nI j)), (2, .int (nI pq)), (3, .int (nI cc)), (4, .int (nI u))]) rfl ?_
          exact lp (V.2.1 5 + 2) 0 w Z (by omega) (by omega) ⟨W, hA, hv⟩
        · refine j_ldc C q391 dX0_shut_40 ?_
          exact j_iret C (by omega) (by omega) (fC.mk ⟨W, hA, hv⟩ (h1 (Or.inr (Or.inr (Or.inr c37))))) dX0_shut_42
