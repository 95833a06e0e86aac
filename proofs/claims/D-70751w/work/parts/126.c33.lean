/-! ===== the class: a corner, a street is read ===== -/
set_option maxRecDepth 100000
theorem rc_flt {S : ms_T} (hp : pOK S) (h8 : S.1 8 < 0) (h : ¬ S.2.2.2 7 6 < 6) : rcS S = sN (sF S 8 (nI (S.2.1 10))) 7 3 := by
  have e : rcA S = sN (sF S 8 (nI (S.2.1 10))) 7 3 := by
    unfold rcA
    rw [decide_eq_false h]
    exact takS_n h8
  rw [rc_f0 (by rw [e]; exact flt_8 hp 3), e]
theorem rc_ok {G : gl_T} {w w' : wd_T} {r mt ta : Nat} {S : ms_T} (hp : pOK S) (h8D : (rcD S).1 8 < 0) (h6 : S.2.2.2 7 6 < 6) (hR : RD G w' r mt ta (rcD S) (adT (uN (mdR S) (7 + 3 * S.2.2.2 7 6 + 1) (figV (rcA S) (nI 0) (nI 9))) (kndN (S.1 12)) (figV (rcB S) (nI 0) (nI 9)))) (hF : FR2 r mt w w') : rdP G r mt ta w (rcS S) (mdR (rcS S)) none (.returned none) w' := by
  have e : rcS S = sB (rcD S) 7 (rcT S) := if_pos h8D
  have hq := RD.sb (T := rcT S) hR (by rw [← e]; exact rcS_ok hp) (rcS_row h8D h6).symm
  rw [← e] at hq
  exact rdP.ok (by rw [e, sB_1]; exact h8D) hq hF
set_option maxHeartbeats 1000000 in
theorem kX5_corner (G : gl_T) (hG : GH G) (hE : GE G) (hS : GS G) (w : wd_T) (r mt ta : Nat) (S : ms_T) (hR : RD G w r mt ta S (mdR S)) (hk : S.2.1 11 = 1 ∧ 0 < kndN (S.1 12))  : Mb G yX5_corner cX5_corner 4 none [] 5 [.ref r] w (rdP G r mt ta w (rcS S) (mdR (rcS S)) none) 9 68 := by
  refine ⟨Nat.le_of_ble_eq_true rfl, fun k C hx => ?_⟩
  have C : Cx G k cX5_corner "MoodFare$Reader" "corner" 4 none 5 9 68 _ := C
  have h8 := hR.2.2.2.2.2.1
  have hp := hR.2.2.2.2.1
  have hp6 := hp.2.2.2.2.2.1
  obtain ⟨v, hv1, hv2, hve⟩ := hR.2.2.2.2.2.2.2.1 hk.1
  have hva : vaC S = nI v := by unfold vaC; rw [if_neg (by have := hk.1; omega)]; exact hve
  refine j_aload_n C dX5_corner_0 rfl 0 rfl ?_
  refine j_get (w := w) C in_X5 (ci := 5) (T := TX5) rfl hR.2.1 6 (by decide) q519 (fun _ z => z) (v := .ref mt) rfl dX5_corner_1 ?_
  refine j_callV (w := w) C (kX2_many G w hG mt (mdR S) hR.2.2.1) pI.ret (ci := 2) (T := TX2) hR.2.2.1.1 rfl 0 q689 q690 q691 q68 q692 (by decide +kernel) rfl (by decide) (by decide) (Nat.le_of_ble_eq_true rfl) rfl dX5_corner_4 (by omega) (by omega) (qI.k ?_)
  refine j_as (y := nI (S.2.2.2 7 6)) (congrArg nI (mdR_n S (by omega) (by omega))) ?_
  refine j_istore_n (lv' := [(1, .int (nI (S.2.2.2 7 6))), (0, .ref r)]) C dX5_corner_7 rfl (by decide) rfl ?_
  refine j_aload_n C dX5_corner_8 rfl 1 rfl ?_
  refine j_iload_n C dX5_corner_9 rfl 0 rfl ?_
  refine j_bipush (v := nI 6) C dX5_corner_10 rfl ?_
  refine j_icmp_geN C 19 dX5_corner_12 (by decide) (by omega) (by omega) (fun c12 => ?_) (fun c12 => ?_)
  · refine j_iconst (v := nI 0) C dX5_corner_19 rfl ?_
    refine j_iconst (v := nI 3) C dX5_corner_20 rfl ?_
    refine j_in (w := w) C (iv_V C (ci := 5) (Tt := TX5) hR.2.1 rfl (Or.inr ⟨rfl, q561⟩) 2 q558 q560 qs10 (by decide +kernel) rfl rfl dX5_corner_21) (kX5_must_F G w hG hE r r ta (S.2.1 6) (S.2.1 9) (tkC (S.2.1 11)) (S.2.1 10) mt 3 (vaC S) hR.2.1 hR.ne.2.2) (Or.inr ⟨rfl, q561⟩) (by decide +kernel) (by decide) (by decide) (Nat.le_of_ble_eq_true rfl) (by omega) (by omega) (fun v w1 h1 => h1.no) ?_
    rintro a1 w1 ⟨h1, rfl⟩
    cases h1
    exact jt_out C hx (by intro x h; simp at h) (by omega) (by omega) (rdP.flt hR (FR2.refl r mt w) (rc_flt hp h8 (by omega)))
  · refine j_iconst (v := nI 1) C dX5_corner_15 rfl ?_
    refine j_goto C 20 dX5_corner_16 (by decide) ?_
    refine j_iconst (v := nI 3) C dX5_corner_20 rfl ?_
    refine j_in (w := w) C (iv_V C (ci := 5) (Tt := TX5) hR.2.1 rfl (Or.inr ⟨rfl, q561⟩) 2 q558 q560 qs10 (by decide +kernel) rfl rfl dX5_corner_21) (kX5_must_T G w hG hE r r ta (S.2.1 6) (S.2.1 9) (tkC (S.2.1 11)) (S.2.1 10) mt 3 (vaC S) hR.2.1 hR.ne.2.2) (Or.inr ⟨rfl, q561⟩) (by decide +kernel) (by decide) (by decide) (Nat.le_of_ble_eq_true rfl) (by omega) (by omega) (qV.k ?_) (fun _ _ h => pV.nt h)
    refine j_iconst (v := nI 1) C dX5_corner_24 rfl ?_
    refine j_ldcS C hS dX5_corner_25 ?_
    refine j_aload_n C dX5_corner_27 rfl 1 rfl ?_
    refine j_get (w := w) C in_X5 (ci := 5) (T := TX5) rfl hR.2.1 5 (by decide) q518 (fun _ z => z) (v := .int (vaC S)) rfl dX5_corner_28 ?_
    refine j_as (y := nI v) hva ?_
    refine j_callVS (w := w) C hS (kJ7_indexOf G w hS v (by omega)) pI.ret 1 q599 q600 q601 q78 q602 (by decide +kernel) rfl (by decide) (by decide) (Nat.le_of_ble_eq_true rfl) rfl dX5_corner_31 (by omega) (by omega) (qI.k ?_)
    refine j_iadd C dX5_corner_34 ?_
    refine j_as (y := nI (kndN (S.1 12))) (by rw [hve]; exact ((ix_kn (by omega)).1 (by rw [← hve]; exact hk.2)).1) ?_
    refine j_istore_n (lv' := [(2, .int (nI (kndN (S.1 12)))), (1, .int (nI (S.2.2.2 7 6))), (0, .ref r)]) C dX5_corner_35 rfl (by decide) rfl ?_
    refine j_aload_n C dX5_corner_36 rfl 2 rfl ?_
    obtain ⟨σ1, f1, ht1, -, -, hf1⟩ := hR.2.2.2.1
    refine j_callV (w := w) C (kX5_next G w hG r r ta (S.2.1 6) (S.2.1 9) (tkC (S.2.1 11)) (S.2.1 10) mt σ1 (vaC S) f1 (S.2.2.2 5) hR.2.1 ht1 hR.ne.1 hR.2.2.2.2.1.1 hR.2.2.2.2.1.2.1 hR.2.2.2.2.1.2.2.2.2.1 hf1) pV.ret (ci := 5) (T := TX5) hR.2.1 rfl 0 q540 q542 qs7 q84 q543 (by decide +kernel) rfl (by decide) (by decide) (Nat.le_of_ble_eq_true rfl) rfl dX5_corner_37 (by omega) (by omega) (qV.k ?_)
    rw [nx_adv hR.2.2.2.2.1]
    refine j_abs (P := fun w' => RD G w' r mt ta (advS S) (mdR S) ∧ FR2 r mt w w') hR.next (fun w1 hw1 => ?_)
    obtain ⟨hR1, hF1⟩ := hw1
    have eA : advS S = rcA S := by unfold rcA; rw [decide_eq_true (by omega)]; exact (takS_y h8).symm
    have hR2 : RD G w1 r mt ta (rcA S) (mdR S) := eA ▸ hR1
    refine j_aload_n C dX5_corner_40 rfl 2 rfl ?_
    refine j_get (w := w1) C in_X5 (ci := 5) (T := TX5) rfl hR2.2.1 6 (by decide) q519 (fun _ z => z) (v := .ref mt) rfl dX5_corner_41 ?_
    refine j_get (w := w1) C in_X2 (ci := 2) (T := TX2) rfl hR2.2.2.1.1 6 (by decide) q191 (fun _ z => z) (v := .ref (mt + 2)) rfl dX5_corner_44 ?_
    refine j_iload_n C dX5_corner_47 rfl 1 rfl ?_
    refine j_aload_n C dX5_corner_48 rfl 2 rfl ?_
    refine j_iconst (v := nI 0) C dX5_corner_49 rfl ?_
    refine j_bipush (v := nI 9) C dX5_corner_50 rfl ?_
    refine j_in (w := w1) C (iv_V C (ci := 5) (Tt := TX5) hR2.2.1 rfl (Or.inr ⟨rfl, q593⟩) 2 q590 q592 qs11 (by decide +kernel) rfl rfl dX5_corner_52) (kX5_figure G hG hE w1 r mt ta (rcA S) (mdR S) hR2 (nI 0) (nI 9) (by decide)) (Or.inr ⟨rfl, q593⟩) (by decide +kernel) (by decide) (by decide) (Nat.le_of_ble_eq_true rfl) (by omega) (by omega) (rdP.k (fun w3 h83 hR3 hF3 => ?_)) (fun a1 w1 h1 => jt_out C hx (by intro x h; simp at h) (by omega) (by omega) (rdP.up ((FR2.refl r mt w).trans hF1) (fun h => rc_f1 h) h1))
    obtain ⟨o3_h0, ⟨o3_e, o3_md, o3_h1, o3_h2⟩, ⟨o3_fm, o3_hm, o3_vm⟩, ⟨o3_ff, o3_hf, o3_vf⟩, ⟨o3_ft, o3_ho, o3_vo⟩, o3_h6, o3_hk⟩ := id hR3.2.2.1
    refine j_iastN (w := w3) C o3_hm (S.2.2.2 7 6) rfl (by omega) (by decide) dX5_corner_55 ?_
    refine j_abs (P := fun w' => RD G w' r mt ta (figS (rcA S) (nI 0) (nI 9)) (uN (mdR S) (7 + 3 * (S.2.2.2 7 6) + 1) (figV (rcA S) (nI 0) (nI 9))) ∧ FR2 r mt w3 w') ⟨RD.town hR3 (TN.much hR3.2.2.1 o3_hm o3_vm (by omega)) (FR.upd o3_hm (fun z => z)) (hR3.1.upd o3_hm), FR2.ofM (FR.upd o3_hm (fun z => z))⟩ (fun w5 hw5 => ?_)
    obtain ⟨hR5, hF5⟩ := hw5
    refine j_aload_n C dX5_corner_56 rfl 2 rfl ?_
    refine j_bipush (v := nI 44) C dX5_corner_57 rfl ?_
    refine j_in (w := w5) C (iv_V C (ci := 5) (Tt := TX5) hR5.2.1 rfl (Or.inr ⟨rfl, q597⟩) 1 q594 q596 qs12 (by decide +kernel) rfl rfl dX5_corner_59) (kX5_sign_3 G hG hE w5 r mt ta (figS (rcA S) (nI 0) (nI 9)) (uN (mdR S) (7 + 3 * (S.2.2.2 7 6) + 1) (figV (rcA S) (nI 0) (nI 9))) hR5) (Or.inr ⟨rfl, q597⟩) (by decide +kernel) (by decide) (by decide) (Nat.le_of_ble_eq_true rfl) (by omega) (by omega) (rdP.k (fun w6 h86 hR6 hF6 => ?_)) (fun a1 w1 h1 => jt_out C hx (by intro x h; simp at h) (by omega) (by omega) (rdP.up ((((FR2.refl r mt w).trans hF1).trans hF3).trans hF5) (fun h => rc_f2 h) h1))
    have hR7 : RD G w6 r mt ta (rcB S) (uN (mdR S) (7 + 3 * (S.2.2.2 7 6) + 1) (figV (rcA S) (nI 0) (nI 9))) := hR6
    refine j_aload_n C dX5_corner_62 rfl 2 rfl ?_
    refine j_iconst (v := nI 0) C dX5_corner_63 rfl ?_
    refine j_bipush (v := nI 9) C dX5_corner_64 rfl ?_
    refine j_in (w := w6) C (iv_V C (ci := 5) (Tt := TX5) hR7.2.1 rfl (Or.inr ⟨rfl, q593⟩) 2 q590 q592 qs11 (by decide +kernel) rfl rfl dX5_corner_66) (kX5_figure G hG hE w6 r mt ta (rcB S) (uN (mdR S) (7 + 3 * (S.2.2.2 7 6) + 1) (figV (rcA S) (nI 0) (nI 9))) hR7 (nI 0) (nI 9) (by decide)) (Or.inr ⟨rfl, q593⟩) (by decide +kernel) (by decide) (by decide) (Nat.le_of_ble_eq_true rfl) (by omega) (by omega) (rdP.k (fun w8 h88 hR8 hF8 => ?_)) (fun a1 w1 h1 => jt_out C hx (by intro x h; simp at h) (by omega) (by omega) (rdP.up (((((FR2.refl r mt w).trans hF1).trans hF3).trans hF5).trans hF6) (fun h => rc_f3 h) h1))
    have hR9 : RD G w8 r mt ta (rcC S) (uN (mdR S) (7 + 3 * (S.2.2.2 7 6) + 1) (figV (rcA S) (nI 0) (nI 9))) := hR8
    refine j_istore_n (lv' := [(3, .int (nI (figV (rcB S) (nI 0) (nI 9)))), (2, .int (nI (kndN (S.1 12)))), (1, .int (nI (S.2.2.2 7 6))), (0, .ref r)]) C dX5_corner_69 rfl (by decide) rfl ?_
    refine j_aload_n C dX5_corner_70 rfl 3 rfl ?_
    refine j_bipush (v := nI 59) C dX5_corner_71 rfl ?_
    refine j_in (w := w8) C (iv_V C (ci := 5) (Tt := TX5) hR9.2.1 rfl (Or.inr ⟨rfl, q597⟩) 1 q594 q596 qs12 (by decide +kernel) rfl rfl dX5_corner_73) (kX5_sign_4 G hG hE w8 r mt ta (rcC S) (uN (mdR S) (7 + 3 * (S.2.2.2 7 6) + 1) (figV (rcA S) (nI 0) (nI 9))) hR9) (Or.inr ⟨rfl, q597⟩) (by decide +kernel) (by decide) (by decide) (Nat.le_of_ble_eq_true rfl) (by omega) (by omega) (rdP.k (fun w10 h810 hR10 hF10 => ?_)) (fun a1 w1 h1 => jt_out C hx (by intro x h; simp at h) (by omega) (by omega) (rdP.up ((((((FR2.refl r mt w).trans hF1).trans hF3).trans hF5).trans hF6).trans hF8) (fun h => rc_f4 h) h1))
    have hR11 : RD G w10 r mt ta (rcD S) (uN (mdR S) (7 + 3 * (S.2.2.2 7 6) + 1) (figV (rcA S) (nI 0) (nI 9))) := hR10
    have h8D : (rcD S).1 8 < 0 := by rw [rcD_e]; exact h810
    have e6 : uN (mdR S) (7 + 3 * S.2.2.2 7 6 + 1) (figV (rcA S) (nI 0) (nI 9)) 6 = S.2.2.2 7 6 := by rw [uN_n (by omega), mdR_n S (by omega) (by omega)]
    refine j_aload_n C dX5_corner_76 rfl 3 rfl ?_
    refine j_get (w := w10) C in_X5 (ci := 5) (T := TX5) rfl hR11.2.1 6 (by decide) q519 (fun _ z => z) (v := .ref mt) rfl dX5_corner_77 ?_
    refine j_get (w := w10) C in_X2 (ci := 2) (T := TX2) rfl hR11.2.2.1.1 5 (by decide) q186 (fun _ z => z) (v := .ref (mt + 1)) rfl dX5_corner_80 ?_
    refine j_iload_n C dX5_corner_83 rfl 1 rfl ?_
    refine j_iload_n C dX5_corner_84 rfl 2 rfl ?_
    refine j_iload_n C dX5_corner_85 rfl 0 rfl ?_
    refine j_callSN (w := w10) C (kX0_cornerBy G w10 (kndN (S.1 12)) (nI (S.2.2.2 7 6)) (nI (figV (rcB S) (nI 0) (nI 9))) (by have := hk.2; omega) (by have := kndN_le (S.1 12); omega)) pA.ret 3 (C.nw hG q703 rfl) q704 q66 q705 (by decide +kernel) rfl (by decide) (by decide) (Nat.le_of_ble_eq_true rfl) rfl dX5_corner_86 (by omega) (by omega) (qA.k ?_)
    refine j_abs (P := fun w' => RD G w' r mt ta (rcD S) (uN (mdR S) (7 + 3 * (S.2.2.2 7 6) + 1) (figV (rcA S) (nI 0) (nI 9))) ∧ FR2 r mt w10 w' ∧ w'.1 w10.2 = some (w10.2, .inr (6 + (kndN (S.1 12)), [.int (nI (S.2.2.2 7 6)), .int (nI (figV (rcB S) (nI 0) (nI 9)))]))) ⟨RD.town hR11 (hR11.2.2.1.fr (FR.new (τ := w10.2) hR11.1) (by have := hR11.2.2.1.lt hR11.1; omega)) (FR.new hR11.1) hR11.1.new, FR2.ofM (FR.new hR11.1), mu_s⟩ (fun w12 hw12 => ?_)
    obtain ⟨hR12, hF12, hx12⟩ := hw12
    obtain ⟨o12_h0, ⟨o12_e, o12_md, o12_h1, o12_h2⟩, ⟨o12_fm, o12_hm, o12_vm⟩, ⟨o12_ff, o12_hf, o12_vf⟩, ⟨o12_ft, o12_ho, o12_vo⟩, o12_h6, o12_hk⟩ := id hR12.2.2.1
    refine j_callF (w := w12) C (tn_add (kd := kndN (S.1 12)) (fee := figV (rcB S) (nI 0) (nI 9)) hG hR12.2.2.1 hR12.1 (by rw [e6]; omega) (by rw [e6]; exact hx12) (by have := hk.2; omega) (by have := kndN_le (S.1 12); omega)) pI.ret (ci := 20) (T := TJ2) o12_h1 rfl 1 (C.fw hG ⟨q761, q760, q765, q763, q697, by decide⟩) q759 q762 q764 q71 q766 (by decide +kernel) rfl (by decide) (by decide) (Nat.le_of_ble_eq_true rfl) rfl dX5_corner_89 (by omega) (by omega) (pI.k (fun r14 w14 h14 => ?_))
    obtain ⟨hT14, -, hF14, hW14⟩ := h14
    have hR14 := RD.town hR12 hT14 hF14 hW14
    refine j_pop C dX5_corner_94 rfl ?_
    exact j_vret C (by omega) (by omega) (rc_ok hp h8D (by omega) hR14 (((((((((FR2.refl r mt w).trans hF1).trans hF3).trans hF5).trans hF6).trans hF8).trans hF10).trans hF12).trans (FR2.ofM hF14))) dX5_corner_95
set_option maxHeartbeats 400000 in
theorem kX2_hasStreet_w (G : gl_T) (w : wd_T) (a : Nat) (t : Nat → Nat) (hT : TN G w a t) (ht : smT t) (p q : Nat) (hp : p < 2 ^ 31) (hq : q < 2 ^ 31) : Mt G yX2_hasStreet cX2_hasStreet 4 (some .boolean) 0 [.ref a, .int (nI p), .int (nI q)] w (qI (bZ (hsN t p q (t 25))) w) 0 0 := by
  refine Mt.start (by decide) (Nat.le_of_ble_eq_true rfl) (fun k C => ?_)
  have C : Cx G k cX2_hasStreet "MoodFare$Town" "hasStreet" 4 (some .boolean) 0 0 0 _ := C
  obtain ⟨h0, ⟨e, md, h1, h2⟩, ⟨fm, hm, vm⟩, ⟨ff, hf, vf⟩, ⟨ft, ho, vo⟩, h6, hk⟩ := id hT
  obtain ⟨r0, r1, r2, r3, r4, r5, r6, r7, r25, r26⟩ := id ht
  refine j_iconst (v := nI 0) C dX2_hasStreet_0 rfl ?_
  refine j_istore_n (lv' := [(3, .int (nI 0)), (0, .ref a), (1, .int (nI p)), (2, .int (nI q))]) C dX2_hasStreet_1 rfl (by decide) rfl ?_
  have lp : ∀ (n_lp i : Nat), 0 ≤ i → i ≤ t 25 → t 25 < i + n_lp → (hsN t p q i = false) → J G k w [(3, .int (nI i)), (0, .ref a), (1, .int (nI p)), (2, .int (nI q))] 2 [] 0 0 := by
    intro n_lp
    induction n_lp with
    | zero => intro i h0_lp h1_lp h2_lp; omega
    | succ n_lp ih_lp =>
      intro i h0_lp h1_lp h2_lp hI_lp
      refine j_iload_n C dX2_hasStreet_2 rfl 0 rfl ?_
      refine j_aload_n C dX2_hasStreet_3 rfl 1 rfl ?_
      refine j_get (w := w) C in_X2 (ci := 2) (T := TX2) rfl h0 7 (by decide) q193 (fun _ z => z) (v := .int (nI (t 25))) rfl dX2_hasStreet_4 ?_
      refine j_icmp_geN C 38 dX2_hasStreet_7 (by decide) (by first | omega | (have := r26 i (by omega); omega)) (by first | omega | (have := r26 i (by omega); omega)) (fun c7 => ?_) (fun c7 => ?_)
      · obtain rfl : t 25 = i := by omega
        refine j_iconst (v := nI 0) C dX2_hasStreet_38 rfl ?_
        exact j_zret C (by decide +kernel) (by omega) (by omega) (pI.mk ⟨by rw [hI_lp]; rfl, rfl⟩) dX2_hasStreet_39
      · refine j_aload_n C dX2_hasStreet_10 rfl 1 rfl ?_
        refine j_get (w := w) C in_X2 (ci := 2) (T := TX2) rfl h0 8 (by decide) q196 (fun _ z => z) (v := .ref (a + 3)) rfl dX2_hasStreet_11 ?_
        refine j_iload_n C dX2_hasStreet_14 rfl 0 rfl ?_
        refine j_ialdN (w := w) C hf (i) rfl (by first | omega | (have := r26 i (by omega); omega)) (by decide) dX2_hasStreet_15 ?_
        refine j_as (y := nI (t (26 + 2 * i))) (vf i (by omega)) ?_
        refine j_iload_n C dX2_hasStreet_16 rfl 2 rfl ?_
        refine j_icmp_neN C 32 dX2_hasStreet_17 (by decide) (by first | omega | (have := r26 i (by omega); omega)) (by first | omega | (have := r26 i (by omega); omega)) (fun c17 => ?_) (fun c17 => ?_)
        · refine j_iincN (lv' := [(3, .int (nI (i + 1))), (0, .ref a), (1, .int (nI p)), (2, .int (nI q))]) C dX2_hasStreet_32 0 rfl (by decide) rfl ?_
          refine j_goto C 2 dX2_hasStreet_35 (by decide) ?_
          refine j_lv [0, 1, 2, 3] (lv' := [(3, .int (nI (i + 1))), (0, .ref a), (1, .int (nI p)), (2, .int (nI q))]) rfl ?_
          exact ih_lp (i + 1) (by omega) (by omega) (by omega) (by unfold hsN; simp [hI_lp, c7, c17])
        · refine j_aload_n C dX2_hasStreet_20 rfl 1 rfl ?_
          refine j_get (w := w) C in_X2 (ci := 2) (T := TX2) rfl h0 9 (by decide) q199 (fun _ z => z) (v := .ref (a + 4)) rfl dX2_hasStreet_21 ?_
          refine j_iload_n C dX2_hasStreet_24 rfl 0 rfl ?_
          refine j_ialdN (w := w) C ho (i) rfl (by first | omega | (have := r26 i (by omega); omega)) (by decide) dX2_hasStreet_25 ?_
          refine j_as (y := nI (t (26 + 2 * i + 1))) (vo i (by omega)) ?_
          refine j_iload_n C dX2_hasStreet_26 rfl 3 rfl ?_
          refine j_icmp_neN C 32 dX2_hasStreet_27 (by decide) (by first | omega | (have := r26 i (by omega); omega)) (by first | omega | (have := r26 i (by omega); omega)) (fun c27 => ?_) (fun c27 => ?_)
          · refine j_iincN (lv' := [(3, .int (nI (i + 1))), (0, .ref a), (1, .int (nI p)), (2, .int (nI q))]) C dX2_hasStreet_32 0 rfl (by decide) rfl ?_
            refine j_goto C 2 dX2_hasStreet_35 (by decide) ?_
            refine j_lv [0, 1, 2, 3] (lv' := [(3, .int (nI (i + 1))), (0, .ref a), (1, .int (nI p)), (2, .int (nI q))]) rfl ?_
            exact ih_lp (i + 1) (by omega) (by omega) (by omega) (by unfold hsN; simp [hI_lp, c7, c17, c27])
          · refine j_iconst (v := nI 1) C dX2_hasStreet_30 rfl ?_
            exact j_zret C (by decide +kernel) (by omega) (by omega) (pI.mk ⟨by rw [hsN_in (k := i) (by omega) (by simp [c7, c17, c27])]; rfl, rfl⟩) dX2_hasStreet_31
  refine j_lv [0, 1, 2, 3] (lv' := [(3, .int (nI 0)), (0, .ref a), (1, .int (nI p)), (2, .int (nI q))]) rfl ?_
  exact lp (t 25 + 1 - 0) (0) (by omega) (by omega) (by omega) (by rfl)
set_option maxHeartbeats 2000000 in
theorem kX5_street (G : gl_T) (hG : GH G) (hE : GE G) (w : wd_T) (r mt ta : Nat) (S : ms_T) (hR : RD G w r mt ta S (mdR S)) (hsm : smT (S.2.2.2 7))  : Mb G yX5_street cX5_street 3 none [] 5 [.ref r] w (rdP G r mt ta w (rsS S) (mdR (rsS S)) none) 8 64 := by
  refine ⟨Nat.le_of_ble_eq_true rfl, fun k C hx => ?_⟩
  have C : Cx G k cX5_street "MoodFare$Reader" "street" 3 none 5 8 64 _ := C
  have h8 := hR.2.2.2.2.2.1
  have hp := hR.2.2.2.2.1
  have hp25 := hp.2.2.2.2.2.2.1
  refine j_aload_n C dX5_street_0 rfl 0 rfl ?_
  refine j_get (w := w) C in_X5 (ci := 5) (T := TX5) rfl hR.2.1 6 (by decide) q519 (fun _ z => z) (v := .ref mt) rfl dX5_street_1 ?_
  refine j_get (w := w) C in_X2 (ci := 2) (T := TX2) rfl hR.2.2.1.1 7 (by decide) q194 (fun _ z => z) (v := .int (nI ((mdR S) 25))) rfl dX5_street_4 ?_
  refine j_as (y := nI (S.2.2.2 7 25)) (congrArg nI (mdR_n S (by omega) (by omega))) ?_
  refine j_istore_n (lv' := [(1, .int (nI (S.2.2.2 7 25))), (0, .ref r)]) C dX5_street_7 rfl (by decide) rfl ?_
  refine j_aload_n C dX5_street_8 rfl 1 rfl ?_
  refine j_iload_n C dX5_street_9 rfl 0 rfl ?_
  refine j_bipush (v := nI 8) C dX5_street_10 rfl ?_
  refine j_icmp_geN C 19 dX5_street_12 (by decide) (by first | omega | assumption) (by first | omega | assumption) (fun c12 => ?_) (fun c12 => ?_)
  · refine j_iconst (v := nI 0) C dX5_street_19 rfl ?_
    refine j_iconst (v := nI 3) C dX5_street_20 rfl ?_
    refine j_in (w := w) C (iv_V C (ci := 5) (Tt := TX5) hR.2.1 rfl (Or.inr ⟨rfl, q561⟩) 2 q558 q560 qs10 (by decide +kernel) rfl rfl dX5_street_21) (kX5_must_F G w hG hE r r ta (S.2.1 6) (S.2.1 9) (tkC (S.2.1 11)) (S.2.1 10) mt 3 (vaC S) hR.2.1 hR.ne.2.2) (Or.inr ⟨rfl, q561⟩) (by decide +kernel) (by decide) (by decide) (Nat.le_of_ble_eq_true rfl) (by omega) (by omega) (fun v w1 h1 => h1.no) ?_
    rintro a1 w1 ⟨h1, rfl⟩
    cases h1
    exact jt_out C hx (by intro x h; simp at h) (by omega) (by omega) (rdP.flt hR (FR2.refl r mt w) (rs_flt hp h8 (by omega)))
  · refine j_iconst (v := nI 1) C dX5_street_15 rfl ?_
    refine j_goto C 20 dX5_street_16 (by decide) ?_
    refine j_iconst (v := nI 3) C dX5_street_20 rfl ?_
    refine j_in (w := w) C (iv_V C (ci := 5) (Tt := TX5) hR.2.1 rfl (Or.inr ⟨rfl, q561⟩) 2 q558 q560 qs10 (by decide +kernel) rfl rfl dX5_street_21) (kX5_must_T G w hG hE r r ta (S.2.1 6) (S.2.1 9) (tkC (S.2.1 11)) (S.2.1 10) mt 3 (vaC S) hR.2.1 hR.ne.2.2) (Or.inr ⟨rfl, q561⟩) (by decide +kernel) (by decide) (by decide) (Nat.le_of_ble_eq_true rfl) (by omega) (by omega) (qV.k ?_) (fun _ _ h => pV.nt h)
    refine j_aload_n C dX5_street_24 rfl 1 rfl ?_
    obtain ⟨σ1, f1, ht1, -, -, hf1⟩ := hR.2.2.2.1
    refine j_callV (w := w) C (kX5_next G w hG r r ta (S.2.1 6) (S.2.1 9) (tkC (S.2.1 11)) (S.2.1 10) mt σ1 (vaC S) f1 (S.2.2.2 5) hR.2.1 ht1 hR.ne.1 hR.2.2.2.2.1.1 hR.2.2.2.2.1.2.1 hR.2.2.2.2.1.2.2.2.2.1 hf1) pV.ret (ci := 5) (T := TX5) hR.2.1 rfl 0 q540 q542 qs7 q84 q543 (by decide +kernel) rfl (by decide) (by decide) (Nat.le_of_ble_eq_true rfl) rfl dX5_street_25 (by omega) (by omega) (qV.k ?_)
    rw [nx_adv hR.2.2.2.2.1]
    refine j_abs (P := fun w' => RD G w' r mt ta (advS S) (mdR S) ∧ FR2 r mt w w') hR.next (fun w1 hw1 => ?_)
    obtain ⟨hR1, hF1⟩ := hw1
    have eA : advS S = rsA S := by unfold rsA; rw [decide_eq_true (by omega)]; exact (takS_y h8).symm
    have hR2 : RD G w1 r mt ta (rsA S) (mdR S) := eA ▸ hR1
    refine j_aload_n C dX5_street_28 rfl 1 rfl ?_
    refine j_iconst (v := nI 0) C dX5_street_29 rfl ?_
    refine j_aload_n C dX5_street_30 rfl 1 rfl ?_
    refine j_get (w := w1) C in_X5 (ci := 5) (T := TX5) rfl hR2.2.1 6 (by decide) q519 (fun _ z => z) (v := .ref mt) rfl dX5_street_31 ?_
    refine j_callV (w := w1) C (kX2_many G w1 hG mt (mdR S) hR2.2.2.1) pI.ret (ci := 2) (T := TX2) hR2.2.2.1.1 rfl 0 q689 q690 q691 q68 q692 (by decide +kernel) rfl (by decide) (by decide) (Nat.le_of_ble_eq_true rfl) rfl dX5_street_34 (by omega) (by omega) (qI.k ?_)
    refine j_as (y := nI (S.2.2.2 7 6)) (congrArg nI (mdR_n S (by omega) (by omega))) ?_
    refine j_iconst (v := nI 1) C dX5_street_37 rfl ?_
    refine j_isub C dX5_street_38 ?_
    refine j_in (w := w1) C (iv_V C (ci := 5) (Tt := TX5) hR2.2.1 rfl (Or.inr ⟨rfl, q593⟩) 2 q590 q592 qs11 (by decide +kernel) rfl rfl dX5_street_39) (kX5_figure G hG hE w1 r mt ta (rsA S) (mdR S) hR2 (nI 0) (nI (S.2.2.2 7 6) - nI 1) (by decide)) (Or.inr ⟨rfl, q593⟩) (by decide +kernel) (by decide) (by decide) (Nat.le_of_ble_eq_true rfl) (by omega) (by omega) (rdP.k (fun w3 h83 hR3 hF3 => ?_)) (fun a1 w1 h1 => jt_out C hx (by intro x h; simp at h) (by omega) (by omega) (rdP.up ((FR2.refl r mt w).trans hF1) (fun h => rs_g1 h) h1))
    refine j_as (y := nI (rsF S)) (by rw [rsF_e]) ?_
    refine j_istore_n (lv' := [(2, .int (nI (rsF S))), (1, .int (nI (S.2.2.2 7 25))), (0, .ref r)]) C dX5_street_42 rfl (by decide) rfl ?_
    refine j_aload_n C dX5_street_43 rfl 2 rfl ?_
    refine j_bipush (v := nI 44) C dX5_street_44 rfl ?_
    refine j_in (w := w3) C (iv_V C (ci := 5) (Tt := TX5) hR3.2.1 rfl (Or.inr ⟨rfl, q597⟩) 1 q594 q596 qs12 (by decide +kernel) rfl rfl dX5_street_46) (kX5_sign_3 G hG hE w3 r mt ta (figS (rsA S) (nI 0) (nI (S.2.2.2 7 6) - nI 1)) (mdR S) hR3) (Or.inr ⟨rfl, q597⟩) (by decide +kernel) (by decide) (by decide) (Nat.le_of_ble_eq_true rfl) (by omega) (by omega) (rdP.k (fun w4 h84 hR4 hF4 => ?_)) (fun a1 w1 h1 => jt_out C hx (by intro x h; simp at h) (by omega) (by omega) (rdP.up (((FR2.refl r mt w).trans hF1).trans hF3) (fun h => rs_g2 h) h1))
    have h8B : (rsB S).1 8 < 0 := by rw [rsB_e]; exact h84
    have hR5 : RD G w4 r mt ta (rsB S) (mdR S) := by rw [rsB_e]; exact hR4
    have hpB := hR5.2.2.2.2.1
    have e7 : (rsB S).2.2.2 7 = S.2.2.2 7 := congrArg (fun z => z.2 7) (rsB_7 S)
    have htkB := tkC_le ((rsB S).2.1 11)
    have hfl : rsF S < 2 ^ 31 := by rw [rsF_e]; exact figV_lt _ _ _
    refine j_aload_n C dX5_street_49 rfl 2 rfl ?_
    refine j_get (w := w4) C in_X5 (ci := 5) (T := TX5) rfl hR5.2.1 3 (by decide) q516 (fun _ z => z) (v := .int (nI (tkC ((rsB S).2.1 11)))) rfl dX5_street_50 ?_
    refine j_iconst (v := nI 2) C dX5_street_53 rfl ?_
    refine j_icmp_neN C 90 dX5_street_54 (by decide) (by first | omega | assumption) (by first | omega | assumption) (fun c54 => ?_) (fun c54 => ?_)
    · refine j_aload_n C dX5_street_90 rfl 2 rfl ?_
      refine j_get (w := w4) C in_X5 (ci := 5) (T := TX5) rfl hR5.2.1 6 (by decide) q519 (fun _ z => z) (v := .ref mt) rfl dX5_street_91 ?_
      refine j_get (w := w4) C in_X2 (ci := 2) (T := TX2) rfl hR5.2.2.1.1 9 (by decide) q200 (fun _ z => z) (v := .ref (mt + 4)) rfl dX5_street_94 ?_
      refine j_iload_n C dX5_street_97 rfl 1 rfl ?_
      refine j_aload_n C dX5_street_98 rfl 2 rfl ?_
      refine j_iconst (v := nI 0) C dX5_street_99 rfl ?_
      refine j_aload_n C dX5_street_100 rfl 2 rfl ?_
      refine j_get (w := w4) C in_X5 (ci := 5) (T := TX5) rfl hR5.2.1 6 (by decide) q519 (fun _ z => z) (v := .ref mt) rfl dX5_street_101 ?_
      refine j_callV (w := w4) C (kX2_many G w4 hG mt (mdR S) hR5.2.2.1) pI.ret (ci := 2) (T := TX2) hR5.2.2.1.1 rfl 0 q689 q690 q691 q68 q692 (by decide +kernel) rfl (by decide) (by decide) (Nat.le_of_ble_eq_true rfl) rfl dX5_street_104 (by omega) (by omega) (qI.k ?_)
      refine j_as (y := nI (S.2.2.2 7 6)) (congrArg nI (mdR_n S (by omega) (by omega))) ?_
      refine j_iconst (v := nI 1) C dX5_street_107 rfl ?_
      refine j_isub C dX5_street_108 ?_
      refine j_in (w := w4) C (iv_V C (ci := 5) (Tt := TX5) hR5.2.1 rfl (Or.inr ⟨rfl, q593⟩) 2 q590 q592 qs11 (by decide +kernel) rfl rfl dX5_street_109) (kX5_figure G hG hE w4 r mt ta (rsB S) (mdR S) hR5 (nI 0) (nI (S.2.2.2 7 6) - nI 1) (by decide)) (Or.inr ⟨rfl, q593⟩) (by decide +kernel) (by decide) (by decide) (Nat.le_of_ble_eq_true rfl) (by omega) (by omega) (rdP.k (fun w6 h86 hR6 hF6 => ?_)) (fun a1 w1 h1 => jt_out C hx (by intro x h; simp at h) (by omega) (by omega) (rdP.up ((((FR2.refl r mt w).trans hF1).trans hF3).trans hF4) (fun h => rs_g3 (by unfold rsC; rw [← (tofA ⟨h8B, fun z => c54 (tkC_2.mpr z)⟩).2, ← (figA ⟨h8B, fun z => c54 (tkC_2.mpr z)⟩).2]) h) h1))
      exfalso
      have hz := (figS_w hpB h86).2
      unfold figB at hz
      rw [if_pos ⟨h8B, fun z => c54 (tkC_2.mpr z)⟩] at hz
      cases hz
    · have h11 := tkC_2.mp c54
      obtain ⟨n, hn1, hne⟩ := hR5.2.2.2.2.2.2.1 h11
      have hva : vaC (rsB S) = nI n := by unfold vaC; rw [if_neg (by omega)]; exact hne
      have est := st_hs (t := mdR S) hsm hfl (show n < 2 ^ 31 by omega) (fun i hi => mdR_n S (by omega) (by omega)) (S.2.2.2 7 25) (by omega)
      refine j_aload_n C dX5_street_57 rfl 2 rfl ?_
      refine j_aload_n C dX5_street_58 rfl 2 rfl ?_
      refine j_get (w := w4) C in_X5 (ci := 5) (T := TX5) rfl hR5.2.1 5 (by decide) q518 (fun _ z => z) (v := .int (vaC (rsB S))) rfl dX5_street_59 ?_
      refine j_as (y := nI n) hva ?_
      refine j_iload_n C dX5_street_62 rfl 0 rfl ?_
      refine j_icmp_eqN C 85 dX5_street_63 (by decide) (by first | omega | assumption) (by first | omega | assumption) (fun c63 => ?_) (fun c63 => ?_)
      · refine j_iconst (v := nI 0) C dX5_street_85 rfl ?_
        refine j_iconst (v := nI 2) C dX5_street_86 rfl ?_
        refine j_in (w := w4) C (iv_V C (ci := 5) (Tt := TX5) hR5.2.1 rfl (Or.inr ⟨rfl, q561⟩) 2 q558 q560 qs10 (by decide +kernel) rfl rfl dX5_street_87) (kX5_must_F G w4 hG hE r r ta ((rsB S).2.1 6) ((rsB S).2.1 9) (tkC ((rsB S).2.1 11)) ((rsB S).2.1 10) mt 2 (vaC (rsB S)) hR5.2.1 hR5.ne.2.2) (Or.inr ⟨rfl, q561⟩) (by decide +kernel) (by decide) (by decide) (Nat.le_of_ble_eq_true rfl) (by omega) (by omega) (fun v w1 h1 => h1.no) ?_
        rintro a1 w1 ⟨h1, rfl⟩
        cases h1
        exact jt_out C hx (by intro x h; simp at h) (by omega) (by omega) (rdP.flt hR5 ((((FR2.refl r mt w).trans hF1).trans hF3).trans hF4) (rs_flt2 hpB rfl (tof_n h8B h11 (by rw [hne, c63]; simp))))
      · refine j_aload_n C dX5_street_66 rfl 2 rfl ?_
        refine j_get (w := w4) C in_X5 (ci := 5) (T := TX5) rfl hR5.2.1 6 (by decide) q519 (fun _ z => z) (v := .ref mt) rfl dX5_street_67 ?_
        refine j_iload_n C dX5_street_70 rfl 0 rfl ?_
        refine j_aload_n C dX5_street_71 rfl 2 rfl ?_
        refine j_get (w := w4) C in_X5 (ci := 5) (T := TX5) rfl hR5.2.1 5 (by decide) q518 (fun _ z => z) (v := .int (vaC (rsB S))) rfl dX5_street_72 ?_
        refine j_as (y := nI n) hva ?_
        refine j_callV (w := w4) C (kX2_hasStreet_w G w4 mt (mdR S) hR5.2.2.1 (mdR_sm hsm) (rsF S) n hfl (by omega)) pI.ret (ci := 2) (T := TX2) hR5.2.2.1.1 rfl 2 q834 q835 q836 q68 q837 (by decide +kernel) rfl (by decide) (by decide) (Nat.le_of_ble_eq_true rfl) rfl dX5_street_75 (by omega) (by omega) (qI.k ?_)
        refine j_if_neB C 85 dX5_street_78 (by decide) (fun c78 => ?_) (fun c78 => ?_)
        · refine j_iconst (v := nI 0) C dX5_street_85 rfl ?_
          refine j_iconst (v := nI 2) C dX5_street_86 rfl ?_
          refine j_in (w := w4) C (iv_V C (ci := 5) (Tt := TX5) hR5.2.1 rfl (Or.inr ⟨rfl, q561⟩) 2 q558 q560 qs10 (by decide +kernel) rfl rfl dX5_street_87) (kX5_must_F G w4 hG hE r r ta ((rsB S).2.1 6) ((rsB S).2.1 9) (tkC ((rsB S).2.1 11)) ((rsB S).2.1 10) mt 2 (vaC (rsB S)) hR5.2.1 hR5.ne.2.2) (Or.inr ⟨rfl, q561⟩) (by decide +kernel) (by decide) (by decide) (Nat.le_of_ble_eq_true rfl) (by omega) (by omega) (fun v w1 h1 => h1.no) ?_
          rintro a1 w1 ⟨h1, rfl⟩
          cases h1
          exact jt_out C hx (by intro x h; simp at h) (by omega) (by omega) (rdP.flt hR5 ((((FR2.refl r mt w).trans hF1).trans hF3).trans hF4) (rs_flt2 hpB rfl (tof_n h8B h11 (by rw [e7, hne, est, ← mdR_n S (i := 25) (by omega) (by omega), c78]; simp))))
        · have hC : tofS (rsB S) (rsF S) = figS (rsB S) (nI 0) (nI (S.2.2.2 7 6) - nI 1) ∧ tofV (rsB S) (rsF S) = figV (rsB S) (nI 0) (nI (S.2.2.2 7 6) - nI 1) := tof_y h11 (by rw [e7]) (by rw [e7, hne, est, ← mdR_n S (i := 25) (by omega) (by omega), c78]; simp [nI_eq (show n < 2 ^ 31 by omega) hfl, c63])
          refine j_iconst (v := nI 1) C dX5_street_81 rfl ?_
          refine j_goto C 86 dX5_street_82 (by decide) ?_
          refine j_iconst (v := nI 2) C dX5_street_86 rfl ?_
          refine j_in (w := w4) C (iv_V C (ci := 5) (Tt := TX5) hR5.2.1 rfl (Or.inr ⟨rfl, q561⟩) 2 q558 q560 qs10 (by decide +kernel) rfl rfl dX5_street_87) (kX5_must_T G w4 hG hE r r ta ((rsB S).2.1 6) ((rsB S).2.1 9) (tkC ((rsB S).2.1 11)) ((rsB S).2.1 10) mt 2 (vaC (rsB S)) hR5.2.1 hR5.ne.2.2) (Or.inr ⟨rfl, q561⟩) (by decide +kernel) (by decide) (by decide) (Nat.le_of_ble_eq_true rfl) (by omega) (by omega) (qV.k ?_) (fun _ _ h => pV.nt h)
          refine j_aload_n C dX5_street_90 rfl 2 rfl ?_
          refine j_get (w := w4) C in_X5 (ci := 5) (T := TX5) rfl hR5.2.1 6 (by decide) q519 (fun _ z => z) (v := .ref mt) rfl dX5_street_91 ?_
          refine j_get (w := w4) C in_X2 (ci := 2) (T := TX2) rfl hR5.2.2.1.1 9 (by decide) q200 (fun _ z => z) (v := .ref (mt + 4)) rfl dX5_street_94 ?_
          refine j_iload_n C dX5_street_97 rfl 1 rfl ?_
          refine j_aload_n C dX5_street_98 rfl 2 rfl ?_
          refine j_iconst (v := nI 0) C dX5_street_99 rfl ?_
          refine j_aload_n C dX5_street_100 rfl 2 rfl ?_
          refine j_get (w := w4) C in_X5 (ci := 5) (T := TX5) rfl hR5.2.1 6 (by decide) q519 (fun _ z => z) (v := .ref mt) rfl dX5_street_101 ?_
          refine j_callV (w := w4) C (kX2_many G w4 hG mt (mdR S) hR5.2.2.1) pI.ret (ci := 2) (T := TX2) hR5.2.2.1.1 rfl 0 q689 q690 q691 q68 q692 (by decide +kernel) rfl (by decide) (by decide) (Nat.le_of_ble_eq_true rfl) rfl dX5_street_104 (by omega) (by omega) (qI.k ?_)
          refine j_as (y := nI (S.2.2.2 7 6)) (congrArg nI (mdR_n S (by omega) (by omega))) ?_
          refine j_iconst (v := nI 1) C dX5_street_107 rfl ?_
          refine j_isub C dX5_street_108 ?_
          refine j_in (w := w4) C (iv_V C (ci := 5) (Tt := TX5) hR5.2.1 rfl (Or.inr ⟨rfl, q593⟩) 2 q590 q592 qs11 (by decide +kernel) rfl rfl dX5_street_109) (kX5_figure G hG hE w4 r mt ta (rsB S) (mdR S) hR5 (nI 0) (nI (S.2.2.2 7 6) - nI 1) (by decide)) (Or.inr ⟨rfl, q593⟩) (by decide +kernel) (by decide) (by decide) (Nat.le_of_ble_eq_true rfl) (by omega) (by omega) (rdP.k (fun w6 h86 hR6 hF6 => ?_)) (fun a1 w1 h1 => jt_out C hx (by intro x h; simp at h) (by omega) (by omega) (rdP.up ((((FR2.refl r mt w).trans hF1).trans hF3).trans hF4) (fun h => rs_g3 (by unfold rsC; exact hC.1) h) h1))
          have hR7 : RD G w6 r mt ta (rsC S) (mdR S) := by unfold rsC; rw [hC.1]; exact hR6
          refine j_as (y := nI (tofV (rsB S) (rsF S))) (by rw [hC.2]) ?_
          obtain ⟨o7_h0, ⟨o7_e, o7_md, o7_h1, o7_h2⟩, ⟨o7_fm, o7_hm, o7_vm⟩, ⟨o7_ff, o7_hf, o7_vf⟩, ⟨o7_ft, o7_ho, o7_vo⟩, o7_h6, o7_hk⟩ := id hR7.2.2.1
          refine j_iastN (w := w6) C o7_ho (S.2.2.2 7 25) rfl (by first | omega | assumption) (by decide) dX5_street_112 ?_
          refine j_abs (P := fun w' => RD G w' r mt ta (rsC S) (uN (mdR S) (26 + 2 * (S.2.2.2 7 25) + 1) (tofV (rsB S) (rsF S))) ∧ FR2 r mt w6 w') ⟨RD.town hR7 (TN.fto hR7.2.2.1 o7_ho o7_vo (by omega)) (FR.upd o7_ho (fun z => z)) (hR7.1.upd o7_ho), FR2.ofM (FR.upd o7_ho (fun z => z))⟩ (fun w9 hw9 => ?_)
          obtain ⟨hR9, hF9⟩ := hw9
          refine j_aload_n C dX5_street_113 rfl 2 rfl ?_
          refine j_get (w := w9) C in_X5 (ci := 5) (T := TX5) rfl hR9.2.1 6 (by decide) q519 (fun _ z => z) (v := .ref mt) rfl dX5_street_114 ?_
          refine j_get (w := w9) C in_X2 (ci := 2) (T := TX2) rfl hR9.2.2.1.1 8 (by decide) q197 (fun _ z => z) (v := .ref (mt + 3)) rfl dX5_street_117 ?_
          refine j_iload_n C dX5_street_120 rfl 1 rfl ?_
          refine j_iload_n C dX5_street_121 rfl 0 rfl ?_
          obtain ⟨o9_h0, ⟨o9_e, o9_md, o9_h1, o9_h2⟩, ⟨o9_fm, o9_hm, o9_vm⟩, ⟨o9_ff, o9_hf, o9_vf⟩, ⟨o9_ft, o9_ho, o9_vo⟩, o9_h6, o9_hk⟩ := id hR9.2.2.1
          refine j_iastN (w := w9) C o9_hf (S.2.2.2 7 25) rfl (by first | omega | assumption) (by decide) dX5_street_122 ?_
          refine j_abs (P := fun w' => RD G w' r mt ta (rsC S) (uN (uN (mdR S) (26 + 2 * (S.2.2.2 7 25) + 1) (tofV (rsB S) (rsF S))) (26 + 2 * (S.2.2.2 7 25)) (rsF S)) ∧ FR2 r mt w9 w') ⟨RD.town hR9 (TN.ffrom hR9.2.2.1 o9_hf o9_vf (by omega)) (FR.upd o9_hf (fun z => z)) (hR9.1.upd o9_hf), FR2.ofM (FR.upd o9_hf (fun z => z))⟩ (fun w11 hw11 => ?_)
          obtain ⟨hR11, hF11⟩ := hw11
          refine j_aload_n C dX5_street_123 rfl 2 rfl ?_
          refine j_bipush (v := nI 59) C dX5_street_124 rfl ?_
          refine j_in (w := w11) C (iv_V C (ci := 5) (Tt := TX5) hR11.2.1 rfl (Or.inr ⟨rfl, q597⟩) 1 q594 q596 qs12 (by decide +kernel) rfl rfl dX5_street_126) (kX5_sign_4 G hG hE w11 r mt ta (rsC S) (uN (uN (mdR S) (26 + 2 * (S.2.2.2 7 25) + 1) (tofV (rsB S) (rsF S))) (26 + 2 * (S.2.2.2 7 25)) (rsF S)) hR11) (Or.inr ⟨rfl, q597⟩) (by decide +kernel) (by decide) (by decide) (Nat.le_of_ble_eq_true rfl) (by omega) (by omega) (rdP.k (fun w12 h812 hR12 hF12 => ?_)) (fun a1 w1 h1 => jt_out C hx (by intro x h; simp at h) (by omega) (by omega) (rdP.up (((((((FR2.refl r mt w).trans hF1).trans hF3).trans hF4).trans hF6).trans hF9).trans hF11) (fun h => rs_g4 h) h1))
          have h8D : (rsD S).1 8 < 0 := by rw [rsD_e]; exact h812
          have hR13 : RD G w12 r mt ta (rsD S) (uN (uN (mdR S) (26 + 2 * (S.2.2.2 7 25) + 1) (tofV (rsB S) (rsF S))) (26 + 2 * (S.2.2.2 7 25)) (rsF S)) := by rw [rsD_e]; exact hR12
          obtain ⟨t9, ht9⟩ : ∃ z : Nat → Nat, z = uN (uN (mdR S) (26 + 2 * (S.2.2.2 7 25) + 1) (tofV (rsB S) (rsF S))) (26 + 2 * (S.2.2.2 7 25)) (rsF S) := ⟨_, rfl⟩
          rw [← ht9] at hR13
          refine j_aload_n C dX5_street_129 rfl 2 rfl ?_
          refine j_get (w := w12) C in_X5 (ci := 5) (T := TX5) rfl hR13.2.1 6 (by decide) q519 (fun _ z => z) (v := .ref mt) rfl dX5_street_130 ?_
          refine j_dup C dX5_street_133 rfl ?_
          refine j_get (w := w12) C in_X2 (ci := 2) (T := TX2) rfl hR13.2.2.1.1 7 (by decide) q194 (fun _ z => z) (v := .int (nI (t9 25))) rfl dX5_street_134 ?_
          refine j_as (y := nI (S.2.2.2 7 25)) (by rw [ht9]; exact congrArg nI ((uN_n (by omega)).trans ((uN_n (by omega)).trans (mdR_n S (by omega) (by omega))))) ?_
          refine j_iconst (v := nI 1) C dX5_street_137 rfl ?_
          refine j_iaddN C dX5_street_138 ?_
          refine j_put (w := w12) C (ty0 := tyX2) in_X2 tyX2_ok nmX2 (ci := 2) (T := TX2) rfl hR13.2.2.1.1 7 (by decide) q194 (fun _ z => z) rfl rfl rfl (fs' := [.int (nI (t9 0)), .int (nI (t9 1)), .int (nI (t9 4)), .int (nI (t9 2)), .int (nI (t9 3)), .ref (mt + 1), .ref (mt + 2), .int (nI ((S.2.2.2 7 25) + 1)), .ref (mt + 3), .ref (mt + 4), .int (nI (t9 5))]) (Nat.le_of_ble_eq_true rfl) rfl dX5_street_139 ?_
          refine j_abs (P := fun w' => RD G w' r mt ta (rsD S) (uN t9 25 ((S.2.2.2 7 25) + 1)) ∧ FR2 r mt w12 w') ⟨RD.town hR13 (TN.sc (u := uN t9 25 ((S.2.2.2 7 25) + 1)) hR13.2.2.1 (uN_n (by omega)) (fun i h1 h2 => uN_n (by omega))) (FR.upd hR13.2.2.1.1 isC_TE) (hR13.1.upd hR13.2.2.1.1), FR2.ofM (FR.upd hR13.2.2.1.1 isC_TE)⟩ (fun w14 hw14 => ?_)
          obtain ⟨hR14, hF14⟩ := hw14
          exact j_vret C (by omega) (by omega) (rs_ok hp h8D (by omega) (by rw [← ht9]; exact hR14) (((((((((FR2.refl r mt w).trans hF1).trans hF3).trans hF4).trans hF6).trans hF9).trans hF11).trans hF12).trans hF14)) dX5_street_142
