/-! ===== the reader begins ===== -/
set_option maxRecDepth 100000
def tz : Nat → Nat := fun _ => 0
theorem twA_7 (S : ms_T) : (twA S).2.2.2 7 = tz := congrArg (fun z => z.2 7) (advS_t _)
theorem twB_7 (S : ms_T) : (twB S).2.2.2 7 = tz := by
  unfold twB
  exact (congrArg (fun z => z.2 7) (takS_t _ _ _)).trans (twA_7 S)
theorem twC_7 (S : ms_T) : (twC S).2.2.2 7 = uN tz 0 (figV (twB S) (nI 1) (nI 9)) := by
  unfold twC
  show uN ((figS (twB S) (nI 1) (nI 9)).2.2.2 7) 0 _ = _
  rw [show (figS (twB S) (nI 1) (nI 9)).2.2.2 7 = tz from (congrArg (fun z => z.2 7) (figS_t _ _ _)).trans (twB_7 S)]
theorem twD_7 (S : ms_T) : (twD S).2.2.2 7 = uN tz 0 (figV (twB S) (nI 1) (nI 9)) := by
  unfold twD
  exact (congrArg (fun z => z.2 7) (takS_t _ _ _)).trans (twC_7 S)
theorem twE_7 (S : ms_T) : (twE S).2.2.2 7 = uN (uN tz 0 (figV (twB S) (nI 1) (nI 9))) 1 (figV (twD S) (nI 0) (nI 9)) := by
  unfold twE
  show uN ((figS (twD S) (nI 0) (nI 9)).2.2.2 7) 1 _ = _
  rw [show (figS (twD S) (nI 0) (nI 9)).2.2.2 7 = uN tz 0 (figV (twB S) (nI 1) (nI 9)) from (congrArg (fun z => z.2 7) (figS_t _ _ _)).trans (twD_7 S)]
theorem twF_7 (S : ms_T) : (twF S).2.2.2 7 = uN (uN tz 0 (figV (twB S) (nI 1) (nI 9))) 1 (figV (twD S) (nI 0) (nI 9)) := by
  unfold twF
  exact (congrArg (fun z => z.2 7) (takS_t _ _ _)).trans (twE_7 S)
theorem md_F (S : ms_T) : uN tz 1 (figV (twD S) (nI 0) (nI 9)) = mdR (twF S) := by
  funext i
  unfold mdR
  rw [twF_7]
  by_cases z : i = 0 ∨ i = 5
  · rw [if_pos z]
    rcases z with rfl | rfl
    · rw [uN_n (by omega)]; rfl
    · rw [uN_n (by omega)]; rfl
  · rw [if_neg z]
    by_cases z1 : i = 1
    · subst z1
      rw [uN_s, uN_s]
    · rw [uN_n z1, uN_n z1, uN_n (by omega)]
theorem dr_F (S : ms_T) : drI (figV (twB S) (nI 1) (nI 9)) (twF S) ∧ (twF S).2.2.2 7 6 = 0 ∧ (twF S).2.2.2 7 25 = 0 := by
  have h1 : figV (twB S) (nI 1) (nI 9) ≤ 9 := figV_le (by decide) (by decide)
  have h2 : figV (twD S) (nI 0) (nI 9) ≤ 9 := figV_le (by decide) (by decide)
  have E : ∀ i, i ≠ 0 → i ≠ 1 → (twF S).2.2.2 7 i = 0 := fun i a b => by
    rw [twF_7, uN_n b, uN_n a]
    rfl
  have E0 : (twF S).2.2.2 7 0 = figV (twB S) (nI 1) (nI 9) := by rw [twF_7, uN_n (by omega), uN_s]
  have E1 : (twF S).2.2.2 7 1 = figV (twD S) (nI 0) (nI 9) := by rw [twF_7, uN_s]
  refine ⟨⟨⟨by rw [E0]; exact h1, by rw [E1]; exact h2, by rw [E 2 (by omega) (by omega)]; omega, by rw [E 3 (by omega) (by omega)]; omega, by rw [E 4 (by omega) (by omega)]; omega, by rw [E 5 (by omega) (by omega)]; omega, by rw [E 6 (by omega) (by omega)]; omega, fun c hc => ?_, by rw [E 25 (by omega) (by omega)]; omega, fun x hx => ?_⟩, ?_, E0⟩, E 6 (by omega) (by omega), E 25 (by omega) (by omega)⟩
  · rw [E _ (by omega) (by omega), E _ (by omega) (by omega), E _ (by omega) (by omega)]
    omega
  · rw [E _ (by omega) (by omega), E _ (by omega) (by omega)]
    omega
  · rw [E 5 (by omega) (by omega), E 25 (by omega) (by omega)]
/-- the text's first token -/
theorem RD.first {G : gl_T} {w : wd_T} {r mt ta σ : Nat} {S : ms_T} {f : Nat → Int32} (hw : WF w) (hr : w.1 r = some (r, rdE ta (S.2.1 6) 0 0 0 0 mt)) (hT : TN G w mt tz) (hta : w.1 ta = some (σ, ai (gl_A G 1) 120 f)) (h1 : σ ≠ r) (h2 : σ ≠ mt) (hf : ∀ i, i < S.2.1 6 → f i &&& nI 255 = nI (S.2.2.2 5 i)) (h0 : pOK0 S) :
    RD G (mu w.1 r r (rdS ta mt (twA S)), w.2) r mt ta (twA S) tz ∧ FR2 r mt w (mu w.1 r r (rdS ta mt (twA S)), w.2) := by
  have hn : r ≠ mt := fun z => by
    have := hT.1
    rw [← z, hr] at this
    cases this
  have hF : FR r w (mu w.1 r r (rdS ta mt (twA S)), w.2) := FR.upd hr (fun z => by have : (7 : Nat) ≤ 5 := z.1; omega)
  have hp := pOK_0 h0
  refine ⟨⟨hw.upd hr, mu_s, hT.fr hF (Ne.symm hn), ⟨σ, f, hF.2 _ _ _ hta (Or.inl h1), h1, h2, fun i hi => ?_⟩, advS_ok hp, ?_, advS_v hp⟩, FR2.ofR hF⟩
  · have e6 : (twA S).2.1 6 = S.2.1 6 := advS_6 _
    have e5 : (twA S).2.2.2 5 = S.2.2.2 5 := congrArg (fun z => z.2 5) (advS_t _)
    rw [e6] at hi
    rw [e5]
    exact hf i hi
  · show (advS _).1 8 < 0
    rw [advS_8]
    show (-1 : Int32) < 0
    decide
theorem nx_first {ta mt : Nat} {S : ms_T} (h0 : pOK0 S) : nxE ta mt (S.2.2.2 5) (S.2.1 6) 0 = rdS ta mt (twA S) := nx_adv (S := sF (sN (sB S 7 (fun _ => 0)) 9 0) 8 (-1)) (pOK_0 h0)
theorem J.ce {G : gl_T} {k : KX} {w : wd_T} {lv : List (Nat × Value)} {pc ce sl ce' sl' : Nat} {st : List Value} (h : J G k w lv pc st ce sl) (e1 : ce' = ce) (e2 : sl' = sl) : J G k w lv pc st ce' sl' := by
  subst e1
  subst e2
  exact h
/-! ===== the class: the whole text ===== -/
set_option maxRecDepth 100000
theorem twD_g {S R1 R2 : ms_T} {m n : Nat} (h : ¬ (takS (twC S) (decide ((twC S).2.1 11 = 3)) 1).1 8 < 0) (h1 : rcL m (twG S) = some R1) (h2 : rsL n R1 = some R2) : fe (twH R2) (takS (twC S) (decide ((twC S).2.1 11 = 3)) 1) := by
  have e : twD S = takS (twC S) (decide ((twC S).2.1 11 = 3)) 1 := by unfold twD; rfl
  rw [← e] at h ⊢
  exact al_g (tw_D h) h h1 h2
theorem twF_g {S R1 R2 : ms_T} {m n : Nat} (h : ¬ (takS (twE S) (decide ((twE S).2.1 11 = 4)) 1).1 8 < 0) (h1 : rcL m (twG S) = some R1) (h2 : rsL n R1 = some R2) : fe (twH R2) (takS (twE S) (decide ((twE S).2.1 11 = 4)) 1) := by
  have e : twF S = takS (twE S) (decide ((twE S).2.1 11 = 4)) 1 := by unfold twF; rfl
  rw [← e] at h ⊢
  exact al_g (tw_F h) h h1 h2
theorem twG_g {S R1 R2 : ms_T} {m n : Nat} (hp : pOK (twF S)) (h8 : (twF S).1 8 < 0) (h : ¬ ((twF S).2.1 11 = 1 ∧ 0 < kndN ((twF S).1 12))) (h1 : rcL m (twG S) = some R1) (h2 : rsL n R1 = some R2) : fe (twH R2) (sN (sF (twF S) 8 (nI ((twF S).2.1 10))) 7 1) := by
  have e : twG S = sN (sF (twF S) 8 (nI ((twF S).2.1 10))) 7 1 := by
    unfold twG
    rw [if_pos ⟨h8, h⟩]
    exact takS_n h8
  exact al_g (fe.of e) (flt_8 hp 1) h1 h2
theorem all_ok {G : gl_T} {w w' : wd_T} {r mt ta rate : Nat} {R2 : ms_T} (h8 : R2.1 8 < 0) (hH : twH R2 = R2) (hd : drI rate R2) (hR : RD G w' r mt ta R2 (uN (uN (mdR R2) 0 rate) 5 (2 ^ R2.2.2.2 7 25 - 1))) (hF : FR2 r mt w w') : rdP G r mt ta w (twH R2) ((twH R2).2.2.2 7) none (.returned none) w' := by
  rw [hH]
  have e : uN (uN (mdR R2) 0 rate) 5 (2 ^ R2.2.2.2 7 25 - 1) = R2.2.2.2 7 := by
    funext i
    by_cases z5 : i = 5
    · subst z5
      rw [uN_s]
      have := hd.2.1
      omega
    · rw [uN_n z5]
      by_cases z0 : i = 0
      · subst z0
        rw [uN_s]
        exact hd.2.2.symm
      · rw [uN_n z0]
        exact mdR_n R2 z0 z5
  rw [e] at hR
  exact rdP.ok h8 hR hF
set_option maxHeartbeats 1000000 in
theorem kX5_all_e (G : gl_T) (hG : GH G) (hE : GE G) (hS : GS G) (w : wd_T) (r mt ta : Nat) (rate : Nat) (R1 R2 : ms_T) (k : KX) (C : Cx G k cX5_all "MoodFare$Reader" "all" 2 none 6 144 1124 (rdP G r mt ta w (twH R2) ((twH R2).2.2.2 7) none)) (hx : xtab (k_c k) = []) (w2 : wd_T) (hR : RD G w2 r mt ta R2 (mdR R2)) (hd : drI rate R2) (hF : FR2 r mt w w2) : J G k w2 [(1, .int (nI rate)), (0, .ref r)] 128 [] (8 + 9 * R2.2.2.2 7 6 + 8 * R2.2.2.2 7 25) (64 + 68 * R2.2.2.2 7 6 + 64 * R2.2.2.2 7 25) := by
  have h8 := hR.2.2.2.2.2.1
  have hp := hR.2.2.2.2.1
  have hp6 := hp.2.2.2.2.2.1
  have hp25 := hp.2.2.2.2.2.2.1
  have htk := tkC_le (R2.2.1 11)
  refine j_aload_n C dX5_all_128 rfl 1 rfl ?_
  refine j_aload_n C dX5_all_129 rfl 1 rfl ?_
  refine j_get (w := w2) C in_X5 (ci := 5) (T := TX5) rfl hR.2.1 3 (by decide) q516 (fun _ z => z) (v := .int (nI (tkC (R2.2.1 11)))) rfl dX5_all_130 ?_
  refine j_if_neN C 140 dX5_all_133 (by decide) (by first | omega | exact Nat.one_le_two_pow | exact Nat.pow_pos (by decide)) (fun c133 => ?_) (fun c133 => ?_)
  · refine j_iconst (v := nI 0) C dX5_all_140 rfl ?_
    refine j_iconst (v := nI 1) C dX5_all_141 rfl ?_
    refine j_in (w := w2) C (iv_V C (ci := 5) (Tt := TX5) hR.2.1 rfl (Or.inr ⟨rfl, q561⟩) 2 q558 q560 qs10 (by decide +kernel) rfl rfl dX5_all_142) (kX5_must_F G w2 hG hE r r ta (R2.2.1 6) (R2.2.1 9) (tkC (R2.2.1 11)) (R2.2.1 10) mt 1 (vaC R2) hR.2.1 hR.ne.2.2) (Or.inr ⟨rfl, q561⟩) (by decide +kernel) (by decide) (by decide) (Nat.le_of_ble_eq_true rfl) (by omega) (by omega) (fun v w1 h1 => h1.no) ?_
    rintro a1 w1 ⟨h1, rfl⟩
    cases h1
    exact jt_out C hx (by intro x h; simp at h) (by omega) (by omega) (rdP.flt2 hR hF (fe.of (by unfold twH; rw [if_pos ⟨h8, fun z => c133 (tkC_0.mpr z)⟩]; exact takS_n h8)))
  · refine j_iconst (v := nI 1) C dX5_all_136 rfl ?_
    refine j_goto C 141 dX5_all_137 (by decide) ?_
    refine j_iconst (v := nI 1) C dX5_all_141 rfl ?_
    refine j_in (w := w2) C (iv_V C (ci := 5) (Tt := TX5) hR.2.1 rfl (Or.inr ⟨rfl, q561⟩) 2 q558 q560 qs10 (by decide +kernel) rfl rfl dX5_all_142) (kX5_must_T G w2 hG hE r r ta (R2.2.1 6) (R2.2.1 9) (tkC (R2.2.1 11)) (R2.2.1 10) mt 1 (vaC R2) hR.2.1 hR.ne.2.2) (Or.inr ⟨rfl, q561⟩) (by decide +kernel) (by decide) (by decide) (Nat.le_of_ble_eq_true rfl) (by omega) (by omega) (qV.k ?_) (fun _ _ h => pV.nt h)
    have h11 := tkC_0.mp c133
    obtain ⟨t7, ht7⟩ : ∃ z : Nat → Nat, z = mdR R2 := ⟨_, rfl⟩
    rw [← ht7] at hR
    refine j_aload_n C dX5_all_145 rfl 1 rfl ?_
    refine j_get (w := w2) C in_X5 (ci := 5) (T := TX5) rfl hR.2.1 6 (by decide) q519 (fun _ z => z) (v := .ref mt) rfl dX5_all_146 ?_
    refine j_iload_n C dX5_all_149 rfl 0 rfl ?_
    refine j_put (w := w2) C (ty0 := tyX2) in_X2 tyX2_ok nmX2 (ci := 2) (T := TX2) rfl hR.2.2.1.1 0 (by decide) q167 (fun _ z => z) rfl rfl rfl (fs' := [.int (nI rate), .int (nI (t7 1)), .int (nI (t7 4)), .int (nI (t7 2)), .int (nI (t7 3)), .ref (mt + 1), .ref (mt + 2), .int (nI (t7 25)), .ref (mt + 3), .ref (mt + 4), .int (nI (t7 5))]) (Nat.le_of_ble_eq_true rfl) rfl dX5_all_150 ?_
    refine j_abs (P := fun w' => RD G w' r mt ta R2 (uN t7 0 rate) ∧ FR2 r mt w2 w') ⟨RD.town hR (TN.sc (u := uN t7 0 rate) hR.2.2.1 (uN_n (by omega)) (fun i h1 h2 => uN_n (by omega))) (FR.upd hR.2.2.1.1 isC_TE) (hR.1.upd hR.2.2.1.1), FR2.ofM (FR.upd hR.2.2.1.1 isC_TE)⟩ (fun w21 hw21 => ?_)
    obtain ⟨hR21, hF21⟩ := hw21
    refine j_aload_n C dX5_all_153 rfl 1 rfl ?_
    refine j_get (w := w21) C in_X5 (ci := 5) (T := TX5) rfl hR21.2.1 6 (by decide) q519 (fun _ z => z) (v := .ref mt) rfl dX5_all_154 ?_
    refine j_iconst (v := nI 1) C dX5_all_157 rfl ?_
    refine j_aload_n C dX5_all_158 rfl 1 rfl ?_
    refine j_get (w := w21) C in_X5 (ci := 5) (T := TX5) rfl hR21.2.1 6 (by decide) q519 (fun _ z => z) (v := .ref mt) rfl dX5_all_159 ?_
    refine j_get (w := w21) C in_X2 (ci := 2) (T := TX2) rfl hR21.2.2.1.1 7 (by decide) q194 (fun _ z => z) (v := .int (nI ((uN t7 0 rate) 25))) rfl dX5_all_162 ?_
    refine j_as (y := nI (R2.2.2.2 7 25)) (by rw [ht7]; exact congrArg nI ((uN_n (by omega)).trans (mdR_n R2 (by omega) (by omega)))) ?_
    refine j_shl1 C dX5_all_165 (by first | omega | exact Nat.one_le_two_pow | exact Nat.pow_pos (by decide)) ?_
    refine j_iconst (v := nI 1) C dX5_all_166 rfl ?_
    refine j_isubN C dX5_all_167 (by first | omega | exact Nat.one_le_two_pow | exact Nat.pow_pos (by decide)) ?_
    refine j_put (w := w21) C (ty0 := tyX2) in_X2 tyX2_ok nmX2 (ci := 2) (T := TX2) rfl hR21.2.2.1.1 10 (by decide) q203 (fun _ z => z) rfl rfl rfl (fs' := [.int (nI ((uN t7 0 rate) 0)), .int (nI ((uN t7 0 rate) 1)), .int (nI ((uN t7 0 rate) 4)), .int (nI ((uN t7 0 rate) 2)), .int (nI ((uN t7 0 rate) 3)), .ref (mt + 1), .ref (mt + 2), .int (nI ((uN t7 0 rate) 25)), .ref (mt + 3), .ref (mt + 4), .int (nI ((2 ^ (R2.2.2.2 7 25)) - 1))]) (Nat.le_of_ble_eq_true rfl) rfl dX5_all_168 ?_
    refine j_abs (P := fun w' => RD G w' r mt ta R2 (uN (uN t7 0 rate) 5 ((2 ^ (R2.2.2.2 7 25)) - 1)) ∧ FR2 r mt w21 w') ⟨RD.town hR21 (TN.sc (u := uN (uN t7 0 rate) 5 ((2 ^ (R2.2.2.2 7 25)) - 1)) hR21.2.2.1 (uN_n (by omega)) (fun i h1 h2 => uN_n (by omega))) (FR.upd hR21.2.2.1.1 isC_TE) (hR21.1.upd hR21.2.2.1.1), FR2.ofM (FR.upd hR21.2.2.1.1 isC_TE)⟩ (fun w22 hw22 => ?_)
    obtain ⟨hR22, hF22⟩ := hw22
    exact j_vret C (by omega) (by omega) (all_ok h8 (by have := h11; unfold twH; rw [if_neg (fun z => z.2 h11)]) hd (by rw [← ht7]; exact hR22) ((hF.trans hF21).trans hF22)) dX5_all_171
set_option maxHeartbeats 1000000 in
theorem kX5_all_x (G : gl_T) (hG : GH G) (hE : GE G) (hS : GS G) (w : wd_T) (r mt ta : Nat) (rate : Nat) (R1 R2 : ms_T) (k : KX) (C : Cx G k cX5_all "MoodFare$Reader" "all" 2 none 6 144 1124 (rdP G r mt ta w (twH R2) ((twH R2).2.2.2 7) none)) (hx : xtab (k_c k) = []) : ∀ (n : Nat) (X : ms_T) (w1 : wd_T), rsL n X = some R2 → RD G w1 r mt ta X (mdR X) → drI rate X → FR2 r mt w w1 → J G k w1 [(1, .int (nI rate)), (0, .ref r)] 111 [] (8 + 9 * X.2.2.2 7 6 + 8 * X.2.2.2 7 25) (64 + 68 * X.2.2.2 7 6 + 64 * X.2.2.2 7 25) := by
  intro n
  induction n with
  | zero => intro X w1 hX; cases hX
  | succ n ih =>
    intro X w1 hX hR hd hF
    have h8 := hR.2.2.2.2.2.1
    have hp := hR.2.2.2.2.1
    have hp6 := hp.2.2.2.2.2.1
    have hp25 := hp.2.2.2.2.2.2.1
    refine j_aload_n C dX5_all_111 rfl 1 rfl ?_
    refine j_iconst (v := nI 1) C dX5_all_112 rfl ?_
    refine j_bipush (v := nI 120) C dX5_all_113 rfl ?_
    obtain ⟨σ21, f21, ht21, -, -, hf21⟩ := hR.2.2.2.1
    refine j_callV (w := w1) C (kX5_is G w1 r r ta (X.2.1 6) (X.2.1 9) (tkC (X.2.1 11)) (X.2.1 10) mt σ21 (vaC X) f21 (X.2.2.2 5) hR.2.1 ht21 hR.2.2.2.2.1.1 (Nat.le_trans hR.2.2.2.2.1.2.1 hR.2.2.2.2.1.1) hf21 1 (nI 120) (by have := tkC_le (X.2.1 11); omega) (by decide)) pI.ret (ci := 5) (T := TX5) hR.2.1 rfl 2 q554 q556 qs9 q84 q557 (by decide +kernel) rfl (by decide) (by decide) (Nat.le_of_ble_eq_true rfl) rfl dX5_all_115 (by omega) (by omega) (qI.k ?_)
    refine j_if_eqB C 128 dX5_all_118 (by decide) (fun c118 => ?_) (fun c118 => ?_)
    · have e : rsG X = false := by unfold rsG; rw [decide_eq_true h8, ← is_l, c118]; rfl
      have e2 : some X = some R2 := by rw [← hX]; show _ = (if rsG X then _ else _); rw [e]; rfl
      obtain rfl := Option.some.inj e2
      exact kX5_all_e G hG hE hS w r mt ta rate R1 X k C hx w1 hR hd hF
    · have e : rsG X = true := by unfold rsG; rw [decide_eq_true h8, ← is_l, c118]; rfl
      have hX2 : rsL n (rsS X) = some R2 := by rw [← hX]; show _ = (if rsG X then _ else _); rw [e]; rfl
      refine j_aload_n C dX5_all_121 rfl 1 rfl ?_
      refine j_in (w := w1) C (iv_V C (ci := 5) (Tt := TX5) hR.2.1 rfl (Or.inr ⟨rfl, q833⟩) 0 q830 q832 qs17 (by decide +kernel) rfl rfl dX5_all_122) (kX5_street G hG hE w1 r mt ta X hR hd.1) (Or.inr ⟨rfl, q833⟩) (by decide +kernel) (by decide) (by decide) (Nat.le_of_ble_eq_true rfl) (by omega) (by omega) (rdP.k (fun w22 h822 hR22 hF22 => ?_)) (fun a1 w1 h1 => jt_out C hx (by intro x h; simp at h) (by omega) (by omega) (rdP.up2 hF (fun h => fe.of (al_x h hX2)) h1))
      have hdr := drI_rs hp hd h822
      refine j_goto C 111 dX5_all_125 (by decide) ?_
      refine J.ce (ih (rsS X) w22 hX2 hR22 hdr.1 (hF.trans hF22)) (by rw [hdr.2.1, hdr.2.2]; omega) (by rw [hdr.2.1, hdr.2.2]; omega)
set_option maxHeartbeats 1000000 in
theorem kX5_all_c0 (G : gl_T) (hG : GH G) (hE : GE G) (hS : GS G) (w : wd_T) (r mt ta : Nat) (rate : Nat) (R1 R2 : ms_T) (k : KX) (C : Cx G k cX5_all "MoodFare$Reader" "all" 2 none 6 144 1124 (rdP G r mt ta w (twH R2) ((twH R2).2.2.2 7) none)) (hx : xtab (k_c k) = []) (nx : Nat) (hX : rsL nx R1 = some R2) : ∀ (n : Nat) (X : ms_T) (w1 : wd_T), rcL n X = some R1 → RD G w1 r mt ta X (mdR X) → drI rate X → FR2 r mt w w1 → J G k w1 [(1, .int (nI rate)), (0, .ref r)] 84 [] (8 + 9 * X.2.2.2 7 6 + 8 * X.2.2.2 7 25) (64 + 68 * X.2.2.2 7 6 + 64 * X.2.2.2 7 25) := by
  intro n
  induction n with
  | zero => intro X w1 hC; cases hC
  | succ n ih =>
    intro X w1 hC hR hd hF
    have h8 := hR.2.2.2.2.2.1
    have hp := hR.2.2.2.2.1
    have hp6 := hp.2.2.2.2.2.1
    have hp25 := hp.2.2.2.2.2.2.1
    refine j_aload_n C dX5_all_84 rfl 1 rfl ?_
    refine j_get (w := w1) C in_X5 (ci := 5) (T := TX5) rfl hR.2.1 3 (by decide) q516 (fun _ z => z) (v := .int (nI (tkC (X.2.1 11)))) rfl dX5_all_85 ?_
    refine j_iconst (v := nI 1) C dX5_all_88 rfl ?_
    refine j_icmp_neN C 111 dX5_all_89 (by decide) (by first | omega | (have := tkC_le (X.2.1 11); omega)) (by first | omega | (have := tkC_le (X.2.1 11); omega)) (fun c89 => ?_) (fun c89 => ?_)
    · have e : rcG X = false := by unfold rcG; rw [decide_eq_true h8]; rw [decide_eq_false (fun z => c89 (tkC_1.mpr z))]; rfl
      have e2 : some X = some R1 := by rw [← hC]; show _ = (if rcG X then _ else _); rw [e]; rfl
      obtain rfl := Option.some.inj e2
      exact kX5_all_x G hG hE hS w r mt ta rate X R2 k C hx nx X w1 hX hR hd hF
    · have h11 := tkC_1.mp c89
      obtain ⟨v, hv1, hv2, hve⟩ := hR.2.2.2.2.2.2.2.1 h11
      have hva : vaC X = nI v := by unfold vaC; rw [if_neg (by omega)]; exact hve
      refine j_ldcS C hS dX5_all_92 ?_
      refine j_aload_n C dX5_all_94 rfl 1 rfl ?_
      refine j_get (w := w1) C in_X5 (ci := 5) (T := TX5) rfl hR.2.1 5 (by decide) q518 (fun _ z => z) (v := .int (vaC X)) rfl dX5_all_95 ?_
      refine j_as (y := nI v) hva ?_
      refine j_callVS (w := w1) C hS (kJ7_indexOf G w1 hS v (by omega)) pI.ret 1 q599 q600 q601 q78 q602 (by decide +kernel) rfl (by decide) (by decide) (Nat.le_of_ble_eq_true rfl) rfl dX5_all_98 (by omega) (by omega) (qI.k ?_)
      refine j_if_lt C 111 dX5_all_101 (by decide) (fun c101 => ?_) (fun c101 => ?_)
      · have e : rcG X = false := by unfold rcG; rw [decide_eq_true h8]; rw [decide_eq_true h11, hve, decide_eq_false (fun z => absurd ((ix_kn (v := v) (by omega)).1 z).2 (Int32.not_le.mpr c101))]; rfl
        have e2 : some X = some R1 := by rw [← hC]; show _ = (if rcG X then _ else _); rw [e]; rfl
        obtain rfl := Option.some.inj e2
        exact kX5_all_x G hG hE hS w r mt ta rate X R2 k C hx nx X w1 hX hR hd hF
      · have hkp : 0 < kndN (X.1 12) := by rw [hve]; exact Nat.pos_of_ne_zero (fun z0 => c101 ((ix_kn (v := v) (by omega)).2 z0))
        have e : rcG X = true := by unfold rcG; rw [decide_eq_true h8, decide_eq_true h11, decide_eq_true hkp]; rfl
        have hC2 : rcL n (rcS X) = some R1 := by rw [← hC]; show _ = (if rcG X then _ else _); rw [e]; rfl
        refine j_aload_n C dX5_all_104 rfl 1 rfl ?_
        refine j_in (w := w1) C (iv_V C (ci := 5) (Tt := TX5) hR.2.1 rfl (Or.inr ⟨rfl, q688⟩) 0 q685 q687 qs13 (by decide +kernel) rfl rfl dX5_all_105) (kX5_corner G hG hE hS w1 r mt ta X hR ⟨h11, hkp⟩) (Or.inr ⟨rfl, q688⟩) (by decide +kernel) (by decide) (by decide) (Nat.le_of_ble_eq_true rfl) (by omega) (by omega) (rdP.k (fun w21 h821 hR21 hF21 => ?_)) (fun a1 w1 h1 => jt_out C hx (by intro x h; simp at h) (by omega) (by omega) (rdP.up2 hF (fun h => fe.of (al_c h hC2 hX)) h1))
        have hdr := drI_rc hp hd h821
        refine j_goto C 84 dX5_all_108 (by decide) ?_
        refine J.ce (ih (rcS X) w21 hC2 hR21 hdr.1 (hF.trans hF21)) (by rw [hdr.2.1, hdr.2.2]; omega) (by rw [hdr.2.1, hdr.2.2]; omega)
set_option maxHeartbeats 2000000 in
theorem kX5_all (G : gl_T) (hG : GH G) (hE : GE G) (hS : GS G) (w : wd_T) (r mt ta : Nat) (S R1 R2 : ms_T) (nc nx σ : Nat) (f : Nat → Int32) (hC : rcL nc (twG S) = some R1) (hX : rsL nx R1 = some R2) (hw : WF w) (hr : w.1 r = some (r, rdE ta (S.2.1 6) 0 0 0 0 mt)) (hTN : TN G w mt tz) (hta : w.1 ta = some (σ, ai (gl_A G 1) 120 f)) (hs1 : σ ≠ r) (hs2 : σ ≠ mt) (hf : ∀ i, i < S.2.1 6 → f i &&& nI 255 = nI (S.2.2.2 5 i)) (h0 : pOK0 S)  : Mb G yX5_all cX5_all 2 none [] 6 [.ref r] w (rdP G r mt ta w (twH R2) ((twH R2).2.2.2 7) none) 144 1124 := by
  refine ⟨Nat.le_of_ble_eq_true rfl, fun k C hx => ?_⟩
  have C : Cx G k cX5_all "MoodFare$Reader" "all" 2 none 6 144 1124 _ := C
  have hne : r ≠ ta := by intro z; rw [← z, hr] at hta; cases hta
  refine j_aload_n C dX5_all_0 rfl 0 rfl ?_
  refine j_callV (w := w) C (kX5_next G w hG r r ta (S.2.1 6) 0 0 0 mt σ 0 f (S.2.2.2 5) hr hta hne h0.1 (Nat.zero_le _) h0.2.2.2 hf) pV.ret (ci := 5) (T := TX5) hr rfl 0 q540 q542 qs7 q84 q543 (by decide +kernel) rfl (by decide) (by decide) (Nat.le_of_ble_eq_true rfl) rfl dX5_all_1 (by omega) (by omega) (qV.k ?_)
  rw [nx_first h0]
  refine j_abs (P := fun w' => RD G w' r mt ta (twA S) tz ∧ FR2 r mt w w') (RD.first hw hr hTN hta hs1 hs2 hf h0) (fun w1 hw1 => ?_)
  obtain ⟨hR1, hF1⟩ := hw1
  have hpA := hR1.2.2.2.2.1
  have h8A := hR1.2.2.2.2.2.1
  refine j_aload_n C dX5_all_4 rfl 0 rfl ?_
  refine j_aload_n C dX5_all_5 rfl 0 rfl ?_
  refine j_iconst (v := nI 1) C dX5_all_6 rfl ?_
  refine j_bipush (v := nI 116) C dX5_all_7 rfl ?_
  obtain ⟨σ2, f2, ht2, -, -, hf2⟩ := hR1.2.2.2.1
  refine j_callV (w := w1) C (kX5_is G w1 r r ta ((twA S).2.1 6) ((twA S).2.1 9) (tkC ((twA S).2.1 11)) ((twA S).2.1 10) mt σ2 (vaC (twA S)) f2 ((twA S).2.2.2 5) hR1.2.1 ht2 hR1.2.2.2.2.1.1 (Nat.le_trans hR1.2.2.2.2.1.2.1 hR1.2.2.2.2.1.1) hf2 1 (nI 116) (by have := tkC_le ((twA S).2.1 11); omega) (by decide)) pI.ret (ci := 5) (T := TX5) hR1.2.1 rfl 2 q554 q556 qs9 q84 q557 (by decide +kernel) rfl (by decide) (by decide) (Nat.le_of_ble_eq_true rfl) rfl dX5_all_9 (by omega) (by omega) (qI.k ?_)
  refine j_iconst (v := nI 1) C dX5_all_12 rfl ?_
  cases hb13 : decide ((tkC ((twA S).2.1 11)) = 1) && decide ((vaC (twA S)) = (nI 116))
  · refine j_in (w := w1) C (iv_V C (ci := 5) (Tt := TX5) hR1.2.1 rfl (Or.inr ⟨rfl, q561⟩) 2 q558 q560 qs10 (by decide +kernel) rfl rfl dX5_all_13) (kX5_must_F G w1 hG hE r r ta ((twA S).2.1 6) ((twA S).2.1 9) (tkC ((twA S).2.1 11)) ((twA S).2.1 10) mt 1 (vaC (twA S)) hR1.2.1 hR1.ne.2.2) (Or.inr ⟨rfl, q561⟩) (by decide +kernel) (by decide) (by decide) (Nat.le_of_ble_eq_true rfl) (by omega) (by omega) (fun v w1 h1 => h1.no) ?_
    rintro a1 w1 ⟨h1, rfl⟩
    cases h1
    exact jt_out C hx (by intro x h; simp at h) (by omega) (by omega) (rdP.flt2 hR1 ((FR2.refl r mt w).trans hF1) (al_g (tw_B (by unfold twB; rw [← is_l, hb13, takS_n h8A]; exact flt_8 hpA 1) |>.trans (fe.of (by unfold twB; rw [← is_l, hb13]; exact takS_n h8A))) (flt_8 hpA 1) hC hX))
  · refine j_in (w := w1) C (iv_V C (ci := 5) (Tt := TX5) hR1.2.1 rfl (Or.inr ⟨rfl, q561⟩) 2 q558 q560 qs10 (by decide +kernel) rfl rfl dX5_all_13) (kX5_must_T G w1 hG hE r r ta ((twA S).2.1 6) ((twA S).2.1 9) (tkC ((twA S).2.1 11)) ((twA S).2.1 10) mt 1 (vaC (twA S)) hR1.2.1 hR1.ne.2.2) (Or.inr ⟨rfl, q561⟩) (by decide +kernel) (by decide) (by decide) (Nat.le_of_ble_eq_true rfl) (by omega) (by omega) (qV.k ?_) (fun _ _ h => pV.nt h)
    refine j_aload_n C dX5_all_16 rfl 0 rfl ?_
    obtain ⟨σ3, f3, ht3, -, -, hf3⟩ := hR1.2.2.2.1
    refine j_callV (w := w1) C (kX5_next G w1 hG r r ta ((twA S).2.1 6) ((twA S).2.1 9) (tkC ((twA S).2.1 11)) ((twA S).2.1 10) mt σ3 (vaC (twA S)) f3 ((twA S).2.2.2 5) hR1.2.1 ht3 hR1.ne.1 hR1.2.2.2.2.1.1 hR1.2.2.2.2.1.2.1 hR1.2.2.2.2.1.2.2.2.2.1 hf3) pV.ret (ci := 5) (T := TX5) hR1.2.1 rfl 0 q540 q542 qs7 q84 q543 (by decide +kernel) rfl (by decide) (by decide) (Nat.le_of_ble_eq_true rfl) rfl dX5_all_17 (by omega) (by omega) (qV.k ?_)
    rw [nx_adv hR1.2.2.2.2.1]
    refine j_abs (P := fun w' => RD G w' r mt ta (advS (twA S)) tz ∧ FR2 r mt w1 w') hR1.next (fun w3 hw3 => ?_)
    obtain ⟨hR3, hF3⟩ := hw3
    have eB : advS (twA S) = twB S := by unfold twB; rw [← is_l, hb13]; exact (takS_y h8A).symm
    have hR4 : RD G w3 r mt ta (twB S) tz := eB ▸ hR3
    have hpB := hR4.2.2.2.2.1
    refine j_aload_n C dX5_all_20 rfl 0 rfl ?_
    refine j_iconst (v := nI 1) C dX5_all_21 rfl ?_
    refine j_bipush (v := nI 9) C dX5_all_22 rfl ?_
    refine j_in (w := w3) C (iv_V C (ci := 5) (Tt := TX5) hR4.2.1 rfl (Or.inr ⟨rfl, q593⟩) 2 q590 q592 qs11 (by decide +kernel) rfl rfl dX5_all_24) (kX5_figure G hG hE w3 r mt ta (twB S) tz hR4 (nI 1) (nI 9) (by decide)) (Or.inr ⟨rfl, q593⟩) (by decide +kernel) (by decide) (by decide) (Nat.le_of_ble_eq_true rfl) (by omega) (by omega) (rdP.k (fun w5 h85 hR5 hF5 => ?_)) (fun a1 w1 h1 => jt_out C hx (by intro x h; simp at h) (by omega) (by omega) (rdP.up2 (((FR2.refl r mt w).trans hF1).trans hF3) (fun h => al_g (tw_C0 h) h hC hX) h1))
    have hRc : RD G w5 r mt ta (twC S) tz := by unfold twC; exact RD.sb hR5 (pOK_d (figS_ok hpB) (by decide)) rfl
    generalize hrt : figV (twB S) (nI 1) (nI 9) = rate
    refine j_istore_n (lv' := [(1, .int (nI rate)), (0, .ref r)]) C dX5_all_27 rfl (by decide) rfl ?_
    refine j_aload_n C dX5_all_28 rfl 1 rfl ?_
    refine j_bipush (v := nI 44) C dX5_all_29 rfl ?_
    refine j_in (w := w5) C (iv_V C (ci := 5) (Tt := TX5) hRc.2.1 rfl (Or.inr ⟨rfl, q597⟩) 1 q594 q596 qs12 (by decide +kernel) rfl rfl dX5_all_31) (kX5_sign_3 G hG hE w5 r mt ta (twC S) tz hRc) (Or.inr ⟨rfl, q597⟩) (by decide +kernel) (by decide) (by decide) (Nat.le_of_ble_eq_true rfl) (by omega) (by omega) (rdP.k (fun w6 h86 hR6 hF6 => ?_)) (fun a1 w1 h1 => jt_out C hx (by intro x h; simp at h) (by omega) (by omega) (rdP.up2 ((((FR2.refl r mt w).trans hF1).trans hF3).trans hF5) (fun h => twD_g h hC hX) h1))
    have hR7 : RD G w6 r mt ta (twD S) tz := by unfold twD; exact hR6
    have hpD := hR7.2.2.2.2.1
    refine j_aload_n C dX5_all_34 rfl 1 rfl ?_
    refine j_get (w := w6) C in_X5 (ci := 5) (T := TX5) rfl hR7.2.1 6 (by decide) q519 (fun _ z => z) (v := .ref mt) rfl dX5_all_35 ?_
    refine j_aload_n C dX5_all_38 rfl 1 rfl ?_
    refine j_iconst (v := nI 0) C dX5_all_39 rfl ?_
    refine j_bipush (v := nI 9) C dX5_all_40 rfl ?_
    refine j_in (w := w6) C (iv_V C (ci := 5) (Tt := TX5) hR7.2.1 rfl (Or.inr ⟨rfl, q593⟩) 2 q590 q592 qs11 (by decide +kernel) rfl rfl dX5_all_42) (kX5_figure G hG hE w6 r mt ta (twD S) tz hR7 (nI 0) (nI 9) (by decide)) (Or.inr ⟨rfl, q593⟩) (by decide +kernel) (by decide) (by decide) (Nat.le_of_ble_eq_true rfl) (by omega) (by omega) (rdP.k (fun w8 h88 hR8 hF8 => ?_)) (fun a1 w1 h1 => jt_out C hx (by intro x h; simp at h) (by omega) (by omega) (rdP.up2 (((((FR2.refl r mt w).trans hF1).trans hF3).trans hF5).trans hF6) (fun h => al_g (tw_E0 h) h hC hX) h1))
    generalize hmd : figV (twD S) (nI 0) (nI 9) = mood
    refine j_put (w := w8) C (ty0 := tyX2) in_X2 tyX2_ok nmX2 (ci := 2) (T := TX2) rfl hR8.2.2.1.1 1 (by decide) q173 (fun _ z => z) rfl rfl rfl (fs' := [.int (nI (tz 0)), .int (nI mood), .int (nI (tz 4)), .int (nI (tz 2)), .int (nI (tz 3)), .ref (mt + 1), .ref (mt + 2), .int (nI (tz 25)), .ref (mt + 3), .ref (mt + 4), .int (nI (tz 5))]) (Nat.le_of_ble_eq_true rfl) rfl dX5_all_45 ?_
    refine j_abs (P := fun w' => RD G w' r mt ta (figS (twD S) (nI 0) (nI 9)) (uN tz 1 mood) ∧ FR2 r mt w8 w') ⟨RD.town hR8 (TN.sc (u := uN tz 1 mood) hR8.2.2.1 (uN_n (by omega)) (fun i h1 h2 => uN_n (by omega))) (FR.upd hR8.2.2.1.1 isC_TE) (hR8.1.upd hR8.2.2.1.1), FR2.ofM (FR.upd hR8.2.2.1.1 isC_TE)⟩ (fun w9 hw9 => ?_)
    obtain ⟨hR9, hF9⟩ := hw9
    have hRe : RD G w9 r mt ta (twE S) (uN tz 1 mood) := by unfold twE; exact RD.sb hR9 (pOK_d (figS_ok hpD) (by decide)) rfl
    refine j_aload_n C dX5_all_48 rfl 1 rfl ?_
    refine j_bipush (v := nI 59) C dX5_all_49 rfl ?_
    refine j_in (w := w9) C (iv_V C (ci := 5) (Tt := TX5) hRe.2.1 rfl (Or.inr ⟨rfl, q597⟩) 1 q594 q596 qs12 (by decide +kernel) rfl rfl dX5_all_51) (kX5_sign_4 G hG hE w9 r mt ta (twE S) (uN tz 1 mood) hRe) (Or.inr ⟨rfl, q597⟩) (by decide +kernel) (by decide) (by decide) (Nat.le_of_ble_eq_true rfl) (by omega) (by omega) (rdP.k (fun w10 h810 hR10 hF10 => ?_)) (fun a1 w1 h1 => jt_out C hx (by intro x h; simp at h) (by omega) (by omega) (rdP.up2 (((((((FR2.refl r mt w).trans hF1).trans hF3).trans hF5).trans hF6).trans hF8).trans hF9) (fun h => twF_g h hC hX) h1))
    have hR11 : RD G w10 r mt ta (twF S) (uN tz 1 mood) := by unfold twF; exact hR10
    rw [← hmd, md_F] at hR11
    have hpF := hR11.2.2.2.2.1
    have h8F := hR11.2.2.2.2.2.1
    have hvF := hR11.2.2.2.2.2.2
    have htkF := tkC_le ((twF S).2.1 11)
    have hdF := dr_F S
    refine j_aload_n C dX5_all_54 rfl 1 rfl ?_
    refine j_aload_n C dX5_all_55 rfl 1 rfl ?_
    refine j_get (w := w10) C in_X5 (ci := 5) (T := TX5) rfl hR11.2.1 3 (by decide) q516 (fun _ z => z) (v := .int (nI (tkC ((twF S).2.1 11)))) rfl dX5_all_56 ?_
    refine j_iconst (v := nI 1) C dX5_all_59 rfl ?_
    refine j_icmp_neN C 79 dX5_all_60 (by decide) (by first | omega | (have := tkC_le ((twF S).2.1 11); omega)) (by first | omega | (have := tkC_le ((twF S).2.1 11); omega)) (fun c60 => ?_) (fun c60 => ?_)
    · refine j_iconst (v := nI 0) C dX5_all_79 rfl ?_
      refine j_iconst (v := nI 1) C dX5_all_80 rfl ?_
      refine j_in (w := w10) C (iv_V C (ci := 5) (Tt := TX5) hR11.2.1 rfl (Or.inr ⟨rfl, q561⟩) 2 q558 q560 qs10 (by decide +kernel) rfl rfl dX5_all_81) (kX5_must_F G w10 hG hE r r ta ((twF S).2.1 6) ((twF S).2.1 9) (tkC ((twF S).2.1 11)) ((twF S).2.1 10) mt 1 (vaC (twF S)) hR11.2.1 hR11.ne.2.2) (Or.inr ⟨rfl, q561⟩) (by decide +kernel) (by decide) (by decide) (Nat.le_of_ble_eq_true rfl) (by omega) (by omega) (fun v w1 h1 => h1.no) ?_
      rintro a1 w1 ⟨h1, rfl⟩
      cases h1
      exact jt_out C hx (by intro x h; simp at h) (by omega) (by omega) (rdP.flt2 hR11 ((((((((FR2.refl r mt w).trans hF1).trans hF3).trans hF5).trans hF6).trans hF8).trans hF9).trans hF10) (twG_g hpF h8F (fun z => c60 (tkC_1.mpr z.1)) hC hX))
    · have h11 := tkC_1.mp c60
      obtain ⟨v, hv1, hv2, hve⟩ := hvF.2.1 h11
      have hva : vaC (twF S) = nI v := by unfold vaC; rw [if_neg (by omega)]; exact hve
      refine j_ldcS C hS dX5_all_63 ?_
      refine j_aload_n C dX5_all_65 rfl 1 rfl ?_
      refine j_get (w := w10) C in_X5 (ci := 5) (T := TX5) rfl hR11.2.1 5 (by decide) q518 (fun _ z => z) (v := .int (vaC (twF S))) rfl dX5_all_66 ?_
      refine j_as (y := nI v) hva ?_
      refine j_callVS (w := w10) C hS (kJ7_indexOf G w10 hS v (by omega)) pI.ret 1 q599 q600 q601 q78 q602 (by decide +kernel) rfl (by decide) (by decide) (Nat.le_of_ble_eq_true rfl) rfl dX5_all_69 (by omega) (by omega) (qI.k ?_)
      refine j_if_lt C 79 dX5_all_72 (by decide) (fun c72 => ?_) (fun c72 => ?_)
      · refine j_iconst (v := nI 0) C dX5_all_79 rfl ?_
        refine j_iconst (v := nI 1) C dX5_all_80 rfl ?_
        refine j_in (w := w10) C (iv_V C (ci := 5) (Tt := TX5) hR11.2.1 rfl (Or.inr ⟨rfl, q561⟩) 2 q558 q560 qs10 (by decide +kernel) rfl rfl dX5_all_81) (kX5_must_F G w10 hG hE r r ta ((twF S).2.1 6) ((twF S).2.1 9) (tkC ((twF S).2.1 11)) ((twF S).2.1 10) mt 1 (vaC (twF S)) hR11.2.1 hR11.ne.2.2) (Or.inr ⟨rfl, q561⟩) (by decide +kernel) (by decide) (by decide) (Nat.le_of_ble_eq_true rfl) (by omega) (by omega) (fun v w1 h1 => h1.no) ?_
        rintro a1 w1 ⟨h1, rfl⟩
        cases h1
        exact jt_out C hx (by intro x h; simp at h) (by omega) (by omega) (rdP.flt2 hR11 ((((((((FR2.refl r mt w).trans hF1).trans hF3).trans hF5).trans hF6).trans hF8).trans hF9).trans hF10) (twG_g hpF h8F (fun z => absurd ((ix_kn (v := v) (by omega)).1 (by rw [← hve]; exact z.2)).2 (Int32.not_le.mpr c72)) hC hX))
      · refine j_iconst (v := nI 1) C dX5_all_75 rfl ?_
        refine j_goto C 80 dX5_all_76 (by decide) ?_
        refine j_iconst (v := nI 1) C dX5_all_80 rfl ?_
        refine j_in (w := w10) C (iv_V C (ci := 5) (Tt := TX5) hR11.2.1 rfl (Or.inr ⟨rfl, q561⟩) 2 q558 q560 qs10 (by decide +kernel) rfl rfl dX5_all_81) (kX5_must_T G w10 hG hE r r ta ((twF S).2.1 6) ((twF S).2.1 9) (tkC ((twF S).2.1 11)) ((twF S).2.1 10) mt 1 (vaC (twF S)) hR11.2.1 hR11.ne.2.2) (Or.inr ⟨rfl, q561⟩) (by decide +kernel) (by decide) (by decide) (Nat.le_of_ble_eq_true rfl) (by omega) (by omega) (qV.k ?_) (fun _ _ h => pV.nt h)
        have eG : twG S = twF S := by unfold twG; rw [if_neg (fun z => z.2 ⟨h11, by have := (ix_kn (v := v) (by omega)).2; rw [← hve] at this; have c72 := c72; exact Nat.pos_of_ne_zero (fun z0 => c72 (this z0))⟩)]
        rw [eG] at hC
        refine j_lv [0, 1] (lv' := [(1, .int (nI rate)), (0, .ref r)]) rfl ?_
        exact J.ce (kX5_all_c0 G hG hE hS w r mt ta rate R1 R2 k C hx nx hX nc (twF S) w10 hC hR11 (by rw [← hrt]; exact hdF.1) ((((((((FR2.refl r mt w).trans hF1).trans hF3).trans hF5).trans hF6).trans hF8).trans hF9).trans hF10)) (by rw [hdF.2.1, hdF.2.2]) (by rw [hdF.2.1, hdF.2.2])
