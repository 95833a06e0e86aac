/-! ===== the four questions: how they are told, both ways ===== -/
set_option maxRecDepth 100000
def an4 (u v : Int32) (n : Nat) (b : Nat → Nat) (y r : Int32) : Prop := (y = -1 → r = u) ∧ (y = -2 → r = v) ∧ (∀ i, y = nI i → i < n → r = nI (b i)) ∧ (¬ y = -1 → ¬ y = -2 → nI n ≤ y → r = kNONE)
theorem nI_m1 {i : Nat} (h : i < 2 ^ 31) : ¬ nI i = -1 := fun z => by
  have := nI_pos' h
  rw [z] at this
  exact absurd this (by decide)
theorem nI_m2 {i : Nat} (h : i < 2 ^ 31) : ¬ nI i = -2 := fun z => by
  have := nI_pos' h
  rw [z] at this
  exact absurd this (by decide)
section AN4
variable {u v y : Int32} {n : Nat} {b : Nat → Nat}
theorem an4_1 (hn : n ≤ 8) (h : y = -1) : an4 u v n b y u := ⟨fun _ => rfl, fun z => absurd (h.symm.trans z) (by decide), fun i z hi => absurd (z.symm.trans h) (nI_m1 (by omega)), fun z => absurd h z⟩
theorem an4_2 (hn : n ≤ 8) (h : y = -2) : an4 u v n b y v := ⟨fun z => absurd (z.symm.trans h) (by decide), fun _ => rfl, fun i z hi => absurd (z.symm.trans h) (nI_m2 (by omega)), fun _ z => absurd h z⟩
theorem an4_3 (hn : n ≤ 8) {i : Nat} (h : y = nI i) (hi : i < n) : an4 u v n b y (nI (b i)) := ⟨fun z => absurd (h.symm.trans z) (nI_m1 (by omega)), fun z => absurd (h.symm.trans z) (nI_m2 (by omega)), fun j z hj => by
  obtain rfl : i = j := (nI_eq (by omega) (by omega)).mp (h.symm.trans z)
  rfl, fun _ _ z => by
  rw [h, nI_leI (by omega) (by omega)] at z
  omega⟩
theorem an4_4 (hn : n ≤ 8) (h1 : ¬ y = -1) (h2 : ¬ y = -2) (h3 : nI n ≤ y) : an4 u v n b y kNONE := ⟨fun z => absurd z h1, fun z => absurd z h2, fun j z hj => by
  rw [z, nI_leI (by omega) (by omega)] at h3
  omega, fun _ _ _ => rfl⟩
end AN4
section LWQ2
variable {S : ms_T} {V : fv_T} {R : Nat × ms_T} {b : Nat → Nat} {y r : Int32}
theorem to_C {p : Option (Nat × Nat)} (h : tiC p b R) (hw : RLw R.2 V) (ha0 : p = none → r = kNONE) (ha1 : ∀ c n, p = some (c, n) → an4 (nI c) (nI n) n b y r) : (R.2.1 27 = kNONE → kNONE = r ∧ RLw R.2 V) ∧ (¬ R.2.1 27 = kNONE → y = -1 → R.2.1 27 = r ∧ RLw R.2 V) ∧ (¬ R.2.1 27 = kNONE → y = -2 → nI (R.2.2.1 28) = r ∧ RLw R.2 V) ∧ (∀ j, ¬ R.2.1 27 = kNONE → y = nI j → j < R.2.2.1 28 → nI (R.2.2.2.2 17 j) = r ∧ RLw R.2 V) ∧ (¬ R.2.1 27 = kNONE → ¬ y = -1 → ¬ y = -2 → nI (R.2.2.1 28) ≤ y → kNONE = r ∧ RLw R.2 V) := by
  cases p with
  | none =>
    have h2 : R.2.1 27 = kNONE := h.2
    exact ⟨fun _ => ⟨(ha0 rfl).symm, hw⟩, fun z => absurd h2 z, fun z => absurd h2 z, fun _ z => absurd h2 z, fun z => absurd h2 z⟩
  | some xy =>
    obtain ⟨c, n⟩ := xy
    have ha := ha1 c n rfl
    obtain ⟨-, h1, h2, h3, h4⟩ := h
    have hn : ¬ nI c = kNONE := nI_NONE (by omega)
    rw [h1, h2]
    exact ⟨fun z => absurd z hn, fun _ z => ⟨(ha.1 z).symm, hw⟩, fun _ z => ⟨(ha.2.1 z).symm, hw⟩, fun j _ z hj => ⟨by rw [← h4 j hj]; exact (ha.2.2.1 j z hj).symm, hw⟩, fun _ z1 z2 z3 => ⟨(ha.2.2.2 z1 z2 z3).symm, hw⟩⟩
theorem to_D {st : Nat} {p : Option (Nat × Nat)} (h : tiD st p b R) (hw : RLw R.2 V) (ha0 : p = none → r = kNONE) (ha1 : ∀ c n, p = some (c, n) → an4 (nI c) (nI n) st b y r) : (R.2.1 27 = kNONE → kNONE = r ∧ RLw R.2 V) ∧ (¬ R.2.1 27 = kNONE → y = -1 → R.2.1 27 = r ∧ RLw R.2 V) ∧ (¬ R.2.1 27 = kNONE → y = -2 → nI (R.2.2.1 29) = r ∧ RLw R.2 V) ∧ (∀ j, ¬ R.2.1 27 = kNONE → y = nI j → j < R.2.2.1 28 → nI (R.2.2.2.2 17 j) = r ∧ RLw R.2 V) ∧ (¬ R.2.1 27 = kNONE → ¬ y = -1 → ¬ y = -2 → nI (R.2.2.1 28) ≤ y → kNONE = r ∧ RLw R.2 V) := by
  cases p with
  | none =>
    have h2 : R.2.1 27 = kNONE := h.2
    exact ⟨fun _ => ⟨(ha0 rfl).symm, hw⟩, fun z => absurd h2 z, fun z => absurd h2 z, fun _ z => absurd h2 z, fun z => absurd h2 z⟩
  | some xy =>
    obtain ⟨c, n⟩ := xy
    have ha := ha1 c n rfl
    obtain ⟨-, h1, h2, h5, h3, h4⟩ := h
    have hn : ¬ nI c = kNONE := nI_NONE (by omega)
    rw [h1, h2, h5]
    exact ⟨fun z => absurd z hn, fun _ z => ⟨(ha.1 z).symm, hw⟩, fun _ z => ⟨(ha.2.1 z).symm, hw⟩, fun j _ z hj => ⟨by rw [← h4 j hj]; exact (ha.2.2.1 j z hj).symm, hw⟩, fun _ z1 z2 z3 => ⟨(ha.2.2.2 z1 z2 z3).symm, hw⟩⟩
def an3 (n : Nat) (b : Nat → Nat) (y r : Int32) : Prop := (y = -1 → r = nI n) ∧ (∀ i, y = nI i → i < n → r = nI (b i)) ∧ (¬ y = -1 → nI n ≤ y → r = kNONE)
theorem an3_1 {n : Nat} (hn : n ≤ 8) (h : y = -1) : an3 n b y (nI n) := ⟨fun _ => rfl, fun i z hi => absurd (z.symm.trans h) (nI_m1 (by omega)), fun z => absurd h z⟩
theorem an3_3 {n i : Nat} (hn : n ≤ 8) (h : y = nI i) (hi : i < n) : an3 n b y (nI (b i)) := ⟨fun z => absurd (h.symm.trans z) (nI_m1 (by omega)), fun j z hj => by
  obtain rfl : i = j := (nI_eq (by omega) (by omega)).mp (h.symm.trans z)
  rfl, fun _ z => by
  rw [h, nI_leI (by omega) (by omega)] at z
  omega⟩
theorem an3_4 {n : Nat} (hn : n ≤ 8) (h1 : ¬ y = -1) (h3 : nI n ≤ y) : an3 n b y kNONE := ⟨fun z => absurd z h1, fun j z hj => by
  rw [z, nI_leI (by omega) (by omega)] at h3
  omega, fun _ _ => rfl⟩
theorem to_S {p : Option Nat} (h : tiS p b R) (hw : RLw R.2 V) (ha0 : p = none → r = kNONE) (ha1 : ∀ n, p = some n → an3 n b y r) : (R.2.1 27 = kNONE → kNONE = r ∧ RLw R.2 V) ∧ (¬ R.2.1 27 = kNONE → y = -1 → nI (R.2.2.1 28) = r ∧ RLw R.2 V) ∧ (∀ j, ¬ R.2.1 27 = kNONE → y = nI j → j < R.2.2.1 28 → nI (R.2.2.2.2 17 j) = r ∧ RLw R.2 V) ∧ (¬ R.2.1 27 = kNONE → ¬ y = -1 → nI (R.2.2.1 28) ≤ y → kNONE = r ∧ RLw R.2 V) := by
  cases p with
  | none =>
    have h2 : R.2.1 27 = kNONE := h.2
    exact ⟨fun _ => ⟨(ha0 rfl).symm, hw⟩, fun z => absurd h2 z, fun _ z => absurd h2 z, fun z => absurd h2 z⟩
  | some n =>
    have ha := ha1 n rfl
    obtain ⟨-, h1, h2, h4⟩ := h
    rw [h2]
    exact ⟨fun z => absurd z h1, fun _ z => ⟨(ha.1 z).symm, hw⟩, fun j _ z hj => ⟨by rw [← h4 j hj]; exact (ha.2.1 j z hj).symm, hw⟩, fun _ z1 z3 => ⟨(ha.2.2 z1 z3).symm, hw⟩⟩
theorem uN_self {t : Nat → Nat} {i : Nat} : uN t i (t i) = t := by
  funext j
  unfold uN
  by_cases h : j = i
  · rw [if_pos h, h]
  · rw [if_neg h]
theorem RLw.b8 (h : RLw S V) (f : Nat → Nat) (v : Int32) : RLw (sF (sB (bgnS S) 8 f) 27 v) V := h
theorem RLw.b0 (h : RLw S V) (v : Int32) : RLw (sF (bgnS S) 27 v) V := h
theorem RLw.bb (h : RLw S V) : RLw (bgnS S) V := h
/-- the rows of each question, judged both ways -/
theorem qu_C (hw : RLw S V) (ht : smT (S.2.2.2 6)) (j : Nat) (bs tr : Nat → Nat) (d : Nat) : ∃ (n : Nat) (R : Nat × ms_T), rowsL 8 (jdC j) n (0, sF (sB (bgnS S) 8 (uN (S.2.2.2 6) 5 (S.2.2.2 6 5))) 27 kNONE) 0 = some R ∧ R.2.2.1 28 ≤ 8 ∧ RLw R.2 V ∧ tiC (roC j (S.2.2.2 6) bs tr d).1 (roC j (S.2.2.2 6) bs tr d).2.1 R := by
  have h5 := ht.2.2.2.2.2.1
  have hs := stL_fnd (op := S.2.2.2 6 5) ht h5
  obtain ⟨N, R, h1, h2, h3⟩ := lw_top (q := (none, bs, tr, d)) (a := (0, sF (sB (bgnS S) 8 (uN (S.2.2.2 6) 5 (S.2.2.2 6 5))) 27 kNONE)) (Nat.le_refl 8) (jd_C j) hs ⟨hw.2.2.2.2.2.2.2.2.2.1, rfl⟩
  rw [uN_self] at h3
  exact ⟨N, R, h1, h3.1, (hw.b8 _ _).kp h2 h3.1, h3⟩
theorem qu_D (hw : RLw S V) (ht : smT (S.2.2.2 6)) (j : Nat) (hj : j ≤ 8) (bs tr : Nat → Nat) (d : Nat) : ∃ (n : Nat) (R : Nat × ms_T), rowsL j (jdD j) n (0, sF (bgnS S) 27 kNONE) 0 = some R ∧ R.2.2.1 28 ≤ 8 ∧ RLw R.2 V ∧ tiD j (rwF (btD j) j 0 0 (S.2.2.2 6) (none, bs, tr, d)).1 (rwF (btD j) j 0 0 (S.2.2.2 6) (none, bs, tr, d)).2.1 R := by
  obtain ⟨N, R, h1, h2, h3⟩ := lw_top (q := (none, bs, tr, d)) (a := (0, sF (bgnS S) 27 kNONE)) hj (jd_D j hj) (stL_bgn ht) ⟨hw.2.2.2.2.2.2.2.2.2.1, rfl⟩
  exact ⟨N, R, h1, h3.1, (hw.b0 _).kp h2 h3.1, h3⟩
theorem qu_M (hw : RLw S V) (ht : smT (S.2.2.2 6)) (j u : Nat) (hu : u ≤ 8) (bs tr : Nat → Nat) (d : Nat) : ∃ (n : Nat) (R : Nat × ms_T), rowsL u (jdM j u) n (0, bgnS S) 0 = some R ∧ RLw R.2 V ∧ R.1 = (rwF (btM j u) u 0 0 (S.2.2.2 6) (0, bs, tr, d)).1 := by
  obtain ⟨N, R, h1, h2, h3⟩ := lw_top (q := (0, bs, tr, d)) (a := (0, bgnS S)) hu (jd_M j u) (stL_bgn0 ht) ⟨hw.2.2.2.2.2.2.2.2.2.1, rfl⟩
  exact ⟨N, R, h1, hw.bb.kp h2 h3.1, h3.2⟩
theorem qu_S (hw : RLw S V) (ht : smT (S.2.2.2 6)) (j : Nat) (bs tr : Nat → Nat) (d : Nat) : ∃ (n : Nat) (R : Nat × ms_T), rowsL 8 (jdG j) n (0, sF (bgnS S) 27 kNONE) 0 = some R ∧ R.2.2.1 28 ≤ 8 ∧ RLw R.2 V ∧ tiS (rwF (btS j) 8 0 0 (S.2.2.2 6) (none, bs, tr, d)).1 (rwF (btS j) 8 0 0 (S.2.2.2 6) (none, bs, tr, d)).2.1 R := by
  obtain ⟨N, R, h1, h2, h3⟩ := lw_top (q := (none, bs, tr, d)) (a := (0, sF (bgnS S) 27 kNONE)) (Nat.le_refl 8) (jd_S j) (stL_bgn ht) ⟨hw.2.2.2.2.2.2.2.2.2.1, rfl⟩
  exact ⟨N, R, h1, h3.1, (hw.b0 _).kp h2 h3.1, h3⟩
theorem tiC_8 {p : Nat × Nat} (h : tiC (some p) b R) : p.2 ≤ 8 := by
  have := h.1
  obtain ⟨c, n⟩ := p
  have h2 := h.2.2.1
  show n ≤ 8
  omega
theorem tiS_8 {n : Nat} (h : tiS (some n) b R) : n ≤ 8 := by
  have := h.1
  have h2 := h.2.2.1
  omega
end LWQ2
section LW6
variable {S : ms_T} {V : fv_T}
theorem bad_q {j n : Nat} {z lo hi : Int32} (hn : n < 2 ^ 31) (hj : j < n) (hz : inB z lo hi = true) : ¬ (inB (nI j) (nI 0) (nI n - nI 1) = false ∨ inB z lo hi = false) := by
  rw [inB_pt hn hj, hz]
  simp
theorem bad_r {j n : Nat} {z lo hi : Int32} (hn : n < 2 ^ 31) (hj : j ≤ n) (hz : inB z lo hi = true) : ¬ (inB (nI j) (nI 0) (nI n) = false ∨ inB z lo hi = false) := by
  rw [inB_t hn (Nat.zero_le _) hj, hz]
  simp
theorem lw_cheapest (h : RL S V) (a0 a1 : Int32) : hc_cheapest V a0 a1 (fun r V1 => hm_cheapest S a0 a1 (fun r2 S2 => r2 = r ∧ RLw S2 V1)) := by
  obtain ⟨V1, V2, V3⟩ := V
  obtain ⟨hT, hw⟩ := h
  have hT : V2 = S.2.2.2 6 := hT
  subst hT
  have hk : okT (S.2.2.2 6) := hw.2.1.2
  have ht := hk.1
  have r6 : S.2.2.2 6 6 ≤ 6 := ht.2.2.2.2.2.2.1
  have r6v : ((V1, S.2.2.2 6, V3) : fv_T).2.1 6 ≤ 6 := r6
  refine ⟨fun c1 => ⟨fun _ => ⟨rfl, hw⟩, fun j e1 e2 e3 => ?_⟩, fun j bs tr d e1 e2 e3 => ?_⟩
  · subst e1
    exact absurd c1 (bad_q (by omega) e2 e3)
  · subst e1
    obtain ⟨N, R, k1, k2, k3, k4⟩ := qu_C hw ht j bs tr d
    have go : ∀ r, ((roC j (S.2.2.2 6) bs tr d).1 = none → r = kNONE) → (∀ c n, (roC j (S.2.2.2 6) bs tr d).1 = some (c, n) → an4 (nI c) (nI n) n (roC j (S.2.2.2 6) bs tr d).2.1 a1 r) → hm_cheapest S (nI j) a1 (fun r2 S2 => r2 = r ∧ RLw S2 (V1, S.2.2.2 6, V3)) := fun r z0 z1 => ⟨fun z => absurd z (bad_q (by omega) e2 e3), fun j2 e1 e4 e5 => by
      obtain rfl : j = j2 := (nI_eq (by omega) (by omega)).mp e1
      exact ⟨N, R, k1, k2, to_C k4 k3 z0 z1⟩⟩
    refine ⟨fun hp => go _ (fun _ => rfl) (fun c n z => by
      have hp2 := hp.symm.trans z
      cases hp2), fun c n hp => ?_⟩
    have n8 : n ≤ 8 := by rw [hp] at k4; exact tiC_8 k4
    exact ⟨fun e => go _ (fun z => by have hp2 := hp.symm.trans z; cases hp2) (fun c2 n2 z => by have hp2 := hp.symm.trans z; cases hp2; exact an4_1 n8 e), fun e => go _ (fun z => by have hp2 := hp.symm.trans z; cases hp2) (fun c2 n2 z => by have hp2 := hp.symm.trans z; cases hp2; exact an4_2 n8 e), fun i e hi => go _ (fun z => by have hp2 := hp.symm.trans z; cases hp2) (fun c2 n2 z => by have hp2 := hp.symm.trans z; cases hp2; exact an4_3 n8 e hi), fun e1 e2 e4 => go _ (fun z => by have hp2 := hp.symm.trans z; cases hp2) (fun c2 n2 z => by have hp2 := hp.symm.trans z; cases hp2; exact an4_4 n8 e1 e2 e4)⟩
theorem lw_dearest (h : RL S V) (a0 a1 : Int32) : hc_dearest V a0 a1 (fun r V1 => hm_dearest S a0 a1 (fun r2 S2 => r2 = r ∧ RLw S2 V1)) := by
  obtain ⟨V1, V2, V3⟩ := V
  obtain ⟨hT, hw⟩ := h
  have hT : V2 = S.2.2.2 6 := hT
  subst hT
  have hk : okT (S.2.2.2 6) := hw.2.1.2
  have ht := hk.1
  have r6 : S.2.2.2 6 6 ≤ 6 := ht.2.2.2.2.2.2.1
  have r6v : ((V1, S.2.2.2 6, V3) : fv_T).2.1 6 ≤ 6 := r6
  refine ⟨fun c0 => ⟨fun _ => ⟨rfl, hw⟩, fun z _ => absurd (show S.2.2.2 6 0 = 0 from c0) (by omega), fun j _ _ z _ => absurd (show S.2.2.2 6 0 = 0 from c0) (by omega)⟩, fun c0 c1 => ⟨fun z => absurd (show 0 < S.2.2.2 6 0 from c0) (by omega), fun _ _ => ⟨rfl, hw⟩, fun j e1 e2 _ e3 => ?_⟩, fun j bs tr d e1 e2 c0 e3 => ?_⟩
  · subst e1
    exact absurd c1 (bad_r (by omega) e2 e3)
  · subst e1
    obtain ⟨N, R, k1, k2, k3, k4⟩ := qu_D hw ht j e2 bs tr d
    have go : ∀ r, ((rwF (btD j) j 0 0 (S.2.2.2 6) (none, bs, tr, d)).1 = none → r = kNONE) → (∀ c n, (rwF (btD j) j 0 0 (S.2.2.2 6) (none, bs, tr, d)).1 = some (c, n) → an4 (nI c) (nI n) j (rwF (btD j) j 0 0 (S.2.2.2 6) (none, bs, tr, d)).2.1 a1 r) → hm_dearest S (nI j) a1 (fun r2 S2 => r2 = r ∧ RLw S2 (V1, S.2.2.2 6, V3)) := fun r z0 z1 => ⟨fun z => absurd (show 0 < S.2.2.2 6 0 from c0) (by omega), fun _ z => absurd z (bad_r (by omega) e2 e3), fun j2 e1 e4 _ e5 => by
      obtain rfl : j = j2 := (nI_eq (by omega) (by omega)).mp e1
      exact ⟨N, R, k1, k2, to_D k4 k3 z0 z1⟩⟩
    refine ⟨fun hp => go _ (fun _ => rfl) (fun c n z => by
      have hp2 := hp.symm.trans z
      cases hp2), fun c n hp => ?_⟩
    have n8 : j ≤ 8 := e2
    exact ⟨fun e => go _ (fun z => by have hp2 := hp.symm.trans z; cases hp2) (fun c2 n2 z => by have hp2 := hp.symm.trans z; cases hp2; exact an4_1 n8 e), fun e => go _ (fun z => by have hp2 := hp.symm.trans z; cases hp2) (fun c2 n2 z => by have hp2 := hp.symm.trans z; cases hp2; exact an4_2 n8 e), fun i e hi => go _ (fun z => by have hp2 := hp.symm.trans z; cases hp2) (fun c2 n2 z => by have hp2 := hp.symm.trans z; cases hp2; exact an4_3 n8 e hi), fun e1 e2 e4 => go _ (fun z => by have hp2 := hp.symm.trans z; cases hp2) (fun c2 n2 z => by have hp2 := hp.symm.trans z; cases hp2; exact an4_4 n8 e1 e2 e4)⟩
theorem lw_gets (h : RL S V) (a0 a1 : Int32) : hc_gets V a0 a1 (fun r V1 => hm_gets S a0 a1 (fun r2 S2 => r2 = r ∧ RLw S2 V1)) := by
  obtain ⟨V1, V2, V3⟩ := V
  obtain ⟨hT, hw⟩ := h
  have hT : V2 = S.2.2.2 6 := hT
  subst hT
  have hk : okT (S.2.2.2 6) := hw.2.1.2
  have ht := hk.1
  have r6 : S.2.2.2 6 6 ≤ 6 := ht.2.2.2.2.2.2.1
  have r6v : ((V1, S.2.2.2 6, V3) : fv_T).2.1 6 ≤ 6 := r6
  refine ⟨fun c0 => ⟨fun _ => ⟨rfl, hw⟩, fun z _ => absurd (show S.2.2.2 6 0 = 0 from c0) (by omega), fun j _ _ z _ => absurd (show S.2.2.2 6 0 = 0 from c0) (by omega)⟩, fun c0 c1 => ⟨fun z => absurd (show 0 < S.2.2.2 6 0 from c0) (by omega), fun _ _ => ⟨rfl, hw⟩, fun j e1 e2 _ e3 => ?_⟩, fun j bs tr d e1 e2 c0 e3 => ?_⟩
  · subst e1
    exact absurd c1 (bad_r (by omega) e2 e3)
  · subst e1
    obtain ⟨N, R, k1, k2, k3, k4⟩ := qu_S hw ht j bs tr d
    have go : ∀ r, ((rwF (btS j) 8 0 0 (S.2.2.2 6) (none, bs, tr, d)).1 = none → r = kNONE) → (∀ n, (rwF (btS j) 8 0 0 (S.2.2.2 6) (none, bs, tr, d)).1 = some n → an3 n (rwF (btS j) 8 0 0 (S.2.2.2 6) (none, bs, tr, d)).2.1 a1 r) → hm_gets S (nI j) a1 (fun r2 S2 => r2 = r ∧ RLw S2 (V1, S.2.2.2 6, V3)) := fun r z0 z1 => ⟨fun z => absurd (show 0 < S.2.2.2 6 0 from c0) (by omega), fun _ z => absurd z (bad_r (by omega) e2 e3), fun j2 e1 e4 _ e5 => by
      obtain rfl : j = j2 := (nI_eq (by omega) (by omega)).mp e1
      exact ⟨N, R, k1, k2, to_S k4 k3 z0 z1⟩⟩
    refine ⟨fun hp => go _ (fun _ => rfl) (fun n z => by
      have hp2 := hp.symm.trans z
      cases hp2), fun n hp => ?_⟩
    have n8 : n ≤ 8 := by rw [hp] at k4; exact tiS_8 k4
    exact ⟨fun e => go _ (fun z => by have hp2 := hp.symm.trans z; cases hp2) (fun n2 z => by have hp2 := hp.symm.trans z; cases hp2; exact an3_1 n8 e), fun i e hi => go _ (fun z => by have hp2 := hp.symm.trans z; cases hp2) (fun n2 z => by have hp2 := hp.symm.trans z; cases hp2; exact an3_3 n8 e hi), fun e1 e4 => go _ (fun z => by have hp2 := hp.symm.trans z; cases hp2) (fun n2 z => by have hp2 := hp.symm.trans z; cases hp2; exact an3_4 n8 e1 e4)⟩
theorem lw_moods (h : RL S V) (a0 a1 : Int32) : hc_moods V a0 a1 (fun r V1 => hm_moods S a0 a1 (fun r2 S2 => r2 = r ∧ RLw S2 V1)) := by
  obtain ⟨V1, V2, V3⟩ := V
  obtain ⟨hT, hw⟩ := h
  have hT : V2 = S.2.2.2 6 := hT
  subst hT
  have hk : okT (S.2.2.2 6) := hw.2.1.2
  have ht := hk.1
  have r6 : S.2.2.2 6 6 ≤ 6 := ht.2.2.2.2.2.2.1
  have r6v : ((V1, S.2.2.2 6, V3) : fv_T).2.1 6 ≤ 6 := r6
  refine ⟨fun c1 => ⟨fun _ => ⟨rfl, hw⟩, fun j u e1 e2 e3 e4 => ?_⟩, fun j u bs tr d e1 e2 e3 e4 => ⟨fun c1 => ?_, fun j2 u2 e5 e6 e7 e8 => ?_⟩⟩
  · subst e1
    subst e3
    exact absurd c1 (bad_q (by omega) e2 (inB_t (by omega) (Nat.zero_le _) e4))
  · subst e1
    subst e3
    exact absurd c1 (bad_q (by show S.2.2.2 6 6 < 2 ^ 31; omega) e2 (inB_t (by omega) (Nat.zero_le _) e4))
  · subst e1
    subst e3
    obtain rfl : j = j2 := (nI_eq (by have : j < S.2.2.2 6 6 := e2; omega) (by omega)).mp e5
    obtain rfl : u = u2 := (nI_eq (by omega) (by omega)).mp e7
    obtain ⟨N, R, k1, k2, k3⟩ := qu_M hw ht j u e4 bs tr d
    exact ⟨N, R, k1, congrArg nI k3, k2⟩
theorem lw_shut_ (h : RL S V) (a0 a1 a2 a3 : Int32) : hc_shut V a0 a1 a2 a3 (fun r V1 => hm_shut S a0 a1 a2 a3 (fun r2 S2 => r2 = r ∧ RLw S2 V1)) := by
  obtain ⟨V1, V2, V3⟩ := V
  obtain ⟨hT, hw⟩ := h
  have hT : V2 = S.2.2.2 6 := hT
  subst hT
  have hk : okT (S.2.2.2 6) := hw.2.1.2
  have ht := hk.1
  have r6 : S.2.2.2 6 6 ≤ 6 := ht.2.2.2.2.2.2.1
  have r6v : ((V1, S.2.2.2 6, V3) : fv_T).2.1 6 ≤ 6 := r6
  have r25 := ht.2.2.2.2.2.2.2.2.1
  have bad : ∀ {j qq cc u : Nat}, j < S.2.2.2 6 6 → qq ≤ 999 → cc ≤ 10 → u ≤ 1 → ¬ (inB (nI j) (nI 0) (nI (S.2.2.2 6 6) - nI 1) = false ∨ inB (nI qq) (nI 0) (nI 999) = false ∨ inB (nI cc) (nI 0) (nI 10) = false ∨ inB (nI u) (nI 0) (nI 1) = false) := fun e2 e4 e6 e8 z => by
    rw [inB_pt (by omega) e2, inB_t (by omega) (Nat.zero_le _) e4, inB_t (by omega) (Nat.zero_le _) e6, inB_t (by omega) (Nat.zero_le _) e8] at z
    simp at z
  refine ⟨fun c1 => ⟨fun _ => ⟨rfl, hw⟩, fun j qq cc u e1 e2 e3 e4 e5 e6 e7 e8 => ?_⟩, fun j qq cc u e1 e2 e3 e4 e5 e6 e7 e8 => ⟨fun c1 => ?_, fun j2 qq2 cc2 u2 f1 f2 f3 f4 f5 f6 f7 f8 => ?_⟩⟩
  · subst e1; subst e3; subst e5; subst e7
    exact absurd c1 (bad e2 e4 e6 e8)
  · subst e1; subst e3; subst e5; subst e7
    exact absurd c1 (bad e2 e4 e6 e8)
  · subst e1; subst e3; subst e5; subst e7
    obtain rfl : j = j2 := (nI_eq (by have : j < S.2.2.2 6 6 := e2; omega) (by omega)).mp f1
    obtain rfl : qq = qq2 := (nI_eq (by omega) (by omega)).mp f3
    obtain rfl : cc = cc2 := (nI_eq (by omega) (by omega)).mp f5
    obtain rfl : u = u2 := (nI_eq (by omega) (by omega)).mp f7
    obtain ⟨W, k1, k2, k3⟩ := lw_shut (j := j) (c := cc) (q := qq) ht hk.2.2.2 hw.2.2.2.2.2.2.2.2.2.1 e6 e4
    refine ⟨W, k1, ?_, hw.sc (k3 _)⟩
    show nI _ = nI ((if u = 0 then abG (S.2.2.2 6) j cc qq (S.2.2.2 6 5 + 1) else blG (S.2.2.2 6) cc (S.2.2.2 6 5 + 1)) / Nat.gcd (abG (S.2.2.2 6) j cc qq (S.2.2.2 6 5 + 1)) (blG (S.2.2.2 6) cc (S.2.2.2 6 5 + 1)))
    rw [k2, blG_belF e6 r25 hk.2.2.2]
end LW6
