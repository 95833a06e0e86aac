/-! ===== the class: the cheapest, the dearest, moods, the soonest ===== -/
set_option maxRecDepth 100000
theorem okC_bt {cr : Nat} {t : Nat → Nat} {n c : Nat} {p : Option (Nat × Nat)} (hp : okC p) (hn : n ≤ 8) (hc : c ≤ 2000) : okC (btC cr t n c p).2 := by
  have key : ∀ r : Bool × Option (Nat × Nat), (r = (true, some (c, n)) ∨ r = (false, p)) → okC r.2 := by
    intro r hr
    rcases hr with rfl | rfl
    · intro x y h
      simp at h
      omega
    · exact hp
  apply key
  cases p with
  | none =>
    by_cases z : t 4 = cr
    · exact Or.inl (by simp [btC, z])
    · exact Or.inr (by simp [btC, z])
  | some q =>
    obtain ⟨u, v⟩ := q
    by_cases z : t 4 = cr ∧ ¬ (u < c ∨ u = c ∧ v ≤ n)
    · exact Or.inl (if_pos z)
    · exact Or.inr (if_neg z)
theorem okD_bt {st : Nat} {t : Nat → Nat} {n c : Nat} {p : Option (Nat × Nat)} (hp : okC p) (hc : c ≤ 2000) (h4 : t 4 < 6) : okC (btD st t n c p).2 := by
  have key : ∀ r : Bool × Option (Nat × Nat), (r = (true, some (c, t 4)) ∨ r = (false, p)) → okC r.2 := by
    intro r hr
    rcases hr with rfl | rfl
    · intro x y h
      simp at h
      omega
    · exact hp
  apply key
  cases p with
  | none =>
    by_cases z : n < st
    · exact Or.inr (if_pos z)
    · exact Or.inl (if_neg z)
  | some q =>
    obtain ⟨u, v⟩ := q
    by_cases z : n < st ∨ c ≤ u
    · exact Or.inr (if_pos z)
    · exact Or.inl (if_neg z)
theorem okS_bt {md : Nat} {t : Nat → Nat} {n c : Nat} {p : Option Nat} (hp : okS p) (hn : n ≤ 8) : okS (btS md t n c p).2 := by
  have key : ∀ r : Bool × Option Nat, (r = (true, some n) ∨ r = (false, p)) → okS r.2 := by
    intro r hr
    rcases hr with rfl | rfl
    · intro x h
      simp at h
      omega
    · exact hp
  apply key
  cases p with
  | none =>
    by_cases z : t 1 = md
    · exact Or.inl (if_pos z)
    · exact Or.inr (if_neg z)
  | some q =>
    by_cases z : t 1 = md ∧ n < q
    · exact Or.inl (if_pos z)
    · exact Or.inr (if_neg z)
theorem FX.new {G : gl_T} {w0 w : wd_T} {x : Nat} {O : Nat → Prop} {V : fv_T} {Z : fz_T} {σ : Nat} {e : va_E} (h : FX G w0 w x O V Z) : FX G w0 (mu w.1 w.2 σ e, w.2 + 1) x O V Z := by
  obtain ⟨W, hA, hv⟩ := h
  exact ⟨W, hA.ext (fun b τ e hb => (mu_n (Nat.ne_of_lt (hA.wf b τ e hb))).trans hb) (Nat.le_succ _) hA.wf.new, hv⟩
/-- the answer's rows do not hang on the scratch -/
abbrev roC (j : Nat) (t : Nat → Nat) (bs tr : Nat → Nat) (d : Nat) : ro_T (Option (Nat × Nat)) := rwF (btC j) 8 0 0 t (none, bs, tr, d)
theorem wo_C (G : gl_T) (cr : Nat) (hcr : cr < 6) : WO G 12 (fsC cr) okC (btC cr) := by
  refine ⟨RX13, TX13, 3, yX13_isBetter, cX13_isBetter, 4, rfl, ⟨q1048, q1047, q1053, q1051, q1049, by decide⟩, q1050, q1052, q100, q1054, by decide, (fun t n c p hp hn hc h1 h4 => okC_bt hp hn hc), ?_⟩
  intro w b a t n c p hb ha hba hp hn hc h1 h4
  cases p with
  | none => exact kX13_isBetter_0 G w cr b a t n c hb ha hba hn hc h1 h4 hcr
  | some q =>
    obtain ⟨u, v⟩ := q
    exact kX13_isBetter_1 G w cr b a t n c u v hb ha hba hn hc h1 h4 hcr (hp u v rfl).1 (hp u v rfl).2
theorem wo_D (G : gl_T) (st : Nat) (hst : st ≤ 8) : WO G 13 (fsD st) okC (btD st) := by
  refine ⟨RX14, TX14, 3, yX14_isBetter, cX14_isBetter, 4, rfl, ⟨q1048, q1047, q1059, q1057, q1055, by decide⟩, q1056, q1058, q101, q1060, by decide, (fun t n c p hp hn hc h1 h4 => okD_bt hp hc h4), ?_⟩
  intro w b a t n c p hb ha hba hp hn hc h1 h4
  cases p with
  | none => exact kX14_isBetter_0 G w st b a t n c hb ha hba hn hc h1 h4 hst
  | some q =>
    obtain ⟨u, v⟩ := q
    exact kX14_isBetter_1 G w st b a t n c u v hb ha hba hn hc h1 h4 hst (hp u v rfl).1
theorem wo_M (G : gl_T) (cr st : Nat) (hcr : cr < 6) (hst : st ≤ 8) : WO G 14 (fsM cr st) (fun _ => True) (btM cr st) := by
  refine ⟨RX15, TX15, 3, yX15_isBetter, cX15_isBetter, 4, rfl, ⟨q1048, q1047, q1065, q1063, q1061, by decide⟩, q1062, q1064, q102, q1066, by decide, (fun _ _ _ _ _ _ _ _ _ => trivial), ?_⟩
  intro w b a t n c p hb ha hba hp hn hc h1 h4
  exact kX15_isBetter G w cr st p b a t n c hb ha hba hn hc h1 h4 hcr hst
theorem wo_S (G : gl_T) (md : Nat) (hmd : md ≤ 9) : WO G 15 (fsS md) okS (btS md) := by
  refine ⟨RX16, TX16, 2, yX16_isBetter, cX16_isBetter, 4, rfl, ⟨q1048, q1047, q1071, q1069, q1067, by decide⟩, q1068, q1070, q103, q1072, by decide, (fun t n c p hp hn hc h1 h4 => okS_bt hp hn), ?_⟩
  intro w b a t n c p hb ha hba hp hn hc h1 h4
  cases p with
  | none => exact kX16_isBetter_0 G w md b a t n c hb ha hba hn hc h1 h4 hmd
  | some q => exact kX16_isBetter_1 G w md b a t n c q hb ha hba hn hc h1 h4 hmd (hp q rfl)
set_option maxHeartbeats 400000 in
theorem kX0_cheapestTo (G : gl_T) (hG : GH G) (w0 w : wd_T) (x : Nat) (O : Nat → Prop) (V : fv_T) (Z : fz_T) (hF : FX G w0 w x O V Z) (cr : Nat) (hcr : cr < 6) (ht : smT Z.1) (h3 : Z.1 3 ≤ 1000) (hwf : ∀ y, y < Z.1 25 → Z.1 (26 + 2 * y + 1) < Z.1 6) (h25 : V.2.1 25 = Z.1 25) : Mt G yX0_cheapestTo cX0_cheapestTo 3 (some (.object "MoodFare$Cheapest")) 17 [.ref x, .int (nI cr)] w (pA (fun r w' => r = .ref w.2 ∧ ∃ Z', FX G w0 w' x O V Z' ∧ w'.1 w.2 = some (w.2, .inr (12, fsC cr (roC cr Z.1 Z.2.2.2.2 Z.2.2.2.1 Z.2.1).1)) ∧ Z'.1 = Z.1 ∧ Z'.2.2.2.2 = (roC cr Z.1 Z.2.2.2.2 Z.2.2.2.1 Z.2.1).2.1 ∧ okC (roC cr Z.1 Z.2.2.2.2 Z.2.2.2.1 Z.2.1).1)) 41 291 := by
  refine Mt.start (by decide) (Nat.le_of_ble_eq_true rfl) (fun k C => ?_)
  have C : Cx G k cX0_cheapestTo "MoodFare" "cheapestTo" 3 (some (.object "MoodFare$Cheapest")) 17 41 291 _ := C
  obtain ⟨W, hA, hv⟩ := id hF
  have hOb : ¬ O w.2 := fun z => by have := (hA.frO _ z).1; omega
  refine j_new (w := w) C w.2 (fs := [.int (nI 0), .int (nI 0), .int (nI 0)]) (ty := tyX13) in_X13 tyX13_ok (ci := 12) (T := TX13) rfl q1022 q1023 q100 (by decide) (by omega) (by omega) dX0_cheapestTo_0 ?_
  refine j_dup C dX0_cheapestTo_3 rfl ?_
  refine j_iload_n C dX0_cheapestTo_4 rfl 1 rfl ?_
  refine j_callI (w := ((mu w.1 w.2 w.2 (.inr (12, [.int (nI 0), .int (nI 0), .int (nI 0)]))), w.2 + 1)) C (kX13_init G ((mu w.1 w.2 w.2 (.inr (12, [.int (nI 0), .int (nI 0), .int (nI 0)]))), w.2 + 1) w.2 w.2 cr mu_s) pV.ret 1 q1024 q1025 q100 q1026 rfl (by decide +kernel) rfl (by decide) (by decide) (Nat.le_of_ble_eq_true rfl) rfl dX0_cheapestTo_5 (by omega) (by omega) (qV.k ?_)
  refine J.eq (w' := (mu w.1 w.2 w.2 (.inr (12, fsC cr none)), w.2 + 1)) ?_ (congrArg (fun z => (z, w.2 + 1)) mu_mu) rfl rfl
  refine j_abs (P := fun w' => FX G w0 w' x O V Z ∧ w'.1 w.2 = some (w.2, .inr (12, fsC cr none))) ⟨(FX.new ⟨W, hA, hv⟩), mu_s⟩ (fun w1 h1 => ?_)
  obtain ⟨⟨W1, hA1, hv1⟩, hb1⟩ := h1
  refine j_astore_n (lv' := [(2, .ref w.2), (0, .ref x), (1, .int (nI cr))]) C dX0_cheapestTo_8 rfl (by decide) rfl ?_
  refine j_aload_n C dX0_cheapestTo_9 rfl 1 rfl ?_
  refine j_iconst (v := nI 0) C dX0_cheapestTo_10 rfl ?_
  refine j_bipush (v := nI 8) C dX0_cheapestTo_11 rfl ?_
  refine j_iconst (v := nI 0) C dX0_cheapestTo_13 rfl ?_
  refine j_aload_n C dX0_cheapestTo_14 rfl 0 rfl ?_
  have hQd := rwF_d (bt := btC cr) 8 0 0 Z.1 (none, Z.2.2.2.2, Z.2.2.2.1, Z.2.1) 8 (by omega) (by have q := hA1.rid.2.2; rw [hv1.d] at q; exact q)
  refine j_callV (w := w1) C (kX0_rowsOf G hG w0 x O V w.2 12 (fsC cr) okC (btC cr) (wo_C G cr hcr) (by omega) hOb 8 w1 Z 0 8 0 none (by omega) (by omega) (by omega) (by omega) ht (by omega) hwf h25 ⟨W1, hA1, hv1⟩ hb1 (fun _ _ z => by cases z)) pV.ret (ci := 0) (T := TX0) (hA1.d0 hv1) rfl 4 q1041 q1043 qs25 q66 q1044 (by decide +kernel) rfl (by omega) (by omega) (Nat.le_of_ble_eq_true rfl) rfl dX0_cheapestTo_15 (by omega) (by omega) (pV.k (fun w2 h2 => ?_))
  obtain ⟨Z2, hX2, hb2, e21, e2d, e2t, e2b, -⟩ := h2
  obtain ⟨W2, hA2, hv2⟩ := id hX2
  refine j_aload_n C dX0_cheapestTo_18 rfl 0 rfl ?_
  exact j_aret C (by first | exact Or.inl ⟨_, rfl⟩ | exact Or.inr ⟨_, rfl⟩) (by first | exact Or.inl rfl | exact Or.inr ⟨_, rfl⟩) (by omega) (by omega) (pA.mk ⟨rfl, Z2, hX2, hb2, e21, e2b, rwF_ok (ok := okC) (fun t n c p hp hn hc h1 h4 => okC_bt hp hn hc) 8 0 0 Z.1 _ (by omega) (by omega) ht (by omega) (fun _ _ z => by cases z)⟩) dX0_cheapestTo_19
