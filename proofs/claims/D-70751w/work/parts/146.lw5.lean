section LW5
variable {S : ms_T} {V : fv_T}
theorem lw_undo (h : RL S V) : hc_undo V (fun r V1 => hm_undo S (fun r2 S2 => r2 = r ∧ RLw S2 V1)) := by
  have h0 := h
  obtain ⟨hT, hw⟩ := h
  have ht : smT (S.2.2.2 6) := by rw [← hT]; exact hw.2.1.2.1
  have hk : okT (S.2.2.2 6) := by rw [← hT]; exact hw.2.1.2
  obtain ⟨r0, r1, r2, r3, r4, r5, r6, -, r25, -⟩ := id ht
  have r999 := hk.2.2.1
  unfold hc_undo hm_undo
  simp only [hT]
  obtain ⟨⟨e0, e1, e2, e3, e4⟩, -⟩ := id hw
  simp only [e2]
  and_intros <;> intros <;> and_intros <;> intros <;> (try subst_vars) <;> (first | exact ⟨rfl, hw⟩ | exact ⟨rfl, (hw.undo (by assumption))⟩ | ((try simp (disch := omega) only [nI_eq, inB_i, inB_n1, decide_eq_false_iff_not, decide_eq_true_eq] at *) <;> (try subst_vars) <;> first | omega | contradiction | exact ⟨rfl, hw⟩ | exact ⟨rfl, (hw.undo (by assumption))⟩ | exact ⟨trivial, hw⟩ | exact ⟨trivial, (hw.undo (by assumption))⟩ | (exfalso; simp_all; done)))
theorem lw_image (h : RL S V) (a0 : Int32) : hc_image V a0 (fun r V1 => hm_image S a0 (fun r2 S2 => r2 = r ∧ RLw S2 V1)) := by
  have h0 := h
  obtain ⟨hT, hw⟩ := h
  have ht : smT (S.2.2.2 6) := by rw [← hT]; exact hw.2.1.2.1
  have hk : okT (S.2.2.2 6) := by rw [← hT]; exact hw.2.1.2
  obtain ⟨r0, r1, r2, r3, r4, r5, r6, -, r25, -⟩ := id ht
  have r999 := hk.2.2.1
  unfold hc_image hm_image
  simp only [hT]
  and_intros <;> intros <;> and_intros <;> intros <;> (try subst_vars) <;> (first | exact ⟨rfl, hw⟩ | exact ⟨rfl, (RLw.image h0 (by assumption))⟩ | ((try simp (disch := omega) only [nI_eq, inB_i, inB_n1, decide_eq_false_iff_not, decide_eq_true_eq] at *) <;> (try subst_vars) <;> first | omega | contradiction | exact ⟨rfl, hw⟩ | exact ⟨rfl, (RLw.image h0 (by assumption))⟩ | exact ⟨trivial, hw⟩ | exact ⟨trivial, (RLw.image h0 (by assumption))⟩ | (exfalso; simp_all; done)))
theorem lw_restore (h : RL S V) (a0 : Int32) : hc_restore V a0 (fun r V1 => hm_restore S a0 (fun r2 S2 => r2 = r ∧ RLw S2 V1)) := by
  have h0 := h
  obtain ⟨hT, hw⟩ := h
  have ht : smT (S.2.2.2 6) := by rw [← hT]; exact hw.2.1.2.1
  have hk : okT (S.2.2.2 6) := by rw [← hT]; exact hw.2.1.2
  obtain ⟨r0, r1, r2, r3, r4, r5, r6, -, r25, -⟩ := id ht
  have r999 := hk.2.2.1
  unfold hc_restore hm_restore
  simp only [hT]
  refine ⟨?_, ?_, ?_⟩
  · intro c1
    and_intros <;> intros <;> (try subst_vars) <;> (first | (exact ⟨by first | trivial | rfl, hw⟩; done) | ((try simp (disch := omega) only [nI_eq, inB_i, inB_n1, decide_eq_false_iff_not, decide_eq_true_eq] at *) <;> (try subst_vars) <;> (try simp (disch := omega) only [nI_eq, inB_i, inB_n1, decide_eq_false_iff_not, decide_eq_true_eq] at *) <;> (try subst_vars) <;> first | omega | contradiction | (exact ⟨by first | trivial | rfl, hw⟩; done) | (exfalso; simp_all; done)))
  · intro j c1 c2 c3
    have q := hw.im_n c2 c3
    and_intros <;> intros <;> (try subst_vars) <;> (first | (exact ⟨by first | trivial | rfl, hw⟩; done) | ((try simp (disch := omega) only [nI_eq, inB_i, inB_n1, decide_eq_false_iff_not, decide_eq_true_eq] at *) <;> (try subst_vars) <;> (try simp (disch := omega) only [nI_eq, inB_i, inB_n1, decide_eq_false_iff_not, decide_eq_true_eq] at *) <;> (try subst_vars) <;> first | omega | contradiction | (exact ⟨by first | trivial | rfl, hw⟩; done) | (exfalso; simp_all; done)))
  · intro j t c1 c2 c3
    have q := (hw.im_s c2 c3).1
    and_intros <;> intros <;> (try subst_vars) <;> (first | (exact ⟨by first | trivial | rfl, hw.rest (by assumption) (by assumption)⟩; done) | ((try simp (disch := omega) only [nI_eq, inB_i, inB_n1, decide_eq_false_iff_not, decide_eq_true_eq] at *) <;> (try subst_vars) <;> (try simp (disch := omega) only [nI_eq, inB_i, inB_n1, decide_eq_false_iff_not, decide_eq_true_eq] at *) <;> (try subst_vars) <;> first | omega | contradiction | (exact ⟨by first | trivial | rfl, hw.rest (by assumption) (by assumption)⟩; done) | (exfalso; simp_all; done)))
theorem lw_trace (h : RL S V) (a0 : Int32) : hc_trace V a0 (fun r V1 => hm_trace S a0 (fun r2 S2 => r2 = r ∧ RLw S2 V1)) := by
  have h0 := h
  obtain ⟨hT, hw⟩ := h
  have ht : smT (S.2.2.2 6) := by rw [← hT]; exact hw.2.1.2.1
  have hk : okT (S.2.2.2 6) := by rw [← hT]; exact hw.2.1.2
  obtain ⟨r0, r1, r2, r3, r4, r5, r6, -, r25, -⟩ := id ht
  have r999 := hk.2.2.1
  unfold hc_trace hm_trace
  simp only [hT]
  obtain ⟨⟨e0, e1, e2, e3, e4⟩, -⟩ := id hw
  have r31 := hw.2.2.2.2.2.2.2.2.2.2.1
  simp only [e4]
  refine ⟨?_, ?_⟩
  · intro c1
    and_intros <;> intros <;> (try subst_vars) <;> (first | (exact ⟨by first | trivial | rfl, hw⟩; done) | ((try simp (disch := omega) only [nI_eq, inB_i, inB_n1, decide_eq_false_iff_not, decide_eq_true_eq] at *) <;> (try subst_vars) <;> (try simp (disch := omega) only [nI_eq, inB_i, inB_n1, decide_eq_false_iff_not, decide_eq_true_eq] at *) <;> (try subst_vars) <;> first | omega | contradiction | (exact ⟨by first | trivial | rfl, hw⟩; done) | (exfalso; simp_all; done)))
  · intro j c1 c2
    have q := hw.2.2.2.2.2.2.1 j c2
    and_intros <;> intros <;> (try subst_vars) <;> (first | (exact ⟨(congrArg nI q).symm, hw⟩; done) | ((try simp (disch := omega) only [nI_eq, inB_i, inB_n1, decide_eq_false_iff_not, decide_eq_true_eq] at *) <;> (try subst_vars) <;> (try simp (disch := omega) only [nI_eq, inB_i, inB_n1, decide_eq_false_iff_not, decide_eq_true_eq] at *) <;> (try subst_vars) <;> first | omega | contradiction | (exact ⟨(congrArg nI q).symm, hw⟩; done) | (exfalso; simp_all; done)))
theorem lw_count (h : RL S V) (a0 : Int32) : hc_count V a0 (fun r V1 => hm_count S a0 (fun r2 S2 => r2 = r ∧ RLw S2 V1)) := by
  have h0 := h
  obtain ⟨hT, hw⟩ := h
  have ht : smT (S.2.2.2 6) := by rw [← hT]; exact hw.2.1.2.1
  have hk : okT (S.2.2.2 6) := by rw [← hT]; exact hw.2.1.2
  obtain ⟨r0, r1, r2, r3, r4, r5, r6, -, r25, -⟩ := id ht
  have r999 := hk.2.2.1
  unfold hc_count hm_count
  simp only [hT]
  obtain ⟨⟨e0, e1, e2, e3, e4⟩, -⟩ := id hw
  simp only [e0, e2, cnt_eq hw 8 (by omega)]
  and_intros <;> intros <;> and_intros <;> intros <;> (try subst_vars) <;> (first | exact ⟨rfl, hw⟩ | ((try simp (disch := omega) only [nI_eq, inB_i, inB_n1, decide_eq_false_iff_not, decide_eq_true_eq] at *) <;> (try subst_vars) <;> first | omega | contradiction | exact ⟨rfl, hw⟩ | exact ⟨trivial, hw⟩ | (exfalso; simp_all; done)))
theorem byt_255 : ∀ c : Fin 256, (nI c.val).toInt8.toInt32 &&& nI 255 = nI c.val := by decide +kernel
theorem byt_v {c : Nat} (h : c ≤ 255) : vp_nar .byte (nI c).toInt8.toInt32 &&& nI 255 = nI c := by
  rw [pk_vb]
  exact byt_255 ⟨c, by omega⟩
theorem lw_feed (h : RL S V) (a0 : Int32) : hc_feed V a0 (fun r V1 => hm_feed S a0 (fun r2 S2 => r2 = r ∧ RLw S2 V1)) := by
  have h0 := h
  obtain ⟨hT, hw⟩ := h
  have ht : smT (S.2.2.2 6) := by rw [← hT]; exact hw.2.1.2.1
  have hk : okT (S.2.2.2 6) := by rw [← hT]; exact hw.2.1.2
  obtain ⟨r0, r1, r2, r3, r4, r5, r6, -, r25, -⟩ := id ht
  have r999 := hk.2.2.1
  unfold hc_feed hm_feed
  simp only [hT]
  obtain ⟨⟨e0, e1, e2, e3, e4⟩, -⟩ := id hw
  simp only [e0]
  and_intros <;> intros <;> and_intros <;> intros <;> (try subst_vars) <;> (first | exact ⟨rfl, hw⟩ | exact ⟨rfl, (hw.feed (by assumption) (by assumption) (byt_v (by assumption)))⟩ | ((try simp (disch := omega) only [nI_eq, inB_i, inB_n1, decide_eq_false_iff_not, decide_eq_true_eq] at *) <;> (try subst_vars) <;> first | omega | contradiction | exact ⟨rfl, hw⟩ | exact ⟨rfl, (hw.feed (by assumption) (by assumption) (byt_v (by assumption)))⟩ | exact ⟨trivial, hw⟩ | exact ⟨trivial, (hw.feed (by assumption) (by assumption) (byt_v (by assumption)))⟩ | (exfalso; simp_all; done)))
theorem nI_n0 {m : Nat} (h : m < 2 ^ 31) : (nI m < 0) = False := eq_false (Int32.not_lt.mpr (nI_pos' h))
theorem n40 {n : Int32} (h1 : n < 0) (h2 : nI 40 < n) : False := absurd (Int32.lt_trans h2 h1) (by decide +kernel)
theorem n40o {n : Int32} {j lz : Nat} (h1 : n < 0) (hj : j < 8) (hl : lz ≤ 2) (h : inB (nI j) (nI 0) (nI 7) = false ∨ inB (nI lz) (nI 0) (nI 2) = false ∨ nI 40 < n) : False := by
  rcases h with h | h | h
  · rw [inB_i (by omega) (by omega) (by omega), decide_eq_false_iff_not] at h
    omega
  · rw [inB_i (by omega) (by omega) (by omega), decide_eq_false_iff_not] at h
    omega
  · exact n40 h1 h
theorem lw_row (h : RL S V) (a0 a1 a2 : Int32) : hc_row V a0 a1 a2 (fun r V1 => hm_row S a0 a1 a2 (fun r2 S2 => r2 = r ∧ RLw S2 V1)) := by
  have h0 := h
  obtain ⟨hT, hw⟩ := h
  have ht : smT (S.2.2.2 6) := by rw [← hT]; exact hw.2.1.2.1
  have hk : okT (S.2.2.2 6) := by rw [← hT]; exact hw.2.1.2
  obtain ⟨r0, r1, r2, r3, r4, r5, r6, -, r25, -⟩ := id ht
  have r999 := hk.2.2.1
  unfold hc_row hm_row
  simp only [hT]
  refine ⟨?_, ?_, ?_⟩
  · intro c1
    rcases c1 with c1 | c1 | c1 <;> and_intros <;> intros <;> (try subst_vars) <;> (first | (exact ⟨by first | trivial | rfl, hw⟩; done) | (exact (n40 (by assumption) (by assumption)).elim; done) | ((try simp (disch := omega) only [nI_eq, inB_i, inB_n1, decide_eq_false_iff_not, decide_eq_true_eq, nI_n0, nI_ltI, nI_leI] at *) <;> (try subst_vars) <;> (try simp (disch := omega) only [nI_eq, inB_i, inB_n1, decide_eq_false_iff_not, decide_eq_true_eq, nI_n0, nI_ltI, nI_leI] at *) <;> (try subst_vars) <;> first | omega | contradiction | (exact ⟨by first | trivial | rfl, hw⟩; done) | (exact (n40 (by assumption) (by assumption)).elim; done) | (exfalso; simp_all; done)))
  · intro j lz c1 c2 c3 c4 c5
    and_intros <;> intros <;> (try subst_vars) <;> (first | (exact (n40o c5 c2 c4 (by assumption)).elim; done) | (exact ⟨by first | trivial | rfl, hw.st _⟩; done) | ((try simp (disch := omega) only [nI_eq, inB_i, inB_n1, decide_eq_false_iff_not, decide_eq_true_eq, nI_n0, nI_ltI, nI_leI] at *) <;> (try subst_vars) <;> (try simp (disch := omega) only [nI_eq, inB_i, inB_n1, decide_eq_false_iff_not, decide_eq_true_eq, nI_n0, nI_ltI, nI_leI] at *) <;> (try subst_vars) <;> first | omega | contradiction | (exact (n40o c5 c2 c4 (by assumption)).elim; done) | (exact ⟨by first | trivial | rfl, hw.st _⟩; done) | (exfalso; simp_all; done)))
  · intro j lz m c1 c2 c3 c4 c5 c6
    and_intros <;> intros <;> (try subst_vars) <;> (first | (exact ⟨by first | trivial | rfl, hw.row (by assumption) (by assumption) (by assumption)⟩; done) | ((try simp (disch := omega) only [nI_eq, inB_i, inB_n1, decide_eq_false_iff_not, decide_eq_true_eq, nI_n0, nI_ltI, nI_leI] at *) <;> (try subst_vars) <;> (try simp (disch := omega) only [nI_eq, inB_i, inB_n1, decide_eq_false_iff_not, decide_eq_true_eq, nI_n0, nI_ltI, nI_leI] at *) <;> (try subst_vars) <;> first | omega | contradiction | (exact ⟨by first | trivial | rfl, hw.row (by assumption) (by assumption) (by assumption)⟩; done) | (exfalso; simp_all; done)))
theorem lw_drop (h : RL S V) (a0 : Int32) : hc_drop V a0 (fun r V1 => hm_drop S a0 (fun r2 S2 => r2 = r ∧ RLw S2 V1)) := by
  have h0 := h
  obtain ⟨hT, hw⟩ := h
  have ht : smT (S.2.2.2 6) := by rw [← hT]; exact hw.2.1.2.1
  have hk : okT (S.2.2.2 6) := by rw [← hT]; exact hw.2.1.2
  obtain ⟨r0, r1, r2, r3, r4, r5, r6, -, r25, -⟩ := id ht
  have r999 := hk.2.2.1
  unfold hc_drop hm_drop
  simp only [hT]
  refine ⟨?_, ?_, ?_⟩
  · intro c1
    and_intros <;> intros <;> (try subst_vars) <;> (first | (exact ⟨by first | trivial | rfl, hw⟩; done) | ((try simp (disch := omega) only [nI_eq, inB_i, inB_n1, decide_eq_false_iff_not, decide_eq_true_eq] at *) <;> (try subst_vars) <;> (try simp (disch := omega) only [nI_eq, inB_i, inB_n1, decide_eq_false_iff_not, decide_eq_true_eq] at *) <;> (try subst_vars) <;> first | omega | contradiction | (exact ⟨by first | trivial | rfl, hw⟩; done) | (exfalso; simp_all; done)))
  · intro j c1 c2 c3
    have q := hw.r_n c2 c3
    and_intros <;> intros <;> (try subst_vars) <;> (first | (exact ⟨by first | trivial | rfl, hw.drop0 (by assumption) (by assumption)⟩; done) | ((try simp (disch := omega) only [nI_eq, inB_i, inB_n1, decide_eq_false_iff_not, decide_eq_true_eq] at *) <;> (try subst_vars) <;> (try simp (disch := omega) only [nI_eq, inB_i, inB_n1, decide_eq_false_iff_not, decide_eq_true_eq] at *) <;> (try subst_vars) <;> first | omega | contradiction | (exact ⟨by first | trivial | rfl, hw.drop0 (by assumption) (by assumption)⟩; done) | (exfalso; simp_all; done)))
  · intro j l n f c1 c2 c3
    obtain ⟨q1, q2, q3, q4, q5, q6, q7⟩ := hw.r_s c2 c3
    and_intros <;> intros <;> (try subst_vars) <;> (first | (exact ⟨congrArg nI q3, hw.drop (by assumption)⟩; done) | (exact ⟨by first | trivial | rfl, hw.drop (by assumption)⟩; done) | ((try simp (disch := omega) only [nI_eq, inB_i, inB_n1, decide_eq_false_iff_not, decide_eq_true_eq] at *) <;> (try subst_vars) <;> (try simp (disch := omega) only [nI_eq, inB_i, inB_n1, decide_eq_false_iff_not, decide_eq_true_eq] at *) <;> (try subst_vars) <;> first | omega | contradiction | (exact ⟨congrArg nI q3, hw.drop (by assumption)⟩; done) | (exact ⟨by first | trivial | rfl, hw.drop (by assumption)⟩; done) | (exfalso; simp_all; done)))
theorem lw_set (h : RL S V) (a0 a1 a2 : Int32) : hc_set V a0 a1 a2 (fun r V1 => hm_set S a0 a1 a2 (fun r2 S2 => r2 = r ∧ RLw S2 V1)) := by
  have h0 := h
  obtain ⟨hT, hw⟩ := h
  have ht : smT (S.2.2.2 6) := by rw [← hT]; exact hw.2.1.2.1
  have hk : okT (S.2.2.2 6) := by rw [← hT]; exact hw.2.1.2
  obtain ⟨r0, r1, r2, r3, r4, r5, r6, -, r25, -⟩ := id ht
  have r999 := hk.2.2.1
  unfold hc_set hm_set
  simp only [hT]
  refine ⟨?_, ?_, ?_, ?_⟩
  · intro c1
    and_intros <;> intros <;> (try subst_vars) <;> (first | (exact ⟨by first | trivial | rfl, hw⟩; done) | ((try simp (disch := omega) only [nI_eq, inB_i, inB_n1, decide_eq_false_iff_not, decide_eq_true_eq] at *) <;> (try subst_vars) <;> (try simp (disch := omega) only [nI_eq, inB_i, inB_n1, decide_eq_false_iff_not, decide_eq_true_eq] at *) <;> (try subst_vars) <;> first | omega | contradiction | (exact ⟨by first | trivial | rfl, hw⟩; done) | (exfalso; simp_all; done)))
  · intro j c1 c2 c3
    have q := hw.r_n c2 c3
    and_intros <;> intros <;> (try subst_vars) <;> (first | (exact ⟨by first | trivial | rfl, hw.st _⟩; done) | ((try simp (disch := omega) only [nI_eq, inB_i, inB_n1, decide_eq_false_iff_not, decide_eq_true_eq] at *) <;> (try subst_vars) <;> (try simp (disch := omega) only [nI_eq, inB_i, inB_n1, decide_eq_false_iff_not, decide_eq_true_eq] at *) <;> (try subst_vars) <;> first | omega | contradiction | (exact ⟨by first | trivial | rfl, hw.st _⟩; done) | (exfalso; simp_all; done)))
  · intro j l n f c1 c2 c3 c4
    obtain ⟨q1, q2, q3, q4, q5, q6, q7⟩ := hw.r_s c2 c3
    and_intros <;> intros <;> (try subst_vars) <;> (first | (exact ⟨by first | trivial | rfl, hw.st _⟩; done) | ((try simp (disch := omega) only [nI_eq, inB_i, inB_n1, decide_eq_false_iff_not, decide_eq_true_eq] at *) <;> (try subst_vars) <;> (try simp (disch := omega) only [nI_eq, inB_i, inB_n1, decide_eq_false_iff_not, decide_eq_true_eq] at *) <;> (try subst_vars) <;> first | omega | contradiction | (exact ⟨by first | trivial | rfl, hw.st _⟩; done) | (exfalso; simp_all; done)))
  · intro j l n f a c1 c2 c3 c4 c5 c6
    obtain ⟨q1, q2, q3, q4, q5, q6, q7⟩ := hw.r_s c2 c3
    and_intros <;> intros <;> (try subst_vars) <;> (first | (rw [q2]; exact ⟨rfl, hw.set (by assumption) (by assumption) (by assumption) (cut_cut (by assumption) _)⟩; done) | ((try simp (disch := omega) only [nI_eq, inB_i, inB_n1, decide_eq_false_iff_not, decide_eq_true_eq] at *) <;> (try subst_vars) <;> (try simp (disch := omega) only [nI_eq, inB_i, inB_n1, decide_eq_false_iff_not, decide_eq_true_eq] at *) <;> (try subst_vars) <;> first | omega | contradiction | (rw [q2]; exact ⟨rfl, hw.set (by assumption) (by assumption) (by assumption) (cut_cut (by assumption) _)⟩; done) | (exfalso; simp_all; done)))
theorem RLw.gz {q : Nat × (Nat → Nat)} (h : RLw S (vQ V q)) (hq : q.1 ≤ 10) (c : Nat) : RLw (gzS S c) (vQ V (gzQ (S.2.2.2 6) c q)) := by
  unfold gzS gzQ
  split
  · exact ((h.tp (b := 14) (by omega)).tp (b := 13) (by show q.1 + 1 < 16; omega)).tp (b := 10) (by show q.1 + 1 + 1 < 16; omega)
  · exact (h.tp (b := 13) (by omega)).tp (b := 10) (by show q.1 + 1 < 16; omega)
theorem RLw.jm {q : Nat × (Nat → Nat)} (h : RLw S (vQ V q)) (hq : q.1 ≤ 10) (c : Nat) : RLw (jmS S c) (vQ V (jmQ (S.2.2.2 6) c q)) := by
  unfold jmS jmQ
  split
  · exact (h.tp (b := 21) (by omega)).tp (b := 20) (by show q.1 + 1 < 16; omega)
  · exact ((h.tp (b := _) (by omega)).tp (b := 21) (by show q.1 + 1 < 16; omega)).tp (b := 20) (by show q.1 + 1 + 1 < 16; omega)
theorem RLw.jz {q : Nat × (Nat → Nat)} (h : RLw S (vQ V q)) (hq : q.1 ≤ 5) (c : Nat) : RLw (jzS S c) (vQ V (jzQ (S.2.2.2 6) c q)) := by
  unfold jzS jzQ
  split
  · exact RLw.jm (((h.tp (b := 12) (by omega)).tp (b := 11) (by show q.1 + 1 < 16; omega)).tp (b := 10) (by show q.1 + 1 + 1 < 16; omega)) (by show q.1 + 1 + 1 + 1 ≤ 10; omega) c
  · exact RLw.jm ((h.tp (b := 11) (by omega)).tp (b := 10) (by show q.1 + 1 < 16; omega)) (by show q.1 + 1 + 1 ≤ 10; omega) c
theorem RLw.gm {q : Nat × (Nat → Nat)} (h : RLw S (vQ V q)) (hq : q.1 ≤ 5) (c : Nat) : RLw (gmS S c) (vQ V (gmQ (S.2.2.2 6) c q)) := by
  unfold gmS gmQ
  exact RLw.gz ((h.tp (b := 23) (by omega)).tp (b := 20) (by show q.1 + 1 < 16; omega)) (by show q.1 + 1 + 1 ≤ 10; omega) c
theorem lw_ask (h : RL S V) (a0 a1 : Int32) : hc_ask V a0 a1 (fun r V1 => hm_ask S a0 a1 (fun r2 S2 => r2 = r ∧ RLw S2 V1)) := by
  have h0 := h
  obtain ⟨hT, hw⟩ := h
  have ht : smT (S.2.2.2 6) := by rw [← hT]; exact hw.2.1.2.1
  have hk : okT (S.2.2.2 6) := by rw [← hT]; exact hw.2.1.2
  obtain ⟨r0, r1, r2, r3, r4, r5, r6, -, r25, -⟩ := id ht
  have r999 := hk.2.2.1
  unfold hc_ask hm_ask
  simp only [hT]
  refine ⟨?_, ?_, ?_, ?_, ?_⟩
  · intro c1
    and_intros <;> intros <;> (try subst_vars) <;> ((try simp (disch := omega) only [nI_eq, inB_i, inB_n1, decide_eq_false_iff_not, decide_eq_true_eq] at *) <;> (try subst_vars) <;> first | omega | contradiction | (exact ⟨by first | trivial | rfl, hw⟩; done))
  · intro j c1 c2 c3 c4
    and_intros <;> intros <;> (try subst_vars) <;> ((try simp (disch := omega) only [nI_eq, inB_i, inB_n1, decide_eq_false_iff_not, decide_eq_true_eq] at *) <;> (try subst_vars) <;> first | omega | contradiction | (exact ⟨by first | trivial | rfl, RLw.gz hw.t0 (Nat.zero_le _) _⟩; done))
  · intro j c1 c2 c3 c4
    and_intros <;> intros <;> (try subst_vars) <;> ((try simp (disch := omega) only [nI_eq, inB_i, inB_n1, decide_eq_false_iff_not, decide_eq_true_eq] at *) <;> (try subst_vars) <;> first | omega | contradiction | (exact ⟨by first | trivial | rfl, RLw.jz hw.t0 (Nat.zero_le _) _⟩; done))
  · intro j c1 c2 c3 c4
    and_intros <;> intros <;> (try subst_vars) <;> ((try simp (disch := omega) only [nI_eq, inB_i, inB_n1, decide_eq_false_iff_not, decide_eq_true_eq] at *) <;> (try subst_vars) <;> first | omega | contradiction | (exact ⟨by first | trivial | rfl, RLw.gm hw.t0 (Nat.zero_le _) _⟩; done))
  · intro j c1 c2 c3 c4
    and_intros <;> intros <;> (try subst_vars) <;> ((try simp (disch := omega) only [nI_eq, inB_i, inB_n1, decide_eq_false_iff_not, decide_eq_true_eq] at *) <;> (try subst_vars) <;> first | omega | contradiction | (exact ⟨by first | trivial | rfl, RLw.jm hw.t0 (Nat.zero_le _) _⟩; done))
end LW5
