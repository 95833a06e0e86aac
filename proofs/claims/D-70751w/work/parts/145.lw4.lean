/-! ===== op by op: the cases of the one are those of the other ===== -/
set_option maxRecDepth 100000
set_option linter.unusedSimpArgs false
theorem inB_n1 {j n : Nat} (hj : j < 2 ^ 31) (hn : n < 2 ^ 31) : inB (nI j) (nI 0) (nI n - nI 1) = decide (j < n) := by
  by_cases z : j < n
  · rw [inB_pt hn z, decide_eq_true z]
  · rw [decide_eq_false z]
    cases e : inB (nI j) (nI 0) (nI n - nI 1) with
    | false => rfl
    | true =>
      obtain ⟨i, hi, hl⟩ := inB_p hn e
      have := (nI_eq hj (by omega)).mp hi
      omega
section LW4
variable {S : ms_T} {V : fv_T}
theorem lw_kind (h : RL S V) (a0 : Int32) : hc_kind V a0 (fun r V1 => hm_kind S a0 (fun r2 S2 => r2 = r ∧ RLw S2 V1)) := by
  have h0 := h
  obtain ⟨hT, hw⟩ := h
  have ht : smT (S.2.2.2 6) := by rw [← hT]; exact hw.2.1.2.1
  have hk : okT (S.2.2.2 6) := by rw [← hT]; exact hw.2.1.2
  obtain ⟨r0, r1, r2, r3, r4, r5, r6, -, r25, -⟩ := id ht
  have r999 := hk.2.2.1
  unfold hc_kind hm_kind
  simp only [hT]
  and_intros <;> intros <;> and_intros <;> intros <;> (try subst_vars) <;> (first | exact ⟨rfl, hw⟩ | ((try simp (disch := omega) only [nI_eq, inB_i, inB_n1, decide_eq_false_iff_not, decide_eq_true_eq] at *) <;> (try subst_vars) <;> first | omega | contradiction | exact ⟨rfl, hw⟩ | exact ⟨trivial, hw⟩ | (exfalso; simp_all; done)))
theorem lw_way (h : RL S V) (a0 a1 : Int32) : hc_way V a0 a1 (fun r V1 => hm_way S a0 a1 (fun r2 S2 => r2 = r ∧ RLw S2 V1)) := by
  have h0 := h
  obtain ⟨hT, hw⟩ := h
  have ht : smT (S.2.2.2 6) := by rw [← hT]; exact hw.2.1.2.1
  have hk : okT (S.2.2.2 6) := by rw [← hT]; exact hw.2.1.2
  obtain ⟨r0, r1, r2, r3, r4, r5, r6, -, r25, -⟩ := id ht
  have r999 := hk.2.2.1
  unfold hc_way hm_way
  simp only [hT]
  and_intros <;> intros <;> and_intros <;> intros <;> (try subst_vars) <;> (first | exact ⟨rfl, hw⟩ | ((try simp (disch := omega) only [nI_eq, inB_i, inB_n1, decide_eq_false_iff_not, decide_eq_true_eq] at *) <;> (try subst_vars) <;> first | omega | contradiction | exact ⟨rfl, hw⟩ | exact ⟨trivial, hw⟩ | (exfalso; simp_all; done)))
theorem lw_would (h : RL S V) (a0 a1 : Int32) : hc_would V a0 a1 (fun r V1 => hm_would S a0 a1 (fun r2 S2 => r2 = r ∧ RLw S2 V1)) := by
  have h0 := h
  obtain ⟨hT, hw⟩ := h
  have ht : smT (S.2.2.2 6) := by rw [← hT]; exact hw.2.1.2.1
  have hk : okT (S.2.2.2 6) := by rw [← hT]; exact hw.2.1.2
  obtain ⟨r0, r1, r2, r3, r4, r5, r6, -, r25, -⟩ := id ht
  have r999 := hk.2.2.1
  unfold hc_would hm_would
  simp only [hT]
  and_intros <;> intros <;> and_intros <;> intros <;> (try subst_vars) <;> (first | exact ⟨rfl, hw⟩ | ((try simp (disch := omega) only [nI_eq, inB_i, inB_n1, decide_eq_false_iff_not, decide_eq_true_eq] at *) <;> (try subst_vars) <;> first | omega | contradiction | exact ⟨rfl, hw⟩ | exact ⟨trivial, hw⟩ | (exfalso; simp_all; done)))
theorem lw_reach (h : RL S V) : hc_reach V (fun r V1 => hm_reach S (fun r2 S2 => r2 = r ∧ RLw S2 V1)) := by
  have h0 := h
  obtain ⟨hT, hw⟩ := h
  have ht : smT (S.2.2.2 6) := by rw [← hT]; exact hw.2.1.2.1
  have hk : okT (S.2.2.2 6) := by rw [← hT]; exact hw.2.1.2
  obtain ⟨r0, r1, r2, r3, r4, r5, r6, -, r25, -⟩ := id ht
  have r999 := hk.2.2.1
  unfold hc_reach hm_reach
  simp only [hT]
  and_intros <;> intros <;> and_intros <;> intros <;> (try subst_vars) <;> (first | exact ⟨rfl, hw⟩ | ((try simp (disch := omega) only [nI_eq, inB_i, inB_n1, decide_eq_false_iff_not, decide_eq_true_eq] at *) <;> (try subst_vars) <;> first | omega | contradiction | exact ⟨rfl, hw⟩ | exact ⟨trivial, hw⟩ | (exfalso; simp_all; done)))
theorem lw_corner (h : RL S V) (a0 a1 : Int32) : hc_corner V a0 a1 (fun r V1 => hm_corner S a0 a1 (fun r2 S2 => r2 = r ∧ RLw S2 V1)) := by
  have h0 := h
  obtain ⟨hT, hw⟩ := h
  have ht : smT (S.2.2.2 6) := by rw [← hT]; exact hw.2.1.2.1
  have hk : okT (S.2.2.2 6) := by rw [← hT]; exact hw.2.1.2
  obtain ⟨r0, r1, r2, r3, r4, r5, r6, -, r25, -⟩ := id ht
  have r999 := hk.2.2.1
  unfold hc_corner hm_corner
  simp only [hT]
  and_intros <;> intros <;> and_intros <;> intros <;> (try subst_vars) <;> (first | exact ⟨rfl, hw⟩ | ((try simp (disch := omega) only [nI_eq, inB_i, inB_n1, decide_eq_false_iff_not, decide_eq_true_eq] at *) <;> (try subst_vars) <;> first | omega | contradiction | exact ⟨rfl, hw⟩ | exact ⟨trivial, hw⟩ | (exfalso; simp_all; done)))
theorem lw_fault (h : RL S V) : hc_fault V (fun r V1 => hm_fault S (fun r2 S2 => r2 = r ∧ RLw S2 V1)) := by
  have h0 := h
  obtain ⟨hT, hw⟩ := h
  obtain ⟨⟨e0, e1, e2, e3, e4⟩, -⟩ := id hw
  unfold hc_fault hm_fault
  exact ⟨by rw [e1], hw⟩
theorem lw_status (h : RL S V) : hc_status V (fun r V1 => hm_status S (fun r2 S2 => r2 = r ∧ RLw S2 V1)) := by
  have h0 := h
  obtain ⟨hT, hw⟩ := h
  obtain ⟨⟨e0, e1, e2, e3, e4⟩, -⟩ := id hw
  unfold hc_status hm_status
  exact ⟨by rw [e3], hw⟩
theorem lw_ride (h : RL S V) (a0 : Int32) : hc_ride V a0 (fun r V1 => hm_ride S a0 (fun r2 S2 => r2 = r ∧ RLw S2 V1)) := by
  have h0 := h
  obtain ⟨hT, hw⟩ := h
  have ht : smT (S.2.2.2 6) := by rw [← hT]; exact hw.2.1.2.1
  have hk : okT (S.2.2.2 6) := by rw [← hT]; exact hw.2.1.2
  obtain ⟨r0, r1, r2, r3, r4, r5, r6, -, r25, -⟩ := id ht
  have r999 := hk.2.2.1
  unfold hc_ride hm_ride
  simp only [hT]
  and_intros <;> intros <;> and_intros <;> intros <;> (try subst_vars) <;> (first | exact ⟨rfl, hw⟩ | exact ⟨rfl, (RLw.act h0 (okT_ride hk (by assumption) (by omega)))⟩ | ((try simp (disch := omega) only [nI_eq, inB_i, inB_n1, decide_eq_false_iff_not, decide_eq_true_eq] at *) <;> (try subst_vars) <;> first | omega | contradiction | exact ⟨rfl, hw⟩ | exact ⟨rfl, (RLw.act h0 (okT_ride hk (by assumption) (by omega)))⟩ | exact ⟨trivial, hw⟩ | exact ⟨trivial, (RLw.act h0 (okT_ride hk (by assumption) (by omega)))⟩ | (exfalso; simp_all; done)))
theorem lw_lesson (h : RL S V) (a0 a1 : Int32) : hc_lesson V a0 a1 (fun r V1 => hm_lesson S a0 a1 (fun r2 S2 => r2 = r ∧ RLw S2 V1)) := by
  have h0 := h
  obtain ⟨hT, hw⟩ := h
  have ht : smT (S.2.2.2 6) := by rw [← hT]; exact hw.2.1.2.1
  have hk : okT (S.2.2.2 6) := by rw [← hT]; exact hw.2.1.2
  obtain ⟨r0, r1, r2, r3, r4, r5, r6, -, r25, -⟩ := id ht
  have r999 := hk.2.2.1
  unfold hc_lesson hm_lesson
  simp only [hT]
  and_intros <;> intros <;> and_intros <;> intros <;> (try subst_vars) <;> (first | exact ⟨rfl, hw⟩ | exact ⟨rfl, (RLw.act h0 (okT_much hk (by assumption) (by assumption)))⟩ | ((try simp (disch := omega) only [nI_eq, inB_i, inB_n1, decide_eq_false_iff_not, decide_eq_true_eq] at *) <;> (try subst_vars) <;> first | omega | contradiction | exact ⟨rfl, hw⟩ | exact ⟨rfl, (RLw.act h0 (okT_much hk (by assumption) (by assumption)))⟩ | exact ⟨trivial, hw⟩ | exact ⟨trivial, (RLw.act h0 (okT_much hk (by assumption) (by assumption)))⟩ | (exfalso; simp_all; done)))
theorem lw_reset (h : RL S V) : hc_reset V (fun r V1 => hm_reset S (fun r2 S2 => r2 = r ∧ RLw S2 V1)) := by
  have h0 := h
  obtain ⟨hT, hw⟩ := h
  have ht : smT (S.2.2.2 6) := by rw [← hT]; exact hw.2.1.2.1
  have hk : okT (S.2.2.2 6) := by rw [← hT]; exact hw.2.1.2
  obtain ⟨r0, r1, r2, r3, r4, r5, r6, -, r25, -⟩ := id ht
  have r999 := hk.2.2.1
  unfold hc_reset hm_reset
  simp only [hT]
  and_intros <;> intros <;> and_intros <;> intros <;> (try subst_vars) <;> (first | exact ⟨rfl, hw⟩ | exact ⟨rfl, (RLw.act h0 (okT_2 hk))⟩ | ((try simp (disch := omega) only [nI_eq, inB_i, inB_n1, decide_eq_false_iff_not, decide_eq_true_eq] at *) <;> (try subst_vars) <;> first | omega | contradiction | exact ⟨rfl, hw⟩ | exact ⟨rfl, (RLw.act h0 (okT_2 hk))⟩ | exact ⟨trivial, hw⟩ | exact ⟨trivial, (RLw.act h0 (okT_2 hk))⟩ | (exfalso; simp_all; done)))
theorem xor_lt {a j n : Nat} (h : a < 2 ^ n) (hj : j < n) : a ^^^ 2 ^ j < 2 ^ n := Nat.xor_lt_two_pow h (Nat.pow_lt_pow_right (by decide) hj)
theorem lw_street (h : RL S V) (a0 a1 : Int32) : hc_street V a0 a1 (fun r V1 => hm_street S a0 a1 (fun r2 S2 => r2 = r ∧ RLw S2 V1)) := by
  have h0 := h
  obtain ⟨hT, hw⟩ := h
  have ht : smT (S.2.2.2 6) := by rw [← hT]; exact hw.2.1.2.1
  have hk : okT (S.2.2.2 6) := by rw [← hT]; exact hw.2.1.2
  obtain ⟨r0, r1, r2, r3, r4, r5, r6, -, r25, -⟩ := id ht
  have r999 := hk.2.2.1
  unfold hc_street hm_street
  simp only [hT]
  and_intros <;> intros <;> and_intros <;> intros <;> (try subst_vars) <;> (first | exact ⟨rfl, hw⟩ | exact ⟨rfl, (RLw.act h0 (okT_5 hk (xor_lt hk.2.2.2 (by assumption))))⟩ | ((try simp (disch := omega) only [nI_eq, inB_i, inB_n1, decide_eq_false_iff_not, decide_eq_true_eq] at *) <;> (try subst_vars) <;> first | omega | contradiction | exact ⟨rfl, hw⟩ | exact ⟨rfl, (RLw.act h0 (okT_5 hk (xor_lt hk.2.2.2 (by assumption))))⟩ | exact ⟨trivial, hw⟩ | exact ⟨trivial, (RLw.act h0 (okT_5 hk (xor_lt hk.2.2.2 (by assumption))))⟩ | (exfalso; simp_all; done)))
theorem lw_as (h : RL S V) (a0 a1 : Int32) : hc_as V a0 a1 (fun r V1 => hm_as S a0 a1 (fun r2 S2 => r2 = r ∧ RLw S2 V1)) := by
  have h0 := h
  obtain ⟨hT, hw⟩ := h
  have ht : smT (S.2.2.2 6) := by rw [← hT]; exact hw.2.1.2.1
  have hk : okT (S.2.2.2 6) := by rw [← hT]; exact hw.2.1.2
  obtain ⟨r0, r1, r2, r3, r4, r5, r6, -, r25, -⟩ := id ht
  have r999 := hk.2.2.1
  unfold hc_as hm_as
  simp only [hT]
  and_intros <;> intros <;> and_intros <;> intros <;> (try subst_vars) <;> (first | exact ⟨rfl, hw⟩ | exact ⟨rfl, (hw.st _)⟩ | ((try simp (disch := omega) only [nI_eq, inB_i, inB_n1, decide_eq_false_iff_not, decide_eq_true_eq] at *) <;> (try subst_vars) <;> first | omega | contradiction | exact ⟨rfl, hw⟩ | exact ⟨rfl, (hw.st _)⟩ | exact ⟨trivial, hw⟩ | exact ⟨trivial, (hw.st _)⟩ | (exfalso; simp_all; done)))
theorem lw_drawn (h : RL S V) (a0 a1 a2 : Int32) : hc_drawn V a0 a1 a2 (fun r V1 => hm_drawn S a0 a1 a2 (fun r2 S2 => r2 = r ∧ RLw S2 V1)) := by
  have h0 := h
  obtain ⟨hT, hw⟩ := h
  have ht : smT (S.2.2.2 6) := by rw [← hT]; exact hw.2.1.2.1
  have hk : okT (S.2.2.2 6) := by rw [← hT]; exact hw.2.1.2
  obtain ⟨r0, r1, r2, r3, r4, r5, r6, -, r25, -⟩ := id ht
  have r999 := hk.2.2.1
  unfold hc_drawn hm_drawn
  simp only [hT]
  and_intros <;> intros <;> and_intros <;> intros <;> (try subst_vars) <;> (first | exact ⟨rfl, hw⟩ | exact ⟨rfl, (hw.s8 _)⟩ | ((try simp (disch := omega) only [nI_eq, inB_i, inB_n1, decide_eq_false_iff_not, decide_eq_true_eq] at *) <;> (try subst_vars) <;> first | omega | contradiction | exact ⟨rfl, hw⟩ | exact ⟨rfl, (hw.s8 _)⟩ | exact ⟨trivial, hw⟩ | exact ⟨trivial, (hw.s8 _)⟩ | (exfalso; simp_all; done)))
end LW4
