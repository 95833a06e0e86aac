section LW6
variable {S : ms_T} {V : fv_T}
theorem cpx {x y a b m : Nat} (h : partB x (nI a) (nI m) = false ∨ partB y (nI b) (nI m) = false) (hx : x ≤ 40) (hy : y ≤ 40) (h1 : a + m ≤ x) (h2 : b + m ≤ y) : False := by
  rw [partB_t (by omega) h1, partB_t (by omega) h2] at h
  simp at h
theorem px {x a m : Nat} (h : partB x (nI a) (nI m) = false) (hx : x ≤ 40) (h1 : a + m ≤ x) : False := by
  rw [partB_t (by omega) h1] at h
  cases h
theorem nJ {a b : Nat} (ha : a < 8) (hb : b < 8) (h : nI a = nI b) : a = b := (nI_eq (by omega) (by omega)).mp h
theorem lw_copy (h : RL S V) (a0 a1 a2 a3 a4 : Int32) : hc_copy V a0 a1 a2 a3 a4 (fun r V1 => hm_copy S a0 a1 a2 a3 a4 (fun r2 S2 => r2 = r ∧ RLw S2 V1)) := by
  have h0 := h
  obtain ⟨hT, hw⟩ := h
  have ht : smT (S.2.2.2 6) := by rw [← hT]; exact hw.2.1.2.1
  have hk : okT (S.2.2.2 6) := by rw [← hT]; exact hw.2.1.2
  obtain ⟨r0, r1, r2, r3, r4, r5, r6, -, r25, -⟩ := id ht
  have r999 := hk.2.2.1
  unfold hc_copy hm_copy
  simp only [hT]
  refine ⟨fun c1 => ?_, ?_, ?_, ?_, ?_⟩
  · refine ⟨fun z => ⟨by first | trivial | rfl, hw⟩, fun ja2 jb2 e1 e2 e3 e4 z1 => ?_, fun ja2 jb2 e1 e2 e3 e4 z1 z2 z3 => ?_, fun ja2 jb2 e1 e2 e3 e4 z1 z2 z3 z4 => ?_, fun ja2 jb2 a2 b2 m2 e1 e2 e3 e4 z1 z2 z3 e5 e6 e7 z4 z5 => ?_⟩ <;> (subst e1; subst e3; simp (disch := omega) only [inB_i, decide_eq_false_iff_not] at c1; omega)
  · intro ja jb c1 c2 c3 c4 c5
    subst c1
    subst c3
    have c6 : S.2.2.1 1 ja = kNONE ∨ S.2.2.1 1 jb = kNONE := c5.imp (hw.r_n c2) (hw.r_n c4)
    refine ⟨fun z => ?_, fun ja2 jb2 e1 e2 e3 e4 z1 => ?_, fun ja2 jb2 e1 e2 e3 e4 z1 z2 z3 => ?_, fun ja2 jb2 e1 e2 e3 e4 z1 z2 z3 z4 => ?_, fun ja2 jb2 a2 b2 m2 e1 e2 e3 e4 z1 z2 z3 e5 e6 e7 z4 z5 => ?_⟩
    · simp (disch := omega) only [inB_i, decide_eq_false_iff_not] at z
      omega
    · obtain rfl := nJ c2 e2 e1
      obtain rfl := nJ c4 e4 e3
      exact ⟨by first | trivial | rfl, hw.st _⟩
    · obtain rfl := nJ c2 e2 e1
      obtain rfl := nJ c4 e4 e3
      rcases c6 with c6 | c6
      · exact absurd c6 z1
      · exact absurd c6 z2
    · obtain rfl := nJ c2 e2 e1
      obtain rfl := nJ c4 e4 e3
      rcases c6 with c6 | c6
      · exact absurd c6 z1
      · exact absurd c6 z2
    · obtain rfl := nJ c2 e2 e1
      obtain rfl := nJ c4 e4 e3
      rcases c6 with c6 | c6
      · exact absurd c6 z1
      · exact absurd c6 z2
  · intro ja jb la na fa lb nb fb c1 c2 c3 c4 c5 c6 c7
    subst c1
    subst c3
    obtain ⟨q1, q2, q3, q4, q5, q6, q7⟩ := hw.r_s c2 c5
    obtain ⟨p1, p2, p3, p4, p5, p6, p7⟩ := hw.r_s c4 c6
    refine ⟨fun z => ?_, fun ja2 jb2 e1 e2 e3 e4 z1 => ?_, fun ja2 jb2 e1 e2 e3 e4 z1 z2 z3 => ?_, fun ja2 jb2 e1 e2 e3 e4 z1 z2 z3 z4 => ?_, fun ja2 jb2 a2 b2 m2 e1 e2 e3 e4 z1 z2 z3 e5 e6 e7 z4 z5 => ?_⟩
    · simp (disch := omega) only [inB_i, decide_eq_false_iff_not] at z
      omega
    · obtain rfl := nJ c2 e2 e1
      obtain rfl := nJ c4 e4 e3
      rcases z1 with z1 | z1
      · exact absurd z1 q6
      · exact absurd z1 p6
    · obtain rfl := nJ c2 e2 e1
      obtain rfl := nJ c4 e4 e3
      exact ⟨by first | trivial | rfl, hw.st _⟩
    · obtain rfl := nJ c2 e2 e1
      obtain rfl := nJ c4 e4 e3
      exact absurd ((nI_eq (by omega) (by omega)).mp (q2.symm.trans (z3.trans p2))) c7
    · obtain rfl := nJ c2 e2 e1
      obtain rfl := nJ c4 e4 e3
      exact absurd ((nI_eq (by omega) (by omega)).mp (q2.symm.trans (z3.trans p2))) c7
  · intro ja jb l na fa nb fb c1 c2 c3 c4 c5 c6 c7
    subst c1
    subst c3
    obtain ⟨q1, q2, q3, q4, q5, q6, q7⟩ := hw.r_s c2 c5
    obtain ⟨p1, p2, p3, p4, p5, p6, p7⟩ := hw.r_s c4 c6
    refine ⟨fun z => ?_, fun ja2 jb2 e1 e2 e3 e4 z1 => ?_, fun ja2 jb2 e1 e2 e3 e4 z1 z2 z3 => ?_, fun ja2 jb2 e1 e2 e3 e4 z1 z2 z3 z4 => ?_, fun ja2 jb2 a2 b2 m2 e1 e2 e3 e4 z1 z2 z3 e5 e6 e7 z4 z5 => ?_⟩
    · simp (disch := omega) only [inB_i, decide_eq_false_iff_not] at z
      omega
    · obtain rfl := nJ c2 e2 e1
      obtain rfl := nJ c4 e4 e3
      rcases z1 with z1 | z1
      · exact absurd z1 q6
      · exact absurd z1 p6
    · obtain rfl := nJ c2 e2 e1
      obtain rfl := nJ c4 e4 e3
      exact absurd (q2.trans p2.symm) z3
    · obtain rfl := nJ c2 e2 e1
      obtain rfl := nJ c4 e4 e3
      exact ⟨by first | trivial | rfl, hw.st _⟩
    · obtain rfl := nJ c2 e2 e1
      obtain rfl := nJ c4 e4 e3
      subst e5
      subst e6
      subst e7
      exact (cpx c7 q5 p5 (by omega) (by omega)).elim
  · intro ja jb l na fa nb fb a b m c1 c2 c3 c4 c5 c6 c7 c8 c9 c10 c11
    subst c1
    subst c3
    subst c7
    subst c8
    subst c9
    obtain ⟨q1, q2, q3, q4, q5, q6, q7⟩ := hw.r_s c2 c5
    obtain ⟨p1, p2, p3, p4, p5, p6, p7⟩ := hw.r_s c4 c6
    refine ⟨fun z => ?_, fun ja2 jb2 e1 e2 e3 e4 z1 => ?_, fun ja2 jb2 e1 e2 e3 e4 z1 z2 z3 => ?_, fun ja2 jb2 e1 e2 e3 e4 z1 z2 z3 z4 => ?_, fun ja2 jb2 a2 b2 m2 e1 e2 e3 e4 z1 z2 z3 e5 e6 e7 z4 z5 => ?_⟩
    · simp (disch := omega) only [inB_i, decide_eq_false_iff_not] at z
      omega
    · obtain rfl := nJ c2 e2 e1
      obtain rfl := nJ c4 e4 e3
      rcases z1 with z1 | z1
      · exact absurd z1 q6
      · exact absurd z1 p6
    · obtain rfl := nJ c2 e2 e1
      obtain rfl := nJ c4 e4 e3
      exact absurd (q2.trans p2.symm) z3
    · obtain rfl := nJ c2 e2 e1
      obtain rfl := nJ c4 e4 e3
      rw [q3, p3] at z4
      exact (cpx z4 q5 p5 c10 c11).elim
    · obtain rfl := nJ c2 e2 e1
      obtain rfl := nJ c4 e4 e3
      obtain rfl : a = a2 := (nI_eq (by omega) (by omega)).mp e5
      obtain rfl : b = b2 := (nI_eq (by omega) (by omega)).mp e6
      obtain rfl : m = m2 := (nI_eq (by omega) (by omega)).mp e7
      exact ⟨by first | trivial | rfl, hw.copy c2 c4 c5 c6 c10 c11⟩
end LW6
