section LW7
variable {S : ms_T} {V : fv_T}
theorem badF {r q m : Nat} {w : Int32} (hr : r < 8) (hq : q < 8) (h1 : 1 ≤ m) (h8 : m ≤ 8) (hu : inB w (nI 0) (nI 1) = true) : ¬ (inB (nI r) (nI 0) (nI 7) = false ∨ inB (nI q) (nI 0) (nI 7) = false ∨ inB (nI m) (nI 1) (nI 8) = false ∨ inB w (nI 0) (nI 1) = false) := fun z => by
  rw [inB_t (by omega) (Nat.zero_le _) (by omega), inB_t (by omega) (Nat.zero_le _) (by omega), inB_t (by omega) h1 h8, hu] at z
  simp at z
theorem badG {c C r q m : Nat} {w : Int32} (hC : C ≤ 6) (hc : c < C) (hr : r < 8) (hq : q < 8) (h1 : 1 ≤ m) (h8 : m ≤ 8) (hu : inB w (nI 0) (nI 1) = true) : ¬ (inB (nI c) (nI 0) (nI C - nI 1) = false ∨ inB (nI r) (nI 0) (nI 7) = false ∨ inB (nI q) (nI 0) (nI 7) = false ∨ inB (nI m) (nI 1) (nI 8) = false ∨ inB w (nI 0) (nI 1) = false) := fun z => by
  rw [inB_pt (by omega) hc] at z
  rcases z with z | z
  · cases z
  · exact badF hr hq h1 h8 hu z
theorem badS {r m c : Nat} (hr : r < 8) (h1 : 1 ≤ m) (h8 : m ≤ 8) (hc : c < m) : ¬ (inB (nI r) (nI 0) (nI 7) = false ∨ inB (nI m) (nI 1) (nI 8) = false ∨ inB (nI c) (nI 0) (nI m - nI 1) = false) := fun z => by
  rw [inB_t (by omega) (Nat.zero_le _) (by omega), inB_t (by omega) h1 h8, inB_pt (by omega) hc] at z
  simp at z
theorem w01 {u : Nat} (h : u ≤ 1) : inB (nI u) (nI 0) (nI 1) = true := inB_t (by omega) (Nat.zero_le _) h
theorem nK {a b : Nat} (ha : a ≤ 8) (hb : b ≤ 8) (h : nI a = nI b) : a = b := (nI_eq (by omega) (by omega)).mp h
theorem RLw.al (hw : RLw S V) {t : Nat → Nat} {r q a b m : Nat} (hr : r < 8) (hq : q < 8) (ha : a < 2 ^ 31) (hb : b < 2 ^ 31) (hm : m ≤ 8) (h0 : barV V.2.2.2.2.1 r (nI a) q (nI b) (nI m) = 0) (pl lo k : Nat) : alF (itV V.2.2.2.2.1) t pl lo (40 * r + a) (40 * q + b) m k = alF (S.2.2.1 3) t pl lo (40 * r + a) (40 * q + b) m k := by
  obtain ⟨⟨y, ey, hy⟩, z, ez, hz⟩ := barV_t h0
  obtain ⟨l1, m1, f1⟩ := y
  obtain ⟨l2, m2, f2⟩ := z
  have x1 := (hw.r_s hr ey).2.2.2.2.1
  have x2 := (hw.r_s hq ez).2.2.2.2.1
  obtain ⟨a2, n2, g1, g2, g3⟩ := partB_n (by show m1 < 2 ^ 30; omega) hy
  obtain ⟨b2, n3, g4, g5, g6⟩ := partB_n (by show m2 < 2 ^ 30; omega) hz
  have g3 : a2 + n2 ≤ m1 := g3
  have g6 : b2 + n3 ≤ m2 := g6
  obtain rfl : a = a2 := (nI_eq ha (by omega)).mp g1
  obtain rfl : m = n2 := (nI_eq (by omega) (by omega)).mp g2
  obtain rfl : b = b2 := (nI_eq hb (by omega)).mp g4
  obtain rfl : m = n3 := (nI_eq (by omega) (by omega)).mp g5
  exact alF_cg (hw.it hr ey g3) (hw.it hq ez g6) k
theorem lw_fits (h : RL S V) (a0 a1 a2 a3 a4 a5 : Int32) : hc_fits V a0 a1 a2 a3 a4 a5 (fun r V1 => hm_fits S a0 a1 a2 a3 a4 a5 (fun r2 S2 => r2 = r ∧ RLw S2 V1)) := by
  obtain ⟨V1, V2, V3⟩ := V
  obtain ⟨hT, hw⟩ := h
  have hT : V2 = S.2.2.2 6 := hT
  subst hT
  have hk : okT (S.2.2.2 6) := hw.2.1.2
  have ht := hk.1
  have r6 : S.2.2.2 6 6 ≤ 6 := ht.2.2.2.2.2.2.1
  refine ⟨fun c0 => ⟨fun _ => ⟨rfl, hw⟩, fun z0 => absurd (show S.2.2.2 6 0 = 0 from c0) (Nat.pos_iff_ne_zero.mp z0), fun z0 => absurd (show S.2.2.2 6 0 = 0 from c0) (Nat.pos_iff_ne_zero.mp z0), fun z0 => absurd (show S.2.2.2 6 0 = 0 from c0) (Nat.pos_iff_ne_zero.mp z0), fun z0 => absurd (show S.2.2.2 6 0 = 0 from c0) (Nat.pos_iff_ne_zero.mp z0)⟩, ?_, ?_, ?_, ?_⟩
  · intro c0 c1
    refine ⟨fun z0 => absurd (show S.2.2.2 6 0 = 0 from z0) (Nat.pos_iff_ne_zero.mp (show 0 < S.2.2.2 6 0 from c0)), fun _ _ => ⟨rfl, hw⟩, fun xg xw m2 r2 q2 x1 x2 x3 x4 x5 x6 x7 x8 => ?_, fun xg r2 q2 aa2 b2 m2 x1 x2 x3 x4 x5 x6 x7 x8 x9 y1 y2 y3 y4 t8 => ?_, fun xg r2 q2 aa2 b2 m2 x1 x2 x3 x4 x5 x6 x7 x8 x9 y1 y2 y3 y4 t8 => ?_⟩
    · subst x1 x3 x5
      exact absurd c1 (badF x4 x6 x2 x7 xw)
    · subst x1 x3 x7 y4
      exact absurd c1 (badF x2 x4 x8 x9 (w01 (u := 0) (by omega)))
    · subst x1 x3 x7 y4
      exact absurd c1 (badF x2 x4 x8 x9 (w01 (u := 1) (by omega)))
  · intro c0 cw m r q e1 e2 e3 e4 e5 e6 e7 e8
    subst e1 e4 e6
    have hb : barV V3.2.2.1 r a1 q a3 (nI m) = barN S r a1 q a3 (nI m) := hw.bar e5 e7 _ _ _
    refine ⟨fun z0 => absurd (show S.2.2.2 6 0 = 0 from z0) (Nat.pos_iff_ne_zero.mp (show 0 < S.2.2.2 6 0 from c0)), fun _ z => absurd z (badF e5 e7 e2 e3 cw), fun xg xw m2 r2 q2 x1 x2 x3 x4 x5 x6 x7 x8 => ?_, fun xg r2 q2 aa2 b2 m2 x1 x2 x3 x4 x5 x6 x7 x8 x9 y1 y2 y3 y4 t8 => ?_, fun xg r2 q2 aa2 b2 m2 x1 x2 x3 x4 x5 x6 x7 x8 x9 y1 y2 y3 y4 t8 => ?_⟩
    · obtain rfl := nK e3 x7 x1
      obtain rfl := nJ e5 x4 x3
      obtain rfl := nJ e7 x6 x5
      show (-1000010) - nI (barN S r a1 q a3 (nI m)) = (-1000010) - nI (barV V3.2.2.1 r a1 q a3 (nI m)) ∧ RLw _ (vN _ 3 (barV V3.2.2.1 r a1 q a3 (nI m)))
      rw [hb]
      exact ⟨rfl, hw.st _⟩
    · obtain rfl := nJ e5 x2 x1
      obtain rfl := nJ e7 x4 x3
      obtain rfl := nK e3 x9 x7
      subst x5 x6
      exact absurd (hb.trans y3) e8
    · obtain rfl := nJ e5 x2 x1
      obtain rfl := nJ e7 x4 x3
      obtain rfl := nK e3 x9 x7
      subst x5 x6
      exact absurd (hb.trans y3) e8
  · intro c0 r q aa b m e1 e2 e3 e4 e5 e6 e7 e8 e9 f1 f2 d1 d2
    subst e1 e3 e5 e6 e7 d2
    have hb : barV V3.2.2.1 r (nI aa) q (nI b) (nI m) = barN S r (nI aa) q (nI b) (nI m) := hw.bar e2 e4 _ _ _
    refine ⟨fun z0 => absurd (show S.2.2.2 6 0 = 0 from z0) (Nat.pos_iff_ne_zero.mp (show 0 < S.2.2.2 6 0 from c0)), fun _ z => absurd z (badF e2 e4 e8 e9 (w01 (u := 0) (by omega))), fun xg xw m2 r2 q2 x1 x2 x3 x4 x5 x6 x7 x8 => ?_, fun xg r2 q2 aa2 b2 m2 x1 x2 x3 x4 x5 x6 x7 x8 x9 y1 y2 y3 y4 t8 => ?_, fun xg r2 q2 aa2 b2 m2 x1 x2 x3 x4 x5 x6 x7 x8 x9 y1 y2 y3 y4 t8 => ?_⟩
    · obtain rfl := nK e9 x7 x1
      obtain rfl := nJ e2 x4 x3
      obtain rfl := nJ e4 x6 x5
      exact absurd (hb.symm.trans d1) x8
    · obtain rfl := nJ e2 x2 x1
      obtain rfl := nJ e4 x4 x3
      obtain rfl := nK e9 x9 x7
      have hm1 := hw.2.2.2.2.2.2.2.2.2.2.2.1 r e2
      have hm2 := hw.2.2.2.2.2.2.2.2.2.2.2.1 q e4
      have za : aa2 < 2 ^ 31 := by omega
      have zb : b2 < 2 ^ 31 := by omega
      obtain rfl : aa = aa2 := (nI_eq (by omega) za).mp x5
      obtain rfl : b = b2 := (nI_eq (by omega) zb).mp x6
      refine ⟨congrArg nI ?_, hw.st8 _ _⟩
      exact (hw.al (t := S.2.2.2 6) e2 e4 za zb e9 d1 _ _ _).symm
    · exact absurd ((nI_eq (by omega) (by omega)).mp y4) (by omega)
  · intro c0 r q aa b m e1 e2 e3 e4 e5 e6 e7 e8 e9 f1 f2 d1 d2
    subst e1 e3 e5 e6 e7 d2
    have hb : barV V3.2.2.1 r (nI aa) q (nI b) (nI m) = barN S r (nI aa) q (nI b) (nI m) := hw.bar e2 e4 _ _ _
    refine ⟨fun z0 => absurd (show S.2.2.2 6 0 = 0 from z0) (Nat.pos_iff_ne_zero.mp (show 0 < S.2.2.2 6 0 from c0)), fun _ z => absurd z (badF e2 e4 e8 e9 (w01 (u := 1) (by omega))), fun xg xw m2 r2 q2 x1 x2 x3 x4 x5 x6 x7 x8 => ?_, fun xg r2 q2 aa2 b2 m2 x1 x2 x3 x4 x5 x6 x7 x8 x9 y1 y2 y3 y4 t8 => ?_, fun xg r2 q2 aa2 b2 m2 x1 x2 x3 x4 x5 x6 x7 x8 x9 y1 y2 y3 y4 t8 => ?_⟩
    · obtain rfl := nK e9 x7 x1
      obtain rfl := nJ e2 x4 x3
      obtain rfl := nJ e4 x6 x5
      exact absurd (hb.symm.trans d1) x8
    · exact absurd ((nI_eq (by omega) (by omega)).mp y4) (by omega)
    · obtain rfl := nJ e2 x2 x1
      obtain rfl := nJ e4 x4 x3
      obtain rfl := nK e9 x9 x7
      have hm1 := hw.2.2.2.2.2.2.2.2.2.2.2.1 r e2
      have hm2 := hw.2.2.2.2.2.2.2.2.2.2.2.1 q e4
      have za : aa2 < 2 ^ 31 := by omega
      have zb : b2 < 2 ^ 31 := by omega
      obtain rfl : aa = aa2 := (nI_eq (by omega) za).mp x5
      obtain rfl : b = b2 := (nI_eq (by omega) zb).mp x6
      refine ⟨congrArg nI ?_, hw.st8 _ _⟩
      exact (hw.al (t := S.2.2.2 6) e2 e4 za zb e9 d1 _ _ _).symm
theorem lw_fitsOf (h : RL S V) (a0 a1 a2 a3 a4 a5 a6 : Int32) : hc_fitsOf V a0 a1 a2 a3 a4 a5 a6 (fun r V1 => hm_fitsOf S a0 a1 a2 a3 a4 a5 a6 (fun r2 S2 => r2 = r ∧ RLw S2 V1)) := by
  obtain ⟨V1, V2, V3⟩ := V
  obtain ⟨hT, hw⟩ := h
  have hT : V2 = S.2.2.2 6 := hT
  subst hT
  have hk : okT (S.2.2.2 6) := hw.2.1.2
  have ht := hk.1
  have r6 : S.2.2.2 6 6 ≤ 6 := ht.2.2.2.2.2.2.1
  refine ⟨?_, ?_, ?_, ?_⟩
  · intro c1
    refine ⟨fun _ => ⟨rfl, hw⟩, fun xg xw m2 r2 q2 x1 x2 x3 x4 x5 x6 x7 x8 => ?_, fun k2 r2 q2 aa2 b2 m2 xc xk x1 x2 x3 x4 x5 x6 x7 x8 x9 y1 y2 y3 y4 t8 => ?_, fun k2 r2 q2 aa2 b2 m2 xc xk x1 x2 x3 x4 x5 x6 x7 x8 x9 y1 y2 y3 y4 t8 => ?_⟩
    · obtain ⟨k2, xe, xk⟩ := inB_p (by omega) xg
      subst xe x1 x3 x5
      exact absurd c1 (badG r6 xk x4 x6 x2 x7 xw)
    · subst xc x1 x3 x7 y4
      exact absurd c1 (badG r6 xk x2 x4 x8 x9 (w01 (u := 0) (by omega)))
    · subst xc x1 x3 x7 y4
      exact absurd c1 (badG r6 xk x2 x4 x8 x9 (w01 (u := 1) (by omega)))
  · intro cg cw m r q e1 e2 e3 e4 e5 e6 e7 e8
    obtain ⟨k, ek, ck⟩ := inB_p (by show S.2.2.2 6 6 < 2 ^ 31; omega) cg
    subst ek e1 e4 e6
    have hb : barV V3.2.2.1 r a2 q a4 (nI m) = barN S r a2 q a4 (nI m) := hw.bar e5 e7 _ _ _
    refine ⟨fun z => absurd z (badG r6 ck e5 e7 e2 e3 cw), fun xg xw m2 r2 q2 x1 x2 x3 x4 x5 x6 x7 x8 => ?_, fun k2 r2 q2 aa2 b2 m2 xc xk x1 x2 x3 x4 x5 x6 x7 x8 x9 y1 y2 y3 y4 t8 => ?_, fun k2 r2 q2 aa2 b2 m2 xc xk x1 x2 x3 x4 x5 x6 x7 x8 x9 y1 y2 y3 y4 t8 => ?_⟩
    · obtain rfl := nK e3 x7 x1
      obtain rfl := nJ e5 x4 x3
      obtain rfl := nJ e7 x6 x5
      show (-1000010) - nI (barN S r a2 q a4 (nI m)) = (-1000010) - nI (barV V3.2.2.1 r a2 q a4 (nI m)) ∧ RLw _ (vN _ 3 (barV V3.2.2.1 r a2 q a4 (nI m)))
      rw [hb]
      exact ⟨rfl, hw.st _⟩
    · obtain rfl := nJ e5 x2 x1
      obtain rfl := nJ e7 x4 x3
      obtain rfl := nK e3 x9 x7
      subst x5 x6
      exact absurd (hb.trans y3) e8
    · obtain rfl := nJ e5 x2 x1
      obtain rfl := nJ e7 x4 x3
      obtain rfl := nK e3 x9 x7
      subst x5 x6
      exact absurd (hb.trans y3) e8
  · intro k r q aa b m ek ck e1 e2 e3 e4 e5 e6 e7 e8 e9 f1 f2 d1 d2
    subst ek e1 e3 e5 e6 e7 d2
    have hb : barV V3.2.2.1 r (nI aa) q (nI b) (nI m) = barN S r (nI aa) q (nI b) (nI m) := hw.bar e2 e4 _ _ _
    refine ⟨fun z => absurd z (badG r6 ck e2 e4 e8 e9 (w01 (u := 0) (by omega))), fun xg xw m2 r2 q2 x1 x2 x3 x4 x5 x6 x7 x8 => ?_, fun k2 r2 q2 aa2 b2 m2 xc xk x1 x2 x3 x4 x5 x6 x7 x8 x9 y1 y2 y3 y4 t8 => ?_, fun k2 r2 q2 aa2 b2 m2 xc xk x1 x2 x3 x4 x5 x6 x7 x8 x9 y1 y2 y3 y4 t8 => ?_⟩
    · obtain rfl := nK e9 x7 x1
      obtain rfl := nJ e2 x4 x3
      obtain rfl := nJ e4 x6 x5
      exact absurd (hb.symm.trans d1) x8
    · obtain rfl := nJ e2 x2 x1
      obtain rfl := nJ e4 x4 x3
      obtain rfl := nK e9 x9 x7
      obtain rfl : k = k2 := (nI_eq (by have : k < S.2.2.2 6 6 := ck; omega) (by omega)).mp xc
      have hm1 := hw.2.2.2.2.2.2.2.2.2.2.2.1 r e2
      have hm2 := hw.2.2.2.2.2.2.2.2.2.2.2.1 q e4
      have za : aa2 < 2 ^ 31 := by omega
      have zb : b2 < 2 ^ 31 := by omega
      obtain rfl : aa = aa2 := (nI_eq (by omega) za).mp x5
      obtain rfl : b = b2 := (nI_eq (by omega) zb).mp x6
      refine ⟨congrArg nI ?_, hw.st8 _ _⟩
      exact (hw.al (t := S.2.2.2 6) e2 e4 za zb e9 d1 _ _ _).symm
    · exact absurd ((nI_eq (by omega) (by omega)).mp y4) (by omega)
  · intro k r q aa b m ek ck e1 e2 e3 e4 e5 e6 e7 e8 e9 f1 f2 d1 d2
    subst ek e1 e3 e5 e6 e7 d2
    have hb : barV V3.2.2.1 r (nI aa) q (nI b) (nI m) = barN S r (nI aa) q (nI b) (nI m) := hw.bar e2 e4 _ _ _
    refine ⟨fun z => absurd z (badG r6 ck e2 e4 e8 e9 (w01 (u := 1) (by omega))), fun xg xw m2 r2 q2 x1 x2 x3 x4 x5 x6 x7 x8 => ?_, fun k2 r2 q2 aa2 b2 m2 xc xk x1 x2 x3 x4 x5 x6 x7 x8 x9 y1 y2 y3 y4 t8 => ?_, fun k2 r2 q2 aa2 b2 m2 xc xk x1 x2 x3 x4 x5 x6 x7 x8 x9 y1 y2 y3 y4 t8 => ?_⟩
    · obtain rfl := nK e9 x7 x1
      obtain rfl := nJ e2 x4 x3
      obtain rfl := nJ e4 x6 x5
      exact absurd (hb.symm.trans d1) x8
    · exact absurd ((nI_eq (by omega) (by omega)).mp y4) (by omega)
    · obtain rfl := nJ e2 x2 x1
      obtain rfl := nJ e4 x4 x3
      obtain rfl := nK e9 x9 x7
      obtain rfl : k = k2 := (nI_eq (by have : k < S.2.2.2 6 6 := ck; omega) (by omega)).mp xc
      have hm1 := hw.2.2.2.2.2.2.2.2.2.2.2.1 r e2
      have hm2 := hw.2.2.2.2.2.2.2.2.2.2.2.1 q e4
      have za : aa2 < 2 ^ 31 := by omega
      have zb : b2 < 2 ^ 31 := by omega
      obtain rfl : aa = aa2 := (nI_eq (by omega) za).mp x5
      obtain rfl : b = b2 := (nI_eq (by omega) zb).mp x6
      refine ⟨congrArg nI ?_, hw.st8 _ _⟩
      exact (hw.al (t := S.2.2.2 6) e2 e4 za zb e9 d1 _ _ _).symm
theorem lw_share (h : RL S V) (a0 a1 a2 a3 : Int32) : hc_share V a0 a1 a2 a3 (fun r V1 => hm_share S a0 a1 a2 a3 (fun r2 S2 => r2 = r ∧ RLw S2 V1)) := by
  obtain ⟨V1, V2, V3⟩ := V
  obtain ⟨hT, hw⟩ := h
  have hT : V2 = S.2.2.2 6 := hT
  subst hT
  have hk : okT (S.2.2.2 6) := hw.2.1.2
  have ht := hk.1
  have r6 : S.2.2.2 6 6 ≤ 6 := ht.2.2.2.2.2.2.1
  refine ⟨fun c0 => ⟨fun _ => ⟨rfl, hw⟩, fun z0 => absurd (show S.2.2.2 6 0 = 0 from c0) (Nat.pos_iff_ne_zero.mp z0), fun z0 => absurd (show S.2.2.2 6 0 = 0 from c0) (Nat.pos_iff_ne_zero.mp z0), fun z0 => absurd (show S.2.2.2 6 0 = 0 from c0) (Nat.pos_iff_ne_zero.mp z0), fun z0 => absurd (show S.2.2.2 6 0 = 0 from c0) (Nat.pos_iff_ne_zero.mp z0), fun z0 => absurd (show S.2.2.2 6 0 = 0 from c0) (Nat.pos_iff_ne_zero.mp z0)⟩, ?_, ?_, ?_, ?_⟩
  · intro c0 c1
    refine ⟨fun z0 => absurd (show S.2.2.2 6 0 = 0 from z0) (Nat.pos_iff_ne_zero.mp (show 0 < S.2.2.2 6 0 from c0)), fun _ _ => ⟨rfl, hw⟩, fun xg r2 c2 m2 x1 x2 x3 x4 x5 x6 x7 x8 => ?_, fun xg r2 c2 m2 x1 x2 x3 x4 x5 x6 x7 x8 x9 => ?_, fun xg r2 aa2 c2 m2 x1 x2 x3 x4 x5 x6 x7 x8 x9 y1 y2 t8 => ?_, fun xg r2 aa2 c2 m2 x1 x2 x3 x4 x5 x6 x7 x8 x9 y1 y2 t8 => ?_⟩
    · subst x1 x3 x4
      exact absurd c1 (badS x2 x5 x6 x7)
    · subst x1 x3 x4
      exact absurd c1 (badS x2 x5 x6 x7)
    · subst x1 x4 x5
      exact absurd c1 (badS x2 x6 x7 x8)
    · subst x1 x4 x5
      exact absurd c1 (badS x2 x6 x7 x8)
  · intro c0 r c m e1 e2 e3 e4 e5 e6 e7 e8
    subst e1 e3 e4
    have q := hw.r_n e2 e8
    refine ⟨fun z0 => absurd (show S.2.2.2 6 0 = 0 from z0) (Nat.pos_iff_ne_zero.mp (show 0 < S.2.2.2 6 0 from c0)), fun _ z => absurd z (badS e2 e5 e6 e7), fun xg r2 c2 m2 x1 x2 x3 x4 x5 x6 x7 x8 => ⟨rfl, hw.st _⟩, fun xg r2 c2 m2 x1 x2 x3 x4 x5 x6 x7 x8 x9 => ?_, fun xg r2 aa2 c2 m2 x1 x2 x3 x4 x5 x6 x7 x8 x9 y1 y2 t8 => ?_, fun xg r2 aa2 c2 m2 x1 x2 x3 x4 x5 x6 x7 x8 x9 y1 y2 t8 => ?_⟩
    · obtain rfl := nJ e2 x2 x1
      exact absurd q x8
    · obtain rfl := nJ e2 x2 x1
      exact absurd q x9
    · obtain rfl := nJ e2 x2 x1
      exact absurd q x9
  · intro c0 r c m l1 m1 f1 e1 e2 e3 e4 e5 e6 e7 e8 e9
    subst e1 e3 e4
    obtain ⟨q1, q2, q3, q4, q5, q6, q7⟩ := hw.r_s e2 e8
    refine ⟨fun z0 => absurd (show S.2.2.2 6 0 = 0 from z0) (Nat.pos_iff_ne_zero.mp (show 0 < S.2.2.2 6 0 from c0)), fun _ z => absurd z (badS e2 e5 e6 e7), fun xg r2 c2 m2 x1 x2 x3 x4 x5 x6 x7 x8 => ?_, fun xg r2 c2 m2 x1 x2 x3 x4 x5 x6 x7 x8 x9 => ⟨rfl, hw.st _⟩, fun xg r2 aa2 c2 m2 x1 x2 x3 x4 x5 x6 x7 x8 x9 y1 y2 t8 => ?_, fun xg r2 aa2 c2 m2 x1 x2 x3 x4 x5 x6 x7 x8 x9 y1 y2 t8 => ?_⟩
    · obtain rfl := nJ e2 x2 x1
      exact absurd x8 q6
    · obtain rfl := nJ e2 x2 x1
      obtain rfl := nK e6 x7 x4
      subst x3
      exact (px e9 q5 (by omega)).elim
    · obtain rfl := nJ e2 x2 x1
      obtain rfl := nK e6 x7 x4
      subst x3
      exact (px e9 q5 (by omega)).elim
  · intro c0 r aa c m l1 m1 f1 e1 e2 e3 e4 e5 e6 e7 e8 e9 d1
    subst e1 e3 e4 e5
    obtain ⟨q1, q2, q3, q4, q5, q6, q7⟩ := hw.r_s e2 e9
    have it := hw.it e2 e9 d1
    have hB : shB (itV V3.2.2.1) (S.2.2.2 6) (40 * r + aa) m = shB (S.2.2.1 3) (S.2.2.2 6) (40 * r + aa) m := shB_cg m it
    have hA : shA (itV V3.2.2.1) (S.2.2.2 6) (40 * r + aa) c m = shA (S.2.2.1 3) (S.2.2.2 6) (40 * r + aa) c m := shA_cg m it
    refine ⟨fun z0 => absurd (show S.2.2.2 6 0 = 0 from z0) (Nat.pos_iff_ne_zero.mp (show 0 < S.2.2.2 6 0 from c0)), fun _ z => absurd z (badS e2 e6 e7 e8), fun xg r2 c2 m2 x1 x2 x3 x4 x5 x6 x7 x8 => ?_, fun xg r2 c2 m2 x1 x2 x3 x4 x5 x6 x7 x8 x9 => ?_, fun xg r2 aa2 c2 m2 x1 x2 x3 x4 x5 x6 x7 x8 x9 y1 y2 t8 => ?_, fun xg r2 aa2 c2 m2 x1 x2 x3 x4 x5 x6 x7 x8 x9 y1 y2 t8 => ?_⟩
    · obtain rfl := nJ e2 x2 x1
      exact absurd x8 q6
    · obtain rfl := nJ e2 x2 x1
      obtain rfl := nK e7 x6 x3
      rw [q3] at x9
      exact (px x9 q5 d1).elim
    · obtain rfl := nJ e2 x2 x1
      obtain rfl := nK e7 x7 x4
      obtain rfl : aa = aa2 := (nI_eq (by omega) (by omega)).mp x3
      refine ⟨?_, hw.st8 _ _⟩
      show kNONE = (if shB (itV V3.2.2.1) (S.2.2.2 6) (40 * r + aa) m then _ else kNONE)
      rw [hB, y2]
      rfl
    · obtain rfl := nJ e2 x2 x1
      obtain rfl := nK e7 x7 x4
      obtain rfl : aa = aa2 := (nI_eq (by omega) (by omega)).mp x3
      obtain rfl : c = c2 := nK (by omega) (by omega) x5
      refine ⟨?_, hw.st8 _ _⟩
      show nI _ = (if shB (itV V3.2.2.1) (S.2.2.2 6) (40 * r + aa) m then nI (shA (itV V3.2.2.1) (S.2.2.2 6) (40 * r + aa) c m) else kNONE)
      rw [hB, y2, hA]
      rfl
end LW7
