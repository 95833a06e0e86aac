theorem ST.shel {G : gl_T} {f0 : Nat → Option (Nat × va_E)} {x : Nat} {fs : List Value} (h : ST G f0 x fs 1 (f0, x + 1)) : ST G f0 x fs 10 (mu (shM G (f0, x + 1) x 8) (x + 1) x (aq (gl_A G 6) 8 (fun k => some (x + 2 + k))), x + 1 + 9) := by
  have hn : ∀ c σ e, f0 c = some (σ, e) → (mu (shM G (f0, x + 1) x 8) (x + 1) x (aq (gl_A G 6) 8 (fun k => some (x + 2 + k)))) c = some (σ, e) := by
    intro c σ e hc
    have hl : c < x + 1 := h.2.1 c σ e hc
    rw [mu_n (by omega)]
    show (if c = x + 1 then _ else if x + 1 < c ∧ c ≤ x + 1 + 8 then _ else f0 c) = _
    rw [if_neg (by omega), if_neg (by omega)]
    exact hc
  refine ⟨by show x + 1 + 9 = x + 10; omega, fun c σ e hc => ?_, fun c σ e _ hf => hn c σ e hf, hn _ _ _ h.2.2.2.1, fun j h1 h2 => ?_⟩
  · show c < x + 1 + 9
    by_cases z : c < x + 1 + 9
    · exact z
    · exfalso
      have hc' := hc
      rw [show ((mu (shM G (f0, x + 1) x 8) (x + 1) x (aq (gl_A G 6) 8 (fun k => some (x + 2 + k))), x + 1 + 9) : wd_T).1 c = shM G (f0, x + 1) x 8 c from mu_n (by omega)] at hc'
      have hc2 : (if c = x + 1 then some (x, aq (gl_A G 6) 8 (fun i => if i < 8 then some (x + 1 + 1 + i) else none)) else if x + 1 < c ∧ c ≤ x + 1 + 8 then some (x, .inr (1, [.null])) else f0 c) = some (σ, e) := hc'
      rw [if_neg (by omega), if_neg (by omega)] at hc2
      have := h.2.1 c σ e hc2
      have hl : c < x + 1 := this
      omega
  · refine ⟨fun z => ?_, fun z1 z2 => ?_, fun z => ?_, fun z => ?_, fun z => ?_, fun z => ?_, fun z => ?_, fun z => ?_, fun z => ?_, fun z => ?_, fun z => ?_, fun z => ?_⟩ <;> first | (exfalso; omega) | skip
    · exact mu_s
    · show (mu (shM G (f0, x + 1) x 8) (x + 1) x _) (x + j) = _
      rw [mu_n (by omega)]
      show (if x + j = x + 1 then _ else if x + 1 < x + j ∧ x + j ≤ x + 1 + 8 then some (x, .inr (1, [.null])) else f0 (x + j)) = _
      rw [if_neg (by omega), if_pos (by omega)]
/-! ===== the class: its constructor ===== -/
set_option maxRecDepth 100000
set_option maxHeartbeats 400000 in
theorem kX0_init (G : gl_T) (hG : GH G) (f0 : Nat → Option (Nat × va_E)) (x : Nat) (hb : f0 x = some (x, .inr (0, [.null, .null, .int (nI 0), .int (nI 0), .null, .null, .null, .int (nI 0), .null, .null, .int (nI 0), .null, .null, .null]))) (hw : WF (f0, x + 1)) : Mt G yX0_init cX0_init 1 none 4 [.ref x] (f0, x + 1) (pV (fun w' => ST G f0 x [.ref (x + 1), .ref (x + 10), .int (nI 0), .int (nI 0), .ref (x + 11), .ref (x + 16), .ref (x + 21), .int (nI 0), .ref (x + 22), .ref (x + 23), .int (nI 0), .ref (x + 25), .ref (x + 26), .ref (x + 27)] 28 w')) 27 277 := by
  refine Mt.start (by decide) (Nat.le_of_ble_eq_true rfl) (fun k C => ?_)
  have C : Cx G k cX0_init "MoodFare" "<init>" 1 none 4 27 277 _ := C
  have hs0 : ST G f0 x [.null, .null, .int (nI 0), .int (nI 0), .null, .null, .null, .int (nI 0), .null, .null, .int (nI 0), .null, .null, .null] 1 (f0, x + 1) := ⟨rfl, hw, fun c σ e _ h => h, hb, fun j h1 h2 => by omega⟩
  refine j_aload_n C dX0_init_0 rfl 0 rfl ?_
  refine j_objInit (w := ((f0, x + 1).1, x + 1)) C q114 q115 q116 (Nat.le_of_ble_eq_true rfl) dX0_init_1 ?_
  refine j_aload_n C dX0_init_4 rfl 0 rfl ?_
  refine j_callS (w := ((f0, x + 1).1, x + 1)) C (kX0_shelves G (f0, x + 1) hG x) pA.ret 0 q117 q118 q66 q119 (by decide +kernel) rfl (by decide) (by decide) (Nat.le_of_ble_eq_true rfl) rfl dX0_init_5 (by omega) (by omega) (qA.k ?_)
  refine j_cgQ (w := (shM G (f0, x + 1) x 8, x + 1 + 9)) (a := x + 1) (g := fun k => some (x + 2 + k)) (shM_a (G := G) (w := (f0, x + 1)) (τ := x) (n := 8)) (fun i hi => by show (if i < 8 then some (x + 1 + 1 + i) else none) = _; rw [if_pos hi]) ?_
  refine j_abs (P := ST G f0 x [.null, .null, .int (nI 0), .int (nI 0), .null, .null, .null, .int (nI 0), .null, .null, .int (nI 0), .null, .null, .null] 10) (ST.shel hs0) (fun v1 hs1 => ?_)
  obtain ⟨g1, rfl⟩ : ∃ g, v1 = (g, x + 10) := ⟨v1.1, Prod.ext rfl hs1.1⟩
  refine j_putF (w := ((g1, x + 10).1, x + 10)) C (ty0 := tyX0) in_X0 tyX0_ok nmX0 (ci := 0) (T := TX0) rfl hs1.2.2.2.1 0 (by decide) q245 (fun _ z => z) rfl rfl rfl rfl (fs' := [.ref (x + 1), .null, .int (nI 0), .int (nI 0), .null, .null, .null, .int (nI 0), .null, .null, .int (nI 0), .null, .null, .null]) (Nat.le_of_ble_eq_true rfl) rfl dX0_init_8 ?_
  refine j_abs (P := ST G f0 x [.ref (x + 1), .null, .int (nI 0), .int (nI 0), .null, .null, .null, .int (nI 0), .null, .null, .int (nI 0), .null, .null, .null] 10) (ST.put hs1) (fun v2 hs2 => ?_)
  obtain ⟨g2, rfl⟩ : ∃ g, v2 = (g, x + 10) := ⟨v2.1, Prod.ext rfl hs2.1⟩
  refine j_aload_n C dX0_init_11 rfl 0 rfl ?_
  refine j_bipush (v := nI 120) C dX0_init_12 rfl ?_
  refine j_newb (w := ((g2, x + 10).1, x + 10)) C x (120) q164 rfl (by omega) (by omega) (by omega) dX0_init_14 ?_
  refine j_abs (P := ST G f0 x [.ref (x + 1), .null, .int (nI 0), .int (nI 0), .null, .null, .null, .int (nI 0), .null, .null, .int (nI 0), .null, .null, .null] 11) (ST.new (by omega) hs2 (by refine ⟨fun z => ?_, fun z1 z2 => ?_, fun z => ?_, fun z => ?_, fun z => ?_, fun z => ?_, fun z => ?_, fun z => ?_, fun z => ?_, fun z => ?_, fun z => ?_, fun z => ?_⟩ <;> first | (exfalso; omega) | exact mu_s)) (fun v3 hs3 => ?_)
  obtain ⟨g3, rfl⟩ : ∃ g, v3 = (g, x + 11) := ⟨v3.1, Prod.ext rfl hs3.1⟩
  refine j_putF (w := ((g3, x + 11).1, x + 11)) C (ty0 := tyX0) in_X0 tyX0_ok nmX0 (ci := 0) (T := TX0) rfl hs3.2.2.2.1 1 (by decide) q246 (fun _ z => z) rfl rfl rfl rfl (fs' := [.ref (x + 1), .ref (x + 10), .int (nI 0), .int (nI 0), .null, .null, .null, .int (nI 0), .null, .null, .int (nI 0), .null, .null, .null]) (Nat.le_of_ble_eq_true rfl) rfl dX0_init_16 ?_
  refine j_abs (P := ST G f0 x [.ref (x + 1), .ref (x + 10), .int (nI 0), .int (nI 0), .null, .null, .null, .int (nI 0), .null, .null, .int (nI 0), .null, .null, .null] 11) (ST.put hs3) (fun v4 hs4 => ?_)
  obtain ⟨g4, rfl⟩ : ∃ g, v4 = (g, x + 11) := ⟨v4.1, Prod.ext rfl hs4.1⟩
  refine j_aload_n C dX0_init_19 rfl 0 rfl ?_
  refine j_new (w := ((g4, x + 11).1, x + 11)) C (x + 11) (fs := [.int (nI 0), .int (nI 0), .int (nI 0), .int (nI 0), .int (nI 0), .null, .null, .int (nI 0), .null, .null, .int (nI 0)]) (ty := tyX2) in_X2 tyX2_ok (ci := 2) (T := TX2) rfl q132 q133 q68 (by decide) (by omega) (by omega) dX0_init_20 ?_
  refine j_dup C dX0_init_23 rfl ?_
  refine j_callIN (w := ((mu (g4, x + 11).1 (x + 11) (x + 11) (.inr (2, [.int (nI 0), .int (nI 0), .int (nI 0), .int (nI 0), .int (nI 0), .null, .null, .int (nI 0), .null, .null, .int (nI 0)]))), x + 12)) C (kX2_init G ((mu (g4, x + 11).1 (x + 11) (x + 11) (.inr (2, [.int (nI 0), .int (nI 0), .int (nI 0), .int (nI 0), .int (nI 0), .null, .null, .int (nI 0), .null, .null, .int (nI 0)]))), x + 12) hG (x + 11) mu_s rfl (hs4.2.1.new)) pV.ret 0 (C.nw hG q134 rfl) q135 q68 q136 rfl (by decide +kernel) rfl (by decide) (by decide) (Nat.le_of_ble_eq_true rfl) rfl dX0_init_24 (by omega) (by omega) (pV.k (fun y104 hp104 => ?_))
  refine j_abs (P := ST G f0 x [.ref (x + 1), .ref (x + 10), .int (nI 0), .int (nI 0), .null, .null, .null, .int (nI 0), .null, .null, .int (nI 0), .null, .null, .null] 16) (ST.town (by omega) hs4 hp104) (fun v5 hs5 => ?_)
  obtain ⟨g5, rfl⟩ : ∃ g, v5 = (g, x + 16) := ⟨v5.1, Prod.ext rfl hs5.1⟩
  refine j_putF (w := ((g5, x + 16).1, x + 16)) C (ty0 := tyX0) in_X0 tyX0_ok nmX0 (ci := 0) (T := TX0) rfl hs5.2.2.2.1 4 (by decide) q251 (fun _ z => z) rfl rfl rfl rfl (fs' := [.ref (x + 1), .ref (x + 10), .int (nI 0), .int (nI 0), .ref (x + 11), .null, .null, .int (nI 0), .null, .null, .int (nI 0), .null, .null, .null]) (Nat.le_of_ble_eq_true rfl) rfl dX0_init_27 ?_
  refine j_abs (P := ST G f0 x [.ref (x + 1), .ref (x + 10), .int (nI 0), .int (nI 0), .ref (x + 11), .null, .null, .int (nI 0), .null, .null, .int (nI 0), .null, .null, .null] 16) (ST.put hs5) (fun v6 hs6 => ?_)
  obtain ⟨g6, rfl⟩ : ∃ g, v6 = (g, x + 16) := ⟨v6.1, Prod.ext rfl hs6.1⟩
  refine j_aload_n C dX0_init_30 rfl 0 rfl ?_
  refine j_new (w := ((g6, x + 16).1, x + 16)) C (x + 16) (fs := [.int (nI 0), .int (nI 0), .int (nI 0), .int (nI 0), .int (nI 0), .null, .null, .int (nI 0), .null, .null, .int (nI 0)]) (ty := tyX2) in_X2 tyX2_ok (ci := 2) (T := TX2) rfl q132 q133 q68 (by decide) (by omega) (by omega) dX0_init_31 ?_
  refine j_dup C dX0_init_34 rfl ?_
  refine j_callIN (w := ((mu (g6, x + 16).1 (x + 16) (x + 16) (.inr (2, [.int (nI 0), .int (nI 0), .int (nI 0), .int (nI 0), .int (nI 0), .null, .null, .int (nI 0), .null, .null, .int (nI 0)]))), x + 17)) C (kX2_init G ((mu (g6, x + 16).1 (x + 16) (x + 16) (.inr (2, [.int (nI 0), .int (nI 0), .int (nI 0), .int (nI 0), .int (nI 0), .null, .null, .int (nI 0), .null, .null, .int (nI 0)]))), x + 17) hG (x + 16) mu_s rfl (hs6.2.1.new)) pV.ret 0 (C.nw hG q134 rfl) q135 q68 q136 rfl (by decide +kernel) rfl (by decide) (by decide) (Nat.le_of_ble_eq_true rfl) rfl dX0_init_35 (by omega) (by omega) (pV.k (fun y106 hp106 => ?_))
  refine j_abs (P := ST G f0 x [.ref (x + 1), .ref (x + 10), .int (nI 0), .int (nI 0), .ref (x + 11), .null, .null, .int (nI 0), .null, .null, .int (nI 0), .null, .null, .null] 21) (ST.town (by omega) hs6 hp106) (fun v7 hs7 => ?_)
  obtain ⟨g7, rfl⟩ : ∃ g, v7 = (g, x + 21) := ⟨v7.1, Prod.ext rfl hs7.1⟩
  refine j_putF (w := ((g7, x + 21).1, x + 21)) C (ty0 := tyX0) in_X0 tyX0_ok nmX0 (ci := 0) (T := TX0) rfl hs7.2.2.2.1 5 (by decide) q255 (fun _ z => z) rfl rfl rfl rfl (fs' := [.ref (x + 1), .ref (x + 10), .int (nI 0), .int (nI 0), .ref (x + 11), .ref (x + 16), .null, .int (nI 0), .null, .null, .int (nI 0), .null, .null, .null]) (Nat.le_of_ble_eq_true rfl) rfl dX0_init_38 ?_
  refine j_abs (P := ST G f0 x [.ref (x + 1), .ref (x + 10), .int (nI 0), .int (nI 0), .ref (x + 11), .ref (x + 16), .null, .int (nI 0), .null, .null, .int (nI 0), .null, .null, .null] 21) (ST.put hs7) (fun v8 hs8 => ?_)
  obtain ⟨g8, rfl⟩ : ∃ g, v8 = (g, x + 21) := ⟨v8.1, Prod.ext rfl hs8.1⟩
  refine j_aload_n C dX0_init_41 rfl 0 rfl ?_
  refine j_bipush (v := nI 24) C dX0_init_42 rfl ?_
  refine j_newq (w := ((g8, x + 21).1, x + 21)) C x 5 (24) q132 (C.nw hG q229 rfl) rfl rfl (by omega) (by omega) (by omega) dX0_init_44 ?_
  refine j_abs (P := ST G f0 x [.ref (x + 1), .ref (x + 10), .int (nI 0), .int (nI 0), .ref (x + 11), .ref (x + 16), .null, .int (nI 0), .null, .null, .int (nI 0), .null, .null, .null] 22) (ST.new (by omega) hs8 (by refine ⟨fun z => ?_, fun z1 z2 => ?_, fun z => ?_, fun z => ?_, fun z => ?_, fun z => ?_, fun z => ?_, fun z => ?_, fun z => ?_, fun z => ?_, fun z => ?_, fun z => ?_⟩ <;> first | (exfalso; omega) | exact mu_s)) (fun v9 hs9 => ?_)
  obtain ⟨g9, rfl⟩ : ∃ g, v9 = (g, x + 22) := ⟨v9.1, Prod.ext rfl hs9.1⟩
  refine j_putF (w := ((g9, x + 22).1, x + 22)) C (ty0 := tyX0) in_X0 tyX0_ok nmX0 (ci := 0) (T := TX0) rfl hs9.2.2.2.1 6 (by decide) q256 (fun _ z => z) rfl rfl rfl rfl (fs' := [.ref (x + 1), .ref (x + 10), .int (nI 0), .int (nI 0), .ref (x + 11), .ref (x + 16), .ref (x + 21), .int (nI 0), .null, .null, .int (nI 0), .null, .null, .null]) (Nat.le_of_ble_eq_true rfl) rfl dX0_init_47 ?_
  refine j_abs (P := ST G f0 x [.ref (x + 1), .ref (x + 10), .int (nI 0), .int (nI 0), .ref (x + 11), .ref (x + 16), .ref (x + 21), .int (nI 0), .null, .null, .int (nI 0), .null, .null, .null] 22) (ST.put hs9) (fun v10 hs10 => ?_)
  obtain ⟨g10, rfl⟩ : ∃ g, v10 = (g, x + 22) := ⟨v10.1, Prod.ext rfl hs10.1⟩
  refine j_aload_n C dX0_init_50 rfl 0 rfl ?_
  refine j_iconst (v := nI 2) C dX0_init_51 rfl ?_
  refine j_newq (w := ((g10, x + 22).1, x + 22)) C x 5 (2) q132 (C.nw hG q229 rfl) rfl rfl (by omega) (by omega) (by omega) dX0_init_52 ?_
  refine j_abs (P := ST G f0 x [.ref (x + 1), .ref (x + 10), .int (nI 0), .int (nI 0), .ref (x + 11), .ref (x + 16), .ref (x + 21), .int (nI 0), .null, .null, .int (nI 0), .null, .null, .null] 23) (ST.new (by omega) hs10 (by refine ⟨fun z => ?_, fun z1 z2 => ?_, fun z => ?_, fun z => ?_, fun z => ?_, fun z => ?_, fun z => ?_, fun z => ?_, fun z => ?_, fun z => ?_, fun z => ?_, fun z => ?_⟩ <;> first | (exfalso; omega) | exact mu_s)) (fun v11 hs11 => ?_)
  obtain ⟨g11, rfl⟩ : ∃ g, v11 = (g, x + 23) := ⟨v11.1, Prod.ext rfl hs11.1⟩
  refine j_putF (w := ((g11, x + 23).1, x + 23)) C (ty0 := tyX0) in_X0 tyX0_ok nmX0 (ci := 0) (T := TX0) rfl hs11.2.2.2.1 8 (by decide) q258 (fun _ z => z) rfl rfl rfl rfl (fs' := [.ref (x + 1), .ref (x + 10), .int (nI 0), .int (nI 0), .ref (x + 11), .ref (x + 16), .ref (x + 21), .int (nI 0), .ref (x + 22), .null, .int (nI 0), .null, .null, .null]) (Nat.le_of_ble_eq_true rfl) rfl dX0_init_55 ?_
  refine j_abs (P := ST G f0 x [.ref (x + 1), .ref (x + 10), .int (nI 0), .int (nI 0), .ref (x + 11), .ref (x + 16), .ref (x + 21), .int (nI 0), .ref (x + 22), .null, .int (nI 0), .null, .null, .null] 23) (ST.put hs11) (fun v12 hs12 => ?_)
  obtain ⟨g12, rfl⟩ : ∃ g, v12 = (g, x + 23) := ⟨v12.1, Prod.ext rfl hs12.1⟩
  refine j_aload_n C dX0_init_58 rfl 0 rfl ?_
  refine j_new (w := ((g12, x + 23).1, x + 23)) C (x + 23) (fs := [.null, .int (nI 0)]) (ty := tyX3) in_X3 tyX3_ok (ci := 3) (T := TX3) rfl q230 q231 q72 (by decide) (by omega) (by omega) dX0_init_59 ?_
  refine j_dup C dX0_init_62 rfl ?_
  refine j_callIN (w := ((mu (g12, x + 23).1 (x + 23) (x + 23) (.inr (3, [.null, .int (nI 0)]))), x + 24)) C (kX3_init G ((mu (g12, x + 23).1 (x + 23) (x + 23) (.inr (3, [.null, .int (nI 0)]))), x + 24) (x + 23) (x + 23) 0 .null mu_s (by show x + 23 < x + 24; omega)) pV.ret 0 (C.nw hG q232 rfl) q233 q72 q234 rfl (by decide +kernel) rfl (by decide) (by decide) (Nat.le_of_ble_eq_true rfl) rfl dX0_init_63 (by omega) (by omega) (qV.k ?_)
  refine J.eq (w' := (mu (mu (g12, x + 23).1 (x + 23) (x + 23) (.inr (3, [.ref (x + 24), .int (nI 0)]))) (x + 24) (x + 23) (ai (gl_A G 0) 16 (fun _ => 0)), x + 25)) ?_ (congrArg (fun z => (z, x + 25)) (mu_d1.trans (mu_c (by omega)))) rfl rfl
  refine j_abs (P := ST G f0 x [.ref (x + 1), .ref (x + 10), .int (nI 0), .int (nI 0), .ref (x + 11), .ref (x + 16), .ref (x + 21), .int (nI 0), .ref (x + 22), .null, .int (nI 0), .null, .null, .null] 25) (ST.new (w := (mu (g12, x + 23).1 (x + 23) (x + 23) (.inr (3, [.ref (x + 24), .int (nI 0)])), x + 24)) (by omega) (ST.new (τ := x + 23) (e := (.inr (3, [.ref (x + 24), .int (nI 0)]))) (by omega) hs12 (by refine ⟨fun z => ?_, fun z1 z2 => ?_, fun z => ?_, fun z => ?_, fun z => ?_, fun z => ?_, fun z => ?_, fun z => ?_, fun z => ?_, fun z => ?_, fun z => ?_, fun z => ?_⟩ <;> first | (exfalso; omega) | exact mu_s)) (by refine ⟨fun z => ?_, fun z1 z2 => ?_, fun z => ?_, fun z => ?_, fun z => ?_, fun z => ?_, fun z => ?_, fun z => ?_, fun z => ?_, fun z => ?_, fun z => ?_, fun z => ?_⟩ <;> first | (exfalso; omega) | exact mu_s)) (fun v13 hs13 => ?_)
  obtain ⟨g13, rfl⟩ : ∃ g, v13 = (g, x + 25) := ⟨v13.1, Prod.ext rfl hs13.1⟩
  refine j_put (w := ((g13, x + 25).1, x + 25)) C (ty0 := tyX0) in_X0 tyX0_ok nmX0 (ci := 0) (T := TX0) rfl hs13.2.2.2.1 9 (by decide) q259 (fun _ z => z) rfl rfl rfl (fs' := [.ref (x + 1), .ref (x + 10), .int (nI 0), .int (nI 0), .ref (x + 11), .ref (x + 16), .ref (x + 21), .int (nI 0), .ref (x + 22), .ref (x + 23), .int (nI 0), .null, .null, .null]) (Nat.le_of_ble_eq_true rfl) rfl dX0_init_66 ?_
  refine j_abs (P := ST G f0 x [.ref (x + 1), .ref (x + 10), .int (nI 0), .int (nI 0), .ref (x + 11), .ref (x + 16), .ref (x + 21), .int (nI 0), .ref (x + 22), .ref (x + 23), .int (nI 0), .null, .null, .null] 25) (ST.put hs13) (fun v14 hs14 => ?_)
  obtain ⟨g14, rfl⟩ : ∃ g, v14 = (g, x + 25) := ⟨v14.1, Prod.ext rfl hs14.1⟩
  refine j_aload_n C dX0_init_69 rfl 0 rfl ?_
  refine j_bipush (v := nI 9) C dX0_init_70 rfl ?_
  refine j_newq (w := ((g14, x + 25).1, x + 25)) C x 5 (9) q132 (C.nw hG q229 rfl) rfl rfl (by omega) (by omega) (by omega) dX0_init_72 ?_
  refine j_abs (P := ST G f0 x [.ref (x + 1), .ref (x + 10), .int (nI 0), .int (nI 0), .ref (x + 11), .ref (x + 16), .ref (x + 21), .int (nI 0), .ref (x + 22), .ref (x + 23), .int (nI 0), .null, .null, .null] 26) (ST.new (by omega) hs14 (by refine ⟨fun z => ?_, fun z1 z2 => ?_, fun z => ?_, fun z => ?_, fun z => ?_, fun z => ?_, fun z => ?_, fun z => ?_, fun z => ?_, fun z => ?_, fun z => ?_, fun z => ?_⟩ <;> first | (exfalso; omega) | exact mu_s)) (fun v15 hs15 => ?_)
  obtain ⟨g15, rfl⟩ : ∃ g, v15 = (g, x + 26) := ⟨v15.1, Prod.ext rfl hs15.1⟩
  refine j_putF (w := ((g15, x + 26).1, x + 26)) C (ty0 := tyX0) in_X0 tyX0_ok nmX0 (ci := 0) (T := TX0) rfl hs15.2.2.2.1 11 (by decide) q261 (fun _ z => z) rfl rfl rfl rfl (fs' := [.ref (x + 1), .ref (x + 10), .int (nI 0), .int (nI 0), .ref (x + 11), .ref (x + 16), .ref (x + 21), .int (nI 0), .ref (x + 22), .ref (x + 23), .int (nI 0), .ref (x + 25), .null, .null]) (Nat.le_of_ble_eq_true rfl) rfl dX0_init_75 ?_
  refine j_abs (P := ST G f0 x [.ref (x + 1), .ref (x + 10), .int (nI 0), .int (nI 0), .ref (x + 11), .ref (x + 16), .ref (x + 21), .int (nI 0), .ref (x + 22), .ref (x + 23), .int (nI 0), .ref (x + 25), .null, .null] 26) (ST.put hs15) (fun v16 hs16 => ?_)
  obtain ⟨g16, rfl⟩ : ∃ g, v16 = (g, x + 26) := ⟨v16.1, Prod.ext rfl hs16.1⟩
  refine j_aload_n C dX0_init_78 rfl 0 rfl ?_
  refine j_bipush (v := nI 8) C dX0_init_79 rfl ?_
  refine j_newi (w := ((g16, x + 26).1, x + 26)) C x (8) q228 rfl (by omega) (by omega) (by omega) dX0_init_81 ?_
  refine j_abs (P := ST G f0 x [.ref (x + 1), .ref (x + 10), .int (nI 0), .int (nI 0), .ref (x + 11), .ref (x + 16), .ref (x + 21), .int (nI 0), .ref (x + 22), .ref (x + 23), .int (nI 0), .ref (x + 25), .null, .null] 27) (ST.new (by omega) hs16 (by refine ⟨fun z => ?_, fun z1 z2 => ?_, fun z => ?_, fun z => ?_, fun z => ?_, fun z => ?_, fun z => ?_, fun z => ?_, fun z => ?_, fun z => ?_, fun z => ?_, fun z => ?_⟩ <;> first | (exfalso; omega) | exact mu_s)) (fun v17 hs17 => ?_)
  obtain ⟨g17, rfl⟩ : ∃ g, v17 = (g, x + 27) := ⟨v17.1, Prod.ext rfl hs17.1⟩
  refine j_putF (w := ((g17, x + 27).1, x + 27)) C (ty0 := tyX0) in_X0 tyX0_ok nmX0 (ci := 0) (T := TX0) rfl hs17.2.2.2.1 12 (by decide) q262 (fun _ z => z) rfl rfl rfl rfl (fs' := [.ref (x + 1), .ref (x + 10), .int (nI 0), .int (nI 0), .ref (x + 11), .ref (x + 16), .ref (x + 21), .int (nI 0), .ref (x + 22), .ref (x + 23), .int (nI 0), .ref (x + 25), .ref (x + 26), .null]) (Nat.le_of_ble_eq_true rfl) rfl dX0_init_83 ?_
  refine j_abs (P := ST G f0 x [.ref (x + 1), .ref (x + 10), .int (nI 0), .int (nI 0), .ref (x + 11), .ref (x + 16), .ref (x + 21), .int (nI 0), .ref (x + 22), .ref (x + 23), .int (nI 0), .ref (x + 25), .ref (x + 26), .null] 27) (ST.put hs17) (fun v18 hs18 => ?_)
  obtain ⟨g18, rfl⟩ : ∃ g, v18 = (g, x + 27) := ⟨v18.1, Prod.ext rfl hs18.1⟩
  refine j_aload_n C dX0_init_86 rfl 0 rfl ?_
  refine j_bipush (v := nI 8) C dX0_init_87 rfl ?_
  refine j_newi (w := ((g18, x + 27).1, x + 27)) C x (8) q228 rfl (by omega) (by omega) (by omega) dX0_init_89 ?_
  refine j_abs (P := ST G f0 x [.ref (x + 1), .ref (x + 10), .int (nI 0), .int (nI 0), .ref (x + 11), .ref (x + 16), .ref (x + 21), .int (nI 0), .ref (x + 22), .ref (x + 23), .int (nI 0), .ref (x + 25), .ref (x + 26), .null] 28) (ST.new (by omega) hs18 (by refine ⟨fun z => ?_, fun z1 z2 => ?_, fun z => ?_, fun z => ?_, fun z => ?_, fun z => ?_, fun z => ?_, fun z => ?_, fun z => ?_, fun z => ?_, fun z => ?_, fun z => ?_⟩ <;> first | (exfalso; omega) | exact mu_s)) (fun v19 hs19 => ?_)
  obtain ⟨g19, rfl⟩ : ∃ g, v19 = (g, x + 28) := ⟨v19.1, Prod.ext rfl hs19.1⟩
  refine j_putF (w := ((g19, x + 28).1, x + 28)) C (ty0 := tyX0) in_X0 tyX0_ok nmX0 (ci := 0) (T := TX0) rfl hs19.2.2.2.1 13 (by decide) q263 (fun _ z => z) rfl rfl rfl rfl (fs' := [.ref (x + 1), .ref (x + 10), .int (nI 0), .int (nI 0), .ref (x + 11), .ref (x + 16), .ref (x + 21), .int (nI 0), .ref (x + 22), .ref (x + 23), .int (nI 0), .ref (x + 25), .ref (x + 26), .ref (x + 27)]) (Nat.le_of_ble_eq_true rfl) rfl dX0_init_91 ?_
  refine j_abs (P := ST G f0 x [.ref (x + 1), .ref (x + 10), .int (nI 0), .int (nI 0), .ref (x + 11), .ref (x + 16), .ref (x + 21), .int (nI 0), .ref (x + 22), .ref (x + 23), .int (nI 0), .ref (x + 25), .ref (x + 26), .ref (x + 27)] 28) (ST.put hs19) (fun v20 hs20 => ?_)
  obtain ⟨g20, rfl⟩ : ∃ g, v20 = (g, x + 28) := ⟨v20.1, Prod.ext rfl hs20.1⟩
  exact j_vret C (by omega) (by omega) (pV.mk hs20) dX0_init_94
