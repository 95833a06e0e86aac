/-! ===== the class: corners, trails, what is well ===== -/
set_option maxRecDepth 100000
set_option maxHeartbeats 400000 in
theorem kX7_init_7 (G : gl_T) (w : wd_T) (b τ : Nat) (x y p q : Int32) (hb : w.1 b = some (τ, .inr (7, [.int x, .int y]))) : Mt G yX7_init cX7_init 3 none 0 [.ref b, .int p, .int q] w (qV (mu w.1 b τ (.inr (7, [.int p, .int q])), w.2)) 0 0 := by
  refine Mt.start (by decide) (Nat.le_of_ble_eq_true rfl) (fun k C => ?_)
  have C : Cx G k cX7_init "MoodFare$Corner" "<init>" 3 none 0 0 0 _ := C
  refine j_aload_n C dX7_init_0 rfl 0 rfl ?_
  refine j_objInit (w := w) C q714 q115 q116 (Nat.le_of_ble_eq_true rfl) dX7_init_1 ?_
  refine j_aload_n C dX7_init_4 rfl 0 rfl ?_
  refine j_iload_n C dX7_init_5 rfl 1 rfl ?_
  refine j_putF (w := w) C (ty0 := tyX8) in_X8 tyX8_ok nmX8 (ci := 7) (T := TX8) rfl hb 0 (by decide) q715 (fun _ z => z) rfl rfl rfl rfl (fs' := [.int p, .int y]) (Nat.le_of_ble_eq_true rfl) rfl dX7_init_6 ?_
  refine j_aload_n C dX7_init_9 rfl 0 rfl ?_
  refine j_iload_n C dX7_init_10 rfl 2 rfl ?_
  refine j_putF (w := ((mu w.1 b τ (.inr (7, [.int p, .int y]))), w.2)) C (ty0 := tyX8) in_X8 tyX8_ok nmX8 (ci := 7) (T := TX8) rfl mu_s 1 (by decide) q716 (fun _ z => z) rfl rfl rfl rfl (fs' := [.int p, .int q]) (Nat.le_of_ble_eq_true rfl) rfl dX7_init_11 ?_
  refine J.eq (w' := ((mu w.1 b τ (.inr (7, [.int p, .int q]))), w.2)) ?_ (congrArg (fun z => (z, w.2)) mu_mu) rfl rfl
  exact j_vret C (by omega) (by omega) (pV.mk rfl) dX7_init_14
set_option maxHeartbeats 400000 in
theorem kX7_init_8 (G : gl_T) (w : wd_T) (b τ : Nat) (x y p q : Int32) (hb : w.1 b = some (τ, .inr (8, [.int x, .int y]))) : Mt G yX7_init cX7_init 3 none 0 [.ref b, .int p, .int q] w (qV (mu w.1 b τ (.inr (8, [.int p, .int q])), w.2)) 0 0 := by
  refine Mt.start (by decide) (Nat.le_of_ble_eq_true rfl) (fun k C => ?_)
  have C : Cx G k cX7_init "MoodFare$Corner" "<init>" 3 none 0 0 0 _ := C
  refine j_aload_n C dX7_init_0 rfl 0 rfl ?_
  refine j_objInit (w := w) C q714 q115 q116 (Nat.le_of_ble_eq_true rfl) dX7_init_1 ?_
  refine j_aload_n C dX7_init_4 rfl 0 rfl ?_
  refine j_iload_n C dX7_init_5 rfl 1 rfl ?_
  refine j_putF (w := w) C (ty0 := tyX9) in_X9 tyX9_ok nmX9 (ci := 8) (T := TX9) rfl hb 0 (by decide) q715 (fun _ z => z) rfl rfl rfl rfl (fs' := [.int p, .int y]) (Nat.le_of_ble_eq_true rfl) rfl dX7_init_6 ?_
  refine j_aload_n C dX7_init_9 rfl 0 rfl ?_
  refine j_iload_n C dX7_init_10 rfl 2 rfl ?_
  refine j_putF (w := ((mu w.1 b τ (.inr (8, [.int p, .int y]))), w.2)) C (ty0 := tyX9) in_X9 tyX9_ok nmX9 (ci := 8) (T := TX9) rfl mu_s 1 (by decide) q716 (fun _ z => z) rfl rfl rfl rfl (fs' := [.int p, .int q]) (Nat.le_of_ble_eq_true rfl) rfl dX7_init_11 ?_
  refine J.eq (w' := ((mu w.1 b τ (.inr (8, [.int p, .int q]))), w.2)) ?_ (congrArg (fun z => (z, w.2)) mu_mu) rfl rfl
  exact j_vret C (by omega) (by omega) (pV.mk rfl) dX7_init_14
set_option maxHeartbeats 400000 in
theorem kX7_init_9 (G : gl_T) (w : wd_T) (b τ : Nat) (x y p q : Int32) (hb : w.1 b = some (τ, .inr (9, [.int x, .int y]))) : Mt G yX7_init cX7_init 3 none 0 [.ref b, .int p, .int q] w (qV (mu w.1 b τ (.inr (9, [.int p, .int q])), w.2)) 0 0 := by
  refine Mt.start (by decide) (Nat.le_of_ble_eq_true rfl) (fun k C => ?_)
  have C : Cx G k cX7_init "MoodFare$Corner" "<init>" 3 none 0 0 0 _ := C
  refine j_aload_n C dX7_init_0 rfl 0 rfl ?_
  refine j_objInit (w := w) C q714 q115 q116 (Nat.le_of_ble_eq_true rfl) dX7_init_1 ?_
  refine j_aload_n C dX7_init_4 rfl 0 rfl ?_
  refine j_iload_n C dX7_init_5 rfl 1 rfl ?_
  refine j_putF (w := w) C (ty0 := tyX10) in_X10 tyX10_ok nmX10 (ci := 9) (T := TX10) rfl hb 0 (by decide) q715 (fun _ z => z) rfl rfl rfl rfl (fs' := [.int p, .int y]) (Nat.le_of_ble_eq_true rfl) rfl dX7_init_6 ?_
  refine j_aload_n C dX7_init_9 rfl 0 rfl ?_
  refine j_iload_n C dX7_init_10 rfl 2 rfl ?_
  refine j_putF (w := ((mu w.1 b τ (.inr (9, [.int p, .int y]))), w.2)) C (ty0 := tyX10) in_X10 tyX10_ok nmX10 (ci := 9) (T := TX10) rfl mu_s 1 (by decide) q716 (fun _ z => z) rfl rfl rfl rfl (fs' := [.int p, .int q]) (Nat.le_of_ble_eq_true rfl) rfl dX7_init_11 ?_
  refine J.eq (w' := ((mu w.1 b τ (.inr (9, [.int p, .int q]))), w.2)) ?_ (congrArg (fun z => (z, w.2)) mu_mu) rfl rfl
  exact j_vret C (by omega) (by omega) (pV.mk rfl) dX7_init_14
set_option maxHeartbeats 400000 in
theorem kX7_init_10 (G : gl_T) (w : wd_T) (b τ : Nat) (x y p q : Int32) (hb : w.1 b = some (τ, .inr (10, [.int x, .int y]))) : Mt G yX7_init cX7_init 3 none 0 [.ref b, .int p, .int q] w (qV (mu w.1 b τ (.inr (10, [.int p, .int q])), w.2)) 0 0 := by
  refine Mt.start (by decide) (Nat.le_of_ble_eq_true rfl) (fun k C => ?_)
  have C : Cx G k cX7_init "MoodFare$Corner" "<init>" 3 none 0 0 0 _ := C
  refine j_aload_n C dX7_init_0 rfl 0 rfl ?_
  refine j_objInit (w := w) C q714 q115 q116 (Nat.le_of_ble_eq_true rfl) dX7_init_1 ?_
  refine j_aload_n C dX7_init_4 rfl 0 rfl ?_
  refine j_iload_n C dX7_init_5 rfl 1 rfl ?_
  refine j_putF (w := w) C (ty0 := tyX11) in_X11 tyX11_ok nmX11 (ci := 10) (T := TX11) rfl hb 0 (by decide) q715 (fun _ z => z) rfl rfl rfl rfl (fs' := [.int p, .int y]) (Nat.le_of_ble_eq_true rfl) rfl dX7_init_6 ?_
  refine j_aload_n C dX7_init_9 rfl 0 rfl ?_
  refine j_iload_n C dX7_init_10 rfl 2 rfl ?_
  refine j_putF (w := ((mu w.1 b τ (.inr (10, [.int p, .int y]))), w.2)) C (ty0 := tyX11) in_X11 tyX11_ok nmX11 (ci := 10) (T := TX11) rfl mu_s 1 (by decide) q716 (fun _ z => z) rfl rfl rfl rfl (fs' := [.int p, .int q]) (Nat.le_of_ble_eq_true rfl) rfl dX7_init_11 ?_
  refine J.eq (w' := ((mu w.1 b τ (.inr (10, [.int p, .int q]))), w.2)) ?_ (congrArg (fun z => (z, w.2)) mu_mu) rfl rfl
  exact j_vret C (by omega) (by omega) (pV.mk rfl) dX7_init_14
set_option maxHeartbeats 400000 in
theorem kX7_init_11 (G : gl_T) (w : wd_T) (b τ : Nat) (x y p q : Int32) (hb : w.1 b = some (τ, .inr (11, [.int x, .int y]))) : Mt G yX7_init cX7_init 3 none 0 [.ref b, .int p, .int q] w (qV (mu w.1 b τ (.inr (11, [.int p, .int q])), w.2)) 0 0 := by
  refine Mt.start (by decide) (Nat.le_of_ble_eq_true rfl) (fun k C => ?_)
  have C : Cx G k cX7_init "MoodFare$Corner" "<init>" 3 none 0 0 0 _ := C
  refine j_aload_n C dX7_init_0 rfl 0 rfl ?_
  refine j_objInit (w := w) C q714 q115 q116 (Nat.le_of_ble_eq_true rfl) dX7_init_1 ?_
  refine j_aload_n C dX7_init_4 rfl 0 rfl ?_
  refine j_iload_n C dX7_init_5 rfl 1 rfl ?_
  refine j_putF (w := w) C (ty0 := tyX12) in_X12 tyX12_ok nmX12 (ci := 11) (T := TX12) rfl hb 0 (by decide) q715 (fun _ z => z) rfl rfl rfl rfl (fs' := [.int p, .int y]) (Nat.le_of_ble_eq_true rfl) rfl dX7_init_6 ?_
  refine j_aload_n C dX7_init_9 rfl 0 rfl ?_
  refine j_iload_n C dX7_init_10 rfl 2 rfl ?_
  refine j_putF (w := ((mu w.1 b τ (.inr (11, [.int p, .int y]))), w.2)) C (ty0 := tyX12) in_X12 tyX12_ok nmX12 (ci := 11) (T := TX12) rfl mu_s 1 (by decide) q716 (fun _ z => z) rfl rfl rfl rfl (fs' := [.int p, .int q]) (Nat.le_of_ble_eq_true rfl) rfl dX7_init_11 ?_
  refine J.eq (w' := ((mu w.1 b τ (.inr (11, [.int p, .int q]))), w.2)) ?_ (congrArg (fun z => (z, w.2)) mu_mu) rfl rfl
  exact j_vret C (by omega) (by omega) (pV.mk rfl) dX7_init_14
set_option maxHeartbeats 400000 in
theorem kX8_init_7 (G : gl_T) (w : wd_T) (b τ : Nat) (x y p q : Int32) (hb : w.1 b = some (τ, .inr (7, [.int x, .int y]))) : Mt G yX8_init cX8_init 3 none 1 [.ref b, .int p, .int q] w (qV (mu w.1 b τ (.inr (7, [.int p, .int q])), w.2)) 0 0 := by
  refine Mt.start (by decide) (Nat.le_of_ble_eq_true rfl) (fun k C => ?_)
  have C : Cx G k cX8_init "MoodFare$Joy" "<init>" 3 none 1 0 0 _ := C
  refine j_aload_n C dX8_init_0 rfl 0 rfl ?_
  refine j_iload_n C dX8_init_1 rfl 1 rfl ?_
  refine j_iload_n C dX8_init_2 rfl 2 rfl ?_
  refine j_callI (w := w) C (kX7_init_7 G w b τ x y p q hb) pV.ret 2 q711 q712 q91 q713 rfl (by decide +kernel) rfl (by decide) (by decide) (Nat.le_of_ble_eq_true rfl) rfl dX8_init_3 (by omega) (by omega) (qV.k ?_)
  exact j_vret C (by omega) (by omega) (pV.mk rfl) dX8_init_6
set_option maxHeartbeats 400000 in
theorem kX8_init_8 (G : gl_T) (w : wd_T) (b τ : Nat) (x y p q : Int32) (hb : w.1 b = some (τ, .inr (8, [.int x, .int y]))) : Mt G yX8_init cX8_init 3 none 1 [.ref b, .int p, .int q] w (qV (mu w.1 b τ (.inr (8, [.int p, .int q])), w.2)) 0 0 := by
  refine Mt.start (by decide) (Nat.le_of_ble_eq_true rfl) (fun k C => ?_)
  have C : Cx G k cX8_init "MoodFare$Joy" "<init>" 3 none 1 0 0 _ := C
  refine j_aload_n C dX8_init_0 rfl 0 rfl ?_
  refine j_iload_n C dX8_init_1 rfl 1 rfl ?_
  refine j_iload_n C dX8_init_2 rfl 2 rfl ?_
  refine j_callI (w := w) C (kX7_init_8 G w b τ x y p q hb) pV.ret 2 q711 q712 q91 q713 rfl (by decide +kernel) rfl (by decide) (by decide) (Nat.le_of_ble_eq_true rfl) rfl dX8_init_3 (by omega) (by omega) (qV.k ?_)
  exact j_vret C (by omega) (by omega) (pV.mk rfl) dX8_init_6
set_option maxHeartbeats 400000 in
theorem kX8_init_9 (G : gl_T) (w : wd_T) (b τ : Nat) (x y p q : Int32) (hb : w.1 b = some (τ, .inr (9, [.int x, .int y]))) : Mt G yX8_init cX8_init 3 none 1 [.ref b, .int p, .int q] w (qV (mu w.1 b τ (.inr (9, [.int p, .int q])), w.2)) 0 0 := by
  refine Mt.start (by decide) (Nat.le_of_ble_eq_true rfl) (fun k C => ?_)
  have C : Cx G k cX8_init "MoodFare$Joy" "<init>" 3 none 1 0 0 _ := C
  refine j_aload_n C dX8_init_0 rfl 0 rfl ?_
  refine j_iload_n C dX8_init_1 rfl 1 rfl ?_
  refine j_iload_n C dX8_init_2 rfl 2 rfl ?_
  refine j_callI (w := w) C (kX7_init_9 G w b τ x y p q hb) pV.ret 2 q711 q712 q91 q713 rfl (by decide +kernel) rfl (by decide) (by decide) (Nat.le_of_ble_eq_true rfl) rfl dX8_init_3 (by omega) (by omega) (qV.k ?_)
  exact j_vret C (by omega) (by omega) (pV.mk rfl) dX8_init_6
set_option maxHeartbeats 400000 in
theorem kX11_init_10 (G : gl_T) (w : wd_T) (b τ : Nat) (x y p q : Int32) (hb : w.1 b = some (τ, .inr (10, [.int x, .int y]))) : Mt G yX11_init cX11_init 3 none 1 [.ref b, .int p, .int q] w (qV (mu w.1 b τ (.inr (10, [.int p, .int q])), w.2)) 0 0 := by
  refine Mt.start (by decide) (Nat.le_of_ble_eq_true rfl) (fun k C => ?_)
  have C : Cx G k cX11_init "MoodFare$Grief" "<init>" 3 none 1 0 0 _ := C
  refine j_aload_n C dX11_init_0 rfl 0 rfl ?_
  refine j_iload_n C dX11_init_1 rfl 1 rfl ?_
  refine j_iload_n C dX11_init_2 rfl 2 rfl ?_
  refine j_callI (w := w) C (kX7_init_10 G w b τ x y p q hb) pV.ret 2 q745 q712 q91 q713 rfl (by decide +kernel) rfl (by decide) (by decide) (Nat.le_of_ble_eq_true rfl) rfl dX11_init_3 (by omega) (by omega) (qV.k ?_)
  exact j_vret C (by omega) (by omega) (pV.mk rfl) dX11_init_6
set_option maxHeartbeats 400000 in
theorem kX11_init_11 (G : gl_T) (w : wd_T) (b τ : Nat) (x y p q : Int32) (hb : w.1 b = some (τ, .inr (11, [.int x, .int y]))) : Mt G yX11_init cX11_init 3 none 1 [.ref b, .int p, .int q] w (qV (mu w.1 b τ (.inr (11, [.int p, .int q])), w.2)) 0 0 := by
  refine Mt.start (by decide) (Nat.le_of_ble_eq_true rfl) (fun k C => ?_)
  have C : Cx G k cX11_init "MoodFare$Grief" "<init>" 3 none 1 0 0 _ := C
  refine j_aload_n C dX11_init_0 rfl 0 rfl ?_
  refine j_iload_n C dX11_init_1 rfl 1 rfl ?_
  refine j_iload_n C dX11_init_2 rfl 2 rfl ?_
  refine j_callI (w := w) C (kX7_init_11 G w b τ x y p q hb) pV.ret 2 q745 q712 q91 q713 rfl (by decide +kernel) rfl (by decide) (by decide) (Nat.le_of_ble_eq_true rfl) rfl dX11_init_3 (by omega) (by omega) (qV.k ?_)
  exact j_vret C (by omega) (by omega) (pV.mk rfl) dX11_init_6
set_option maxHeartbeats 400000 in
theorem kX9_init_8 (G : gl_T) (w : wd_T) (b τ : Nat) (x y p q : Int32) (hb : w.1 b = some (τ, .inr (8, [.int x, .int y]))) : Mt G yX9_init cX9_init 3 none 2 [.ref b, .int p, .int q] w (qV (mu w.1 b τ (.inr (8, [.int p, .int q])), w.2)) 0 0 := by
  refine Mt.start (by decide) (Nat.le_of_ble_eq_true rfl) (fun k C => ?_)
  have C : Cx G k cX9_init "MoodFare$Love" "<init>" 3 none 2 0 0 _ := C
  refine j_aload_n C dX9_init_0 rfl 0 rfl ?_
  refine j_iload_n C dX9_init_1 rfl 1 rfl ?_
  refine j_iload_n C dX9_init_2 rfl 2 rfl ?_
  refine j_callI (w := w) C (kX8_init_8 G w b τ x y p q hb) pV.ret 2 q727 q709 q92 q710 rfl (by decide +kernel) rfl (by decide) (by decide) (Nat.le_of_ble_eq_true rfl) rfl dX9_init_3 (by omega) (by omega) (qV.k ?_)
  exact j_vret C (by omega) (by omega) (pV.mk rfl) dX9_init_6
set_option maxHeartbeats 400000 in
theorem kX10_init_9 (G : gl_T) (w : wd_T) (b τ : Nat) (x y p q : Int32) (hb : w.1 b = some (τ, .inr (9, [.int x, .int y]))) : Mt G yX10_init cX10_init 3 none 2 [.ref b, .int p, .int q] w (qV (mu w.1 b τ (.inr (9, [.int p, .int q])), w.2)) 0 0 := by
  refine Mt.start (by decide) (Nat.le_of_ble_eq_true rfl) (fun k C => ?_)
  have C : Cx G k cX10_init "MoodFare$Haste" "<init>" 3 none 2 0 0 _ := C
  refine j_aload_n C dX10_init_0 rfl 0 rfl ?_
  refine j_iload_n C dX10_init_1 rfl 1 rfl ?_
  refine j_iload_n C dX10_init_2 rfl 2 rfl ?_
  refine j_callI (w := w) C (kX8_init_9 G w b τ x y p q hb) pV.ret 2 q736 q709 q92 q710 rfl (by decide +kernel) rfl (by decide) (by decide) (Nat.le_of_ble_eq_true rfl) rfl dX10_init_3 (by omega) (by omega) (qV.k ?_)
  exact j_vret C (by omega) (by omega) (pV.mk rfl) dX10_init_6
set_option maxHeartbeats 400000 in
theorem kX12_init_11 (G : gl_T) (w : wd_T) (b τ : Nat) (x y p q : Int32) (hb : w.1 b = some (τ, .inr (11, [.int x, .int y]))) : Mt G yX12_init cX12_init 3 none 2 [.ref b, .int p, .int q] w (qV (mu w.1 b τ (.inr (11, [.int p, .int q])), w.2)) 0 0 := by
  refine Mt.start (by decide) (Nat.le_of_ble_eq_true rfl) (fun k C => ?_)
  have C : Cx G k cX12_init "MoodFare$Ruin" "<init>" 3 none 2 0 0 _ := C
  refine j_aload_n C dX12_init_0 rfl 0 rfl ?_
  refine j_iload_n C dX12_init_1 rfl 1 rfl ?_
  refine j_iload_n C dX12_init_2 rfl 2 rfl ?_
  refine j_callI (w := w) C (kX11_init_11 G w b τ x y p q hb) pV.ret 2 q754 q743 q95 q744 rfl (by decide +kernel) rfl (by decide) (by decide) (Nat.le_of_ble_eq_true rfl) rfl dX12_init_3 (by omega) (by omega) (qV.k ?_)
  exact j_vret C (by omega) (by omega) (pV.mk rfl) dX12_init_6
set_option maxHeartbeats 400000 in
theorem kX0_cornerBy_1 (G : gl_T) (w : wd_T) (p q : Int32) : Mt G yX0_cornerBy cX0_cornerBy 3 (some (.object "MoodFare$Corner")) 3 [.int (nI 1), .int p, .int q] w (qA (.ref w.2) (mu w.1 w.2 w.2 (.inr (7, [.int p, .int q])), w.2 + 1)) 1 2 := by
  refine Mt.start (by decide) (Nat.le_of_ble_eq_true rfl) (fun k C => ?_)
  have C : Cx G k cX0_cornerBy "MoodFare" "cornerBy" 3 (some (.object "MoodFare$Corner")) 3 1 2 _ := C
  refine j_iload_n C dX0_cornerBy_0 rfl 0 rfl ?_
  rcases (show 1 = 1 ∨ 1 = 2 ∨ 1 = 3 ∨ 1 = 4 ∨ ¬ (1 ≤ 1 ∧ 1 ≤ 4) by omega) with c1 | c1 | c1 | c1 | c1
  · refine j_as (y := nI 1) (by rw [c1]) ?_
    refine j_tableIn (off := 31) C 32 dX0_cornerBy_1 (by decide +kernel) (by decide +kernel) (by decide +kernel) (by decide) ?_
    refine j_new (w := w) C w.2 (fs := [.int (nI 0), .int (nI 0)]) (ty := tyX8) in_X8 tyX8_ok (ci := 7) (T := TX8) rfl q706 q707 q92 (by decide) (by omega) (by omega) dX0_cornerBy_32 ?_
    refine j_dup C dX0_cornerBy_35 rfl ?_
    refine j_iload_n C dX0_cornerBy_36 rfl 1 rfl ?_
    refine j_iload_n C dX0_cornerBy_37 rfl 2 rfl ?_
    refine j_callI (w := ((mu w.1 w.2 w.2 (.inr (7, [.int (nI 0), .int (nI 0)]))), w.2 + 1)) C (kX8_init_7 G ((mu w.1 w.2 w.2 (.inr (7, [.int (nI 0), .int (nI 0)]))), w.2 + 1) w.2 w.2 (nI 0) (nI 0) p q mu_s) pV.ret 2 q708 q709 q92 q710 rfl (by decide +kernel) rfl (by decide) (by decide) (Nat.le_of_ble_eq_true rfl) rfl dX0_cornerBy_38 (by omega) (by omega) (qV.k ?_)
    exact j_aret C (by first | exact Or.inl ⟨_, rfl⟩ | exact Or.inr ⟨_, rfl⟩) (by first | exact Or.inl rfl | exact Or.inr ⟨_, rfl⟩) (by omega) (by omega) (pA.mk ⟨rfl, congrArg (fun z => (z, w.2 + 1)) mu_mu⟩) dX0_cornerBy_41
  · refine j_as (y := nI 2) (by rw [c1]) ?_
    refine j_tableIn (off := 41) C 42 dX0_cornerBy_1 (by decide +kernel) (by decide +kernel) (by decide +kernel) (by decide) ?_
    exfalso; omega
  · refine j_as (y := nI 3) (by rw [c1]) ?_
    refine j_tableIn (off := 51) C 52 dX0_cornerBy_1 (by decide +kernel) (by decide +kernel) (by decide +kernel) (by decide) ?_
    exfalso; omega
  · refine j_as (y := nI 4) (by rw [c1]) ?_
    refine j_tableIn (off := 61) C 62 dX0_cornerBy_1 (by decide +kernel) (by decide +kernel) (by decide +kernel) (by decide) ?_
    exfalso; omega
  · refine j_tableOut C 72 dX0_cornerBy_1 (by rw [nI_toInt (by omega)]; omega) (by decide) ?_
    exfalso; omega
set_option maxHeartbeats 400000 in
theorem kX0_cornerBy_2 (G : gl_T) (w : wd_T) (p q : Int32) : Mt G yX0_cornerBy cX0_cornerBy 3 (some (.object "MoodFare$Corner")) 3 [.int (nI 2), .int p, .int q] w (qA (.ref w.2) (mu w.1 w.2 w.2 (.inr (8, [.int p, .int q])), w.2 + 1)) 1 2 := by
  refine Mt.start (by decide) (Nat.le_of_ble_eq_true rfl) (fun k C => ?_)
  have C : Cx G k cX0_cornerBy "MoodFare" "cornerBy" 3 (some (.object "MoodFare$Corner")) 3 1 2 _ := C
  refine j_iload_n C dX0_cornerBy_0 rfl 0 rfl ?_
  rcases (show 2 = 1 ∨ 2 = 2 ∨ 2 = 3 ∨ 2 = 4 ∨ ¬ (1 ≤ 2 ∧ 2 ≤ 4) by omega) with c1 | c1 | c1 | c1 | c1
  · refine j_as (y := nI 1) (by rw [c1]) ?_
    refine j_tableIn (off := 31) C 32 dX0_cornerBy_1 (by decide +kernel) (by decide +kernel) (by decide +kernel) (by decide) ?_
    exfalso; omega
  · refine j_as (y := nI 2) (by rw [c1]) ?_
    refine j_tableIn (off := 41) C 42 dX0_cornerBy_1 (by decide +kernel) (by decide +kernel) (by decide +kernel) (by decide) ?_
    refine j_new (w := w) C w.2 (fs := [.int (nI 0), .int (nI 0)]) (ty := tyX9) in_X9 tyX9_ok (ci := 8) (T := TX9) rfl q722 q723 q93 (by decide) (by omega) (by omega) dX0_cornerBy_42 ?_
    refine j_dup C dX0_cornerBy_45 rfl ?_
    refine j_iload_n C dX0_cornerBy_46 rfl 1 rfl ?_
    refine j_iload_n C dX0_cornerBy_47 rfl 2 rfl ?_
    refine j_callI (w := ((mu w.1 w.2 w.2 (.inr (8, [.int (nI 0), .int (nI 0)]))), w.2 + 1)) C (kX9_init_8 G ((mu w.1 w.2 w.2 (.inr (8, [.int (nI 0), .int (nI 0)]))), w.2 + 1) w.2 w.2 (nI 0) (nI 0) p q mu_s) pV.ret 2 q724 q725 q93 q726 rfl (by decide +kernel) rfl (by decide) (by decide) (Nat.le_of_ble_eq_true rfl) rfl dX0_cornerBy_48 (by omega) (by omega) (qV.k ?_)
    exact j_aret C (by first | exact Or.inl ⟨_, rfl⟩ | exact Or.inr ⟨_, rfl⟩) (by first | exact Or.inl rfl | exact Or.inr ⟨_, rfl⟩) (by omega) (by omega) (pA.mk ⟨rfl, congrArg (fun z => (z, w.2 + 1)) mu_mu⟩) dX0_cornerBy_51
  · refine j_as (y := nI 3) (by rw [c1]) ?_
    refine j_tableIn (off := 51) C 52 dX0_cornerBy_1 (by decide +kernel) (by decide +kernel) (by decide +kernel) (by decide) ?_
    exfalso; omega
  · refine j_as (y := nI 4) (by rw [c1]) ?_
    refine j_tableIn (off := 61) C 62 dX0_cornerBy_1 (by decide +kernel) (by decide +kernel) (by decide +kernel) (by decide) ?_
    exfalso; omega
  · refine j_tableOut C 72 dX0_cornerBy_1 (by rw [nI_toInt (by omega)]; omega) (by decide) ?_
    exfalso; omega
set_option maxHeartbeats 400000 in
theorem kX0_cornerBy_3 (G : gl_T) (w : wd_T) (p q : Int32) : Mt G yX0_cornerBy cX0_cornerBy 3 (some (.object "MoodFare$Corner")) 3 [.int (nI 3), .int p, .int q] w (qA (.ref w.2) (mu w.1 w.2 w.2 (.inr (9, [.int p, .int q])), w.2 + 1)) 1 2 := by
  refine Mt.start (by decide) (Nat.le_of_ble_eq_true rfl) (fun k C => ?_)
  have C : Cx G k cX0_cornerBy "MoodFare" "cornerBy" 3 (some (.object "MoodFare$Corner")) 3 1 2 _ := C
  refine j_iload_n C dX0_cornerBy_0 rfl 0 rfl ?_
  rcases (show 3 = 1 ∨ 3 = 2 ∨ 3 = 3 ∨ 3 = 4 ∨ ¬ (1 ≤ 3 ∧ 3 ≤ 4) by omega) with c1 | c1 | c1 | c1 | c1
  · refine j_as (y := nI 1) (by rw [c1]) ?_
    refine j_tableIn (off := 31) C 32 dX0_cornerBy_1 (by decide +kernel) (by decide +kernel) (by decide +kernel) (by decide) ?_
    exfalso; omega
  · refine j_as (y := nI 2) (by rw [c1]) ?_
    refine j_tableIn (off := 41) C 42 dX0_cornerBy_1 (by decide +kernel) (by decide +kernel) (by decide +kernel) (by decide) ?_
    exfalso; omega
  · refine j_as (y := nI 3) (by rw [c1]) ?_
    refine j_tableIn (off := 51) C 52 dX0_cornerBy_1 (by decide +kernel) (by decide +kernel) (by decide +kernel) (by decide) ?_
    refine j_new (w := w) C w.2 (fs := [.int (nI 0), .int (nI 0)]) (ty := tyX10) in_X10 tyX10_ok (ci := 9) (T := TX10) rfl q731 q732 q94 (by decide) (by omega) (by omega) dX0_cornerBy_52 ?_
    refine j_dup C dX0_cornerBy_55 rfl ?_
    refine j_iload_n C dX0_cornerBy_56 rfl 1 rfl ?_
    refine j_iload_n C dX0_cornerBy_57 rfl 2 rfl ?_
    refine j_callI (w := ((mu w.1 w.2 w.2 (.inr (9, [.int (nI 0), .int (nI 0)]))), w.2 + 1)) C (kX10_init_9 G ((mu w.1 w.2 w.2 (.inr (9, [.int (nI 0), .int (nI 0)]))), w.2 + 1) w.2 w.2 (nI 0) (nI 0) p q mu_s) pV.ret 2 q733 q734 q94 q735 rfl (by decide +kernel) rfl (by decide) (by decide) (Nat.le_of_ble_eq_true rfl) rfl dX0_cornerBy_58 (by omega) (by omega) (qV.k ?_)
    exact j_aret C (by first | exact Or.inl ⟨_, rfl⟩ | exact Or.inr ⟨_, rfl⟩) (by first | exact Or.inl rfl | exact Or.inr ⟨_, rfl⟩) (by omega) (by omega) (pA.mk ⟨rfl, congrArg (fun z => (z, w.2 + 1)) mu_mu⟩) dX0_cornerBy_61
  · refine j_as (y := nI 4) (by rw [c1]) ?_
    refine j_tableIn (off := 61) C 62 dX0_cornerBy_1 (by decide +kernel) (by decide +kernel) (by decide +kernel) (by decide) ?_
    exfalso; omega
  · refine j_tableOut C 72 dX0_cornerBy_1 (by rw [nI_toInt (by omega)]; omega) (by decide) ?_
    exfalso; omega
set_option maxHeartbeats 400000 in
theorem kX0_cornerBy_4 (G : gl_T) (w : wd_T) (p q : Int32) : Mt G yX0_cornerBy cX0_cornerBy 3 (some (.object "MoodFare$Corner")) 3 [.int (nI 4), .int p, .int q] w (qA (.ref w.2) (mu w.1 w.2 w.2 (.inr (10, [.int p, .int q])), w.2 + 1)) 1 2 := by
  refine Mt.start (by decide) (Nat.le_of_ble_eq_true rfl) (fun k C => ?_)
  have C : Cx G k cX0_cornerBy "MoodFare" "cornerBy" 3 (some (.object "MoodFare$Corner")) 3 1 2 _ := C
  refine j_iload_n C dX0_cornerBy_0 rfl 0 rfl ?_
  rcases (show 4 = 1 ∨ 4 = 2 ∨ 4 = 3 ∨ 4 = 4 ∨ ¬ (1 ≤ 4 ∧ 4 ≤ 4) by omega) with c1 | c1 | c1 | c1 | c1
  · refine j_as (y := nI 1) (by rw [c1]) ?_
    refine j_tableIn (off := 31) C 32 dX0_cornerBy_1 (by decide +kernel) (by decide +kernel) (by decide +kernel) (by decide) ?_
    exfalso; omega
  · refine j_as (y := nI 2) (by rw [c1]) ?_
    refine j_tableIn (off := 41) C 42 dX0_cornerBy_1 (by decide +kernel) (by decide +kernel) (by decide +kernel) (by decide) ?_
    exfalso; omega
  · refine j_as (y := nI 3) (by rw [c1]) ?_
    refine j_tableIn (off := 51) C 52 dX0_cornerBy_1 (by decide +kernel) (by decide +kernel) (by decide +kernel) (by decide) ?_
    exfalso; omega
  · refine j_as (y := nI 4) (by rw [c1]) ?_
    refine j_tableIn (off := 61) C 62 dX0_cornerBy_1 (by decide +kernel) (by decide +kernel) (by decide +kernel) (by decide) ?_
    refine j_new (w := w) C w.2 (fs := [.int (nI 0), .int (nI 0)]) (ty := tyX11) in_X11 tyX11_ok (ci := 10) (T := TX11) rfl q740 q741 q95 (by decide) (by omega) (by omega) dX0_cornerBy_62 ?_
    refine j_dup C dX0_cornerBy_65 rfl ?_
    refine j_iload_n C dX0_cornerBy_66 rfl 1 rfl ?_
    refine j_iload_n C dX0_cornerBy_67 rfl 2 rfl ?_
    refine j_callI (w := ((mu w.1 w.2 w.2 (.inr (10, [.int (nI 0), .int (nI 0)]))), w.2 + 1)) C (kX11_init_10 G ((mu w.1 w.2 w.2 (.inr (10, [.int (nI 0), .int (nI 0)]))), w.2 + 1) w.2 w.2 (nI 0) (nI 0) p q mu_s) pV.ret 2 q742 q743 q95 q744 rfl (by decide +kernel) rfl (by decide) (by decide) (Nat.le_of_ble_eq_true rfl) rfl dX0_cornerBy_68 (by omega) (by omega) (qV.k ?_)
    exact j_aret C (by first | exact Or.inl ⟨_, rfl⟩ | exact Or.inr ⟨_, rfl⟩) (by first | exact Or.inl rfl | exact Or.inr ⟨_, rfl⟩) (by omega) (by omega) (pA.mk ⟨rfl, congrArg (fun z => (z, w.2 + 1)) mu_mu⟩) dX0_cornerBy_71
  · refine j_tableOut C 72 dX0_cornerBy_1 (by rw [nI_toInt (by omega)]; omega) (by decide) ?_
    exfalso; omega
set_option maxHeartbeats 400000 in
theorem kX0_cornerBy_5 (G : gl_T) (w : wd_T) (p q : Int32) : Mt G yX0_cornerBy cX0_cornerBy 3 (some (.object "MoodFare$Corner")) 3 [.int (nI 5), .int p, .int q] w (qA (.ref w.2) (mu w.1 w.2 w.2 (.inr (11, [.int p, .int q])), w.2 + 1)) 1 2 := by
  refine Mt.start (by decide) (Nat.le_of_ble_eq_true rfl) (fun k C => ?_)
  have C : Cx G k cX0_cornerBy "MoodFare" "cornerBy" 3 (some (.object "MoodFare$Corner")) 3 1 2 _ := C
  refine j_iload_n C dX0_cornerBy_0 rfl 0 rfl ?_
  rcases (show 5 = 1 ∨ 5 = 2 ∨ 5 = 3 ∨ 5 = 4 ∨ ¬ (1 ≤ 5 ∧ 5 ≤ 4) by omega) with c1 | c1 | c1 | c1 | c1
  · refine j_as (y := nI 1) (by rw [c1]) ?_
    refine j_tableIn (off := 31) C 32 dX0_cornerBy_1 (by decide +kernel) (by decide +kernel) (by decide +kernel) (by decide) ?_
    exfalso; omega
  · refine j_as (y := nI 2) (by rw [c1]) ?_
    refine j_tableIn (off := 41) C 42 dX0_cornerBy_1 (by decide +kernel) (by decide +kernel) (by decide +kernel) (by decide) ?_
    exfalso; omega
  · refine j_as (y := nI 3) (by rw [c1]) ?_
    refine j_tableIn (off := 51) C 52 dX0_cornerBy_1 (by decide +kernel) (by decide +kernel) (by decide +kernel) (by decide) ?_
    exfalso; omega
  · refine j_as (y := nI 4) (by rw [c1]) ?_
    refine j_tableIn (off := 61) C 62 dX0_cornerBy_1 (by decide +kernel) (by decide +kernel) (by decide +kernel) (by decide) ?_
    exfalso; omega
  · refine j_tableOut C 72 dX0_cornerBy_1 (by rw [nI_toInt (by omega)]; omega) (by decide) ?_
    refine j_new (w := w) C w.2 (fs := [.int (nI 0), .int (nI 0)]) (ty := tyX12) in_X12 tyX12_ok (ci := 11) (T := TX12) rfl q749 q750 q96 (by decide) (by omega) (by omega) dX0_cornerBy_72 ?_
    refine j_dup C dX0_cornerBy_75 rfl ?_
    refine j_iload_n C dX0_cornerBy_76 rfl 1 rfl ?_
    refine j_iload_n C dX0_cornerBy_77 rfl 2 rfl ?_
    refine j_callI (w := ((mu w.1 w.2 w.2 (.inr (11, [.int (nI 0), .int (nI 0)]))), w.2 + 1)) C (kX12_init_11 G ((mu w.1 w.2 w.2 (.inr (11, [.int (nI 0), .int (nI 0)]))), w.2 + 1) w.2 w.2 (nI 0) (nI 0) p q mu_s) pV.ret 2 q751 q752 q96 q753 rfl (by decide +kernel) rfl (by decide) (by decide) (Nat.le_of_ble_eq_true rfl) rfl dX0_cornerBy_78 (by omega) (by omega) (qV.k ?_)
    exact j_aret C (by first | exact Or.inl ⟨_, rfl⟩ | exact Or.inr ⟨_, rfl⟩) (by first | exact Or.inl rfl | exact Or.inr ⟨_, rfl⟩) (by omega) (by omega) (pA.mk ⟨rfl, congrArg (fun z => (z, w.2 + 1)) mu_mu⟩) dX0_cornerBy_81
theorem kX0_cornerBy (G : gl_T) (w : wd_T) (kd : Nat) (p q : Int32) (h1 : 1 ≤ kd) (h2 : kd ≤ 5) : Mt G yX0_cornerBy cX0_cornerBy 3 (some (.object "MoodFare$Corner")) 3 [.int (nI kd), .int p, .int q] w (qA (.ref w.2) (mu w.1 w.2 w.2 (.inr (6 + kd, [.int p, .int q])), w.2 + 1)) 1 2 := by
  rcases (show kd = 1 ∨ kd = 2 ∨ kd = 3 ∨ kd = 4 ∨ kd = 5 by omega) with rfl | rfl | rfl | rfl | rfl
  · exact kX0_cornerBy_1 G w p q
  · exact kX0_cornerBy_2 G w p q
  · exact kX0_cornerBy_3 G w p q
  · exact kX0_cornerBy_4 G w p q
  · exact kX0_cornerBy_5 G w p q
set_option maxHeartbeats 400000 in
theorem kX8_kind (G : gl_T) (w : wd_T) (b : Nat) : Mt G yX8_kind cX8_kind 1 (some .int) 0 [.ref b] w (qI (nI 1) w) 0 0 := by
  refine Mt.start (by decide) (Nat.le_of_ble_eq_true rfl) (fun k C => ?_)
  have C : Cx G k cX8_kind "MoodFare$Joy" "kind" 1 (some .int) 0 0 0 _ := C
  refine j_iconst (v := nI 1) C dX8_kind_0 rfl ?_
  exact j_iret C (by omega) (by omega) (pI.mk ⟨rfl, rfl⟩) dX8_kind_1
set_option maxHeartbeats 400000 in
theorem kX7_number_7 (G : gl_T) (w : wd_T) (b τ : Nat) (x y : Int32) (hb : w.1 b = some (τ, .inr (7, [.int x, .int y]))) : Mt G yX7_number cX7_number 1 (some .int) 0 [.ref b] w (qI x w) 0 0 := by
  refine Mt.start (by decide) (Nat.le_of_ble_eq_true rfl) (fun k C => ?_)
  have C : Cx G k cX7_number "MoodFare$Corner" "number" 1 (some .int) 0 0 0 _ := C
  refine j_aload_n C dX7_number_0 rfl 0 rfl ?_
  refine j_get (w := w) C in_X8 (ci := 7) (T := TX8) rfl hb 0 (by decide) q715 (fun _ z => z) (v := .int x) rfl dX7_number_1 ?_
  exact j_iret C (by omega) (by omega) (pI.mk ⟨rfl, rfl⟩) dX7_number_4
set_option maxHeartbeats 400000 in
theorem kX7_fee_7 (G : gl_T) (w : wd_T) (b τ : Nat) (x y : Int32) (hb : w.1 b = some (τ, .inr (7, [.int x, .int y]))) : Mt G yX7_fee cX7_fee 1 (some .int) 0 [.ref b] w (qI y w) 0 0 := by
  refine Mt.start (by decide) (Nat.le_of_ble_eq_true rfl) (fun k C => ?_)
  have C : Cx G k cX7_fee "MoodFare$Corner" "fee" 1 (some .int) 0 0 0 _ := C
  refine j_aload_n C dX7_fee_0 rfl 0 rfl ?_
  refine j_get (w := w) C in_X8 (ci := 7) (T := TX8) rfl hb 1 (by decide) q716 (fun _ z => z) (v := .int y) rfl dX7_fee_1 ?_
  exact j_iret C (by omega) (by omega) (pI.mk ⟨rfl, rfl⟩) dX7_fee_4
set_option maxHeartbeats 400000 in
theorem kX9_kind (G : gl_T) (w : wd_T) (b : Nat) : Mt G yX9_kind cX9_kind 1 (some .int) 0 [.ref b] w (qI (nI 2) w) 0 0 := by
  refine Mt.start (by decide) (Nat.le_of_ble_eq_true rfl) (fun k C => ?_)
  have C : Cx G k cX9_kind "MoodFare$Love" "kind" 1 (some .int) 0 0 0 _ := C
  refine j_iconst (v := nI 2) C dX9_kind_0 rfl ?_
  exact j_iret C (by omega) (by omega) (pI.mk ⟨rfl, rfl⟩) dX9_kind_1
set_option maxHeartbeats 400000 in
theorem kX7_number_8 (G : gl_T) (w : wd_T) (b τ : Nat) (x y : Int32) (hb : w.1 b = some (τ, .inr (8, [.int x, .int y]))) : Mt G yX7_number cX7_number 1 (some .int) 0 [.ref b] w (qI x w) 0 0 := by
  refine Mt.start (by decide) (Nat.le_of_ble_eq_true rfl) (fun k C => ?_)
  have C : Cx G k cX7_number "MoodFare$Corner" "number" 1 (some .int) 0 0 0 _ := C
  refine j_aload_n C dX7_number_0 rfl 0 rfl ?_
  refine j_get (w := w) C in_X9 (ci := 8) (T := TX9) rfl hb 0 (by decide) q715 (fun _ z => z) (v := .int x) rfl dX7_number_1 ?_
  exact j_iret C (by omega) (by omega) (pI.mk ⟨rfl, rfl⟩) dX7_number_4
set_option maxHeartbeats 400000 in
theorem kX7_fee_8 (G : gl_T) (w : wd_T) (b τ : Nat) (x y : Int32) (hb : w.1 b = some (τ, .inr (8, [.int x, .int y]))) : Mt G yX7_fee cX7_fee 1 (some .int) 0 [.ref b] w (qI y w) 0 0 := by
  refine Mt.start (by decide) (Nat.le_of_ble_eq_true rfl) (fun k C => ?_)
  have C : Cx G k cX7_fee "MoodFare$Corner" "fee" 1 (some .int) 0 0 0 _ := C
  refine j_aload_n C dX7_fee_0 rfl 0 rfl ?_
  refine j_get (w := w) C in_X9 (ci := 8) (T := TX9) rfl hb 1 (by decide) q716 (fun _ z => z) (v := .int y) rfl dX7_fee_1 ?_
  exact j_iret C (by omega) (by omega) (pI.mk ⟨rfl, rfl⟩) dX7_fee_4
set_option maxHeartbeats 400000 in
theorem kX10_kind (G : gl_T) (w : wd_T) (b : Nat) : Mt G yX10_kind cX10_kind 1 (some .int) 0 [.ref b] w (qI (nI 3) w) 0 0 := by
  refine Mt.start (by decide) (Nat.le_of_ble_eq_true rfl) (fun k C => ?_)
  have C : Cx G k cX10_kind "MoodFare$Haste" "kind" 1 (some .int) 0 0 0 _ := C
  refine j_iconst (v := nI 3) C dX10_kind_0 rfl ?_
  exact j_iret C (by omega) (by omega) (pI.mk ⟨rfl, rfl⟩) dX10_kind_1
set_option maxHeartbeats 400000 in
theorem kX7_number_9 (G : gl_T) (w : wd_T) (b τ : Nat) (x y : Int32) (hb : w.1 b = some (τ, .inr (9, [.int x, .int y]))) : Mt G yX7_number cX7_number 1 (some .int) 0 [.ref b] w (qI x w) 0 0 := by
  refine Mt.start (by decide) (Nat.le_of_ble_eq_true rfl) (fun k C => ?_)
  have C : Cx G k cX7_number "MoodFare$Corner" "number" 1 (some .int) 0 0 0 _ := C
  refine j_aload_n C dX7_number_0 rfl 0 rfl ?_
  refine j_get (w := w) C in_X10 (ci := 9) (T := TX10) rfl hb 0 (by decide) q715 (fun _ z => z) (v := .int x) rfl dX7_number_1 ?_
  exact j_iret C (by omega) (by omega) (pI.mk ⟨rfl, rfl⟩) dX7_number_4
set_option maxHeartbeats 400000 in
theorem kX7_fee_9 (G : gl_T) (w : wd_T) (b τ : Nat) (x y : Int32) (hb : w.1 b = some (τ, .inr (9, [.int x, .int y]))) : Mt G yX7_fee cX7_fee 1 (some .int) 0 [.ref b] w (qI y w) 0 0 := by
  refine Mt.start (by decide) (Nat.le_of_ble_eq_true rfl) (fun k C => ?_)
  have C : Cx G k cX7_fee "MoodFare$Corner" "fee" 1 (some .int) 0 0 0 _ := C
  refine j_aload_n C dX7_fee_0 rfl 0 rfl ?_
  refine j_get (w := w) C in_X10 (ci := 9) (T := TX10) rfl hb 1 (by decide) q716 (fun _ z => z) (v := .int y) rfl dX7_fee_1 ?_
  exact j_iret C (by omega) (by omega) (pI.mk ⟨rfl, rfl⟩) dX7_fee_4
set_option maxHeartbeats 400000 in
theorem kX11_kind (G : gl_T) (w : wd_T) (b : Nat) : Mt G yX11_kind cX11_kind 1 (some .int) 0 [.ref b] w (qI (nI 4) w) 0 0 := by
  refine Mt.start (by decide) (Nat.le_of_ble_eq_true rfl) (fun k C => ?_)
  have C : Cx G k cX11_kind "MoodFare$Grief" "kind" 1 (some .int) 0 0 0 _ := C
  refine j_iconst (v := nI 4) C dX11_kind_0 rfl ?_
  exact j_iret C (by omega) (by omega) (pI.mk ⟨rfl, rfl⟩) dX11_kind_1
set_option maxHeartbeats 400000 in
theorem kX7_number_10 (G : gl_T) (w : wd_T) (b τ : Nat) (x y : Int32) (hb : w.1 b = some (τ, .inr (10, [.int x, .int y]))) : Mt G yX7_number cX7_number 1 (some .int) 0 [.ref b] w (qI x w) 0 0 := by
  refine Mt.start (by decide) (Nat.le_of_ble_eq_true rfl) (fun k C => ?_)
  have C : Cx G k cX7_number "MoodFare$Corner" "number" 1 (some .int) 0 0 0 _ := C
  refine j_aload_n C dX7_number_0 rfl 0 rfl ?_
  refine j_get (w := w) C in_X11 (ci := 10) (T := TX11) rfl hb 0 (by decide) q715 (fun _ z => z) (v := .int x) rfl dX7_number_1 ?_
  exact j_iret C (by omega) (by omega) (pI.mk ⟨rfl, rfl⟩) dX7_number_4
set_option maxHeartbeats 400000 in
theorem kX7_fee_10 (G : gl_T) (w : wd_T) (b τ : Nat) (x y : Int32) (hb : w.1 b = some (τ, .inr (10, [.int x, .int y]))) : Mt G yX7_fee cX7_fee 1 (some .int) 0 [.ref b] w (qI y w) 0 0 := by
  refine Mt.start (by decide) (Nat.le_of_ble_eq_true rfl) (fun k C => ?_)
  have C : Cx G k cX7_fee "MoodFare$Corner" "fee" 1 (some .int) 0 0 0 _ := C
  refine j_aload_n C dX7_fee_0 rfl 0 rfl ?_
  refine j_get (w := w) C in_X11 (ci := 10) (T := TX11) rfl hb 1 (by decide) q716 (fun _ z => z) (v := .int y) rfl dX7_fee_1 ?_
  exact j_iret C (by omega) (by omega) (pI.mk ⟨rfl, rfl⟩) dX7_fee_4
set_option maxHeartbeats 400000 in
theorem kX12_kind (G : gl_T) (w : wd_T) (b : Nat) : Mt G yX12_kind cX12_kind 1 (some .int) 0 [.ref b] w (qI (nI 5) w) 0 0 := by
  refine Mt.start (by decide) (Nat.le_of_ble_eq_true rfl) (fun k C => ?_)
  have C : Cx G k cX12_kind "MoodFare$Ruin" "kind" 1 (some .int) 0 0 0 _ := C
  refine j_iconst (v := nI 5) C dX12_kind_0 rfl ?_
  exact j_iret C (by omega) (by omega) (pI.mk ⟨rfl, rfl⟩) dX12_kind_1
set_option maxHeartbeats 400000 in
theorem kX7_number_11 (G : gl_T) (w : wd_T) (b τ : Nat) (x y : Int32) (hb : w.1 b = some (τ, .inr (11, [.int x, .int y]))) : Mt G yX7_number cX7_number 1 (some .int) 0 [.ref b] w (qI x w) 0 0 := by
  refine Mt.start (by decide) (Nat.le_of_ble_eq_true rfl) (fun k C => ?_)
  have C : Cx G k cX7_number "MoodFare$Corner" "number" 1 (some .int) 0 0 0 _ := C
  refine j_aload_n C dX7_number_0 rfl 0 rfl ?_
  refine j_get (w := w) C in_X12 (ci := 11) (T := TX12) rfl hb 0 (by decide) q715 (fun _ z => z) (v := .int x) rfl dX7_number_1 ?_
  exact j_iret C (by omega) (by omega) (pI.mk ⟨rfl, rfl⟩) dX7_number_4
set_option maxHeartbeats 400000 in
theorem kX7_fee_11 (G : gl_T) (w : wd_T) (b τ : Nat) (x y : Int32) (hb : w.1 b = some (τ, .inr (11, [.int x, .int y]))) : Mt G yX7_fee cX7_fee 1 (some .int) 0 [.ref b] w (qI y w) 0 0 := by
  refine Mt.start (by decide) (Nat.le_of_ble_eq_true rfl) (fun k C => ?_)
  have C : Cx G k cX7_fee "MoodFare$Corner" "fee" 1 (some .int) 0 0 0 _ := C
  refine j_aload_n C dX7_fee_0 rfl 0 rfl ?_
  refine j_get (w := w) C in_X12 (ci := 11) (T := TX12) rfl hb 1 (by decide) q716 (fun _ z => z) (v := .int y) rfl dX7_fee_1 ?_
  exact j_iret C (by omega) (by omega) (pI.mk ⟨rfl, rfl⟩) dX7_fee_4
set_option maxHeartbeats 400000 in
theorem kX8_passed (G : gl_T) (w : wd_T) (b : Nat) (m u s : Nat) (hm : m ≤ 9) (hu : u ≤ 18) (hs : s ≤ 2000) : Mt G yX8_passed cX8_passed 4 (some .int) 0 [.ref b, .int (nI m), .int (nI u), .int (nI s)] w (qI (nI (min 9 (m + u))) w) 0 0 := by
  refine Mt.start (by decide) (Nat.le_of_ble_eq_true rfl) (fun k C => ?_)
  have C : Cx G k cX8_passed "MoodFare$Joy" "passed" 4 (some .int) 0 0 0 _ := C
  refine j_bipush (v := nI 9) C dX8_passed_0 rfl ?_
  refine j_iload_n C dX8_passed_2 rfl 1 rfl ?_
  refine j_iload_n C dX8_passed_3 rfl 2 rfl ?_
  refine j_iaddN C dX8_passed_4 ?_
  refine j_mmin C q929 q631 q87 q632 (Nat.le_of_ble_eq_true rfl) (by omega) (by omega) dX8_passed_5 ?_
  refine j_as (y := nI (min 9 (m + u))) (nI_min (by omega) (by omega)) ?_
  exact j_iret C (by omega) (by omega) (pI.mk ⟨rfl, rfl⟩) dX8_passed_8
set_option maxHeartbeats 400000 in
theorem kX11_passed (G : gl_T) (w : wd_T) (b : Nat) (m u s : Nat) (hm : m ≤ 9) (hu : u ≤ 18) (hs : s ≤ 2000) : Mt G yX11_passed cX11_passed 4 (some .int) 0 [.ref b, .int (nI m), .int (nI u), .int (nI s)] w (qI (nI (m - u)) w) 0 0 := by
  refine Mt.start (by decide) (Nat.le_of_ble_eq_true rfl) (fun k C => ?_)
  have C : Cx G k cX11_passed "MoodFare$Grief" "passed" 4 (some .int) 0 0 0 _ := C
  refine j_iconst (v := nI 0) C dX11_passed_0 rfl ?_
  refine j_iload_n C dX11_passed_1 rfl 1 rfl ?_
  refine j_iload_n C dX11_passed_2 rfl 2 rfl ?_
  refine j_isub C dX11_passed_3 ?_
  refine j_mmax C q922 q628 q87 q629 (Nat.le_of_ble_eq_true rfl) (by omega) (by omega) dX11_passed_4 ?_
  refine j_as (y := nI (m - u)) (nI_max0 (by omega) (by omega)) ?_
  exact j_iret C (by omega) (by omega) (pI.mk ⟨rfl, rfl⟩) dX11_passed_7
set_option maxHeartbeats 400000 in
theorem kX9_passed (G : gl_T) (w : wd_T) (b τ : Nat) (fs : List Value) (m u s : Nat) (hm : m ≤ 9) (hu : u ≤ 9) (hs : s ≤ 2000) (hb : w.1 b = some (τ, .inr (8, fs))) : Mt G yX9_passed cX9_passed 4 (some .int) 1 [.ref b, .int (nI m), .int (nI u), .int (nI s)] w (qI (nI (min 9 (m + (if 4 < m then 2 * u else u)))) w) 0 0 := by
  refine Mt.start (by decide) (Nat.le_of_ble_eq_true rfl) (fun k C => ?_)
  have C : Cx G k cX9_passed "MoodFare$Love" "passed" 4 (some .int) 1 0 0 _ := C
  refine j_aload_n C dX9_passed_0 rfl 0 rfl ?_
  refine j_iload_n C dX9_passed_1 rfl 1 rfl ?_
  refine j_iload_n C dX9_passed_2 rfl 1 rfl ?_
  refine j_iconst (v := nI 4) C dX9_passed_3 rfl ?_
  refine j_icmp_leN C 13 dX9_passed_4 (by decide) (by omega) (by omega) (fun c4 => ?_) (fun c4 => ?_)
  · refine j_iload_n C dX9_passed_13 rfl 2 rfl ?_
    refine j_iload_n C dX9_passed_14 rfl 3 rfl ?_
    refine j_callSU (w := w) C (kX8_passed G w b m u s (by omega) (by omega) (by omega)) pI.ret (ci := 8) (T := TX9) hb rfl 3 q934 q1883 q730 q927 q92 q928 (by decide +kernel) rfl (by decide) (by decide) (Nat.le_of_ble_eq_true rfl) rfl dX9_passed_15 (by omega) (by omega) (qI.k ?_)
    exact j_iret C (by omega) (by omega) (pI.mk ⟨by rw [if_neg (by omega)], rfl⟩) dX9_passed_18
  · refine j_iconst (v := nI 2) C dX9_passed_7 rfl ?_
    refine j_iload_n C dX9_passed_8 rfl 2 rfl ?_
    refine j_imulN C dX9_passed_9 ?_
    refine j_goto C 14 dX9_passed_10 (by decide) ?_
    refine j_iload_n C dX9_passed_14 rfl 3 rfl ?_
    refine j_callSU (w := w) C (kX8_passed G w b m (2 * u) s (by omega) (by omega) (by omega)) pI.ret (ci := 8) (T := TX9) hb rfl 3 q934 q1883 q730 q927 q92 q928 (by decide +kernel) rfl (by decide) (by decide) (Nat.le_of_ble_eq_true rfl) rfl dX9_passed_15 (by omega) (by omega) (qI.k ?_)
    exact j_iret C (by omega) (by omega) (pI.mk ⟨by rw [if_pos (by omega)], rfl⟩) dX9_passed_18
set_option maxHeartbeats 400000 in
theorem kX10_passed (G : gl_T) (w : wd_T) (b τ : Nat) (fs : List Value) (m u s : Nat) (hm : m ≤ 9) (hu : u ≤ 18) (hs : s ≤ 2000) (hb : w.1 b = some (τ, .inr (9, fs))) : Mt G yX10_passed cX10_passed 4 (some .int) 1 [.ref b, .int (nI m), .int (nI u), .int (nI s)] w (qI (nI (if s % 2 = 1 then min 9 (m + u) else m)) w) 0 0 := by
  refine Mt.start (by decide) (Nat.le_of_ble_eq_true rfl) (fun k C => ?_)
  have C : Cx G k cX10_passed "MoodFare$Haste" "passed" 4 (some .int) 1 0 0 _ := C
  refine j_iload_n C dX10_passed_0 rfl 3 rfl ?_
  refine j_iconst (v := nI 2) C dX10_passed_1 rfl ?_
  refine j_iremN C dX10_passed_2 (by omega) (by omega) (by omega) ?_
  refine j_iconst (v := nI 1) C dX10_passed_3 rfl ?_
  refine j_icmp_neN C 17 dX10_passed_4 (by decide) (by omega) (by omega) (fun c4 => ?_) (fun c4 => ?_)
  · refine j_iload_n C dX10_passed_17 rfl 1 rfl ?_
    exact j_iret C (by omega) (by omega) (pI.mk ⟨by rw [if_neg (by omega)], rfl⟩) dX10_passed_18
  · refine j_aload_n C dX10_passed_7 rfl 0 rfl ?_
    refine j_iload_n C dX10_passed_8 rfl 1 rfl ?_
    refine j_iload_n C dX10_passed_9 rfl 2 rfl ?_
    refine j_iload_n C dX10_passed_10 rfl 3 rfl ?_
    refine j_callSU (w := w) C (kX8_passed G w b m u s (by omega) (by omega) (by omega)) pI.ret (ci := 9) (T := TX10) hb rfl 3 q926 q1883 q739 q927 q92 q928 (by decide +kernel) rfl (by decide) (by decide) (Nat.le_of_ble_eq_true rfl) rfl dX10_passed_11 (by omega) (by omega) (qI.k ?_)
    refine j_goto C 18 dX10_passed_14 (by decide) ?_
    exact j_iret C (by omega) (by omega) (pI.mk ⟨by rw [if_pos (by omega)], rfl⟩) dX10_passed_18
set_option maxHeartbeats 400000 in
theorem kX12_passed (G : gl_T) (w : wd_T) (b τ : Nat) (fs : List Value) (m u s : Nat) (hm : m ≤ 9) (hu : u ≤ 18) (hs : s ≤ 2000) (hb : w.1 b = some (τ, .inr (11, fs))) : Mt G yX12_passed cX12_passed 4 (some .int) 1 [.ref b, .int (nI m), .int (nI u), .int (nI s)] w (qI (nI ((m - u) / 2)) w) 0 0 := by
  refine Mt.start (by decide) (Nat.le_of_ble_eq_true rfl) (fun k C => ?_)
  have C : Cx G k cX12_passed "MoodFare$Ruin" "passed" 4 (some .int) 1 0 0 _ := C
  refine j_aload_n C dX12_passed_0 rfl 0 rfl ?_
  refine j_iload_n C dX12_passed_1 rfl 1 rfl ?_
  refine j_iload_n C dX12_passed_2 rfl 2 rfl ?_
  refine j_iload_n C dX12_passed_3 rfl 3 rfl ?_
  refine j_callSU (w := w) C (kX11_passed G w b m u s (by omega) (by omega) (by omega)) pI.ret (ci := 11) (T := TX12) hb rfl 3 q938 q1884 q757 q920 q95 q921 (by decide +kernel) rfl (by decide) (by decide) (Nat.le_of_ble_eq_true rfl) rfl dX12_passed_4 (by omega) (by omega) (qI.k ?_)
  refine j_iconst (v := nI 2) C dX12_passed_7 rfl ?_
  refine j_idivN C dX12_passed_8 (by omega) (by omega) (by omega) ?_
  exact j_iret C (by omega) (by omega) (pI.mk ⟨rfl, rfl⟩) dX12_passed_9
set_option maxHeartbeats 400000 in
theorem kX3_begins (G : gl_T) (w : wd_T) (b d τ n v : Nat) (f : Nat → Int32) (hb : w.1 b = some (τ, .inr (3, [.ref d, .int (nI n)]))) (hd : w.1 d = some (τ, ai (gl_A G 0) 16 f)) (hbd : b ≠ d) (hn : n < 16) : Mt G yX3_begins cX3_begins 2 none 0 [.ref b, .int (nI v)] w (qV (mu (mu w.1 b τ (.inr (3, [.ref d, .int (nI (n + 1))]))) d τ (ai (gl_A G 0) 16 (upd f n (nI v))), w.2)) 0 0 := by
  refine Mt.start (by decide) (Nat.le_of_ble_eq_true rfl) (fun k C => ?_)
  have C : Cx G k cX3_begins "MoodFare$Trail" "begins" 2 none 0 0 0 _ := C
  refine j_aload_n C dX3_begins_0 rfl 0 rfl ?_
  refine j_get (w := w) C in_X3 (ci := 3) (T := TX3) rfl hb 1 (by decide) q238 (fun _ z => z) (v := .int (nI n)) rfl dX3_begins_1 ?_
  refine j_bipush (v := nI 16) C dX3_begins_4 rfl ?_
  refine j_icmp_geN C 26 dX3_begins_6 (by decide) (by omega) (by omega) (fun c6 => ?_) (fun c6 => ?_)
  · exfalso; omega
  · refine j_aload_n C dX3_begins_9 rfl 0 rfl ?_
    refine j_get (w := w) C in_X3 (ci := 3) (T := TX3) rfl hb 0 (by decide) q236 (fun _ z => z) (v := .ref d) rfl dX3_begins_10 ?_
    refine j_aload_n C dX3_begins_13 rfl 0 rfl ?_
    refine j_dup C dX3_begins_14 rfl ?_
    refine j_get (w := w) C in_X3 (ci := 3) (T := TX3) rfl hb 1 (by decide) q238 (fun _ z => z) (v := .int (nI n)) rfl dX3_begins_15 ?_
    refine j_dup_x1 C dX3_begins_18 rfl rfl ?_
    refine j_iconst (v := nI 1) C dX3_begins_19 rfl ?_
    refine j_iaddN C dX3_begins_20 ?_
    refine j_put (w := w) C (ty0 := tyX3) in_X3 tyX3_ok nmX3 (ci := 3) (T := TX3) rfl hb 1 (by decide) q238 (fun _ z => z) rfl rfl rfl (fs' := [.ref d, .int (nI (n + 1))]) (Nat.le_of_ble_eq_true rfl) rfl dX3_begins_21 ?_
    refine j_iload_n C dX3_begins_24 rfl 1 rfl ?_
    refine j_iastN (w := ((mu w.1 b τ (.inr (3, [.ref d, .int (nI (n + 1))]))), w.2)) C ((mu_n (Ne.symm hbd)).trans hd) (n) rfl (by omega) (by decide) dX3_begins_25 ?_
    exact j_vret C (by omega) (by omega) (pV.mk rfl) dX3_begins_26
set_option maxHeartbeats 400000 in
theorem kX3_init (G : gl_T) (w : wd_T) (b τ n : Nat) (x : Value) (hb : w.1 b = some (τ, .inr (3, [x, .int (nI n)]))) (hbs : b < w.2) : Mt G yX3_init cX3_init 1 none 0 [.ref b] w (qV (mu (mu w.1 w.2 τ (ai (gl_A G 0) 16 (fun _ => 0))) b τ (.inr (3, [.ref w.2, .int (nI n)])), w.2 + 1)) 1 16 := by
  refine Mt.start (by decide) (Nat.le_of_ble_eq_true rfl) (fun k C => ?_)
  have C : Cx G k cX3_init "MoodFare$Trail" "<init>" 1 none 0 1 16 _ := C
  refine j_aload_n C dX3_init_0 rfl 0 rfl ?_
  refine j_objInit (w := w) C q235 q115 q116 (Nat.le_of_ble_eq_true rfl) dX3_init_1 ?_
  refine j_aload_n C dX3_init_4 rfl 0 rfl ?_
  refine j_bipush (v := nI 16) C dX3_init_5 rfl ?_
  refine j_newi (w := w) C τ (16) q228 rfl (by omega) (by omega) (by omega) dX3_init_7 ?_
  refine j_putF (w := ((mu w.1 w.2 τ (ai (gl_A G 0) 16 (fun _ => 0))), w.2 + 1)) C (ty0 := tyX3) in_X3 tyX3_ok nmX3 (ci := 3) (T := TX3) rfl ((mu_n (Nat.ne_of_lt hbs)).trans hb) 0 (by decide) q236 (fun _ z => z) rfl rfl rfl rfl (fs' := [.ref w.2, .int (nI n)]) (Nat.le_of_ble_eq_true rfl) rfl dX3_init_9 ?_
  exact j_vret C (by omega) (by omega) (pV.mk rfl) dX3_init_12
set_option maxHeartbeats 400000 in
theorem kX13_isBetter_0 (G : gl_T) (w : wd_T) (cr : Nat) (b a : Nat) (t : Nat → Nat) (n c : Nat) (hb : w.1 b = some (b, .inr (12, [.int (nI cr), .int (-1000000), .int (nI 0)]))) (ha : w.1 a = some (a, TE a t)) (hba : b ≠ a) (hn : n ≤ 8) (hc : c ≤ 2000) (h1 : t 1 ≤ 9) (h4 : t 4 < 6) (hcr : cr < 6) : Mt G yX13_isBetter cX13_isBetter 4 (some .boolean) 0 [.ref b, .ref a, .int (nI n), .int (nI c)] w (qI (bZ (btC cr t n c none).1) (mu w.1 b b (.inr (12, fsC cr (btC cr t n c none).2)), w.2)) 0 0 := by
  refine Mt.start (by decide) (Nat.le_of_ble_eq_true rfl) (fun k C => ?_)
  have C : Cx G k cX13_isBetter "MoodFare$Cheapest" "isBetter" 4 (some .boolean) 0 0 0 _ := C
  refine j_aload_n C dX13_isBetter_0 rfl 1 rfl ?_
  refine j_get (w := w) C in_X2 (ci := 2) (T := TX2) rfl ha 2 (by decide) q175 (fun _ z => z) (v := .int (nI (t 4))) rfl dX13_isBetter_1 ?_
  refine j_aload_n C dX13_isBetter_4 rfl 0 rfl ?_
  refine j_get (w := w) C in_X13 (ci := 12) (T := TX13) rfl hb 0 (by decide) q1029 (fun _ z => z) (v := .int (nI cr)) rfl dX13_isBetter_5 ?_
  refine j_icmp_neN C 44 dX13_isBetter_8 (by decide) (by omega) (by omega) (fun c8 => ?_) (fun c8 => ?_)
  · refine j_iconst (v := nI 0) C dX13_isBetter_44 rfl ?_
    exact j_zret C (by decide +kernel) (by omega) (by omega) (pI.mk (isb_f (fs := fsC cr) (p := none) hb (by unfold btC; first | (simp [c8]; done) | (simp; omega) | (rw [if_pos (by omega)]) | (rw [if_neg (by omega)])))) dX13_isBetter_45
  · refine j_aload_n C dX13_isBetter_11 rfl 0 rfl ?_
    refine j_get (w := w) C in_X13 (ci := 12) (T := TX13) rfl hb 1 (by decide) q1030 (fun _ z => z) (v := .int ((-1000000))) rfl dX13_isBetter_12 ?_
    refine j_ldc C q1028 dX13_isBetter_15 ?_
    refine j_icmp_eq C 46 dX13_isBetter_17 (by decide) (fun c17 => ?_) (fun c17 => ?_)
    · refine j_aload_n C dX13_isBetter_46 rfl 0 rfl ?_
      refine j_iload_n C dX13_isBetter_47 rfl 3 rfl ?_
      refine j_put (w := w) C (ty0 := tyX13) in_X13 tyX13_ok nmX13 (ci := 12) (T := TX13) rfl hb 1 (by decide) q1030 (fun _ z => z) rfl rfl rfl (fs' := [.int (nI cr), .int (nI c), .int (nI 0)]) (Nat.le_of_ble_eq_true rfl) rfl dX13_isBetter_48 ?_
      refine j_aload_n C dX13_isBetter_51 rfl 0 rfl ?_
      refine j_iload_n C dX13_isBetter_52 rfl 2 rfl ?_
      refine j_put (w := ((mu w.1 b b (.inr (12, [.int (nI cr), .int (nI c), .int (nI 0)]))), w.2)) C (ty0 := tyX13) in_X13 tyX13_ok nmX13 (ci := 12) (T := TX13) rfl mu_s 2 (by decide) q1032 (fun _ z => z) rfl rfl rfl (fs' := [.int (nI cr), .int (nI c), .int (nI n)]) (Nat.le_of_ble_eq_true rfl) rfl dX13_isBetter_53 ?_
      refine J.eq (w' := ((mu w.1 b b (.inr (12, [.int (nI cr), .int (nI c), .int (nI n)]))), w.2)) ?_ (congrArg (fun z => (z, w.2)) mu_mu) rfl rfl
      refine j_iconst (v := nI 1) C dX13_isBetter_56 rfl ?_
      exact j_zret C (by decide +kernel) (by omega) (by omega) (pI.mk (isb_t (fs := fsC cr) (p := some (c, n)) (by unfold btC; first | (simp [c8, c17]; done) | (simp; omega) | (rw [if_pos (by omega)]) | (rw [if_neg (by omega)])))) dX13_isBetter_57
    · exact absurd rfl c17
set_option maxHeartbeats 400000 in
theorem kX13_isBetter_1 (G : gl_T) (w : wd_T) (cr : Nat) (b a : Nat) (t : Nat → Nat) (n c : Nat) (x y : Nat) (hb : w.1 b = some (b, .inr (12, [.int (nI cr), .int (nI x), .int (nI y)]))) (ha : w.1 a = some (a, TE a t)) (hba : b ≠ a) (hn : n ≤ 8) (hc : c ≤ 2000) (h1 : t 1 ≤ 9) (h4 : t 4 < 6) (hcr : cr < 6) (hx : x ≤ 2000) (hy : y ≤ 8) : Mt G yX13_isBetter cX13_isBetter 4 (some .boolean) 0 [.ref b, .ref a, .int (nI n), .int (nI c)] w (qI (bZ (btC cr t n c (some (x, y))).1) (mu w.1 b b (.inr (12, fsC cr (btC cr t n c (some (x, y))).2)), w.2)) 0 0 := by
  refine Mt.start (by decide) (Nat.le_of_ble_eq_true rfl) (fun k C => ?_)
  have C : Cx G k cX13_isBetter "MoodFare$Cheapest" "isBetter" 4 (some .boolean) 0 0 0 _ := C
  refine j_aload_n C dX13_isBetter_0 rfl 1 rfl ?_
  refine j_get (w := w) C in_X2 (ci := 2) (T := TX2) rfl ha 2 (by decide) q175 (fun _ z => z) (v := .int (nI (t 4))) rfl dX13_isBetter_1 ?_
  refine j_aload_n C dX13_isBetter_4 rfl 0 rfl ?_
  refine j_get (w := w) C in_X13 (ci := 12) (T := TX13) rfl hb 0 (by decide) q1029 (fun _ z => z) (v := .int (nI cr)) rfl dX13_isBetter_5 ?_
  refine j_icmp_neN C 44 dX13_isBetter_8 (by decide) (by omega) (by omega) (fun c8 => ?_) (fun c8 => ?_)
  · refine j_iconst (v := nI 0) C dX13_isBetter_44 rfl ?_
    exact j_zret C (by decide +kernel) (by omega) (by omega) (pI.mk (isb_f (fs := fsC cr) (p := some (x, y)) hb (by unfold btC; first | (simp [c8]; done) | (simp; omega) | (rw [if_pos (by omega)]) | (rw [if_neg (by omega)])))) dX13_isBetter_45
  · refine j_aload_n C dX13_isBetter_11 rfl 0 rfl ?_
    refine j_get (w := w) C in_X13 (ci := 12) (T := TX13) rfl hb 1 (by decide) q1030 (fun _ z => z) (v := .int (nI x)) rfl dX13_isBetter_12 ?_
    refine j_ldc C q1028 dX13_isBetter_15 ?_
    refine j_icmp_eq C 46 dX13_isBetter_17 (by decide) (fun c17 => ?_) (fun c17 => ?_)
    · exact absurd c17 (nI_NONE (by omega))
    · refine j_iload_n C dX13_isBetter_20 rfl 3 rfl ?_
      refine j_aload_n C dX13_isBetter_21 rfl 0 rfl ?_
      refine j_get (w := w) C in_X13 (ci := 12) (T := TX13) rfl hb 1 (by decide) q1030 (fun _ z => z) (v := .int (nI x)) rfl dX13_isBetter_22 ?_
      refine j_icmp_gtN C 44 dX13_isBetter_25 (by decide) (by omega) (by omega) (fun c25 => ?_) (fun c25 => ?_)
      · refine j_iconst (v := nI 0) C dX13_isBetter_44 rfl ?_
        exact j_zret C (by decide +kernel) (by omega) (by omega) (pI.mk (isb_f (fs := fsC cr) (p := some (x, y)) hb (by unfold btC; first | (simp [c8, c17, c25]; done) | (simp; omega) | (rw [if_pos (by omega)]) | (rw [if_neg (by omega)])))) dX13_isBetter_45
      · refine j_iload_n C dX13_isBetter_28 rfl 3 rfl ?_
        refine j_aload_n C dX13_isBetter_29 rfl 0 rfl ?_
        refine j_get (w := w) C in_X13 (ci := 12) (T := TX13) rfl hb 1 (by decide) q1030 (fun _ z => z) (v := .int (nI x)) rfl dX13_isBetter_30 ?_
        refine j_icmp_neN C 46 dX13_isBetter_33 (by decide) (by omega) (by omega) (fun c33 => ?_) (fun c33 => ?_)
        · refine j_aload_n C dX13_isBetter_46 rfl 0 rfl ?_
          refine j_iload_n C dX13_isBetter_47 rfl 3 rfl ?_
          refine j_put (w := w) C (ty0 := tyX13) in_X13 tyX13_ok nmX13 (ci := 12) (T := TX13) rfl hb 1 (by decide) q1030 (fun _ z => z) rfl rfl rfl (fs' := [.int (nI cr), .int (nI c), .int (nI y)]) (Nat.le_of_ble_eq_true rfl) rfl dX13_isBetter_48 ?_
          refine j_aload_n C dX13_isBetter_51 rfl 0 rfl ?_
          refine j_iload_n C dX13_isBetter_52 rfl 2 rfl ?_
          refine j_put (w := ((mu w.1 b b (.inr (12, [.int (nI cr), .int (nI c), .int (nI y)]))), w.2)) C (ty0 := tyX13) in_X13 tyX13_ok nmX13 (ci := 12) (T := TX13) rfl mu_s 2 (by decide) q1032 (fun _ z => z) rfl rfl rfl (fs' := [.int (nI cr), .int (nI c), .int (nI n)]) (Nat.le_of_ble_eq_true rfl) rfl dX13_isBetter_53 ?_
          refine J.eq (w' := ((mu w.1 b b (.inr (12, [.int (nI cr), .int (nI c), .int (nI n)]))), w.2)) ?_ (congrArg (fun z => (z, w.2)) mu_mu) rfl rfl
          refine j_iconst (v := nI 1) C dX13_isBetter_56 rfl ?_
          exact j_zret C (by decide +kernel) (by omega) (by omega) (pI.mk (isb_t (fs := fsC cr) (p := some (c, n)) (by unfold btC; first | (simp [c8, c17, c25, c33]; done) | (simp; omega) | (rw [if_pos (by omega)]) | (rw [if_neg (by omega)])))) dX13_isBetter_57
        · refine j_iload_n C dX13_isBetter_36 rfl 2 rfl ?_
          refine j_aload_n C dX13_isBetter_37 rfl 0 rfl ?_
          refine j_get (w := w) C in_X13 (ci := 12) (T := TX13) rfl hb 2 (by decide) q1032 (fun _ z => z) (v := .int (nI y)) rfl dX13_isBetter_38 ?_
          refine j_icmp_ltN C 46 dX13_isBetter_41 (by decide) (by omega) (by omega) (fun c41 => ?_) (fun c41 => ?_)
          · refine j_aload_n C dX13_isBetter_46 rfl 0 rfl ?_
            refine j_iload_n C dX13_isBetter_47 rfl 3 rfl ?_
            refine j_put (w := w) C (ty0 := tyX13) in_X13 tyX13_ok nmX13 (ci := 12) (T := TX13) rfl hb 1 (by decide) q1030 (fun _ z => z) rfl rfl rfl (fs' := [.int (nI cr), .int (nI c), .int (nI y)]) (Nat.le_of_ble_eq_true rfl) rfl dX13_isBetter_48 ?_
            refine j_aload_n C dX13_isBetter_51 rfl 0 rfl ?_
            refine j_iload_n C dX13_isBetter_52 rfl 2 rfl ?_
            refine j_put (w := ((mu w.1 b b (.inr (12, [.int (nI cr), .int (nI c), .int (nI y)]))), w.2)) C (ty0 := tyX13) in_X13 tyX13_ok nmX13 (ci := 12) (T := TX13) rfl mu_s 2 (by decide) q1032 (fun _ z => z) rfl rfl rfl (fs' := [.int (nI cr), .int (nI c), .int (nI n)]) (Nat.le_of_ble_eq_true rfl) rfl dX13_isBetter_53 ?_
            refine J.eq (w' := ((mu w.1 b b (.inr (12, [.int (nI cr), .int (nI c), .int (nI n)]))), w.2)) ?_ (congrArg (fun z => (z, w.2)) mu_mu) rfl rfl
            refine j_iconst (v := nI 1) C dX13_isBetter_56 rfl ?_
            exact j_zret C (by decide +kernel) (by omega) (by omega) (pI.mk (isb_t (fs := fsC cr) (p := some (c, n)) (by unfold btC; first | (simp [c8, c17, c25, c33, c41]; done) | (simp; omega) | (rw [if_pos (by omega)]) | (rw [if_neg (by omega)])))) dX13_isBetter_57
          · refine j_iconst (v := nI 0) C dX13_isBetter_44 rfl ?_
            exact j_zret C (by decide +kernel) (by omega) (by omega) (pI.mk (isb_f (fs := fsC cr) (p := some (x, y)) hb (by unfold btC; first | (simp [c8, c17, c25, c33, c41]; done) | (simp; omega) | (rw [if_pos (by omega)]) | (rw [if_neg (by omega)])))) dX13_isBetter_45
set_option maxHeartbeats 400000 in
theorem kX14_isBetter_0 (G : gl_T) (w : wd_T) (st : Nat) (b a : Nat) (t : Nat → Nat) (n c : Nat) (hb : w.1 b = some (b, .inr (13, [.int (nI st), .int (-1000000), .int (nI 0)]))) (ha : w.1 a = some (a, TE a t)) (hba : b ≠ a) (hn : n ≤ 8) (hc : c ≤ 2000) (h1 : t 1 ≤ 9) (h4 : t 4 < 6) (hst : st ≤ 8) : Mt G yX14_isBetter cX14_isBetter 4 (some .boolean) 0 [.ref b, .ref a, .int (nI n), .int (nI c)] w (qI (bZ (btD st t n c none).1) (mu w.1 b b (.inr (13, fsD st (btD st t n c none).2)), w.2)) 0 0 := by
  refine Mt.start (by decide) (Nat.le_of_ble_eq_true rfl) (fun k C => ?_)
  have C : Cx G k cX14_isBetter "MoodFare$Dearest" "isBetter" 4 (some .boolean) 0 0 0 _ := C
  refine j_iload_n C dX14_isBetter_0 rfl 2 rfl ?_
  refine j_aload_n C dX14_isBetter_1 rfl 0 rfl ?_
  refine j_get (w := w) C in_X14 (ci := 13) (T := TX14) rfl hb 0 (by decide) q1091 (fun _ z => z) (v := .int (nI st)) rfl dX14_isBetter_2 ?_
  refine j_icmp_ltN C 16 dX14_isBetter_5 (by decide) (by omega) (by omega) (fun c5 => ?_) (fun c5 => ?_)
  · refine j_iconst (v := nI 0) C dX14_isBetter_16 rfl ?_
    exact j_zret C (by decide +kernel) (by omega) (by omega) (pI.mk (isb_f (fs := fsD st) (p := none) hb (by unfold btD; first | (simp [c5]; done) | (simp; omega) | (rw [if_pos (by omega)]) | (rw [if_neg (by omega)])))) dX14_isBetter_17
  · refine j_iload_n C dX14_isBetter_8 rfl 3 rfl ?_
    refine j_aload_n C dX14_isBetter_9 rfl 0 rfl ?_
    refine j_get (w := w) C in_X14 (ci := 13) (T := TX14) rfl hb 1 (by decide) q1092 (fun _ z => z) (v := .int ((-1000000))) rfl dX14_isBetter_10 ?_
    refine j_icmp_gt C 18 dX14_isBetter_13 (by decide) (fun c13 => ?_) (fun c13 => ?_)
    · refine j_aload_n C dX14_isBetter_18 rfl 0 rfl ?_
      refine j_iload_n C dX14_isBetter_19 rfl 3 rfl ?_
      refine j_put (w := w) C (ty0 := tyX14) in_X14 tyX14_ok nmX14 (ci := 13) (T := TX14) rfl hb 1 (by decide) q1092 (fun _ z => z) rfl rfl rfl (fs' := [.int (nI st), .int (nI c), .int (nI 0)]) (Nat.le_of_ble_eq_true rfl) rfl dX14_isBetter_20 ?_
      refine j_aload_n C dX14_isBetter_23 rfl 0 rfl ?_
      refine j_aload_n C dX14_isBetter_24 rfl 1 rfl ?_
      refine j_get (w := ((mu w.1 b b (.inr (13, [.int (nI st), .int (nI c), .int (nI 0)]))), w.2)) C in_X2 (ci := 2) (T := TX2) rfl ((mu_n (Ne.symm hba)).trans ha) 2 (by decide) q177 (fun _ z => z) (v := .int (nI (t 4))) rfl dX14_isBetter_25 ?_
      refine j_put (w := ((mu w.1 b b (.inr (13, [.int (nI st), .int (nI c), .int (nI 0)]))), w.2)) C (ty0 := tyX14) in_X14 tyX14_ok nmX14 (ci := 13) (T := TX14) rfl mu_s 2 (by decide) q1094 (fun _ z => z) rfl rfl rfl (fs' := [.int (nI st), .int (nI c), .int (nI (t 4))]) (Nat.le_of_ble_eq_true rfl) rfl dX14_isBetter_28 ?_
      refine J.eq (w' := ((mu w.1 b b (.inr (13, [.int (nI st), .int (nI c), .int (nI (t 4))]))), w.2)) ?_ (congrArg (fun z => (z, w.2)) mu_mu) rfl rfl
      refine j_iconst (v := nI 1) C dX14_isBetter_31 rfl ?_
      exact j_zret C (by decide +kernel) (by omega) (by omega) (pI.mk (isb_t (fs := fsD st) (p := some (c, t 4)) (by unfold btD; first | (simp [c5, c13]; done) | (simp; omega) | (rw [if_pos (by omega)]) | (rw [if_neg (by omega)])))) dX14_isBetter_32
    · exact absurd (NONE_lt (by omega)) c13
set_option maxHeartbeats 400000 in
theorem kX14_isBetter_1 (G : gl_T) (w : wd_T) (st : Nat) (b a : Nat) (t : Nat → Nat) (n c : Nat) (x y : Nat) (hb : w.1 b = some (b, .inr (13, [.int (nI st), .int (nI x), .int (nI y)]))) (ha : w.1 a = some (a, TE a t)) (hba : b ≠ a) (hn : n ≤ 8) (hc : c ≤ 2000) (h1 : t 1 ≤ 9) (h4 : t 4 < 6) (hst : st ≤ 8) (hx : x ≤ 2000) : Mt G yX14_isBetter cX14_isBetter 4 (some .boolean) 0 [.ref b, .ref a, .int (nI n), .int (nI c)] w (qI (bZ (btD st t n c (some (x, y))).1) (mu w.1 b b (.inr (13, fsD st (btD st t n c (some (x, y))).2)), w.2)) 0 0 := by
  refine Mt.start (by decide) (Nat.le_of_ble_eq_true rfl) (fun k C => ?_)
  have C : Cx G k cX14_isBetter "MoodFare$Dearest" "isBetter" 4 (some .boolean) 0 0 0 _ := C
  refine j_iload_n C dX14_isBetter_0 rfl 2 rfl ?_
  refine j_aload_n C dX14_isBetter_1 rfl 0 rfl ?_
  refine j_get (w := w) C in_X14 (ci := 13) (T := TX14) rfl hb 0 (by decide) q1091 (fun _ z => z) (v := .int (nI st)) rfl dX14_isBetter_2 ?_
  refine j_icmp_ltN C 16 dX14_isBetter_5 (by decide) (by omega) (by omega) (fun c5 => ?_) (fun c5 => ?_)
  · refine j_iconst (v := nI 0) C dX14_isBetter_16 rfl ?_
    exact j_zret C (by decide +kernel) (by omega) (by omega) (pI.mk (isb_f (fs := fsD st) (p := some (x, y)) hb (by unfold btD; first | (simp [c5]; done) | (simp; omega) | (rw [if_pos (by omega)]) | (rw [if_neg (by omega)])))) dX14_isBetter_17
  · refine j_iload_n C dX14_isBetter_8 rfl 3 rfl ?_
    refine j_aload_n C dX14_isBetter_9 rfl 0 rfl ?_
    refine j_get (w := w) C in_X14 (ci := 13) (T := TX14) rfl hb 1 (by decide) q1092 (fun _ z => z) (v := .int (nI x)) rfl dX14_isBetter_10 ?_
    refine j_icmp_gtN C 18 dX14_isBetter_13 (by decide) (by omega) (by omega) (fun c13 => ?_) (fun c13 => ?_)
    · refine j_aload_n C dX14_isBetter_18 rfl 0 rfl ?_
      refine j_iload_n C dX14_isBetter_19 rfl 3 rfl ?_
      refine j_put (w := w) C (ty0 := tyX14) in_X14 tyX14_ok nmX14 (ci := 13) (T := TX14) rfl hb 1 (by decide) q1092 (fun _ z => z) rfl rfl rfl (fs' := [.int (nI st), .int (nI c), .int (nI y)]) (Nat.le_of_ble_eq_true rfl) rfl dX14_isBetter_20 ?_
      refine j_aload_n C dX14_isBetter_23 rfl 0 rfl ?_
      refine j_aload_n C dX14_isBetter_24 rfl 1 rfl ?_
      refine j_get (w := ((mu w.1 b b (.inr (13, [.int (nI st), .int (nI c), .int (nI y)]))), w.2)) C in_X2 (ci := 2) (T := TX2) rfl ((mu_n (Ne.symm hba)).trans ha) 2 (by decide) q177 (fun _ z => z) (v := .int (nI (t 4))) rfl dX14_isBetter_25 ?_
      refine j_put (w := ((mu w.1 b b (.inr (13, [.int (nI st), .int (nI c), .int (nI y)]))), w.2)) C (ty0 := tyX14) in_X14 tyX14_ok nmX14 (ci := 13) (T := TX14) rfl mu_s 2 (by decide) q1094 (fun _ z => z) rfl rfl rfl (fs' := [.int (nI st), .int (nI c), .int (nI (t 4))]) (Nat.le_of_ble_eq_true rfl) rfl dX14_isBetter_28 ?_
      refine J.eq (w' := ((mu w.1 b b (.inr (13, [.int (nI st), .int (nI c), .int (nI (t 4))]))), w.2)) ?_ (congrArg (fun z => (z, w.2)) mu_mu) rfl rfl
      refine j_iconst (v := nI 1) C dX14_isBetter_31 rfl ?_
      exact j_zret C (by decide +kernel) (by omega) (by omega) (pI.mk (isb_t (fs := fsD st) (p := some (c, t 4)) (by unfold btD; first | (simp [c5, c13]; done) | (simp; omega) | (rw [if_pos (by omega)]) | (rw [if_neg (by omega)])))) dX14_isBetter_32
    · refine j_iconst (v := nI 0) C dX14_isBetter_16 rfl ?_
      exact j_zret C (by decide +kernel) (by omega) (by omega) (pI.mk (isb_f (fs := fsD st) (p := some (x, y)) hb (by unfold btD; first | (simp [c5, c13]; done) | (simp; omega) | (rw [if_pos (by omega)]) | (rw [if_neg (by omega)])))) dX14_isBetter_17
set_option maxHeartbeats 400000 in
theorem kX15_isBetter (G : gl_T) (w : wd_T) (cr st p : Nat) (b a : Nat) (t : Nat → Nat) (n c : Nat) (hb : w.1 b = some (b, .inr (14, [.int (nI cr), .int (nI st), .int (nI p)]))) (ha : w.1 a = some (a, TE a t)) (hba : b ≠ a) (hn : n ≤ 8) (hc : c ≤ 2000) (h1 : t 1 ≤ 9) (h4 : t 4 < 6) (hcr : cr < 6) (hst : st ≤ 8) : Mt G yX15_isBetter cX15_isBetter 4 (some .boolean) 0 [.ref b, .ref a, .int (nI n), .int (nI c)] w (qI (bZ (btM cr st t n c p).1) (mu w.1 b b (.inr (14, fsM cr st (btM cr st t n c p).2)), w.2)) 0 0 := by
  refine Mt.start (by decide) (Nat.le_of_ble_eq_true rfl) (fun k C => ?_)
  have C : Cx G k cX15_isBetter "MoodFare$Moods" "isBetter" 4 (some .boolean) 0 0 0 _ := C
  refine j_aload_n C dX15_isBetter_0 rfl 0 rfl ?_
  refine j_dup C dX15_isBetter_1 rfl ?_
  refine j_get (w := w) C in_X15 (ci := 14) (T := TX15) rfl hb 2 (by decide) q1115 (fun _ z => z) (v := .int (nI p)) rfl dX15_isBetter_2 ?_
  refine j_iload_n C dX15_isBetter_5 rfl 2 rfl ?_
  refine j_aload_n C dX15_isBetter_6 rfl 0 rfl ?_
  refine j_get (w := w) C in_X15 (ci := 14) (T := TX15) rfl hb 1 (by decide) q1114 (fun _ z => z) (v := .int (nI st)) rfl dX15_isBetter_7 ?_
  refine j_icmp_neN C 33 dX15_isBetter_10 (by decide) (by omega) (by omega) (fun c10 => ?_) (fun c10 => ?_)
  · refine j_iconst (v := nI 0) C dX15_isBetter_33 rfl ?_
    refine j_iorN C dX15_isBetter_34 ?_
    refine j_put (w := w) C (ty0 := tyX15) in_X15 tyX15_ok nmX15 (ci := 14) (T := TX15) rfl hb 2 (by decide) q1115 (fun _ z => z) rfl rfl rfl (fs' := [.int (nI cr), .int (nI st), .int (nI (p ||| 0))]) (Nat.le_of_ble_eq_true rfl) rfl dX15_isBetter_35 ?_
    refine j_iconst (v := nI 0) C dX15_isBetter_38 rfl ?_
    exact j_zret C (by decide +kernel) (by omega) (by omega) (pI.mk (isb_m (fs := fsM cr st) (p := p ||| 0) (by unfold btM; first | (rw [if_pos ⟨by omega, by omega⟩]; done) | (rw [if_neg (by omega)])))) dX15_isBetter_39
  · refine j_aload_n C dX15_isBetter_13 rfl 1 rfl ?_
    refine j_get (w := w) C in_X2 (ci := 2) (T := TX2) rfl ha 2 (by decide) q176 (fun _ z => z) (v := .int (nI (t 4))) rfl dX15_isBetter_14 ?_
    refine j_aload_n C dX15_isBetter_17 rfl 0 rfl ?_
    refine j_get (w := w) C in_X15 (ci := 14) (T := TX15) rfl hb 0 (by decide) q1113 (fun _ z => z) (v := .int (nI cr)) rfl dX15_isBetter_18 ?_
    refine j_icmp_neN C 33 dX15_isBetter_21 (by decide) (by omega) (by omega) (fun c21 => ?_) (fun c21 => ?_)
    · refine j_iconst (v := nI 0) C dX15_isBetter_33 rfl ?_
      refine j_iorN C dX15_isBetter_34 ?_
      refine j_put (w := w) C (ty0 := tyX15) in_X15 tyX15_ok nmX15 (ci := 14) (T := TX15) rfl hb 2 (by decide) q1115 (fun _ z => z) rfl rfl rfl (fs' := [.int (nI cr), .int (nI st), .int (nI (p ||| 0))]) (Nat.le_of_ble_eq_true rfl) rfl dX15_isBetter_35 ?_
      refine j_iconst (v := nI 0) C dX15_isBetter_38 rfl ?_
      exact j_zret C (by decide +kernel) (by omega) (by omega) (pI.mk (isb_m (fs := fsM cr st) (p := p ||| 0) (by unfold btM; first | (rw [if_pos ⟨by omega, by omega⟩]; done) | (rw [if_neg (by omega)])))) dX15_isBetter_39
    · refine j_iconst (v := nI 1) C dX15_isBetter_24 rfl ?_
      refine j_aload_n C dX15_isBetter_25 rfl 1 rfl ?_
      refine j_get (w := w) C in_X2 (ci := 2) (T := TX2) rfl ha 1 (by decide) q170 (fun _ z => z) (v := .int (nI (t 1))) rfl dX15_isBetter_26 ?_
      refine j_shl1 C dX15_isBetter_29 (by omega) ?_
      refine j_goto C 34 dX15_isBetter_30 (by decide) ?_
      refine j_iorN C dX15_isBetter_34 ?_
      refine j_put (w := w) C (ty0 := tyX15) in_X15 tyX15_ok nmX15 (ci := 14) (T := TX15) rfl hb 2 (by decide) q1115 (fun _ z => z) rfl rfl rfl (fs' := [.int (nI cr), .int (nI st), .int (nI (p ||| (2 ^ (t 1))))]) (Nat.le_of_ble_eq_true rfl) rfl dX15_isBetter_35 ?_
      refine j_iconst (v := nI 0) C dX15_isBetter_38 rfl ?_
      exact j_zret C (by decide +kernel) (by omega) (by omega) (pI.mk (isb_m (fs := fsM cr st) (p := p ||| (2 ^ (t 1))) (by unfold btM; first | (rw [if_pos ⟨by omega, by omega⟩]; done) | (rw [if_neg (by omega)])))) dX15_isBetter_39
set_option maxHeartbeats 400000 in
theorem kX16_isBetter_0 (G : gl_T) (w : wd_T) (md : Nat) (b a : Nat) (t : Nat → Nat) (n c : Nat) (hb : w.1 b = some (b, .inr (15, [.int (nI md), .int (-1000000)]))) (ha : w.1 a = some (a, TE a t)) (hba : b ≠ a) (hn : n ≤ 8) (hc : c ≤ 2000) (h1 : t 1 ≤ 9) (h4 : t 4 < 6) (hmd : md ≤ 9) : Mt G yX16_isBetter cX16_isBetter 4 (some .boolean) 0 [.ref b, .ref a, .int (nI n), .int (nI c)] w (qI (bZ (btS md t n c none).1) (mu w.1 b b (.inr (15, fsS md (btS md t n c none).2)), w.2)) 0 0 := by
  refine Mt.start (by decide) (Nat.le_of_ble_eq_true rfl) (fun k C => ?_)
  have C : Cx G k cX16_isBetter "MoodFare$Soonest" "isBetter" 4 (some .boolean) 0 0 0 _ := C
  refine j_aload_n C dX16_isBetter_0 rfl 1 rfl ?_
  refine j_get (w := w) C in_X2 (ci := 2) (T := TX2) rfl ha 1 (by decide) q169 (fun _ z => z) (v := .int (nI (t 1))) rfl dX16_isBetter_1 ?_
  refine j_aload_n C dX16_isBetter_4 rfl 0 rfl ?_
  refine j_get (w := w) C in_X16 (ci := 15) (T := TX16) rfl hb 0 (by decide) q1135 (fun _ z => z) (v := .int (nI md)) rfl dX16_isBetter_5 ?_
  refine j_icmp_neN C 28 dX16_isBetter_8 (by decide) (by omega) (by omega) (fun c8 => ?_) (fun c8 => ?_)
  · refine j_iconst (v := nI 0) C dX16_isBetter_28 rfl ?_
    exact j_zret C (by decide +kernel) (by omega) (by omega) (pI.mk (isb_f (fs := fsS md) (p := none) hb (by unfold btS; first | (simp [c8]; done) | (simp; omega) | (rw [if_pos (by omega)]) | (rw [if_neg (by omega)])))) dX16_isBetter_29
  · refine j_aload_n C dX16_isBetter_11 rfl 0 rfl ?_
    refine j_get (w := w) C in_X16 (ci := 15) (T := TX16) rfl hb 1 (by decide) q1136 (fun _ z => z) (v := .int ((-1000000))) rfl dX16_isBetter_12 ?_
    refine j_ldc C q1073 dX16_isBetter_15 ?_
    refine j_icmp_eq C 30 dX16_isBetter_17 (by decide) (fun c17 => ?_) (fun c17 => ?_)
    · refine j_aload_n C dX16_isBetter_30 rfl 0 rfl ?_
      refine j_iload_n C dX16_isBetter_31 rfl 2 rfl ?_
      refine j_put (w := w) C (ty0 := tyX16) in_X16 tyX16_ok nmX16 (ci := 15) (T := TX16) rfl hb 1 (by decide) q1136 (fun _ z => z) rfl rfl rfl (fs' := [.int (nI md), .int (nI n)]) (Nat.le_of_ble_eq_true rfl) rfl dX16_isBetter_32 ?_
      refine j_iconst (v := nI 1) C dX16_isBetter_35 rfl ?_
      exact j_zret C (by decide +kernel) (by omega) (by omega) (pI.mk (isb_t (fs := fsS md) (p := some n) (by unfold btS; first | (simp [c8, c17]; done) | (simp; omega) | (rw [if_pos (by omega)]) | (rw [if_neg (by omega)])))) dX16_isBetter_36
    · exact absurd rfl c17
set_option maxHeartbeats 400000 in
theorem kX16_isBetter_1 (G : gl_T) (w : wd_T) (md : Nat) (b a : Nat) (t : Nat → Nat) (n c : Nat) (x : Nat) (hb : w.1 b = some (b, .inr (15, [.int (nI md), .int (nI x)]))) (ha : w.1 a = some (a, TE a t)) (hba : b ≠ a) (hn : n ≤ 8) (hc : c ≤ 2000) (h1 : t 1 ≤ 9) (h4 : t 4 < 6) (hmd : md ≤ 9) (hx : x ≤ 8) : Mt G yX16_isBetter cX16_isBetter 4 (some .boolean) 0 [.ref b, .ref a, .int (nI n), .int (nI c)] w (qI (bZ (btS md t n c (some x)).1) (mu w.1 b b (.inr (15, fsS md (btS md t n c (some x)).2)), w.2)) 0 0 := by
  refine Mt.start (by decide) (Nat.le_of_ble_eq_true rfl) (fun k C => ?_)
  have C : Cx G k cX16_isBetter "MoodFare$Soonest" "isBetter" 4 (some .boolean) 0 0 0 _ := C
  refine j_aload_n C dX16_isBetter_0 rfl 1 rfl ?_
  refine j_get (w := w) C in_X2 (ci := 2) (T := TX2) rfl ha 1 (by decide) q169 (fun _ z => z) (v := .int (nI (t 1))) rfl dX16_isBetter_1 ?_
  refine j_aload_n C dX16_isBetter_4 rfl 0 rfl ?_
  refine j_get (w := w) C in_X16 (ci := 15) (T := TX16) rfl hb 0 (by decide) q1135 (fun _ z => z) (v := .int (nI md)) rfl dX16_isBetter_5 ?_
  refine j_icmp_neN C 28 dX16_isBetter_8 (by decide) (by omega) (by omega) (fun c8 => ?_) (fun c8 => ?_)
  · refine j_iconst (v := nI 0) C dX16_isBetter_28 rfl ?_
    exact j_zret C (by decide +kernel) (by omega) (by omega) (pI.mk (isb_f (fs := fsS md) (p := some x) hb (by unfold btS; first | (simp [c8]; done) | (simp; omega) | (rw [if_pos (by omega)]) | (rw [if_neg (by omega)])))) dX16_isBetter_29
  · refine j_aload_n C dX16_isBetter_11 rfl 0 rfl ?_
    refine j_get (w := w) C in_X16 (ci := 15) (T := TX16) rfl hb 1 (by decide) q1136 (fun _ z => z) (v := .int (nI x)) rfl dX16_isBetter_12 ?_
    refine j_ldc C q1073 dX16_isBetter_15 ?_
    refine j_icmp_eq C 30 dX16_isBetter_17 (by decide) (fun c17 => ?_) (fun c17 => ?_)
    · exact absurd c17 (nI_NONE (by omega))
    · refine j_iload_n C dX16_isBetter_20 rfl 2 rfl ?_
      refine j_aload_n C dX16_isBetter_21 rfl 0 rfl ?_
      refine j_get (w := w) C in_X16 (ci := 15) (T := TX16) rfl hb 1 (by decide) q1136 (fun _ z => z) (v := .int (nI x)) rfl dX16_isBetter_22 ?_
      refine j_icmp_ltN C 30 dX16_isBetter_25 (by decide) (by omega) (by omega) (fun c25 => ?_) (fun c25 => ?_)
      · refine j_aload_n C dX16_isBetter_30 rfl 0 rfl ?_
        refine j_iload_n C dX16_isBetter_31 rfl 2 rfl ?_
        refine j_put (w := w) C (ty0 := tyX16) in_X16 tyX16_ok nmX16 (ci := 15) (T := TX16) rfl hb 1 (by decide) q1136 (fun _ z => z) rfl rfl rfl (fs' := [.int (nI md), .int (nI n)]) (Nat.le_of_ble_eq_true rfl) rfl dX16_isBetter_32 ?_
        refine j_iconst (v := nI 1) C dX16_isBetter_35 rfl ?_
        exact j_zret C (by decide +kernel) (by omega) (by omega) (pI.mk (isb_t (fs := fsS md) (p := some n) (by unfold btS; first | (simp [c8, c17, c25]; done) | (simp; omega) | (rw [if_pos (by omega)]) | (rw [if_neg (by omega)])))) dX16_isBetter_36
      · refine j_iconst (v := nI 0) C dX16_isBetter_28 rfl ?_
        exact j_zret C (by decide +kernel) (by omega) (by omega) (pI.mk (isb_f (fs := fsS md) (p := some x) hb (by unfold btS; first | (simp [c8, c17, c25]; done) | (simp; omega) | (rw [if_pos (by omega)]) | (rw [if_neg (by omega)])))) dX16_isBetter_29
set_option maxHeartbeats 400000 in
theorem kX13_init (G : gl_T) (w : wd_T) (b τ : Nat) (cr : Nat) (hb : w.1 b = some (τ, .inr (12, [.int (nI 0), .int (nI 0), .int (nI 0)]))) : Mt G yX13_init cX13_init 2 none 0 [.ref b, .int (nI cr)] w (qV (mu w.1 b τ (.inr (12, [.int (nI cr), .int (-1000000), .int (nI 0)])), w.2)) 0 0 := by
  refine Mt.start (by decide) (Nat.le_of_ble_eq_true rfl) (fun k C => ?_)
  have C : Cx G k cX13_init "MoodFare$Cheapest" "<init>" 2 none 0 0 0 _ := C
  refine j_aload_n C dX13_init_0 rfl 0 rfl ?_
  refine j_objInit (w := w) C q1027 q115 q116 (Nat.le_of_ble_eq_true rfl) dX13_init_1 ?_
  refine j_aload_n C dX13_init_4 rfl 0 rfl ?_
  refine j_ldc C q1028 dX13_init_5 ?_
  refine j_put (w := w) C (ty0 := tyX13) in_X13 tyX13_ok nmX13 (ci := 12) (T := TX13) rfl hb 1 (by decide) q1030 (fun _ z => z) rfl rfl rfl (fs' := [.int (nI 0), .int ((-1000000)), .int (nI 0)]) (Nat.le_of_ble_eq_true rfl) rfl dX13_init_7 ?_
  refine j_aload_n C dX13_init_10 rfl 0 rfl ?_
  refine j_iload_n C dX13_init_11 rfl 1 rfl ?_
  refine j_putF (w := ((mu w.1 b τ (.inr (12, [.int (nI 0), .int ((-1000000)), .int (nI 0)]))), w.2)) C (ty0 := tyX13) in_X13 tyX13_ok nmX13 (ci := 12) (T := TX13) rfl mu_s 0 (by decide) q1029 (fun _ z => z) rfl rfl rfl rfl (fs' := [.int (nI cr), .int ((-1000000)), .int (nI 0)]) (Nat.le_of_ble_eq_true rfl) rfl dX13_init_12 ?_
  refine J.eq (w' := ((mu w.1 b τ (.inr (12, [.int (nI cr), .int ((-1000000)), .int (nI 0)]))), w.2)) ?_ (congrArg (fun z => (z, w.2)) mu_mu) rfl rfl
  exact j_vret C (by omega) (by omega) (pV.mk rfl) dX13_init_15
set_option maxHeartbeats 400000 in
theorem kX14_init (G : gl_T) (w : wd_T) (b τ : Nat) (st : Nat) (hb : w.1 b = some (τ, .inr (13, [.int (nI 0), .int (nI 0), .int (nI 0)]))) : Mt G yX14_init cX14_init 2 none 0 [.ref b, .int (nI st)] w (qV (mu w.1 b τ (.inr (13, [.int (nI st), .int (-1000000), .int (nI 0)])), w.2)) 0 0 := by
  refine Mt.start (by decide) (Nat.le_of_ble_eq_true rfl) (fun k C => ?_)
  have C : Cx G k cX14_init "MoodFare$Dearest" "<init>" 2 none 0 0 0 _ := C
  refine j_aload_n C dX14_init_0 rfl 0 rfl ?_
  refine j_objInit (w := w) C q1089 q115 q116 (Nat.le_of_ble_eq_true rfl) dX14_init_1 ?_
  refine j_aload_n C dX14_init_4 rfl 0 rfl ?_
  refine j_ldc C q1090 dX14_init_5 ?_
  refine j_put (w := w) C (ty0 := tyX14) in_X14 tyX14_ok nmX14 (ci := 13) (T := TX14) rfl hb 1 (by decide) q1092 (fun _ z => z) rfl rfl rfl (fs' := [.int (nI 0), .int ((-1000000)), .int (nI 0)]) (Nat.le_of_ble_eq_true rfl) rfl dX14_init_7 ?_
  refine j_aload_n C dX14_init_10 rfl 0 rfl ?_
  refine j_iload_n C dX14_init_11 rfl 1 rfl ?_
  refine j_putF (w := ((mu w.1 b τ (.inr (13, [.int (nI 0), .int ((-1000000)), .int (nI 0)]))), w.2)) C (ty0 := tyX14) in_X14 tyX14_ok nmX14 (ci := 13) (T := TX14) rfl mu_s 0 (by decide) q1091 (fun _ z => z) rfl rfl rfl rfl (fs' := [.int (nI st), .int ((-1000000)), .int (nI 0)]) (Nat.le_of_ble_eq_true rfl) rfl dX14_init_12 ?_
  refine J.eq (w' := ((mu w.1 b τ (.inr (13, [.int (nI st), .int ((-1000000)), .int (nI 0)]))), w.2)) ?_ (congrArg (fun z => (z, w.2)) mu_mu) rfl rfl
  exact j_vret C (by omega) (by omega) (pV.mk rfl) dX14_init_15
set_option maxHeartbeats 400000 in
theorem kX15_init (G : gl_T) (w : wd_T) (b τ : Nat) (cr st : Nat) (hb : w.1 b = some (τ, .inr (14, [.int (nI 0), .int (nI 0), .int (nI 0)]))) : Mt G yX15_init cX15_init 3 none 0 [.ref b, .int (nI cr), .int (nI st)] w (qV (mu w.1 b τ (.inr (14, [.int (nI cr), .int (nI st), .int (nI 0)])), w.2)) 0 0 := by
  refine Mt.start (by decide) (Nat.le_of_ble_eq_true rfl) (fun k C => ?_)
  have C : Cx G k cX15_init "MoodFare$Moods" "<init>" 3 none 0 0 0 _ := C
  refine j_aload_n C dX15_init_0 rfl 0 rfl ?_
  refine j_objInit (w := w) C q1112 q115 q116 (Nat.le_of_ble_eq_true rfl) dX15_init_1 ?_
  refine j_aload_n C dX15_init_4 rfl 0 rfl ?_
  refine j_iload_n C dX15_init_5 rfl 1 rfl ?_
  refine j_putF (w := w) C (ty0 := tyX15) in_X15 tyX15_ok nmX15 (ci := 14) (T := TX15) rfl hb 0 (by decide) q1113 (fun _ z => z) rfl rfl rfl rfl (fs' := [.int (nI cr), .int (nI 0), .int (nI 0)]) (Nat.le_of_ble_eq_true rfl) rfl dX15_init_6 ?_
  refine j_aload_n C dX15_init_9 rfl 0 rfl ?_
  refine j_iload_n C dX15_init_10 rfl 2 rfl ?_
  refine j_putF (w := ((mu w.1 b τ (.inr (14, [.int (nI cr), .int (nI 0), .int (nI 0)]))), w.2)) C (ty0 := tyX15) in_X15 tyX15_ok nmX15 (ci := 14) (T := TX15) rfl mu_s 1 (by decide) q1114 (fun _ z => z) rfl rfl rfl rfl (fs' := [.int (nI cr), .int (nI st), .int (nI 0)]) (Nat.le_of_ble_eq_true rfl) rfl dX15_init_11 ?_
  refine J.eq (w' := ((mu w.1 b τ (.inr (14, [.int (nI cr), .int (nI st), .int (nI 0)]))), w.2)) ?_ (congrArg (fun z => (z, w.2)) mu_mu) rfl rfl
  exact j_vret C (by omega) (by omega) (pV.mk rfl) dX15_init_14
set_option maxHeartbeats 400000 in
theorem kX16_init (G : gl_T) (w : wd_T) (b τ : Nat) (md : Nat) (hb : w.1 b = some (τ, .inr (15, [.int (nI 0), .int (nI 0)]))) : Mt G yX16_init cX16_init 2 none 0 [.ref b, .int (nI md)] w (qV (mu w.1 b τ (.inr (15, [.int (nI md), .int (-1000000)])), w.2)) 0 0 := by
  refine Mt.start (by decide) (Nat.le_of_ble_eq_true rfl) (fun k C => ?_)
  have C : Cx G k cX16_init "MoodFare$Soonest" "<init>" 2 none 0 0 0 _ := C
  refine j_aload_n C dX16_init_0 rfl 0 rfl ?_
  refine j_objInit (w := w) C q1134 q115 q116 (Nat.le_of_ble_eq_true rfl) dX16_init_1 ?_
  refine j_aload_n C dX16_init_4 rfl 0 rfl ?_
  refine j_ldc C q1073 dX16_init_5 ?_
  refine j_put (w := w) C (ty0 := tyX16) in_X16 tyX16_ok nmX16 (ci := 15) (T := TX16) rfl hb 1 (by decide) q1136 (fun _ z => z) rfl rfl rfl (fs' := [.int (nI 0), .int ((-1000000))]) (Nat.le_of_ble_eq_true rfl) rfl dX16_init_7 ?_
  refine j_aload_n C dX16_init_10 rfl 0 rfl ?_
  refine j_iload_n C dX16_init_11 rfl 1 rfl ?_
  refine j_putF (w := ((mu w.1 b τ (.inr (15, [.int (nI 0), .int ((-1000000))]))), w.2)) C (ty0 := tyX16) in_X16 tyX16_ok nmX16 (ci := 15) (T := TX16) rfl mu_s 0 (by decide) q1135 (fun _ z => z) rfl rfl rfl rfl (fs' := [.int (nI md), .int ((-1000000))]) (Nat.le_of_ble_eq_true rfl) rfl dX16_init_12 ?_
  refine J.eq (w' := ((mu w.1 b τ (.inr (15, [.int (nI md), .int ((-1000000))]))), w.2)) ?_ (congrArg (fun z => (z, w.2)) mu_mu) rfl rfl
  exact j_vret C (by omega) (by omega) (pV.mk rfl) dX16_init_15
