/-! ===== faults ===== -/
set_option maxRecDepth 100000
section FL
variable {G : gl_T} {k : KX} {cc : ByteArray} {own nm : String} {nL hh mc ms : Nat} {rt : Option FieldType} {post : Outcome → wd_T → Prop}
variable {w : wd_T} {lv : List (Nat × Value)} {pc ce sl : Nat} {rest st st0 : List Value} {index a : Nat}
theorem j_athrow (C : Cx G k cc own nm nL rt hh mc ms post) (hd : decode cc pc = .ok (.athrow, 1)) (h : JT G k w a lv pc st ce sl) : J G k w lv pc (.ref a :: st) ce sl := by
  intro ls H locs hl hpp hf T hT X
  obtain ⟨t, s1, s2⟩ := h ls H locs hl hpp hf T hT X
  refine ⟨t, ?_, s2⟩
  have hdg : decode (k_c k).code (F0 (k_m k) pc ls (.ref a :: st)).pc = .ok (.athrow, 1) := by rw [C.hb]; exact hd
  have hX := X.here
  jvm_step hX [C.hx, hdg, Op.athrow.wp_sem]
  exact s1
/-- a static that holds a reference, or null -/
theorem j_getsR (C : Cx G k cc own nm nL rt hh mc ms post) {O f d : String} (hS : SL O f d (k_s k) (gl_H G)) (q0 : Cond.initialized O ∈ lw_all) (q1 : Cond.fieldLink own index O f d ∈ lw_all) (hd : decode cc pc = .ok (.getstatic index, 3)) (h : ∀ v, v = .null ∨ (∃ x, v = .ref x) → J G k w lv (pc + 3) (v :: st) ce sl) : J G k w lv pc st ce sl := by
  intro ls H locs hl2 hpp hf
  obtain ⟨c, kf, i, fd, a, cell, hc, h1, h2, h4, h5, h6, hcls, hlt, hty, hv⟩ := hS
  have hk := (State.fieldFound?_spec h1).1
  have hin : kf.init = .initialized := Cond.initialized_spec hc hk (C.hts _ q0)
  have hlt : a < (gl_H G).size := (Array.getElem?_eq_some_iff.mp h5).1
  have h5' : H[a]? = some cell := by rw [hpp.2.2.1.1 a hlt]; exact h5
  rcases hv with hv | ⟨x, hv⟩
  · exact W.gets C.hx C.hb C.hown (C.hts _ q1) h1 h2 hin h4 h5' (fun e => by rw [e] at h6; cases h6) hv rfl hd (h .null (Or.inl rfl) ls H locs hl2 hpp hf)
  · exact W.gets C.hx C.hb C.hown (C.hts _ q1) h1 h2 hin h4 h5' (fun e => by rw [e] at h6; cases h6) hv rfl hd (h (.ref x) (Or.inr ⟨x, rfl⟩) ls H locs hl2 hpp hf)
end FL
/-! ===== the class: faults ===== -/
set_option maxRecDepth 100000
set_option maxHeartbeats 400000 in
theorem kJ3_init_3 (G : gl_T) (w : wd_T) (hG : GH G) (hE : GE G) (a τ : Nat) (ha : w.1 a = some (τ, .inr (6, [.null, .null, .null, .null, .null, .int (nI 0), .int (nI 0), .int (nI 0)]))) : Mt G yJ3_init_3 cJ3_init_3 5 none 0 [.ref a, .null, .null, .int (nI 0), .int (nI 0)] w (qV (mu w.1 a τ (.inr (6, [.null, .null, .null, .null, .null, .int (nI 0), .int (nI 0), .int (nI 0)])), w.2)) 0 0 := by
  refine Mt.start (by decide) (Nat.le_of_ble_eq_true rfl) (fun k C => ?_)
  have C : Cx G k cJ3_init_3 "java/lang/Throwable" "<init>" 5 none 0 0 0 _ := C
  refine j_aload_n C dJ3_init_3_0 rfl 0 rfl ?_
  refine j_objInit (w := w) C q310 q115 q116 (Nat.le_of_ble_eq_true rfl) dJ3_init_3_1 ?_
  refine j_aload_n C dJ3_init_3_4 rfl 0 rfl ?_
  refine j_aload_n C dJ3_init_3_5 rfl 0 rfl ?_
  refine j_put (w := w) C (ty0 := tyX6) in_X6 tyX6_ok nmX6 (ci := 6) (T := TX6) rfl ha 0 (by decide) q345 (fun _ z => z) rfl rfl rfl (fs' := [.ref a, .null, .null, .null, .null, .int (nI 0), .int (nI 0), .int (nI 0)]) (Nat.le_of_ble_eq_true rfl) rfl dJ3_init_3_6 ?_
  refine j_aload_n C dJ3_init_3_9 rfl 0 rfl ?_
  refine j_getsR C (C.xe hE).1 q74 q311 dJ3_init_3_10 ?_
  rintro v (rfl | ⟨x10, rfl⟩)
  · refine j_put (w := ((mu w.1 a τ (.inr (6, [.ref a, .null, .null, .null, .null, .int (nI 0), .int (nI 0), .int (nI 0)]))), w.2)) C (ty0 := tyX6) in_X6 tyX6_ok nmX6 (ci := 6) (T := TX6) rfl mu_s 1 (by decide) q346 (fun _ z => z) rfl rfl rfl (fs' := [.ref a, .null, .null, .null, .null, .int (nI 0), .int (nI 0), .int (nI 0)]) (Nat.le_of_ble_eq_true rfl) rfl dJ3_init_3_13 ?_
    refine J.eq (w' := ((mu w.1 a τ (.inr (6, [.ref a, .null, .null, .null, .null, .int (nI 0), .int (nI 0), .int (nI 0)]))), w.2)) ?_ (congrArg (fun z => (z, w.2)) mu_mu) rfl rfl
    refine j_aload_n C dJ3_init_3_16 rfl 0 rfl ?_
    refine j_getsR C (C.xe hE).2.1 q74 q313 dJ3_init_3_17 ?_
    rintro v (rfl | ⟨x17, rfl⟩)
    · refine j_put (w := ((mu w.1 a τ (.inr (6, [.ref a, .null, .null, .null, .null, .int (nI 0), .int (nI 0), .int (nI 0)]))), w.2)) C (ty0 := tyX6) in_X6 tyX6_ok nmX6 (ci := 6) (T := TX6) rfl mu_s 2 (by decide) q347 (fun _ z => z) rfl rfl rfl (fs' := [.ref a, .null, .null, .null, .null, .int (nI 0), .int (nI 0), .int (nI 0)]) (Nat.le_of_ble_eq_true rfl) rfl dJ3_init_3_20 ?_
      refine J.eq (w' := ((mu w.1 a τ (.inr (6, [.ref a, .null, .null, .null, .null, .int (nI 0), .int (nI 0), .int (nI 0)]))), w.2)) ?_ (congrArg (fun z => (z, w.2)) mu_mu) rfl rfl
      refine j_iload C dJ3_init_3_23 4 rfl ?_
      refine j_if_eqN C 36 dJ3_init_3_25 (by decide) (by omega) (fun c25 => ?_) (fun c25 => ?_)
      · refine j_aload_n C dJ3_init_3_36 rfl 0 rfl ?_
        refine j_null C dJ3_init_3_37 ?_
        refine j_put (w := ((mu w.1 a τ (.inr (6, [.ref a, .null, .null, .null, .null, .int (nI 0), .int (nI 0), .int (nI 0)]))), w.2)) C (ty0 := tyX6) in_X6 tyX6_ok nmX6 (ci := 6) (T := TX6) rfl mu_s 1 (by decide) q346 (fun _ z => z) rfl rfl rfl (fs' := [.ref a, .null, .null, .null, .null, .int (nI 0), .int (nI 0), .int (nI 0)]) (Nat.le_of_ble_eq_true rfl) rfl dJ3_init_3_38 ?_
        refine J.eq (w' := ((mu w.1 a τ (.inr (6, [.ref a, .null, .null, .null, .null, .int (nI 0), .int (nI 0), .int (nI 0)]))), w.2)) ?_ (congrArg (fun z => (z, w.2)) mu_mu) rfl rfl
        refine j_aload_n C dJ3_init_3_41 rfl 0 rfl ?_
        refine j_aload_nN C dJ3_init_3_42 rfl 1 rfl ?_
        refine j_put (w := ((mu w.1 a τ (.inr (6, [.ref a, .null, .null, .null, .null, .int (nI 0), .int (nI 0), .int (nI 0)]))), w.2)) C (ty0 := tyX6) in_X6 tyX6_ok nmX6 (ci := 6) (T := TX6) rfl mu_s 3 (by decide) q344 (fun _ z => z) rfl rfl rfl (fs' := [.ref a, .null, .null, .null, .null, .int (nI 0), .int (nI 0), .int (nI 0)]) (Nat.le_of_ble_eq_true rfl) rfl dJ3_init_3_43 ?_
        refine J.eq (w' := ((mu w.1 a τ (.inr (6, [.ref a, .null, .null, .null, .null, .int (nI 0), .int (nI 0), .int (nI 0)]))), w.2)) ?_ (congrArg (fun z => (z, w.2)) mu_mu) rfl rfl
        refine j_aload_n C dJ3_init_3_46 rfl 0 rfl ?_
        refine j_aload_nN C dJ3_init_3_47 rfl 2 rfl ?_
        refine j_put (w := ((mu w.1 a τ (.inr (6, [.ref a, .null, .null, .null, .null, .int (nI 0), .int (nI 0), .int (nI 0)]))), w.2)) C (ty0 := tyX6) in_X6 tyX6_ok nmX6 (ci := 6) (T := TX6) rfl mu_s 0 (by decide) q345 (fun _ z => z) rfl rfl rfl (fs' := [.null, .null, .null, .null, .null, .int (nI 0), .int (nI 0), .int (nI 0)]) (Nat.le_of_ble_eq_true rfl) rfl dJ3_init_3_48 ?_
        refine J.eq (w' := ((mu w.1 a τ (.inr (6, [.null, .null, .null, .null, .null, .int (nI 0), .int (nI 0), .int (nI 0)]))), w.2)) ?_ (congrArg (fun z => (z, w.2)) mu_mu) rfl rfl
        refine j_iload_n C dJ3_init_3_51 rfl 3 rfl ?_
        refine j_if_neN C 60 dJ3_init_3_52 (by decide) (by omega) (fun c52 => ?_) (fun c52 => ?_)
        · exfalso; omega
        · refine j_aload_n C dJ3_init_3_55 rfl 0 rfl ?_
          refine j_null C dJ3_init_3_56 ?_
          refine j_put (w := ((mu w.1 a τ (.inr (6, [.null, .null, .null, .null, .null, .int (nI 0), .int (nI 0), .int (nI 0)]))), w.2)) C (ty0 := tyX6) in_X6 tyX6_ok nmX6 (ci := 6) (T := TX6) rfl mu_s 2 (by decide) q347 (fun _ z => z) rfl rfl rfl (fs' := [.null, .null, .null, .null, .null, .int (nI 0), .int (nI 0), .int (nI 0)]) (Nat.le_of_ble_eq_true rfl) rfl dJ3_init_3_57 ?_
          refine J.eq (w' := ((mu w.1 a τ (.inr (6, [.null, .null, .null, .null, .null, .int (nI 0), .int (nI 0), .int (nI 0)]))), w.2)) ?_ (congrArg (fun z => (z, w.2)) mu_mu) rfl rfl
          exact j_vret C (by omega) (by omega) (pV.mk rfl) dJ3_init_3_60
      · exfalso; omega
    · refine j_put (w := ((mu w.1 a τ (.inr (6, [.ref a, .null, .null, .null, .null, .int (nI 0), .int (nI 0), .int (nI 0)]))), w.2)) C (ty0 := tyX6) in_X6 tyX6_ok nmX6 (ci := 6) (T := TX6) rfl mu_s 2 (by decide) q347 (fun _ z => z) rfl rfl rfl (fs' := [.ref a, .null, .ref x17, .null, .null, .int (nI 0), .int (nI 0), .int (nI 0)]) (Nat.le_of_ble_eq_true rfl) rfl dJ3_init_3_20 ?_
      refine J.eq (w' := ((mu w.1 a τ (.inr (6, [.ref a, .null, .ref x17, .null, .null, .int (nI 0), .int (nI 0), .int (nI 0)]))), w.2)) ?_ (congrArg (fun z => (z, w.2)) mu_mu) rfl rfl
      refine j_iload C dJ3_init_3_23 4 rfl ?_
      refine j_if_eqN C 36 dJ3_init_3_25 (by decide) (by omega) (fun c25 => ?_) (fun c25 => ?_)
      · refine j_aload_n C dJ3_init_3_36 rfl 0 rfl ?_
        refine j_null C dJ3_init_3_37 ?_
        refine j_put (w := ((mu w.1 a τ (.inr (6, [.ref a, .null, .ref x17, .null, .null, .int (nI 0), .int (nI 0), .int (nI 0)]))), w.2)) C (ty0 := tyX6) in_X6 tyX6_ok nmX6 (ci := 6) (T := TX6) rfl mu_s 1 (by decide) q346 (fun _ z => z) rfl rfl rfl (fs' := [.ref a, .null, .ref x17, .null, .null, .int (nI 0), .int (nI 0), .int (nI 0)]) (Nat.le_of_ble_eq_true rfl) rfl dJ3_init_3_38 ?_
        refine J.eq (w' := ((mu w.1 a τ (.inr (6, [.ref a, .null, .ref x17, .null, .null, .int (nI 0), .int (nI 0), .int (nI 0)]))), w.2)) ?_ (congrArg (fun z => (z, w.2)) mu_mu) rfl rfl
        refine j_aload_n C dJ3_init_3_41 rfl 0 rfl ?_
        refine j_aload_nN C dJ3_init_3_42 rfl 1 rfl ?_
        refine j_put (w := ((mu w.1 a τ (.inr (6, [.ref a, .null, .ref x17, .null, .null, .int (nI 0), .int (nI 0), .int (nI 0)]))), w.2)) C (ty0 := tyX6) in_X6 tyX6_ok nmX6 (ci := 6) (T := TX6) rfl mu_s 3 (by decide) q344 (fun _ z => z) rfl rfl rfl (fs' := [.ref a, .null, .ref x17, .null, .null, .int (nI 0), .int (nI 0), .int (nI 0)]) (Nat.le_of_ble_eq_true rfl) rfl dJ3_init_3_43 ?_
        refine J.eq (w' := ((mu w.1 a τ (.inr (6, [.ref a, .null, .ref x17, .null, .null, .int (nI 0), .int (nI 0), .int (nI 0)]))), w.2)) ?_ (congrArg (fun z => (z, w.2)) mu_mu) rfl rfl
        refine j_aload_n C dJ3_init_3_46 rfl 0 rfl ?_
        refine j_aload_nN C dJ3_init_3_47 rfl 2 rfl ?_
        refine j_put (w := ((mu w.1 a τ (.inr (6, [.ref a, .null, .ref x17, .null, .null, .int (nI 0), .int (nI 0), .int (nI 0)]))), w.2)) C (ty0 := tyX6) in_X6 tyX6_ok nmX6 (ci := 6) (T := TX6) rfl mu_s 0 (by decide) q345 (fun _ z => z) rfl rfl rfl (fs' := [.null, .null, .ref x17, .null, .null, .int (nI 0), .int (nI 0), .int (nI 0)]) (Nat.le_of_ble_eq_true rfl) rfl dJ3_init_3_48 ?_
        refine J.eq (w' := ((mu w.1 a τ (.inr (6, [.null, .null, .ref x17, .null, .null, .int (nI 0), .int (nI 0), .int (nI 0)]))), w.2)) ?_ (congrArg (fun z => (z, w.2)) mu_mu) rfl rfl
        refine j_iload_n C dJ3_init_3_51 rfl 3 rfl ?_
        refine j_if_neN C 60 dJ3_init_3_52 (by decide) (by omega) (fun c52 => ?_) (fun c52 => ?_)
        · exfalso; omega
        · refine j_aload_n C dJ3_init_3_55 rfl 0 rfl ?_
          refine j_null C dJ3_init_3_56 ?_
          refine j_put (w := ((mu w.1 a τ (.inr (6, [.null, .null, .ref x17, .null, .null, .int (nI 0), .int (nI 0), .int (nI 0)]))), w.2)) C (ty0 := tyX6) in_X6 tyX6_ok nmX6 (ci := 6) (T := TX6) rfl mu_s 2 (by decide) q347 (fun _ z => z) rfl rfl rfl (fs' := [.null, .null, .null, .null, .null, .int (nI 0), .int (nI 0), .int (nI 0)]) (Nat.le_of_ble_eq_true rfl) rfl dJ3_init_3_57 ?_
          refine J.eq (w' := ((mu w.1 a τ (.inr (6, [.null, .null, .null, .null, .null, .int (nI 0), .int (nI 0), .int (nI 0)]))), w.2)) ?_ (congrArg (fun z => (z, w.2)) mu_mu) rfl rfl
          exact j_vret C (by omega) (by omega) (pV.mk rfl) dJ3_init_3_60
      · exfalso; omega
  · refine j_put (w := ((mu w.1 a τ (.inr (6, [.ref a, .null, .null, .null, .null, .int (nI 0), .int (nI 0), .int (nI 0)]))), w.2)) C (ty0 := tyX6) in_X6 tyX6_ok nmX6 (ci := 6) (T := TX6) rfl mu_s 1 (by decide) q346 (fun _ z => z) rfl rfl rfl (fs' := [.ref a, .ref x10, .null, .null, .null, .int (nI 0), .int (nI 0), .int (nI 0)]) (Nat.le_of_ble_eq_true rfl) rfl dJ3_init_3_13 ?_
    refine J.eq (w' := ((mu w.1 a τ (.inr (6, [.ref a, .ref x10, .null, .null, .null, .int (nI 0), .int (nI 0), .int (nI 0)]))), w.2)) ?_ (congrArg (fun z => (z, w.2)) mu_mu) rfl rfl
    refine j_aload_n C dJ3_init_3_16 rfl 0 rfl ?_
    refine j_getsR C (C.xe hE).2.1 q74 q313 dJ3_init_3_17 ?_
    rintro v (rfl | ⟨x17, rfl⟩)
    · refine j_put (w := ((mu w.1 a τ (.inr (6, [.ref a, .ref x10, .null, .null, .null, .int (nI 0), .int (nI 0), .int (nI 0)]))), w.2)) C (ty0 := tyX6) in_X6 tyX6_ok nmX6 (ci := 6) (T := TX6) rfl mu_s 2 (by decide) q347 (fun _ z => z) rfl rfl rfl (fs' := [.ref a, .ref x10, .null, .null, .null, .int (nI 0), .int (nI 0), .int (nI 0)]) (Nat.le_of_ble_eq_true rfl) rfl dJ3_init_3_20 ?_
      refine J.eq (w' := ((mu w.1 a τ (.inr (6, [.ref a, .ref x10, .null, .null, .null, .int (nI 0), .int (nI 0), .int (nI 0)]))), w.2)) ?_ (congrArg (fun z => (z, w.2)) mu_mu) rfl rfl
      refine j_iload C dJ3_init_3_23 4 rfl ?_
      refine j_if_eqN C 36 dJ3_init_3_25 (by decide) (by omega) (fun c25 => ?_) (fun c25 => ?_)
      · refine j_aload_n C dJ3_init_3_36 rfl 0 rfl ?_
        refine j_null C dJ3_init_3_37 ?_
        refine j_put (w := ((mu w.1 a τ (.inr (6, [.ref a, .ref x10, .null, .null, .null, .int (nI 0), .int (nI 0), .int (nI 0)]))), w.2)) C (ty0 := tyX6) in_X6 tyX6_ok nmX6 (ci := 6) (T := TX6) rfl mu_s 1 (by decide) q346 (fun _ z => z) rfl rfl rfl (fs' := [.ref a, .null, .null, .null, .null, .int (nI 0), .int (nI 0), .int (nI 0)]) (Nat.le_of_ble_eq_true rfl) rfl dJ3_init_3_38 ?_
        refine J.eq (w' := ((mu w.1 a τ (.inr (6, [.ref a, .null, .null, .null, .null, .int (nI 0), .int (nI 0), .int (nI 0)]))), w.2)) ?_ (congrArg (fun z => (z, w.2)) mu_mu) rfl rfl
        refine j_aload_n C dJ3_init_3_41 rfl 0 rfl ?_
        refine j_aload_nN C dJ3_init_3_42 rfl 1 rfl ?_
        refine j_put (w := ((mu w.1 a τ (.inr (6, [.ref a, .null, .null, .null, .null, .int (nI 0), .int (nI 0), .int (nI 0)]))), w.2)) C (ty0 := tyX6) in_X6 tyX6_ok nmX6 (ci := 6) (T := TX6) rfl mu_s 3 (by decide) q344 (fun _ z => z) rfl rfl rfl (fs' := [.ref a, .null, .null, .null, .null, .int (nI 0), .int (nI 0), .int (nI 0)]) (Nat.le_of_ble_eq_true rfl) rfl dJ3_init_3_43 ?_
        refine J.eq (w' := ((mu w.1 a τ (.inr (6, [.ref a, .null, .null, .null, .null, .int (nI 0), .int (nI 0), .int (nI 0)]))), w.2)) ?_ (congrArg (fun z => (z, w.2)) mu_mu) rfl rfl
        refine j_aload_n C dJ3_init_3_46 rfl 0 rfl ?_
        refine j_aload_nN C dJ3_init_3_47 rfl 2 rfl ?_
        refine j_put (w := ((mu w.1 a τ (.inr (6, [.ref a, .null, .null, .null, .null, .int (nI 0), .int (nI 0), .int (nI 0)]))), w.2)) C (ty0 := tyX6) in_X6 tyX6_ok nmX6 (ci := 6) (T := TX6) rfl mu_s 0 (by decide) q345 (fun _ z => z) rfl rfl rfl (fs' := [.null, .null, .null, .null, .null, .int (nI 0), .int (nI 0), .int (nI 0)]) (Nat.le_of_ble_eq_true rfl) rfl dJ3_init_3_48 ?_
        refine J.eq (w' := ((mu w.1 a τ (.inr (6, [.null, .null, .null, .null, .null, .int (nI 0), .int (nI 0), .int (nI 0)]))), w.2)) ?_ (congrArg (fun z => (z, w.2)) mu_mu) rfl rfl
        refine j_iload_n C dJ3_init_3_51 rfl 3 rfl ?_
        refine j_if_neN C 60 dJ3_init_3_52 (by decide) (by omega) (fun c52 => ?_) (fun c52 => ?_)
        · exfalso; omega
        · refine j_aload_n C dJ3_init_3_55 rfl 0 rfl ?_
          refine j_null C dJ3_init_3_56 ?_
          refine j_put (w := ((mu w.1 a τ (.inr (6, [.null, .null, .null, .null, .null, .int (nI 0), .int (nI 0), .int (nI 0)]))), w.2)) C (ty0 := tyX6) in_X6 tyX6_ok nmX6 (ci := 6) (T := TX6) rfl mu_s 2 (by decide) q347 (fun _ z => z) rfl rfl rfl (fs' := [.null, .null, .null, .null, .null, .int (nI 0), .int (nI 0), .int (nI 0)]) (Nat.le_of_ble_eq_true rfl) rfl dJ3_init_3_57 ?_
          refine J.eq (w' := ((mu w.1 a τ (.inr (6, [.null, .null, .null, .null, .null, .int (nI 0), .int (nI 0), .int (nI 0)]))), w.2)) ?_ (congrArg (fun z => (z, w.2)) mu_mu) rfl rfl
          exact j_vret C (by omega) (by omega) (pV.mk rfl) dJ3_init_3_60
      · exfalso; omega
    · refine j_put (w := ((mu w.1 a τ (.inr (6, [.ref a, .ref x10, .null, .null, .null, .int (nI 0), .int (nI 0), .int (nI 0)]))), w.2)) C (ty0 := tyX6) in_X6 tyX6_ok nmX6 (ci := 6) (T := TX6) rfl mu_s 2 (by decide) q347 (fun _ z => z) rfl rfl rfl (fs' := [.ref a, .ref x10, .ref x17, .null, .null, .int (nI 0), .int (nI 0), .int (nI 0)]) (Nat.le_of_ble_eq_true rfl) rfl dJ3_init_3_20 ?_
      refine J.eq (w' := ((mu w.1 a τ (.inr (6, [.ref a, .ref x10, .ref x17, .null, .null, .int (nI 0), .int (nI 0), .int (nI 0)]))), w.2)) ?_ (congrArg (fun z => (z, w.2)) mu_mu) rfl rfl
      refine j_iload C dJ3_init_3_23 4 rfl ?_
      refine j_if_eqN C 36 dJ3_init_3_25 (by decide) (by omega) (fun c25 => ?_) (fun c25 => ?_)
      · refine j_aload_n C dJ3_init_3_36 rfl 0 rfl ?_
        refine j_null C dJ3_init_3_37 ?_
        refine j_put (w := ((mu w.1 a τ (.inr (6, [.ref a, .ref x10, .ref x17, .null, .null, .int (nI 0), .int (nI 0), .int (nI 0)]))), w.2)) C (ty0 := tyX6) in_X6 tyX6_ok nmX6 (ci := 6) (T := TX6) rfl mu_s 1 (by decide) q346 (fun _ z => z) rfl rfl rfl (fs' := [.ref a, .null, .ref x17, .null, .null, .int (nI 0), .int (nI 0), .int (nI 0)]) (Nat.le_of_ble_eq_true rfl) rfl dJ3_init_3_38 ?_
        refine J.eq (w' := ((mu w.1 a τ (.inr (6, [.ref a, .null, .ref x17, .null, .null, .int (nI 0), .int (nI 0), .int (nI 0)]))), w.2)) ?_ (congrArg (fun z => (z, w.2)) mu_mu) rfl rfl
        refine j_aload_n C dJ3_init_3_41 rfl 0 rfl ?_
        refine j_aload_nN C dJ3_init_3_42 rfl 1 rfl ?_
        refine j_put (w := ((mu w.1 a τ (.inr (6, [.ref a, .null, .ref x17, .null, .null, .int (nI 0), .int (nI 0), .int (nI 0)]))), w.2)) C (ty0 := tyX6) in_X6 tyX6_ok nmX6 (ci := 6) (T := TX6) rfl mu_s 3 (by decide) q344 (fun _ z => z) rfl rfl rfl (fs' := [.ref a, .null, .ref x17, .null, .null, .int (nI 0), .int (nI 0), .int (nI 0)]) (Nat.le_of_ble_eq_true rfl) rfl dJ3_init_3_43 ?_
        refine J.eq (w' := ((mu w.1 a τ (.inr (6, [.ref a, .null, .ref x17, .null, .null, .int (nI 0), .int (nI 0), .int (nI 0)]))), w.2)) ?_ (congrArg (fun z => (z, w.2)) mu_mu) rfl rfl
        refine j_aload_n C dJ3_init_3_46 rfl 0 rfl ?_
        refine j_aload_nN C dJ3_init_3_47 rfl 2 rfl ?_
        refine j_put (w := ((mu w.1 a τ (.inr (6, [.ref a, .null, .ref x17, .null, .null, .int (nI 0), .int (nI 0), .int (nI 0)]))), w.2)) C (ty0 := tyX6) in_X6 tyX6_ok nmX6 (ci := 6) (T := TX6) rfl mu_s 0 (by decide) q345 (fun _ z => z) rfl rfl rfl (fs' := [.null, .null, .ref x17, .null, .null, .int (nI 0), .int (nI 0), .int (nI 0)]) (Nat.le_of_ble_eq_true rfl) rfl dJ3_init_3_48 ?_
        refine J.eq (w' := ((mu w.1 a τ (.inr (6, [.null, .null, .ref x17, .null, .null, .int (nI 0), .int (nI 0), .int (nI 0)]))), w.2)) ?_ (congrArg (fun z => (z, w.2)) mu_mu) rfl rfl
        refine j_iload_n C dJ3_init_3_51 rfl 3 rfl ?_
        refine j_if_neN C 60 dJ3_init_3_52 (by decide) (by omega) (fun c52 => ?_) (fun c52 => ?_)
        · exfalso; omega
        · refine j_aload_n C dJ3_init_3_55 rfl 0 rfl ?_
          refine j_null C dJ3_init_3_56 ?_
          refine j_put (w := ((mu w.1 a τ (.inr (6, [.null, .null, .ref x17, .null, .null, .int (nI 0), .int (nI 0), .int (nI 0)]))), w.2)) C (ty0 := tyX6) in_X6 tyX6_ok nmX6 (ci := 6) (T := TX6) rfl mu_s 2 (by decide) q347 (fun _ z => z) rfl rfl rfl (fs' := [.null, .null, .null, .null, .null, .int (nI 0), .int (nI 0), .int (nI 0)]) (Nat.le_of_ble_eq_true rfl) rfl dJ3_init_3_57 ?_
          refine J.eq (w' := ((mu w.1 a τ (.inr (6, [.null, .null, .null, .null, .null, .int (nI 0), .int (nI 0), .int (nI 0)]))), w.2)) ?_ (congrArg (fun z => (z, w.2)) mu_mu) rfl rfl
          exact j_vret C (by omega) (by omega) (pV.mk rfl) dJ3_init_3_60
      · exfalso; omega
set_option maxHeartbeats 400000 in
theorem kJ4_init_3 (G : gl_T) (w : wd_T) (hG : GH G) (hE : GE G) (a τ : Nat) (ha : w.1 a = some (τ, .inr (6, [.null, .null, .null, .null, .null, .int (nI 0), .int (nI 0), .int (nI 0)]))) : Mt G yJ4_init_3 cJ4_init_3 5 none 1 [.ref a, .null, .null, .int (nI 0), .int (nI 0)] w (qV (mu w.1 a τ (.inr (6, [.null, .null, .null, .null, .null, .int (nI 0), .int (nI 0), .int (nI 0)])), w.2)) 0 0 := by
  refine Mt.start (by decide) (Nat.le_of_ble_eq_true rfl) (fun k C => ?_)
  have C : Cx G k cJ4_init_3 "java/lang/Exception" "<init>" 5 none 1 0 0 _ := C
  refine j_aload_n C dJ4_init_3_0 rfl 0 rfl ?_
  refine j_aload_nN C dJ4_init_3_1 rfl 1 rfl ?_
  refine j_aload_nN C dJ4_init_3_2 rfl 2 rfl ?_
  refine j_iload_n C dJ4_init_3_3 rfl 3 rfl ?_
  refine j_iload C dJ4_init_3_4 4 rfl ?_
  refine j_callI (w := w) C (kJ3_init_3 G w hG hE a τ ha) pV.ret 4 q577 q578 q74 q579 rfl (by decide +kernel) rfl (by decide) (by decide) (Nat.le_of_ble_eq_true rfl) rfl dJ4_init_3_6 (by omega) (by omega) (qV.k ?_)
  exact j_vret C (by omega) (by omega) (pV.mk rfl) dJ4_init_3_9
set_option maxHeartbeats 400000 in
theorem kX6_init (G : gl_T) (w : wd_T) (hG : GH G) (hE : GE G) (a τ : Nat) (ha : w.1 a = some (τ, .inr (6, [.null, .null, .null, .null, .null, .int (nI 0), .int (nI 0), .int (nI 0)]))) (kd pl : Nat) : Mt G yX6_init cX6_init 3 none 2 [.ref a, .int (nI kd), .int (nI pl)] w (qV (mu w.1 a τ (.inr (6, [.null, .null, .null, .null, .null, .int (nI 0), .int (nI kd), .int (nI pl)])), w.2)) 0 0 := by
  refine Mt.start (by decide) (Nat.le_of_ble_eq_true rfl) (fun k C => ?_)
  have C : Cx G k cX6_init "MoodFare$Fault" "<init>" 3 none 2 0 0 _ := C
  refine j_aload_n C dX6_init_0 rfl 0 rfl ?_
  refine j_null C dX6_init_1 ?_
  refine j_null C dX6_init_2 ?_
  refine j_iconst (v := nI 0) C dX6_init_3 rfl ?_
  refine j_iconst (v := nI 0) C dX6_init_4 rfl ?_
  refine j_callI (w := w) C (kJ4_init_3 G w hG hE a τ ha) pV.ret 4 q574 q575 q75 q576 rfl (by decide +kernel) rfl (by decide) (by decide) (Nat.le_of_ble_eq_true rfl) rfl dX6_init_5 (by omega) (by omega) (qV.k ?_)
  refine j_aload_n C dX6_init_8 rfl 0 rfl ?_
  refine j_iload_n C dX6_init_9 rfl 1 rfl ?_
  refine j_putF (w := ((mu w.1 a τ (.inr (6, [.null, .null, .null, .null, .null, .int (nI 0), .int (nI 0), .int (nI 0)]))), w.2)) C (ty0 := tyX6) in_X6 tyX6_ok nmX6 (ci := 6) (T := TX6) rfl mu_s 6 (by decide) q580 (fun _ z => z) rfl rfl rfl rfl (fs' := [.null, .null, .null, .null, .null, .int (nI 0), .int (nI kd), .int (nI 0)]) (Nat.le_of_ble_eq_true rfl) rfl dX6_init_10 ?_
  refine J.eq (w' := ((mu w.1 a τ (.inr (6, [.null, .null, .null, .null, .null, .int (nI 0), .int (nI kd), .int (nI 0)]))), w.2)) ?_ (congrArg (fun z => (z, w.2)) mu_mu) rfl rfl
  refine j_aload_n C dX6_init_13 rfl 0 rfl ?_
  refine j_iload_n C dX6_init_14 rfl 2 rfl ?_
  refine j_putF (w := ((mu w.1 a τ (.inr (6, [.null, .null, .null, .null, .null, .int (nI 0), .int (nI kd), .int (nI 0)]))), w.2)) C (ty0 := tyX6) in_X6 tyX6_ok nmX6 (ci := 6) (T := TX6) rfl mu_s 7 (by decide) q582 (fun _ z => z) rfl rfl rfl rfl (fs' := [.null, .null, .null, .null, .null, .int (nI 0), .int (nI kd), .int (nI pl)]) (Nat.le_of_ble_eq_true rfl) rfl dX6_init_15 ?_
  refine J.eq (w' := ((mu w.1 a τ (.inr (6, [.null, .null, .null, .null, .null, .int (nI 0), .int (nI kd), .int (nI pl)]))), w.2)) ?_ (congrArg (fun z => (z, w.2)) mu_mu) rfl rfl
  exact j_vret C (by omega) (by omega) (pV.mk rfl) dX6_init_18
set_option maxHeartbeats 400000 in
theorem kX5_must_T (G : gl_T) (w : wd_T) (hG : GH G) (hE : GE G) (r τ ta sz at0 tok fr mt kd : Nat) (va : Int32) (hr : w.1 r = some (τ, rdE ta sz at0 tok fr va mt)) (hrs : r < w.2) : Mb G yX5_must cX5_must 3 none [] 3 [.ref r, .int (nI 1), .int (nI kd)] w (qV w) 1 8 := by
  refine ⟨Nat.le_of_ble_eq_true rfl, fun k C hx => ?_⟩
  have C : Cx G k cX5_must "MoodFare$Reader" "must" 3 none 3 1 8 _ := C
  refine j_iload_n C dX5_must_0 rfl 1 rfl ?_
  refine j_if_neN C 17 dX5_must_1 (by decide) (by omega) (fun c1 => ?_) (fun c1 => ?_)
  · exact j_vret C (by omega) (by omega) (pV.mk rfl) dX5_must_17
  · exfalso; omega
set_option maxHeartbeats 400000 in
theorem kX5_must_F (G : gl_T) (w : wd_T) (hG : GH G) (hE : GE G) (r τ ta sz at0 tok fr mt kd : Nat) (va : Int32) (hr : w.1 r = some (τ, rdE ta sz at0 tok fr va mt)) (hrs : r < w.2) : Mb G yX5_must cX5_must 3 none [] 3 [.ref r, .int (nI 0), .int (nI kd)] w (qT w.2 (mu w.1 w.2 w.2 (.inr (6, [.null, .null, .null, .null, .null, .int (nI 0), .int (nI kd), .int (nI fr)])), w.2 + 1)) 1 8 := by
  refine ⟨Nat.le_of_ble_eq_true rfl, fun k C hx => ?_⟩
  have C : Cx G k cX5_must "MoodFare$Reader" "must" 3 none 3 1 8 _ := C
  refine j_iload_n C dX5_must_0 rfl 1 rfl ?_
  refine j_if_neN C 17 dX5_must_1 (by decide) (by omega) (fun c1 => ?_) (fun c1 => ?_)
  · exfalso; omega
  · refine j_new (w := w) C w.2 (fs := [.null, .null, .null, .null, .null, .int (nI 0), .int (nI 0), .int (nI 0)]) (ty := tyX6) in_X6 tyX6_ok (ci := 6) (T := TX6) rfl q562 q563 q85 (by decide) (by omega) (by omega) dX5_must_4 ?_
    refine j_dup C dX5_must_7 rfl ?_
    refine j_iload_n C dX5_must_8 rfl 2 rfl ?_
    refine j_aload_n C dX5_must_9 rfl 0 rfl ?_
    refine j_get (w := ((mu w.1 w.2 w.2 (.inr (6, [.null, .null, .null, .null, .null, .int (nI 0), .int (nI 0), .int (nI 0)]))), w.2 + 1)) C in_X5 (ci := 5) (T := TX5) rfl ((mu_n (by omega)).trans hr) 4 (by decide) q517 (fun _ z => z) (v := .int (nI fr)) rfl dX5_must_10 ?_
    refine j_callI (w := ((mu w.1 w.2 w.2 (.inr (6, [.null, .null, .null, .null, .null, .int (nI 0), .int (nI 0), .int (nI 0)]))), w.2 + 1)) C (kX6_init G ((mu w.1 w.2 w.2 (.inr (6, [.null, .null, .null, .null, .null, .int (nI 0), .int (nI 0), .int (nI 0)]))), w.2 + 1) hG hE w.2 w.2 mu_s kd fr) pV.ret 2 q571 q572 q85 q573 rfl (by decide +kernel) rfl (by decide) (by decide) (Nat.le_of_ble_eq_true rfl) rfl dX5_must_13 (by omega) (by omega) (qV.k ?_)
    refine J.eq (w' := ((mu w.1 w.2 w.2 (.inr (6, [.null, .null, .null, .null, .null, .int (nI 0), .int (nI kd), .int (nI fr)]))), w.2 + 1)) ?_ (congrArg (fun z => (z, w.2 + 1)) mu_mu) rfl rfl
    refine j_athrow C dX5_must_16 ?_
    exact jt_out C hx (by intro x h; simp at h) (by omega) (by omega) qT.mk
