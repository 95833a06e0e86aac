/-! ===== the class: shelves ===== -/
set_option maxRecDepth 100000
/-- a new array of shelves, n of them laid -/
def shM (G : gl_T) (w : wd_T) (τ n : Nat) : Nat → Option (Nat × va_E) := fun q => if q = w.2 then some (τ, aq (gl_A G 6) 8 (fun i => if i < n then some (w.2 + 1 + i) else none)) else if w.2 < q ∧ q ≤ w.2 + n then some (τ, .inr (1, [.null])) else w.1 q
theorem shM_a {G : gl_T} {w : wd_T} {τ n : Nat} : shM G w τ n w.2 = some (τ, aq (gl_A G 6) 8 (fun i => if i < n then some (w.2 + 1 + i) else none)) := if_pos rfl
theorem shM_0 {G : gl_T} {w : wd_T} {τ : Nat} : mu w.1 w.2 τ (aq (gl_A G 6) 8 (fun _ => none)) = shM G w τ 0 := by
  funext q
  unfold mu shM
  by_cases h : q = w.2
  · rw [if_pos h, if_pos h]
    simp
  · rw [if_neg h, if_neg h, if_neg (by omega)]
theorem shM_s {G : gl_T} {w : wd_T} {τ n : Nat} : mu (mu (shM G w τ n) (w.2 + 1 + n) τ (.inr (1, [.null]))) w.2 τ (aq (gl_A G 6) 8 (va_up (fun i => if i < n then some (w.2 + 1 + i) else none) n (some (w.2 + 1 + n)))) = shM G w τ (n + 1) := by
  funext q
  unfold mu shM
  by_cases h : q = w.2
  · rw [if_pos h, if_pos h]
    congr 3
    funext i
    unfold va_up
    by_cases z : i = n
    · rw [if_pos z, if_pos (by omega), z]
    · rw [if_neg z]
      show (if i < n then some (w.2 + 1 + i) else none) = (if i < n + 1 then some (w.2 + 1 + i) else none)
      by_cases z2 : i < n
      · rw [if_pos z2, if_pos (by omega)]
      · rw [if_neg z2, if_neg (by omega)]
  · by_cases h2 : q = w.2 + 1 + n
    · have h3 : w.2 < q ∧ q ≤ w.2 + (n + 1) := by omega
      simp only [if_neg h, if_pos h2, if_pos h3]
    · by_cases h3 : w.2 < q ∧ q ≤ w.2 + n
      · simp only [if_neg h, if_neg h2, if_pos h3, if_pos (show w.2 < q ∧ q ≤ w.2 + (n + 1) by omega)]
      · simp only [if_neg h, if_neg h2, if_neg h3, if_neg (show ¬ (w.2 < q ∧ q ≤ w.2 + (n + 1)) by omega)]
/-! ===== the class: shelves ===== -/
set_option maxRecDepth 100000
set_option maxHeartbeats 400000 in
theorem kX1_init (G : gl_T) (w : wd_T) (b : Nat) : Mt G yX1_init cX1_init 1 none 0 [.ref b] w (qV w) 0 0 := by
  refine Mt.start (by decide) (Nat.le_of_ble_eq_true rfl) (fun k C => ?_)
  have C : Cx G k cX1_init "MoodFare$Shelf" "<init>" 1 none 0 0 0 _ := C
  refine j_aload_n C dX1_init_0 rfl 0 rfl ?_
  refine j_objInit (w := w) C q126 q115 q116 (Nat.le_of_ble_eq_true rfl) dX1_init_1 ?_
  exact j_vret C (by omega) (by omega) (pV.mk rfl) dX1_init_4
set_option maxHeartbeats 400000 in
theorem kX0_shelves (G : gl_T) (w : wd_T) (hG : GH G) (τ : Nat) : Mt G yX0_shelves cX0_shelves 2 (some (.array (.object "MoodFare$Shelf"))) 1 [] w (qA (.ref w.2) (shM G w τ 8, w.2 + 9)) 9 16 := by
  refine Mt.start (by decide) (Nat.le_of_ble_eq_true rfl) (fun k C => ?_)
  have C : Cx G k cX0_shelves "MoodFare" "shelves" 2 (some (.array (.object "MoodFare$Shelf"))) 1 9 16 _ := C
  refine j_bipush (v := nI 8) C dX0_shelves_0 rfl ?_
  refine j_newq (w := w) C τ 6 (8) q120 (C.nw hG q121 rfl) rfl rfl (by omega) (by omega) (by omega) dX0_shelves_2 ?_
  refine j_astore_n (lv' := [(0, .ref w.2)]) C dX0_shelves_5 rfl (by decide) rfl ?_
  refine j_iconst (v := nI 0) C dX0_shelves_6 rfl ?_
  refine j_istore_n (lv' := [(1, .int (nI 0)), (0, .ref w.2)]) C dX0_shelves_7 rfl (by decide) rfl ?_
  have lp : ∀ (m i : Nat), i ≤ 8 → 8 < i + m → J G k (shM G w τ i, w.2 + 1 + i) [(1, .int (nI i)), (0, .ref w.2)] 8 [] (1 + i) (8 + i) := by
    intro m
    induction m with
    | zero => intro i a1 a2; omega
    | succ m ih =>
      intro i hi1 hi2
      obtain ⟨v, hv⟩ : ∃ v : wd_T, v = (shM G w τ i, w.2 + 1 + i) := ⟨_, rfl⟩
      rw [← hv]
      have hv2 : v.2 = w.2 + 1 + i := by rw [hv]
      have hva : v.1 w.2 = some (τ, aq (gl_A G 6) 8 (fun j => if j < i then some (w.2 + 1 + j) else none)) := by rw [hv]; exact shM_a
      refine j_iload_n C dX0_shelves_8 rfl 0 rfl ?_
      refine j_bipush (v := nI 8) C dX0_shelves_9 rfl ?_
      refine j_icmp_geN C 30 dX0_shelves_11 (by decide) (by omega) (by omega) (fun c11 => ?_) (fun c11 => ?_)
      · obtain rfl : i = 8 := by omega
        refine j_aload_n C dX0_shelves_30 rfl 1 rfl ?_
        exact j_aret C (by first | exact Or.inl ⟨_, rfl⟩ | exact Or.inr ⟨_, rfl⟩) (by first | exact Or.inl rfl | exact Or.inr ⟨_, rfl⟩) (by omega) (by omega) (pA.mk ⟨rfl, hv⟩) dX0_shelves_31
      · refine j_aload_n C dX0_shelves_14 rfl 1 rfl ?_
        refine j_iload_n C dX0_shelves_15 rfl 0 rfl ?_
        refine j_new (w := v) C τ (fs := [.null]) (ty := tyX1) in_X1 tyX1_ok (ci := 1) (T := TX1) rfl q120 q122 q67 (by decide) (by omega) (by omega) dX0_shelves_16 ?_
        refine j_dup C dX0_shelves_19 rfl ?_
        refine j_callIN (w := ((mu v.1 v.2 τ (.inr (1, [.null]))), v.2 + 1)) C (kX1_init G ((mu v.1 v.2 τ (.inr (1, [.null]))), v.2 + 1) v.2) pV.ret 0 (C.nw hG q123 rfl) q124 q67 q125 rfl (by decide +kernel) rfl (by decide) (by decide) (Nat.le_of_ble_eq_true rfl) rfl dX0_shelves_20 (by omega) (by omega) (qV.k ?_)
        refine j_aast (w := ((mu v.1 v.2 τ (.inr (1, [.null]))), v.2 + 1)) C 6 (r := (RX1, TX1, 1)) ((mu_n (by omega)).trans hva) rfl mu_s (ci := 1) rfl (i) rfl (by omega) (by decide) dX0_shelves_23 ?_
        refine j_iincN (lv' := [(1, .int (nI (i + 1))), (0, .ref w.2)]) C dX0_shelves_24 0 rfl (by decide) rfl ?_
        refine j_goto C 8 dX0_shelves_27 (by decide) ?_
        refine j_lv [0, 1] (lv' := [(1, .int (nI (i + 1))), (0, .ref w.2)]) rfl ?_
        refine J.eq (w' := (shM G w τ (i + 1), w.2 + 1 + (i + 1))) ?_ (by rw [hv]; exact Prod.ext shM_s (by show w.2 + 1 + i + 1 = w.2 + 1 + (i + 1); omega)) rfl rfl
        refine j_wide (ce' := 1 + (i + 1)) (sl' := 8 + (i + 1)) (by omega) (by omega) ?_
        exact ih (i + 1) (by omega) (by omega)
  refine j_lv [0, 1] (lv' := [(1, .int (nI 0)), (0, .ref w.2)]) rfl ?_
  refine J.eq (w' := (shM G w τ 0, w.2 + 1 + 0)) ?_ (Prod.ext shM_0 rfl) rfl rfl
  exact lp 9 0 (by omega) (by omega)
