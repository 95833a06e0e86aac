/-! ===== the law: its loop ===== -/
set_option maxRecDepth 100000
theorem L_le {i L : Nat} (hi : i ≤ 600) (hL : L ≤ 512) (h : ¬ nI L - nI 8 < nI i) : i + 8 ≤ L := by
  have h := Int32.not_lt.mp h
  by_cases z : 8 ≤ L
  · rw [pk_sub z, nI_leI (by omega) (by omega)] at h
    omega
  · exfalso
    have h2 : nI L - nI 8 < 0 := by
      rcases (show L = 0 ∨ L = 1 ∨ L = 2 ∨ L = 3 ∨ L = 4 ∨ L = 5 ∨ L = 6 ∨ L = 7 by omega) with rfl | rfl | rfl | rfl | rfl | rfl | rfl | rfl <;> decide +kernel
    exact absurd (Int32.lt_of_le_of_lt h h2) (Int32.not_lt.mpr (nI_pos' (by omega)))
section LL
variable {G : gl_T} {k : KX} {hh mc ms : Nat} {post : Outcome → wd_T → Prop} {w : wd_T} {x o i ce sl : Nat} {S : ms_T} {V : fv_T} {Z : fz_T}
set_option maxHeartbeats 1000000 in
theorem lw_head (C : Cx G k cL_law "MoodFareLaw" "law" 4 (some .boolean) hh mc ms post) (hG : GH G) (hE : GE G) (hM : GM G) (hD : GD G) (hS : GS G) {L : Nat} {xs : Nat → Int32} (hB : GB G L xs) (hL5 : L ≤ 512) (hhe : hh = 1390) (hp1 : ∀ w, post (.returned (some (.int (nI 1)))) w) (hL : LI G w x o S V Z) (hi6 : i ≤ 600) (b0 : ce ≤ mc ∧ sl ≤ ms) (bb : i + 8 ≤ L → ce + 10752 ≤ mc ∧ sl + 77056 ≤ ms) (ih : i + 8 ≤ L → ∀ w2 S2 V2 Z2 ce2 sl2, LI G w2 x o S2 V2 Z2 → ce2 ≤ ce + 10752 → sl2 ≤ sl + 77056 → J G k w2 [(0, .ref (gl_z G 3)), (1, .ref x), (2, .ref o), (3, .int (nI i))] 1265 [] ce2 sl2) : J G k w [(0, .ref (gl_z G 3)), (1, .ref x), (2, .ref o), (3, .int (nI i))] 18 [] ce sl := by
  refine j_iload_n C dL_law_18 rfl 3 rfl ?_
  refine j_aload_n C dL_law_19 rfl 0 rfl ?_
  refine j_slen C hB dL_law_20 ?_
  refine j_bipush (v := nI 8) C dL_law_21 rfl ?_
  refine j_isub C dL_law_23 ?_
  refine j_icmp_gt C 1271 dL_law_24 (by decide) (fun c24 => ?_) (fun c24 => ?_)
  · refine j_iconst (v := nI 1) C dL_law_1271 rfl ?_
    exact j_zret C (by decide +kernel) (by omega) (by omega) (hp1 _) dL_law_1272
  · have hi : i + 8 ≤ L := L_le (by omega) hL5 c24
    obtain ⟨b1, b2⟩ := bb hi
    refine j_aload_n C dL_law_27 rfl 0 rfl ?_
    refine j_iload_n C dL_law_28 rfl 3 rfl ?_
    refine j_sld C hB hL5 (i) rfl (by omega) dL_law_29 ?_
    refine j_bipush (v := nI 63) C dL_law_30 rfl ?_
    refine j_iand C dL_law_32 ?_
    cases c33 : inB ((xs (i)) &&& (nI 63)) (nI 0) (nI 32)
    case' true =>
      obtain ⟨y1, hy1e, y1l, y1h⟩ := inB_n (by decide) c33 (by decide)
      rcases (show y1 = 0 ∨ y1 = 1 ∨ y1 = 2 ∨ y1 = 3 ∨ y1 = 4 ∨ y1 = 5 ∨ y1 = 6 ∨ y1 = 7 ∨ y1 = 8 ∨ y1 = 9 ∨ y1 = 10 ∨ y1 = 11 ∨ y1 = 12 ∨ y1 = 13 ∨ y1 = 14 ∨ y1 = 15 ∨ y1 = 16 ∨ y1 = 17 ∨ y1 = 18 ∨ y1 = 19 ∨ y1 = 20 ∨ y1 = 21 ∨ y1 = 22 ∨ y1 = 23 ∨ y1 = 24 ∨ y1 = 25 ∨ y1 = 26 ∨ y1 = 27 ∨ y1 = 28 ∨ y1 = 29 ∨ y1 = 30 ∨ y1 = 31 ∨ y1 = 32 by omega) with rfl | rfl | rfl | rfl | rfl | rfl | rfl | rfl | rfl | rfl | rfl | rfl | rfl | rfl | rfl | rfl | rfl | rfl | rfl | rfl | rfl | rfl | rfl | rfl | rfl | rfl | rfl | rfl | rfl | rfl | rfl | rfl | rfl
      · refine j_as (y := nI 0) hy1e ?_
        refine j_tableIn (off := 147) C 180 dL_law_33 (by decide +kernel) (by decide +kernel) (by decide +kernel) (by decide) ?_
        exact lc_row C hG hE hM hD hS hB hL5 hhe hL hi b1 b2 (ih hi)
      · refine j_as (y := nI 1) hy1e ?_
        refine j_tableIn (off := 190) C 223 dL_law_33 (by decide +kernel) (by decide +kernel) (by decide +kernel) (by decide) ?_
        exact lc_set C hG hE hM hD hS hB hL5 hhe hL hi b1 b2 (ih hi)
      · refine j_as (y := nI 2) hy1e ?_
        refine j_tableIn (off := 233) C 266 dL_law_33 (by decide +kernel) (by decide +kernel) (by decide +kernel) (by decide) ?_
        exact lc_copy C hG hE hM hD hS hB hL5 hhe hL hi b1 b2 (ih hi)
      · refine j_as (y := nI 3) hy1e ?_
        refine j_tableIn (off := 296) C 329 dL_law_33 (by decide +kernel) (by decide +kernel) (by decide +kernel) (by decide) ?_
        exact lc_drop C hG hE hM hD hS hB hL5 hhe hL hi b1 b2 (ih hi)
      · refine j_as (y := nI 4) hy1e ?_
        refine j_tableIn (off := 319) C 352 dL_law_33 (by decide +kernel) (by decide +kernel) (by decide +kernel) (by decide) ?_
        exact lc_feed C hG hE hM hD hS hB hL5 hhe hL hi b1 b2 (ih hi)
      · refine j_as (y := nI 5) hy1e ?_
        refine j_tableIn (off := 342) C 375 dL_law_33 (by decide +kernel) (by decide +kernel) (by decide +kernel) (by decide) ?_
        exact lc_town C hG hE hM hD hS hB hL5 hhe hL hi b1 b2 (ih hi)
      · refine j_as (y := nI 6) hy1e ?_
        refine j_tableIn (off := 355) C 388 dL_law_33 (by decide +kernel) (by decide +kernel) (by decide +kernel) (by decide) ?_
        exact lc_fault C hG hE hM hD hS hB hL5 hhe hL hi b1 b2 (ih hi)
      · refine j_as (y := nI 7) hy1e ?_
        refine j_tableIn (off := 368) C 401 dL_law_33 (by decide +kernel) (by decide +kernel) (by decide +kernel) (by decide) ?_
        exact lc_ride C hG hE hM hD hS hB hL5 hhe hL hi b1 b2 (ih hi)
      · refine j_as (y := nI 8) hy1e ?_
        refine j_tableIn (off := 391) C 424 dL_law_33 (by decide +kernel) (by decide +kernel) (by decide +kernel) (by decide) ?_
        exact lc_lesson C hG hE hM hD hS hB hL5 hhe hL hi b1 b2 (ih hi)
      · refine j_as (y := nI 9) hy1e ?_
        refine j_tableIn (off := 424) C 457 dL_law_33 (by decide +kernel) (by decide +kernel) (by decide +kernel) (by decide) ?_
        exact lc_reset C hG hE hM hD hS hB hL5 hhe hL hi b1 b2 (ih hi)
      · refine j_as (y := nI 10) hy1e ?_
        refine j_tableIn (off := 437) C 470 dL_law_33 (by decide +kernel) (by decide +kernel) (by decide +kernel) (by decide) ?_
        exact lc_street C hG hE hM hD hS hB hL5 hhe hL hi b1 b2 (ih hi)
      · refine j_as (y := nI 11) hy1e ?_
        refine j_tableIn (off := 470) C 503 dL_law_33 (by decide +kernel) (by decide +kernel) (by decide +kernel) (by decide) ?_
        exact lc_undo C hG hE hM hD hS hB hL5 hhe hL hi b1 b2 (ih hi)
      · refine j_as (y := nI 12) hy1e ?_
        refine j_tableIn (off := 483) C 516 dL_law_33 (by decide +kernel) (by decide +kernel) (by decide +kernel) (by decide) ?_
        exact lc_corner C hG hE hM hD hS hB hL5 hhe hL hi b1 b2 (ih hi)
      · refine j_as (y := nI 13) hy1e ?_
        refine j_tableIn (off := 516) C 549 dL_law_33 (by decide +kernel) (by decide +kernel) (by decide +kernel) (by decide) ?_
        exact lc_way C hG hE hM hD hS hB hL5 hhe hL hi b1 b2 (ih hi)
      · refine j_as (y := nI 14) hy1e ?_
        refine j_tableIn (off := 549) C 582 dL_law_33 (by decide +kernel) (by decide +kernel) (by decide +kernel) (by decide) ?_
        exact lc_would C hG hE hM hD hS hB hL5 hhe hL hi b1 b2 (ih hi)
      · refine j_as (y := nI 15) hy1e ?_
        refine j_tableIn (off := 582) C 615 dL_law_33 (by decide +kernel) (by decide +kernel) (by decide +kernel) (by decide) ?_
        exact lc_reach C hG hE hM hD hS hB hL5 hhe hL hi b1 b2 (ih hi)
      · refine j_as (y := nI 16) hy1e ?_
        refine j_tableIn (off := 595) C 628 dL_law_33 (by decide +kernel) (by decide +kernel) (by decide +kernel) (by decide) ?_
        exact lc_cheapest C hG hE hM hD hS hB hL5 hhe hL hi b1 b2 (ih hi)
      · refine j_as (y := nI 17) hy1e ?_
        refine j_tableIn (off := 628) C 661 dL_law_33 (by decide +kernel) (by decide +kernel) (by decide +kernel) (by decide) ?_
        exact lc_dearest C hG hE hM hD hS hB hL5 hhe hL hi b1 b2 (ih hi)
      · refine j_as (y := nI 18) hy1e ?_
        refine j_tableIn (off := 661) C 694 dL_law_33 (by decide +kernel) (by decide +kernel) (by decide +kernel) (by decide) ?_
        exact lc_moods C hG hE hM hD hS hB hL5 hhe hL hi b1 b2 (ih hi)
      · refine j_as (y := nI 19) hy1e ?_
        refine j_tableIn (off := 694) C 727 dL_law_33 (by decide +kernel) (by decide +kernel) (by decide +kernel) (by decide) ?_
        exact lc_gets C hG hE hM hD hS hB hL5 hhe hL hi b1 b2 (ih hi)
      · refine j_as (y := nI 20) hy1e ?_
        refine j_tableIn (off := 727) C 760 dL_law_33 (by decide +kernel) (by decide +kernel) (by decide +kernel) (by decide) ?_
        exact lc_fits C hG hE hM hD hS hB hL5 hhe hL hi b1 b2 (ih hi)
      · refine j_as (y := nI 21) hy1e ?_
        refine j_tableIn (off := 802) C 835 dL_law_33 (by decide +kernel) (by decide +kernel) (by decide +kernel) (by decide) ?_
        exact lc_fitsOf C hG hE hM hD hS hB hL5 hhe hL hi b1 b2 (ih hi)
      · refine j_as (y := nI 22) hy1e ?_
        refine j_tableIn (off := 889) C 922 dL_law_33 (by decide +kernel) (by decide +kernel) (by decide +kernel) (by decide) ?_
        exact lc_share C hG hE hM hD hS hB hL5 hhe hL hi b1 b2 (ih hi)
      · refine j_as (y := nI 23) hy1e ?_
        refine j_tableIn (off := 942) C 975 dL_law_33 (by decide +kernel) (by decide +kernel) (by decide +kernel) (by decide) ?_
        exact lc_shut C hG hE hM hD hS hB hL5 hhe hL hi b1 b2 (ih hi)
      · refine j_as (y := nI 24) hy1e ?_
        refine j_tableIn (off := 995) C 1028 dL_law_33 (by decide +kernel) (by decide +kernel) (by decide +kernel) (by decide) ?_
        exact lc_drawn C hG hE hM hD hS hB hL5 hhe hL hi b1 b2 (ih hi)
      · refine j_as (y := nI 25) hy1e ?_
        refine j_tableIn (off := 1038) C 1071 dL_law_33 (by decide +kernel) (by decide +kernel) (by decide +kernel) (by decide) ?_
        exact lc_image C hG hE hM hD hS hB hL5 hhe hL hi b1 b2 (ih hi)
      · refine j_as (y := nI 26) hy1e ?_
        refine j_tableIn (off := 1061) C 1094 dL_law_33 (by decide +kernel) (by decide +kernel) (by decide +kernel) (by decide) ?_
        exact lc_restore C hG hE hM hD hS hB hL5 hhe hL hi b1 b2 (ih hi)
      · refine j_as (y := nI 27) hy1e ?_
        refine j_tableIn (off := 1084) C 1117 dL_law_33 (by decide +kernel) (by decide +kernel) (by decide +kernel) (by decide) ?_
        exact lc_kind C hG hE hM hD hS hB hL5 hhe hL hi b1 b2 (ih hi)
      · refine j_as (y := nI 28) hy1e ?_
        refine j_tableIn (off := 1107) C 1140 dL_law_33 (by decide +kernel) (by decide +kernel) (by decide +kernel) (by decide) ?_
        exact lc_as C hG hE hM hD hS hB hL5 hhe hL hi b1 b2 (ih hi)
      · refine j_as (y := nI 29) hy1e ?_
        refine j_tableIn (off := 1140) C 1173 dL_law_33 (by decide +kernel) (by decide +kernel) (by decide +kernel) (by decide) ?_
        exact lc_ask C hG hE hM hD hS hB hL5 hhe hL hi b1 b2 (ih hi)
      · refine j_as (y := nI 30) hy1e ?_
        refine j_tableIn (off := 1173) C 1206 dL_law_33 (by decide +kernel) (by decide +kernel) (by decide +kernel) (by decide) ?_
        exact lc_trace C hG hE hM hD hS hB hL5 hhe hL hi b1 b2 (ih hi)
      · refine j_as (y := nI 31) hy1e ?_
        refine j_tableIn (off := 1196) C 1229 dL_law_33 (by decide +kernel) (by decide +kernel) (by decide +kernel) (by decide) ?_
        exact lc_count C hG hE hM hD hS hB hL5 hhe hL hi b1 b2 (ih hi)
      · refine j_as (y := nI 32) hy1e ?_
        refine j_tableIn (off := 1219) C 1252 dL_law_33 (by decide +kernel) (by decide +kernel) (by decide +kernel) (by decide) ?_
        exact lc_status C hG hE hM hD hS hB hL5 hhe hL hi b1 b2 (ih hi)
    case' false =>
      refine j_tableOut C 1265 dL_law_33 (tsw_out (by decide) (by decide) c33) (by decide) ?_
      exact ih hi _ _ _ _ _ _ hL (by omega) (by omega)
theorem lw_loop (C : Cx G k cL_law "MoodFareLaw" "law" 4 (some .boolean) hh mc ms post) (hG : GH G) (hE : GE G) (hM : GM G) (hD : GD G) (hS : GS G) {L : Nat} {xs : Nat → Int32} (hB : GB G L xs) (hL5 : L ≤ 512) (hhe : hh = 1390) (hp1 : ∀ w, post (.returned (some (.int (nI 1)))) w) (hmc : mc = 1203072) (hms : ms = 5462314) : ∀ n t w S V Z ce sl, t + n = 65 → LI G w x o S V Z → ce ≤ 100 + 10752 * t → sl ≤ 3000 + 77056 * t → J G k w [(0, .ref (gl_z G 3)), (1, .ref x), (2, .ref o), (3, .int (nI (8 * t)))] 18 [] ce sl := by
  intro n
  induction n with
  | zero =>
    intro t w S V Z ce sl ht hL hc hs
    exact lw_head C hG hE hM hD hS hB hL5 hhe hp1 hL (by omega) (by omega) (fun z => by omega) (fun z => by omega)
  | succ n ih =>
    intro t w S V Z ce sl ht hL hc hs
    refine lw_head C hG hE hM hD hS hB hL5 hhe hp1 hL (by omega) (by omega) (fun z => by omega) (fun z w2 S2 V2 Z2 ce2 sl2 hL2 hc2 hs2 => ?_)
    refine j_iinc (lv' := [(3, .int (nI (8 * t + 8))), (0, .ref (gl_z G 3)), (1, .ref x), (2, .ref o)]) C dL_law_1265 3 rfl (by show nI (8 * t) + nI 8 = _; exact nI_add (8 * t) 8) (by decide) rfl ?_
    refine j_goto C 18 dL_law_1268 (by decide) ?_
    refine j_lv [1, 2, 3, 0] (lv' := [(0, .ref (gl_z G 3)), (1, .ref x), (2, .ref o), (3, .int (nI (8 * t + 8)))]) rfl ?_
    have hc3 : ce2 ≤ 100 + (10752 * t + 10752) := Nat.le_trans hc2 (Nat.le_trans (Nat.add_le_add_right hc 10752) (Nat.le_of_eq (Nat.add_assoc 100 (10752 * t) 10752)))
    have hs3 : sl2 ≤ 3000 + (77056 * t + 77056) := Nat.le_trans hs2 (Nat.le_trans (Nat.add_le_add_right hs 77056) (Nat.le_of_eq (Nat.add_assoc 3000 (77056 * t) 77056)))
    have h := ih (t + 1) w2 S2 V2 Z2 ce2 sl2 (by omega) hL2 (by rw [Nat.mul_succ]; exact hc3) (by rw [Nat.mul_succ]; exact hs3)
    rw [show 8 * (t + 1) = 8 * t + 8 by omega] at h
    exact h
end LL
/-! ===== the law: how it begins ===== -/
set_option maxRecDepth 100000
theorem okT_0 : okT (fun _ => 0) := ⟨⟨by decide, by decide, by decide, by decide, by decide, by decide, by decide, fun _ _ => ⟨Nat.zero_le _, Nat.zero_le _, Nat.zero_le _⟩, by decide, fun _ _ => ⟨show 0 < 6 by decide, show 0 < 6 by decide⟩⟩, fun x hx => absurd hx (Nat.not_lt_zero _), Nat.zero_le _, by decide⟩
theorem RLw_0 : RLw (sR mS0 1 (lnF 8)) cV0 := by
  refine ⟨⟨rfl, rfl, rfl, rfl, rfl⟩, ⟨eqT.rf _, okT_0⟩, fun j hj => absurd hj (Nat.not_lt_zero _), fun j hj => rfl, fun j hj => ?_, fun i hi => absurd hi (Nat.not_lt_zero _), fun i hi => absurd hi (Nat.not_lt_zero _), ⟨⟨Nat.zero_le _, Nat.zero_le _, Nat.zero_le _, fun _ => Nat.zero_le _⟩, Nat.zero_le _, Nat.zero_le _, Nat.zero_le _, fun _ _ => Nat.zero_le _, fun _ => Nat.zero_le _⟩⟩
  show lnF 8 j = kNONE
  unfold lnF
  rw [if_pos hj]
section LS
variable {G : gl_T} {k : KX} {hh mc ms : Nat} {post : Outcome → wd_T → Prop} {x : Nat}
/-- both objects are made: they are tied -/
theorem LI_0 {f0 : Nat → Option (Nat × va_E)} {w1 : wd_T} {l : List Value} (h : ST G f0 x [.ref (x + 1), .ref (x + 10), .int (nI 0), .int (nI 0), .ref (x + 11), .ref (x + 16), .ref (x + 21), .int (nI 0), .ref (x + 22), .ref (x + 23), .int (nI 0), .ref (x + 25), .ref (x + 26), .ref (x + 27)] 28 w1) : LI G (mset G w1.1 w1.2 (sR mS0 1 (lnF 8)), w1.2 + 19) x w1.2 (sR mS0 1 (lnF 8)) (vT cV0 (fun _ => 0)) cZ0 := by
  obtain ⟨W, hA, hv⟩ := h.born (w0 := (fun _ => none, 0)) (O := fun _ => False) (fun _ _ _ z => z.elim) (fun _ z => z.elim)
  have hk : ∀ b σ e, w1.1 b = some (σ, e) → mset G w1.1 w1.2 (sR mS0 1 (lnF 8)) b = some (σ, e) := fun b σ e hb => by
    have := hA.wf b σ e hb
    rw [mset_out (by omega)]
    exact hb
  have hA2 := hA.ext (w' := (mset G w1.1 w1.2 (sR mS0 1 (lnF 8)), w1.2 + 19)) hk (by show w1.2 ≤ w1.2 + 19; omega) (fun b σ e hb => by
    show b < w1.2 + 19
    by_cases z : w1.2 ≤ b ∧ b ≤ w1.2 + 18
    · omega
    · have hb : mset G w1.1 w1.2 (sR mS0 1 (lnF 8)) b = some (σ, e) := hb
      rw [mset_out (by omega)] at hb
      have := hA.wf b σ e hb
      omega)
  have hf := hA.fresh (σ := w1.2) (Nat.le_refl _)
  have hA3 := hA2.rebase (O' := fun σ => σ = w1.2) (fun σ e => Or.inr ⟨by rw [e]; show w1.2 < w1.2 + 19; omega, by rw [e]; exact hf⟩)
  exact ⟨RLw_0.norm, ⟨W, hA3, hv⟩, mo.mk⟩
end LS
section LS2
variable {G : gl_T} {k : KX} {hh mc ms : Nat} {post : Outcome → wd_T → Prop}
theorem lw_begin (C : Cx G k cL_law "MoodFareLaw" "law" 4 (some .boolean) hh mc ms post) (hG : GH G) (hE : GE G) (hM : GM G) (hD : GD G) (hS : GS G) {L : Nat} {xs : Nat → Int32} (hB : GB G L xs) (hL5 : L ≤ 512) (hhe : hh = 1390) (hp1 : ∀ w, post (.returned (some (.int (nI 1)))) w) (hmc : mc = 1203072) (hms : ms = 5462314) (x : Nat) : J G k (fun _ => none, x) [(0, .ref (gl_z G 3))] 0 [] 0 0 := by
  refine j_new (w := (fun _ => none, x)) C x (fs := [.null, .null, .int (nI 0), .int (nI 0), .null, .null, .null, .int (nI 0), .null, .null, .int (nI 0), .null, .null, .null]) (ty := tyX0) in_X0 tyX0_ok (ci := 0) (T := TX0) rfl q109 q110 q66 (by decide) (by omega) (by omega) dL_law_0 ?_
  refine j_dup C dL_law_3 rfl ?_
  refine j_callI (w := (mu (fun _ => none) x x (.inr (0, [.null, .null, .int (nI 0), .int (nI 0), .null, .null, .null, .int (nI 0), .null, .null, .int (nI 0), .null, .null, .null])), x + 1)) C (kX0_init G hG _ x mu_s (fun b σ e hb => by
    show b < x + 1
    by_cases z : b = x
    · omega
    · have hb : mu (fun _ => none) x x _ b = some (σ, e) := hb
      rw [mu_n z] at hb
      cases hb)) pV.ret 0 q111 q112 q66 q113 rfl (by decide +kernel) rfl (by rw [hhe]; omega) (by rw [hhe]; omega) (Nat.le_of_ble_eq_true rfl) rfl dL_law_4 (by omega) (by omega) (pV.k (fun w1 hST => ?_))
  refine j_astore_n (lv' := [(1, .ref x), (0, .ref (gl_z G 3))]) C dL_law_7 rfl (by decide) rfl ?_
  refine j_new (w := w1) C w1.2 (fs := mFS0) (ty := tyX4) in_X4 tyX4_ok (ci := 4) (T := TX4) rfl q1467 q1468 q73 (by decide) (by omega) (by omega) dL_law_8 ?_
  refine j_dup C dL_law_11 rfl ?_
  refine j_callI (w := (mu w1.1 w1.2 w1.2 (.inr (4, mFS0)), w1.2 + 1)) C (mX4_init G w1.1 w1.2) pV.ret 0 q1469 q1470 q73 q1471 rfl (by decide +kernel) rfl (by rw [hhe]; omega) (by rw [hhe]; omega) (Nat.le_of_ble_eq_true rfl) rfl dL_law_12 (by omega) (by omega) (qV.k ?_)
  refine j_astore_n (lv' := [(2, .ref w1.2), (1, .ref x), (0, .ref (gl_z G 3))]) C dL_law_15 rfl (by decide) rfl ?_
  refine j_iconst (v := nI 0) C dL_law_16 rfl ?_
  refine j_istore_n (lv' := [(3, .int (nI 0)), (2, .ref w1.2), (1, .ref x), (0, .ref (gl_z G 3))]) C dL_law_17 rfl (by decide) rfl ?_
  refine j_lv [3, 2, 1, 0] (lv' := [(0, .ref (gl_z G 3)), (1, .ref x), (2, .ref w1.2), (3, .int (nI 0))]) rfl ?_
  have h := lw_loop C hG hE hM hD hS hB hL5 hhe hp1 hmc hms 65 0 _ _ _ _ (0 + 1 + 27 + 1 + 18) (0 + 14 + 277 + 32 + 1784) (by omega) (LI_0 (l := []) hST) (by omega) (by omega)
  exact h
end LS2
