/-! ===== the class: how it reads ===== -/
set_option maxRecDepth 100000
/-- the reader behind the next token -/
def nxA (b : Nat → Nat) (n s : Nat) : Nat := if dgt b n s then s + dgC b n s 121 0 else if s < n then s + 1 else s
def nxT (b : Nat → Nat) (n s : Nat) : Nat := if dgt b n s then (if dgC b n s 121 0 < 3 then 2 else 4) else if s < n then (if inB (nI (b s)) (nI 97) (nI 122) then 1 else if b s = 44 ∨ b s = 59 then 3 else 4) else 0
def nxV (b : Nat → Nat) (n s : Nat) : Int32 := if dgt b n s then nI (dgV b s (dgC b n s 121 0)) else if s < n then nI (b s) else kNONE
def rdE (ta n a t f : Nat) (v : Int32) (mt : Nat) : va_E := .inr (5, [.ref ta, .int (nI n), .int (nI a), .int (nI t), .int (nI f), .int v, .ref mt])
def nxE (ta mt : Nat) (b : Nat → Nat) (n s : Nat) : va_E := rdE ta n (nxA b n s) (nxT b n s) s (nxV b n s) mt
theorem nx_end {ta mt : Nat} {b : Nat → Nat} {n s : Nat} (hb : ∀ i, b i ≤ 255) (h : ¬ s < n) : nxE ta mt b n s = rdE ta n s 0 s kNONE mt := by
  have hd : dgt b n s = false := by
    cases hd : dgt b n s with
    | false => rfl
    | true => exact absurd (dgt_n hb hd).1 h
  unfold nxE nxA nxT nxV
  simp [hd, h]
theorem nx_chr {ta mt : Nat} {b : Nat → Nat} {n s : Nat} (h : s < n) (hd : dgt b n s = false) : nxE ta mt b n s = rdE ta n (s + 1) (if inB (nI (b s)) (nI 97) (nI 122) then 1 else if b s = 44 ∨ b s = 59 then 3 else 4) s (nI (b s)) mt := by
  unfold nxE nxA nxT nxV
  simp [hd, h]
theorem nx_num {ta mt : Nat} {b : Nat → Nat} {n s : Nat} (hd : dgt b n s = true) : nxE ta mt b n s = rdE ta n (s + dgC b n s 121 0) (if dgC b n s 121 0 < 3 then 2 else 4) s (nI (dgV b s (dgC b n s 121 0))) mt := by
  unfold nxE nxA nxT nxV
  simp [hd]
theorem dgV_1 (b : Nat → Nat) (s : Nat) : dgV b s 1 = b s - 48 := by simp [dgV]
theorem dgV_s (b : Nat → Nat) (s i : Nat) : dgV b s (i + 1) = if i < 2 then 10 * dgV b s i + b (s + i) - 48 else dgV b s i := rfl
theorem dgC_s (b : Nat → Nat) (n s f i : Nat) : dgC b n s (f + 1) i = if dgt b n (s + i) then dgC b n s f (i + 1) else i := rfl
theorem nI_kN {a : Nat} (h : a ≤ 255) : ¬ nI a = kNONE := nI_none (by omega)
theorem dgt_b {b : Nat → Nat} {n s : Nat} (h : s < n) {v : Bool} (hv : inB (nI (b s)) (nI 48) (nI 57) = v) : dgt b n s = v := by
  unfold dgt
  rw [byt_lt h]
  exact hv
theorem dgt_o {b : Nat → Nat} {n s : Nat} (hb : ∀ i, b i ≤ 255) (h : ¬ s < n) : dgt b n s = false := by
  cases hd : dgt b n s with
  | false => rfl
  | true => exact absurd (dgt_n hb hd).1 h
theorem kX5_look_E (G : gl_T) (w : wd_T) (r τ ta sz at0 tok fr mt σ : Nat) (va : Int32) (f : Nat → Int32) (tp : Nat → Nat) (hr : w.1 r = some (τ, rdE ta sz at0 tok fr va mt)) (hta : w.1 ta = some (σ, ai (gl_A G 1) 120 f)) (hsz : sz ≤ 120) (ha : at0 ≤ 120) (hf : ∀ i, i < sz → f i &&& nI 255 = nI (tp i)) (h : ¬ at0 < sz) : Mt G yX5_look cX5_look 1 (some .int) 0 [.ref r] w (qI kNONE w) 0 0 := by
  have h1 := kX5_look G w r τ ta sz at0 tok fr mt σ va f tp hr hta hsz ha hf
  rw [if_neg h] at h1
  exact h1
theorem kX5_look_C (G : gl_T) (w : wd_T) (r τ ta sz at0 tok fr mt σ : Nat) (va : Int32) (f : Nat → Int32) (tp : Nat → Nat) (hr : w.1 r = some (τ, rdE ta sz at0 tok fr va mt)) (hta : w.1 ta = some (σ, ai (gl_A G 1) 120 f)) (hsz : sz ≤ 120) (ha : at0 ≤ 120) (hf : ∀ i, i < sz → f i &&& nI 255 = nI (tp i)) (h : at0 < sz) : Mt G yX5_look cX5_look 1 (some .int) 0 [.ref r] w (qI (nI (tp at0)) w) 0 0 := by
  have h1 := kX5_look G w r τ ta sz at0 tok fr mt σ va f tp hr hta hsz ha hf
  rw [if_pos h] at h1
  exact h1
/-! ===== the class: the reader goes on ===== -/
set_option maxRecDepth 100000
set_option maxHeartbeats 400000 in
theorem kX5_next_E (G : gl_T) (w : wd_T) (hG : GH G) (r τ ta sz at0 tok fr mt σ : Nat) (va : Int32) (f : Nat → Int32) (tp : Nat → Nat) (hr : w.1 r = some (τ, rdE ta sz at0 tok fr va mt)) (hta : w.1 ta = some (σ, ai (gl_A G 1) 120 f)) (hne : r ≠ ta) (hsz : sz ≤ 120) (ha : at0 ≤ sz) (htp : ∀ i, tp i ≤ 255) (hf : ∀ i, i < sz → f i &&& nI 255 = nI (tp i)) (h : ¬ at0 < sz) : Mt G yX5_next cX5_next 2 none 1 [.ref r] w (qV (mu w.1 r τ (nxE ta mt tp sz at0), w.2)) 0 0 := by
  refine Mt.start (by decide) (Nat.le_of_ble_eq_true rfl) (fun k C => ?_)
  have C : Cx G k cX5_next "MoodFare$Reader" "next" 2 none 1 0 0 _ := C
  refine j_aload_n C dX5_next_0 rfl 0 rfl ?_
  refine j_aload_n C dX5_next_1 rfl 0 rfl ?_
  refine j_get (w := w) C in_X5 (ci := 5) (T := TX5) rfl hr 2 (by decide) q515 (fun _ z => z) (v := .int (nI at0)) rfl dX5_next_2 ?_
  refine j_put (w := w) C (ty0 := tyX5) in_X5 tyX5_ok nmX5 (ci := 5) (T := TX5) rfl hr 4 (by decide) q517 (fun _ z => z) rfl rfl rfl (fs' := [.ref ta, .int (nI sz), .int (nI at0), .int (nI tok), .int (nI at0), .int va, .ref mt]) (Nat.le_of_ble_eq_true rfl) rfl dX5_next_5 ?_
  refine j_aload_n C dX5_next_8 rfl 0 rfl ?_
  refine j_callV (w := ((mu w.1 r τ (.inr (5, [.ref ta, .int (nI sz), .int (nI at0), .int (nI tok), .int (nI at0), .int va, .ref mt]))), w.2)) C (kX5_look_E G ((mu w.1 r τ (.inr (5, [.ref ta, .int (nI sz), .int (nI at0), .int (nI tok), .int (nI at0), .int va, .ref mt]))), w.2) r τ ta sz at0 tok at0 mt σ va f tp mu_s ((mu_n (Ne.symm hne)).trans hta) hsz (by omega) hf (by omega)) pI.ret (ci := 5) (T := TX5) mu_s rfl 0 q544 q546 qs8 q84 q547 (by decide +kernel) rfl (by decide) (by decide) (Nat.le_of_ble_eq_true rfl) rfl dX5_next_9 (by omega) (by omega) (qI.k ?_)
  refine j_istore_n (lv' := [(1, .int kNONE), (0, .ref r)]) C dX5_next_12 rfl (by decide) rfl ?_
  refine j_aload_n C dX5_next_13 rfl 1 rfl ?_
  refine j_iload_n C dX5_next_14 rfl 0 rfl ?_
  refine j_put (w := ((mu w.1 r τ (.inr (5, [.ref ta, .int (nI sz), .int (nI at0), .int (nI tok), .int (nI at0), .int va, .ref mt]))), w.2)) C (ty0 := tyX5) in_X5 tyX5_ok nmX5 (ci := 5) (T := TX5) rfl mu_s 5 (by decide) q518 (fun _ z => z) rfl rfl rfl (fs' := [.ref ta, .int (nI sz), .int (nI at0), .int (nI tok), .int (nI at0), .int kNONE, .ref mt]) (Nat.le_of_ble_eq_true rfl) rfl dX5_next_15 ?_
  refine J.eq (w' := ((mu w.1 r τ (.inr (5, [.ref ta, .int (nI sz), .int (nI at0), .int (nI tok), .int (nI at0), .int kNONE, .ref mt]))), w.2)) ?_ (congrArg (fun z => (z, w.2)) mu_mu) rfl rfl
  refine j_aload_n C dX5_next_18 rfl 1 rfl ?_
  refine j_dup C dX5_next_19 rfl ?_
  refine j_get (w := ((mu w.1 r τ (.inr (5, [.ref ta, .int (nI sz), .int (nI at0), .int (nI tok), .int (nI at0), .int kNONE, .ref mt]))), w.2)) C in_X5 (ci := 5) (T := TX5) rfl mu_s 2 (by decide) q515 (fun _ z => z) (v := .int (nI at0)) rfl dX5_next_20 ?_
  refine j_iload_n C dX5_next_23 rfl 0 rfl ?_
  refine j_ldc C q548 dX5_next_24 ?_
  refine j_icmp_ne C 33 dX5_next_26 (by decide) (fun c26 => ?_) (fun c26 => ?_)
  · exact absurd rfl c26
  · refine j_iconst (v := nI 0) C dX5_next_29 rfl ?_
    refine j_goto C 34 dX5_next_30 (by decide) ?_
    refine j_iaddN C dX5_next_34 ?_
    refine j_put (w := ((mu w.1 r τ (.inr (5, [.ref ta, .int (nI sz), .int (nI at0), .int (nI tok), .int (nI at0), .int kNONE, .ref mt]))), w.2)) C (ty0 := tyX5) in_X5 tyX5_ok nmX5 (ci := 5) (T := TX5) rfl mu_s 2 (by decide) q515 (fun _ z => z) rfl rfl rfl (fs' := [.ref ta, .int (nI sz), .int (nI (at0 + 0)), .int (nI tok), .int (nI at0), .int kNONE, .ref mt]) (Nat.le_of_ble_eq_true rfl) rfl dX5_next_35 ?_
    refine J.eq (w' := ((mu w.1 r τ (.inr (5, [.ref ta, .int (nI sz), .int (nI (at0 + 0)), .int (nI tok), .int (nI at0), .int kNONE, .ref mt]))), w.2)) ?_ (congrArg (fun z => (z, w.2)) mu_mu) rfl rfl
    refine j_aload_n C dX5_next_38 rfl 1 rfl ?_
    refine j_iload_n C dX5_next_39 rfl 0 rfl ?_
    refine j_ldc C q548 dX5_next_40 ?_
    refine j_icmp_ne C 49 dX5_next_42 (by decide) (fun c42 => ?_) (fun c42 => ?_)
    · exact absurd rfl c42
    · refine j_iconst (v := nI 0) C dX5_next_45 rfl ?_
      refine j_goto C 102 dX5_next_46 (by decide) ?_
      refine j_put (w := ((mu w.1 r τ (.inr (5, [.ref ta, .int (nI sz), .int (nI (at0 + 0)), .int (nI tok), .int (nI at0), .int kNONE, .ref mt]))), w.2)) C (ty0 := tyX5) in_X5 tyX5_ok nmX5 (ci := 5) (T := TX5) rfl mu_s 3 (by decide) q516 (fun _ z => z) rfl rfl rfl (fs' := [.ref ta, .int (nI sz), .int (nI (at0 + 0)), .int (nI 0), .int (nI at0), .int kNONE, .ref mt]) (Nat.le_of_ble_eq_true rfl) rfl dX5_next_102 ?_
      refine J.eq (w' := ((mu w.1 r τ (.inr (5, [.ref ta, .int (nI sz), .int (nI (at0 + 0)), .int (nI 0), .int (nI at0), .int kNONE, .ref mt]))), w.2)) ?_ (congrArg (fun z => (z, w.2)) mu_mu) rfl rfl
      refine j_aload_n C dX5_next_105 rfl 1 rfl ?_
      refine j_get (w := ((mu w.1 r τ (.inr (5, [.ref ta, .int (nI sz), .int (nI (at0 + 0)), .int (nI 0), .int (nI at0), .int kNONE, .ref mt]))), w.2)) C in_X5 (ci := 5) (T := TX5) rfl mu_s 3 (by decide) q516 (fun _ z => z) (v := .int (nI 0)) rfl dX5_next_106 ?_
      refine j_iconst (v := nI 2) C dX5_next_109 rfl ?_
      refine j_icmp_eqN C 114 dX5_next_110 (by decide) (by omega) (by omega) (fun c110 => ?_) (fun c110 => ?_)
      · exfalso; omega
      · exact j_vret C (by omega) (by omega) (pV.mk (by rw [nx_end htp h]; rfl)) dX5_next_113
set_option maxHeartbeats 400000 in
theorem kX5_next_C (G : gl_T) (w : wd_T) (hG : GH G) (r τ ta sz at0 tok fr mt σ : Nat) (va : Int32) (f : Nat → Int32) (tp : Nat → Nat) (hr : w.1 r = some (τ, rdE ta sz at0 tok fr va mt)) (hta : w.1 ta = some (σ, ai (gl_A G 1) 120 f)) (hne : r ≠ ta) (hsz : sz ≤ 120) (ha : at0 ≤ sz) (htp : ∀ i, tp i ≤ 255) (hf : ∀ i, i < sz → f i &&& nI 255 = nI (tp i)) (h : at0 < sz) (hd : dgt tp sz at0 = false) : Mt G yX5_next cX5_next 2 none 1 [.ref r] w (qV (mu w.1 r τ (nxE ta mt tp sz at0), w.2)) 0 0 := by
  refine Mt.start (by decide) (Nat.le_of_ble_eq_true rfl) (fun k C => ?_)
  have C : Cx G k cX5_next "MoodFare$Reader" "next" 2 none 1 0 0 _ := C
  refine j_aload_n C dX5_next_0 rfl 0 rfl ?_
  refine j_aload_n C dX5_next_1 rfl 0 rfl ?_
  refine j_get (w := w) C in_X5 (ci := 5) (T := TX5) rfl hr 2 (by decide) q515 (fun _ z => z) (v := .int (nI at0)) rfl dX5_next_2 ?_
  refine j_put (w := w) C (ty0 := tyX5) in_X5 tyX5_ok nmX5 (ci := 5) (T := TX5) rfl hr 4 (by decide) q517 (fun _ z => z) rfl rfl rfl (fs' := [.ref ta, .int (nI sz), .int (nI at0), .int (nI tok), .int (nI at0), .int va, .ref mt]) (Nat.le_of_ble_eq_true rfl) rfl dX5_next_5 ?_
  refine j_aload_n C dX5_next_8 rfl 0 rfl ?_
  refine j_callV (w := ((mu w.1 r τ (.inr (5, [.ref ta, .int (nI sz), .int (nI at0), .int (nI tok), .int (nI at0), .int va, .ref mt]))), w.2)) C (kX5_look_C G ((mu w.1 r τ (.inr (5, [.ref ta, .int (nI sz), .int (nI at0), .int (nI tok), .int (nI at0), .int va, .ref mt]))), w.2) r τ ta sz at0 tok at0 mt σ va f tp mu_s ((mu_n (Ne.symm hne)).trans hta) hsz (by omega) hf (by omega)) pI.ret (ci := 5) (T := TX5) mu_s rfl 0 q544 q546 qs8 q84 q547 (by decide +kernel) rfl (by decide) (by decide) (Nat.le_of_ble_eq_true rfl) rfl dX5_next_9 (by omega) (by omega) (qI.k ?_)
  refine j_istore_n (lv' := [(1, .int (nI (tp at0))), (0, .ref r)]) C dX5_next_12 rfl (by decide) rfl ?_
  refine j_aload_n C dX5_next_13 rfl 1 rfl ?_
  refine j_iload_n C dX5_next_14 rfl 0 rfl ?_
  refine j_put (w := ((mu w.1 r τ (.inr (5, [.ref ta, .int (nI sz), .int (nI at0), .int (nI tok), .int (nI at0), .int va, .ref mt]))), w.2)) C (ty0 := tyX5) in_X5 tyX5_ok nmX5 (ci := 5) (T := TX5) rfl mu_s 5 (by decide) q518 (fun _ z => z) rfl rfl rfl (fs' := [.ref ta, .int (nI sz), .int (nI at0), .int (nI tok), .int (nI at0), .int (nI (tp at0)), .ref mt]) (Nat.le_of_ble_eq_true rfl) rfl dX5_next_15 ?_
  refine J.eq (w' := ((mu w.1 r τ (.inr (5, [.ref ta, .int (nI sz), .int (nI at0), .int (nI tok), .int (nI at0), .int (nI (tp at0)), .ref mt]))), w.2)) ?_ (congrArg (fun z => (z, w.2)) mu_mu) rfl rfl
  refine j_aload_n C dX5_next_18 rfl 1 rfl ?_
  refine j_dup C dX5_next_19 rfl ?_
  refine j_get (w := ((mu w.1 r τ (.inr (5, [.ref ta, .int (nI sz), .int (nI at0), .int (nI tok), .int (nI at0), .int (nI (tp at0)), .ref mt]))), w.2)) C in_X5 (ci := 5) (T := TX5) rfl mu_s 2 (by decide) q515 (fun _ z => z) (v := .int (nI at0)) rfl dX5_next_20 ?_
  refine j_iload_n C dX5_next_23 rfl 0 rfl ?_
  refine j_ldc C q548 dX5_next_24 ?_
  refine j_icmp_ne C 33 dX5_next_26 (by decide) (fun c26 => ?_) (fun c26 => ?_)
  · refine j_iconst (v := nI 1) C dX5_next_33 rfl ?_
    refine j_iaddN C dX5_next_34 ?_
    refine j_put (w := ((mu w.1 r τ (.inr (5, [.ref ta, .int (nI sz), .int (nI at0), .int (nI tok), .int (nI at0), .int (nI (tp at0)), .ref mt]))), w.2)) C (ty0 := tyX5) in_X5 tyX5_ok nmX5 (ci := 5) (T := TX5) rfl mu_s 2 (by decide) q515 (fun _ z => z) rfl rfl rfl (fs' := [.ref ta, .int (nI sz), .int (nI (at0 + 1)), .int (nI tok), .int (nI at0), .int (nI (tp at0)), .ref mt]) (Nat.le_of_ble_eq_true rfl) rfl dX5_next_35 ?_
    refine J.eq (w' := ((mu w.1 r τ (.inr (5, [.ref ta, .int (nI sz), .int (nI (at0 + 1)), .int (nI tok), .int (nI at0), .int (nI (tp at0)), .ref mt]))), w.2)) ?_ (congrArg (fun z => (z, w.2)) mu_mu) rfl rfl
    refine j_aload_n C dX5_next_38 rfl 1 rfl ?_
    refine j_iload_n C dX5_next_39 rfl 0 rfl ?_
    refine j_ldc C q548 dX5_next_40 ?_
    refine j_icmp_ne C 49 dX5_next_42 (by decide) (fun c42 => ?_) (fun c42 => ?_)
    · refine j_iload_n C dX5_next_49 rfl 0 rfl ?_
      refine j_i2l C dX5_next_50 ?_
      refine j_ldc2 C q549 dX5_next_51 ?_
      refine j_asl (y := (nI 97).toInt64) (by decide +kernel) ?_
      refine j_ldc2 C q550 dX5_next_54 ?_
      refine j_asl (y := (nI 122).toInt64) (by decide +kernel) ?_
      refine j_callSN (w := ((mu w.1 r τ (.inr (5, [.ref ta, .int (nI sz), .int (nI (at0 + 1)), .int (nI tok), .int (nI at0), .int (nI (tp at0)), .ref mt]))), w.2)) C (kX0_isIn G ((mu w.1 r τ (.inr (5, [.ref ta, .int (nI sz), .int (nI (at0 + 1)), .int (nI tok), .int (nI at0), .int (nI (tp at0)), .ref mt]))), w.2) ((nI (tp at0))) ((nI 97)) ((nI 122))) pI.ret 3 (C.nw hG q551 rfl) q388 q66 q389 (by decide +kernel) rfl (by decide) (by decide) (Nat.le_of_ble_eq_true rfl) rfl dX5_next_57 (by omega) (by omega) (qI.k ?_)
      refine j_if_eqB C 67 dX5_next_60 (by decide) (fun c60 => ?_) (fun c60 => ?_)
      · refine j_iload_n C dX5_next_67 rfl 0 rfl ?_
        refine j_i2l C dX5_next_68 ?_
        refine j_ldc2 C q552 dX5_next_69 ?_
        refine j_asl (y := (nI 48).toInt64) (by decide +kernel) ?_
        refine j_ldc2 C q553 dX5_next_72 ?_
        refine j_asl (y := (nI 57).toInt64) (by decide +kernel) ?_
        refine j_callSN (w := ((mu w.1 r τ (.inr (5, [.ref ta, .int (nI sz), .int (nI (at0 + 1)), .int (nI tok), .int (nI at0), .int (nI (tp at0)), .ref mt]))), w.2)) C (kX0_isIn G ((mu w.1 r τ (.inr (5, [.ref ta, .int (nI sz), .int (nI (at0 + 1)), .int (nI tok), .int (nI at0), .int (nI (tp at0)), .ref mt]))), w.2) ((nI (tp at0))) ((nI 48)) ((nI 57))) pI.ret 3 (C.nw hG q551 rfl) q388 q66 q389 (by decide +kernel) rfl (by decide) (by decide) (Nat.le_of_ble_eq_true rfl) rfl dX5_next_75 (by omega) (by omega) (qI.k ?_)
        refine j_if_eqB C 85 dX5_next_78 (by decide) (fun c78 => ?_) (fun c78 => ?_)
        · refine j_iload_n C dX5_next_85 rfl 0 rfl ?_
          refine j_bipush (v := nI 44) C dX5_next_86 rfl ?_
          refine j_icmp_eqN C 97 dX5_next_88 (by decide) (by first | omega | (have := htp at0; omega)) (by first | omega | (have := htp at0; omega)) (fun c88 => ?_) (fun c88 => ?_)
          · refine j_iconst (v := nI 3) C dX5_next_97 rfl ?_
            refine j_goto C 102 dX5_next_98 (by decide) ?_
            refine j_put (w := ((mu w.1 r τ (.inr (5, [.ref ta, .int (nI sz), .int (nI (at0 + 1)), .int (nI tok), .int (nI at0), .int (nI (tp at0)), .ref mt]))), w.2)) C (ty0 := tyX5) in_X5 tyX5_ok nmX5 (ci := 5) (T := TX5) rfl mu_s 3 (by decide) q516 (fun _ z => z) rfl rfl rfl (fs' := [.ref ta, .int (nI sz), .int (nI (at0 + 1)), .int (nI 3), .int (nI at0), .int (nI (tp at0)), .ref mt]) (Nat.le_of_ble_eq_true rfl) rfl dX5_next_102 ?_
            refine J.eq (w' := ((mu w.1 r τ (.inr (5, [.ref ta, .int (nI sz), .int (nI (at0 + 1)), .int (nI 3), .int (nI at0), .int (nI (tp at0)), .ref mt]))), w.2)) ?_ (congrArg (fun z => (z, w.2)) mu_mu) rfl rfl
            refine j_aload_n C dX5_next_105 rfl 1 rfl ?_
            refine j_get (w := ((mu w.1 r τ (.inr (5, [.ref ta, .int (nI sz), .int (nI (at0 + 1)), .int (nI 3), .int (nI at0), .int (nI (tp at0)), .ref mt]))), w.2)) C in_X5 (ci := 5) (T := TX5) rfl mu_s 3 (by decide) q516 (fun _ z => z) (v := .int (nI 3)) rfl dX5_next_106 ?_
            refine j_iconst (v := nI 2) C dX5_next_109 rfl ?_
            refine j_icmp_eqN C 114 dX5_next_110 (by decide) (by first | omega | (have := htp at0; omega)) (by first | omega | (have := htp at0; omega)) (fun c110 => ?_) (fun c110 => ?_)
            · exfalso; omega
            · exact j_vret C (by omega) (by omega) (pV.mk (by rw [nx_chr h hd]; congr 4; rw [c60]; simp [c88])) dX5_next_113
          · refine j_iload_n C dX5_next_91 rfl 0 rfl ?_
            refine j_bipush (v := nI 59) C dX5_next_92 rfl ?_
            refine j_icmp_neN C 101 dX5_next_94 (by decide) (by first | omega | (have := htp at0; omega)) (by first | omega | (have := htp at0; omega)) (fun c94 => ?_) (fun c94 => ?_)
            · refine j_iconst (v := nI 4) C dX5_next_101 rfl ?_
              refine j_put (w := ((mu w.1 r τ (.inr (5, [.ref ta, .int (nI sz), .int (nI (at0 + 1)), .int (nI tok), .int (nI at0), .int (nI (tp at0)), .ref mt]))), w.2)) C (ty0 := tyX5) in_X5 tyX5_ok nmX5 (ci := 5) (T := TX5) rfl mu_s 3 (by decide) q516 (fun _ z => z) rfl rfl rfl (fs' := [.ref ta, .int (nI sz), .int (nI (at0 + 1)), .int (nI 4), .int (nI at0), .int (nI (tp at0)), .ref mt]) (Nat.le_of_ble_eq_true rfl) rfl dX5_next_102 ?_
              refine J.eq (w' := ((mu w.1 r τ (.inr (5, [.ref ta, .int (nI sz), .int (nI (at0 + 1)), .int (nI 4), .int (nI at0), .int (nI (tp at0)), .ref mt]))), w.2)) ?_ (congrArg (fun z => (z, w.2)) mu_mu) rfl rfl
              refine j_aload_n C dX5_next_105 rfl 1 rfl ?_
              refine j_get (w := ((mu w.1 r τ (.inr (5, [.ref ta, .int (nI sz), .int (nI (at0 + 1)), .int (nI 4), .int (nI at0), .int (nI (tp at0)), .ref mt]))), w.2)) C in_X5 (ci := 5) (T := TX5) rfl mu_s 3 (by decide) q516 (fun _ z => z) (v := .int (nI 4)) rfl dX5_next_106 ?_
              refine j_iconst (v := nI 2) C dX5_next_109 rfl ?_
              refine j_icmp_eqN C 114 dX5_next_110 (by decide) (by first | omega | (have := htp at0; omega)) (by first | omega | (have := htp at0; omega)) (fun c110 => ?_) (fun c110 => ?_)
              · exfalso; omega
              · exact j_vret C (by omega) (by omega) (pV.mk (by rw [nx_chr h hd]; congr 4; rw [c60]; simp [c88, c94])) dX5_next_113
            · refine j_iconst (v := nI 3) C dX5_next_97 rfl ?_
              refine j_goto C 102 dX5_next_98 (by decide) ?_
              refine j_put (w := ((mu w.1 r τ (.inr (5, [.ref ta, .int (nI sz), .int (nI (at0 + 1)), .int (nI tok), .int (nI at0), .int (nI (tp at0)), .ref mt]))), w.2)) C (ty0 := tyX5) in_X5 tyX5_ok nmX5 (ci := 5) (T := TX5) rfl mu_s 3 (by decide) q516 (fun _ z => z) rfl rfl rfl (fs' := [.ref ta, .int (nI sz), .int (nI (at0 + 1)), .int (nI 3), .int (nI at0), .int (nI (tp at0)), .ref mt]) (Nat.le_of_ble_eq_true rfl) rfl dX5_next_102 ?_
              refine J.eq (w' := ((mu w.1 r τ (.inr (5, [.ref ta, .int (nI sz), .int (nI (at0 + 1)), .int (nI 3), .int (nI at0), .int (nI (tp at0)), .ref mt]))), w.2)) ?_ (congrArg (fun z => (z, w.2)) mu_mu) rfl rfl
              refine j_aload_n C dX5_next_105 rfl 1 rfl ?_
              refine j_get (w := ((mu w.1 r τ (.inr (5, [.ref ta, .int (nI sz), .int (nI (at0 + 1)), .int (nI 3), .int (nI at0), .int (nI (tp at0)), .ref mt]))), w.2)) C in_X5 (ci := 5) (T := TX5) rfl mu_s 3 (by decide) q516 (fun _ z => z) (v := .int (nI 3)) rfl dX5_next_106 ?_
              refine j_iconst (v := nI 2) C dX5_next_109 rfl ?_
              refine j_icmp_eqN C 114 dX5_next_110 (by decide) (by first | omega | (have := htp at0; omega)) (by first | omega | (have := htp at0; omega)) (fun c110 => ?_) (fun c110 => ?_)
              · exfalso; omega
              · exact j_vret C (by omega) (by omega) (pV.mk (by rw [nx_chr h hd]; congr 4; rw [c60]; simp [c88, c94])) dX5_next_113
        · exfalso
          have z : inB (nI (tp at0)) (nI 48) (nI 57) = false := by have := hd; unfold dgt at this; rw [byt_lt h] at this; exact this
          rw [z] at c78; cases c78
      · refine j_iconst (v := nI 1) C dX5_next_63 rfl ?_
        refine j_goto C 102 dX5_next_64 (by decide) ?_
        refine j_put (w := ((mu w.1 r τ (.inr (5, [.ref ta, .int (nI sz), .int (nI (at0 + 1)), .int (nI tok), .int (nI at0), .int (nI (tp at0)), .ref mt]))), w.2)) C (ty0 := tyX5) in_X5 tyX5_ok nmX5 (ci := 5) (T := TX5) rfl mu_s 3 (by decide) q516 (fun _ z => z) rfl rfl rfl (fs' := [.ref ta, .int (nI sz), .int (nI (at0 + 1)), .int (nI 1), .int (nI at0), .int (nI (tp at0)), .ref mt]) (Nat.le_of_ble_eq_true rfl) rfl dX5_next_102 ?_
        refine J.eq (w' := ((mu w.1 r τ (.inr (5, [.ref ta, .int (nI sz), .int (nI (at0 + 1)), .int (nI 1), .int (nI at0), .int (nI (tp at0)), .ref mt]))), w.2)) ?_ (congrArg (fun z => (z, w.2)) mu_mu) rfl rfl
        refine j_aload_n C dX5_next_105 rfl 1 rfl ?_
        refine j_get (w := ((mu w.1 r τ (.inr (5, [.ref ta, .int (nI sz), .int (nI (at0 + 1)), .int (nI 1), .int (nI at0), .int (nI (tp at0)), .ref mt]))), w.2)) C in_X5 (ci := 5) (T := TX5) rfl mu_s 3 (by decide) q516 (fun _ z => z) (v := .int (nI 1)) rfl dX5_next_106 ?_
        refine j_iconst (v := nI 2) C dX5_next_109 rfl ?_
        refine j_icmp_eqN C 114 dX5_next_110 (by decide) (by first | omega | (have := htp at0; omega)) (by first | omega | (have := htp at0; omega)) (fun c110 => ?_) (fun c110 => ?_)
        · exfalso; omega
        · exact j_vret C (by omega) (by omega) (pV.mk (by rw [nx_chr h hd]; congr 4; rw [c60]; rfl)) dX5_next_113
    · exact absurd c42 (by intro z; exact absurd z (nI_kN (by have := htp at0; omega)))
  · exact absurd c26 (by intro z; exact absurd z (nI_kN (by have := htp at0; omega)))
set_option maxHeartbeats 400000 in
theorem kX5_next_N (G : gl_T) (w : wd_T) (hG : GH G) (r τ ta sz at0 tok fr mt σ : Nat) (va : Int32) (f : Nat → Int32) (tp : Nat → Nat) (hr : w.1 r = some (τ, rdE ta sz at0 tok fr va mt)) (hta : w.1 ta = some (σ, ai (gl_A G 1) 120 f)) (hne : r ≠ ta) (hsz : sz ≤ 120) (ha : at0 ≤ sz) (htp : ∀ i, tp i ≤ 255) (hf : ∀ i, i < sz → f i &&& nI 255 = nI (tp i)) (hd : dgt tp sz at0 = true) : Mt G yX5_next cX5_next 2 none 1 [.ref r] w (qV (mu w.1 r τ (nxE ta mt tp sz at0), w.2)) 0 0 := by
  refine Mt.start (by decide) (Nat.le_of_ble_eq_true rfl) (fun k C => ?_)
  have C : Cx G k cX5_next "MoodFare$Reader" "next" 2 none 1 0 0 _ := C
  obtain ⟨h, h481, h571⟩ := dgt_n htp hd
  refine j_aload_n C dX5_next_0 rfl 0 rfl ?_
  refine j_aload_n C dX5_next_1 rfl 0 rfl ?_
  refine j_get (w := w) C in_X5 (ci := 5) (T := TX5) rfl hr 2 (by decide) q515 (fun _ z => z) (v := .int (nI at0)) rfl dX5_next_2 ?_
  refine j_put (w := w) C (ty0 := tyX5) in_X5 tyX5_ok nmX5 (ci := 5) (T := TX5) rfl hr 4 (by decide) q517 (fun _ z => z) rfl rfl rfl (fs' := [.ref ta, .int (nI sz), .int (nI at0), .int (nI tok), .int (nI at0), .int va, .ref mt]) (Nat.le_of_ble_eq_true rfl) rfl dX5_next_5 ?_
  refine j_aload_n C dX5_next_8 rfl 0 rfl ?_
  refine j_callV (w := ((mu w.1 r τ (.inr (5, [.ref ta, .int (nI sz), .int (nI at0), .int (nI tok), .int (nI at0), .int va, .ref mt]))), w.2)) C (kX5_look_C G ((mu w.1 r τ (.inr (5, [.ref ta, .int (nI sz), .int (nI at0), .int (nI tok), .int (nI at0), .int va, .ref mt]))), w.2) r τ ta sz at0 tok at0 mt σ va f tp mu_s ((mu_n (Ne.symm hne)).trans hta) hsz (by omega) hf (by omega)) pI.ret (ci := 5) (T := TX5) mu_s rfl 0 q544 q546 qs8 q84 q547 (by decide +kernel) rfl (by decide) (by decide) (Nat.le_of_ble_eq_true rfl) rfl dX5_next_9 (by omega) (by omega) (qI.k ?_)
  refine j_istore_n (lv' := [(1, .int (nI (tp at0))), (0, .ref r)]) C dX5_next_12 rfl (by decide) rfl ?_
  refine j_aload_n C dX5_next_13 rfl 1 rfl ?_
  refine j_iload_n C dX5_next_14 rfl 0 rfl ?_
  refine j_put (w := ((mu w.1 r τ (.inr (5, [.ref ta, .int (nI sz), .int (nI at0), .int (nI tok), .int (nI at0), .int va, .ref mt]))), w.2)) C (ty0 := tyX5) in_X5 tyX5_ok nmX5 (ci := 5) (T := TX5) rfl mu_s 5 (by decide) q518 (fun _ z => z) rfl rfl rfl (fs' := [.ref ta, .int (nI sz), .int (nI at0), .int (nI tok), .int (nI at0), .int (nI (tp at0)), .ref mt]) (Nat.le_of_ble_eq_true rfl) rfl dX5_next_15 ?_
  refine J.eq (w' := ((mu w.1 r τ (.inr (5, [.ref ta, .int (nI sz), .int (nI at0), .int (nI tok), .int (nI at0), .int (nI (tp at0)), .ref mt]))), w.2)) ?_ (congrArg (fun z => (z, w.2)) mu_mu) rfl rfl
  refine j_aload_n C dX5_next_18 rfl 1 rfl ?_
  refine j_dup C dX5_next_19 rfl ?_
  refine j_get (w := ((mu w.1 r τ (.inr (5, [.ref ta, .int (nI sz), .int (nI at0), .int (nI tok), .int (nI at0), .int (nI (tp at0)), .ref mt]))), w.2)) C in_X5 (ci := 5) (T := TX5) rfl mu_s 2 (by decide) q515 (fun _ z => z) (v := .int (nI at0)) rfl dX5_next_20 ?_
  refine j_iload_n C dX5_next_23 rfl 0 rfl ?_
  refine j_ldc C q548 dX5_next_24 ?_
  refine j_icmp_ne C 33 dX5_next_26 (by decide) (fun c26 => ?_) (fun c26 => ?_)
  · refine j_iconst (v := nI 1) C dX5_next_33 rfl ?_
    refine j_iaddN C dX5_next_34 ?_
    refine j_put (w := ((mu w.1 r τ (.inr (5, [.ref ta, .int (nI sz), .int (nI at0), .int (nI tok), .int (nI at0), .int (nI (tp at0)), .ref mt]))), w.2)) C (ty0 := tyX5) in_X5 tyX5_ok nmX5 (ci := 5) (T := TX5) rfl mu_s 2 (by decide) q515 (fun _ z => z) rfl rfl rfl (fs' := [.ref ta, .int (nI sz), .int (nI (at0 + 1)), .int (nI tok), .int (nI at0), .int (nI (tp at0)), .ref mt]) (Nat.le_of_ble_eq_true rfl) rfl dX5_next_35 ?_
    refine J.eq (w' := ((mu w.1 r τ (.inr (5, [.ref ta, .int (nI sz), .int (nI (at0 + 1)), .int (nI tok), .int (nI at0), .int (nI (tp at0)), .ref mt]))), w.2)) ?_ (congrArg (fun z => (z, w.2)) mu_mu) rfl rfl
    refine j_aload_n C dX5_next_38 rfl 1 rfl ?_
    refine j_iload_n C dX5_next_39 rfl 0 rfl ?_
    refine j_ldc C q548 dX5_next_40 ?_
    refine j_icmp_ne C 49 dX5_next_42 (by decide) (fun c42 => ?_) (fun c42 => ?_)
    · refine j_iload_n C dX5_next_49 rfl 0 rfl ?_
      refine j_i2l C dX5_next_50 ?_
      refine j_ldc2 C q549 dX5_next_51 ?_
      refine j_asl (y := (nI 97).toInt64) (by decide +kernel) ?_
      refine j_ldc2 C q550 dX5_next_54 ?_
      refine j_asl (y := (nI 122).toInt64) (by decide +kernel) ?_
      refine j_callSN (w := ((mu w.1 r τ (.inr (5, [.ref ta, .int (nI sz), .int (nI (at0 + 1)), .int (nI tok), .int (nI at0), .int (nI (tp at0)), .ref mt]))), w.2)) C (kX0_isIn G ((mu w.1 r τ (.inr (5, [.ref ta, .int (nI sz), .int (nI (at0 + 1)), .int (nI tok), .int (nI at0), .int (nI (tp at0)), .ref mt]))), w.2) ((nI (tp at0))) ((nI 97)) ((nI 122))) pI.ret 3 (C.nw hG q551 rfl) q388 q66 q389 (by decide +kernel) rfl (by decide) (by decide) (Nat.le_of_ble_eq_true rfl) rfl dX5_next_57 (by omega) (by omega) (qI.k ?_)
      refine j_if_eqB C 67 dX5_next_60 (by decide) (fun c60 => ?_) (fun c60 => ?_)
      · refine j_iload_n C dX5_next_67 rfl 0 rfl ?_
        refine j_i2l C dX5_next_68 ?_
        refine j_ldc2 C q552 dX5_next_69 ?_
        refine j_asl (y := (nI 48).toInt64) (by decide +kernel) ?_
        refine j_ldc2 C q553 dX5_next_72 ?_
        refine j_asl (y := (nI 57).toInt64) (by decide +kernel) ?_
        refine j_callSN (w := ((mu w.1 r τ (.inr (5, [.ref ta, .int (nI sz), .int (nI (at0 + 1)), .int (nI tok), .int (nI at0), .int (nI (tp at0)), .ref mt]))), w.2)) C (kX0_isIn G ((mu w.1 r τ (.inr (5, [.ref ta, .int (nI sz), .int (nI (at0 + 1)), .int (nI tok), .int (nI at0), .int (nI (tp at0)), .ref mt]))), w.2) ((nI (tp at0))) ((nI 48)) ((nI 57))) pI.ret 3 (C.nw hG q551 rfl) q388 q66 q389 (by decide +kernel) rfl (by decide) (by decide) (Nat.le_of_ble_eq_true rfl) rfl dX5_next_75 (by omega) (by omega) (qI.k ?_)
        refine j_if_eqB C 85 dX5_next_78 (by decide) (fun c78 => ?_) (fun c78 => ?_)
        · exfalso
          have z : inB (nI (tp at0)) (nI 48) (nI 57) = true := by have := hd; unfold dgt at this; rw [byt_lt h] at this; exact this
          rw [z] at c78; cases c78
        · refine j_iconst (v := nI 2) C dX5_next_81 rfl ?_
          refine j_goto C 102 dX5_next_82 (by decide) ?_
          refine j_put (w := ((mu w.1 r τ (.inr (5, [.ref ta, .int (nI sz), .int (nI (at0 + 1)), .int (nI tok), .int (nI at0), .int (nI (tp at0)), .ref mt]))), w.2)) C (ty0 := tyX5) in_X5 tyX5_ok nmX5 (ci := 5) (T := TX5) rfl mu_s 3 (by decide) q516 (fun _ z => z) rfl rfl rfl (fs' := [.ref ta, .int (nI sz), .int (nI (at0 + 1)), .int (nI 2), .int (nI at0), .int (nI (tp at0)), .ref mt]) (Nat.le_of_ble_eq_true rfl) rfl dX5_next_102 ?_
          refine J.eq (w' := ((mu w.1 r τ (.inr (5, [.ref ta, .int (nI sz), .int (nI (at0 + 1)), .int (nI 2), .int (nI at0), .int (nI (tp at0)), .ref mt]))), w.2)) ?_ (congrArg (fun z => (z, w.2)) mu_mu) rfl rfl
          refine j_aload_n C dX5_next_105 rfl 1 rfl ?_
          refine j_get (w := ((mu w.1 r τ (.inr (5, [.ref ta, .int (nI sz), .int (nI (at0 + 1)), .int (nI 2), .int (nI at0), .int (nI (tp at0)), .ref mt]))), w.2)) C in_X5 (ci := 5) (T := TX5) rfl mu_s 3 (by decide) q516 (fun _ z => z) (v := .int (nI 2)) rfl dX5_next_106 ?_
          refine j_iconst (v := nI 2) C dX5_next_109 rfl ?_
          refine j_icmp_eqN C 114 dX5_next_110 (by decide) (by first | omega | (have := htp at0; omega)) (by first | omega | (have := htp at0; omega)) (fun c110 => ?_) (fun c110 => ?_)
          · refine j_aload_n C dX5_next_114 rfl 1 rfl ?_
            refine j_iload_n C dX5_next_115 rfl 0 rfl ?_
            refine j_bipush (v := nI 48) C dX5_next_116 rfl ?_
            refine j_isubN C dX5_next_118 (by first | omega | (have := htp at0; omega)) ?_
            refine j_put (w := ((mu w.1 r τ (.inr (5, [.ref ta, .int (nI sz), .int (nI (at0 + 1)), .int (nI 2), .int (nI at0), .int (nI (tp at0)), .ref mt]))), w.2)) C (ty0 := tyX5) in_X5 tyX5_ok nmX5 (ci := 5) (T := TX5) rfl mu_s 5 (by decide) q518 (fun _ z => z) rfl rfl rfl (fs' := [.ref ta, .int (nI sz), .int (nI (at0 + 1)), .int (nI 2), .int (nI at0), .int (nI ((tp at0) - 48)), .ref mt]) (Nat.le_of_ble_eq_true rfl) rfl dX5_next_119 ?_
            refine J.eq (w' := ((mu w.1 r τ (.inr (5, [.ref ta, .int (nI sz), .int (nI (at0 + 1)), .int (nI 2), .int (nI at0), .int (nI ((tp at0) - 48)), .ref mt]))), w.2)) ?_ (congrArg (fun z => (z, w.2)) mu_mu) rfl rfl
            have lp : ∀ (m i : Nat), m + i = 121 → 1 ≤ i → at0 + i ≤ sz → dgC tp sz at0 121 0 = dgC tp sz at0 m i → J G k ((mu w.1 r τ (.inr (5, [.ref ta, .int (nI sz), .int (nI (at0 + i)), .int (nI 2), .int (nI at0), .int (nI (dgV tp at0 i)), .ref mt]))), w.2) [(1, .int (nI (tp at0))), (0, .ref r)] 122 [] 0 0 := by
              intro m
              induction m with
              | zero => intro i a1 a2 a3; omega
              | succ m ih =>
                intro i hmi hi1 his hC
                by_cases z : at0 + i < sz
                · refine j_aload_n C dX5_next_122 rfl 1 rfl ?_
                  refine j_callV (w := ((mu w.1 r τ (.inr (5, [.ref ta, .int (nI sz), .int (nI (at0 + i)), .int (nI 2), .int (nI at0), .int (nI (dgV tp at0 i)), .ref mt]))), w.2)) C (kX5_look_C G ((mu w.1 r τ (.inr (5, [.ref ta, .int (nI sz), .int (nI (at0 + i)), .int (nI 2), .int (nI at0), .int (nI (dgV tp at0 i)), .ref mt]))), w.2) r τ ta sz (at0 + i) 2 at0 mt σ (nI (dgV tp at0 i)) f tp mu_s ((mu_n (Ne.symm hne)).trans hta) hsz (by omega) hf (by omega)) pI.ret (ci := 5) (T := TX5) mu_s rfl 0 q544 q546 qs8 q84 q547 (by decide +kernel) rfl (by decide) (by decide) (Nat.le_of_ble_eq_true rfl) rfl dX5_next_123 (by omega) (by omega) (qI.k ?_)
                  refine j_i2l C dX5_next_126 ?_
                  refine j_ldc2 C q552 dX5_next_127 ?_
                  refine j_asl (y := (nI 48).toInt64) (by decide +kernel) ?_
                  refine j_ldc2 C q553 dX5_next_130 ?_
                  refine j_asl (y := (nI 57).toInt64) (by decide +kernel) ?_
                  refine j_callSN (w := ((mu w.1 r τ (.inr (5, [.ref ta, .int (nI sz), .int (nI (at0 + i)), .int (nI 2), .int (nI at0), .int (nI (dgV tp at0 i)), .ref mt]))), w.2)) C (kX0_isIn G ((mu w.1 r τ (.inr (5, [.ref ta, .int (nI sz), .int (nI (at0 + i)), .int (nI 2), .int (nI at0), .int (nI (dgV tp at0 i)), .ref mt]))), w.2) ((nI (tp (at0 + i)))) ((nI 48)) ((nI 57))) pI.ret 3 (C.nw hG q551 rfl) q388 q66 q389 (by decide +kernel) rfl (by decide) (by decide) (Nat.le_of_ble_eq_true rfl) rfl dX5_next_133 (by omega) (by omega) (qI.k ?_)
                  refine j_if_eqB C 191 dX5_next_136 (by decide) (fun c136 => ?_) (fun c136 => ?_)
                  · have hdi := dgt_b z c136
                    have e0 : dgC tp sz at0 121 0 = i := by rw [hC, dgC_s, hdi]; rfl
                    refine j_aload_n C dX5_next_191 rfl 1 rfl ?_
                    refine j_aload_n C dX5_next_192 rfl 1 rfl ?_
                    refine j_get (w := ((mu w.1 r τ (.inr (5, [.ref ta, .int (nI sz), .int (nI (at0 + i)), .int (nI 2), .int (nI at0), .int (nI (dgV tp at0 i)), .ref mt]))), w.2)) C in_X5 (ci := 5) (T := TX5) rfl mu_s 2 (by decide) q515 (fun _ z => z) (v := .int (nI (at0 + i))) rfl dX5_next_193 ?_
                    refine j_aload_n C dX5_next_196 rfl 1 rfl ?_
                    refine j_get (w := ((mu w.1 r τ (.inr (5, [.ref ta, .int (nI sz), .int (nI (at0 + i)), .int (nI 2), .int (nI at0), .int (nI (dgV tp at0 i)), .ref mt]))), w.2)) C in_X5 (ci := 5) (T := TX5) rfl mu_s 4 (by decide) q517 (fun _ z => z) (v := .int (nI at0)) rfl dX5_next_197 ?_
                    refine j_isubN C dX5_next_200 (by first | omega | (have := htp at0; omega)) ?_
                    refine j_iconst (v := nI 2) C dX5_next_201 rfl ?_
                    refine j_icmp_leN C 209 dX5_next_202 (by decide) (by first | omega | (have := htp at0; omega)) (by first | omega | (have := htp at0; omega)) (fun c202 => ?_) (fun c202 => ?_)
                    · refine j_iconst (v := nI 2) C dX5_next_209 rfl ?_
                      refine j_put (w := ((mu w.1 r τ (.inr (5, [.ref ta, .int (nI sz), .int (nI (at0 + i)), .int (nI 2), .int (nI at0), .int (nI (dgV tp at0 i)), .ref mt]))), w.2)) C (ty0 := tyX5) in_X5 tyX5_ok nmX5 (ci := 5) (T := TX5) rfl mu_s 3 (by decide) q516 (fun _ z => z) rfl rfl rfl (fs' := [.ref ta, .int (nI sz), .int (nI (at0 + i)), .int (nI 2), .int (nI at0), .int (nI (dgV tp at0 i)), .ref mt]) (Nat.le_of_ble_eq_true rfl) rfl dX5_next_210 ?_
                      refine J.eq (w' := ((mu w.1 r τ (.inr (5, [.ref ta, .int (nI sz), .int (nI (at0 + i)), .int (nI 2), .int (nI at0), .int (nI (dgV tp at0 i)), .ref mt]))), w.2)) ?_ (congrArg (fun z => (z, w.2)) mu_mu) rfl rfl
                      exact j_vret C (by omega) (by omega) (pV.mk (by rw [nx_num hd, e0]; first | (rw [if_pos (by omega)]; rfl) | (rw [if_neg (by omega)]; rfl))) dX5_next_213
                    · refine j_iconst (v := nI 4) C dX5_next_205 rfl ?_
                      refine j_goto C 210 dX5_next_206 (by decide) ?_
                      refine j_put (w := ((mu w.1 r τ (.inr (5, [.ref ta, .int (nI sz), .int (nI (at0 + i)), .int (nI 2), .int (nI at0), .int (nI (dgV tp at0 i)), .ref mt]))), w.2)) C (ty0 := tyX5) in_X5 tyX5_ok nmX5 (ci := 5) (T := TX5) rfl mu_s 3 (by decide) q516 (fun _ z => z) rfl rfl rfl (fs' := [.ref ta, .int (nI sz), .int (nI (at0 + i)), .int (nI 4), .int (nI at0), .int (nI (dgV tp at0 i)), .ref mt]) (Nat.le_of_ble_eq_true rfl) rfl dX5_next_210 ?_
                      refine J.eq (w' := ((mu w.1 r τ (.inr (5, [.ref ta, .int (nI sz), .int (nI (at0 + i)), .int (nI 4), .int (nI at0), .int (nI (dgV tp at0 i)), .ref mt]))), w.2)) ?_ (congrArg (fun z => (z, w.2)) mu_mu) rfl rfl
                      exact j_vret C (by omega) (by omega) (pV.mk (by rw [nx_num hd, e0]; first | (rw [if_pos (by omega)]; rfl) | (rw [if_neg (by omega)]; rfl))) dX5_next_213
                  · have hdi := dgt_b z c136
                    have h48 := dgt_n htp hdi
                    refine j_aload_n C dX5_next_139 rfl 1 rfl ?_
                    refine j_aload_n C dX5_next_140 rfl 1 rfl ?_
                    refine j_get (w := ((mu w.1 r τ (.inr (5, [.ref ta, .int (nI sz), .int (nI (at0 + i)), .int (nI 2), .int (nI at0), .int (nI (dgV tp at0 i)), .ref mt]))), w.2)) C in_X5 (ci := 5) (T := TX5) rfl mu_s 2 (by decide) q515 (fun _ z => z) (v := .int (nI (at0 + i))) rfl dX5_next_141 ?_
                    refine j_aload_n C dX5_next_144 rfl 1 rfl ?_
                    refine j_get (w := ((mu w.1 r τ (.inr (5, [.ref ta, .int (nI sz), .int (nI (at0 + i)), .int (nI 2), .int (nI at0), .int (nI (dgV tp at0 i)), .ref mt]))), w.2)) C in_X5 (ci := 5) (T := TX5) rfl mu_s 4 (by decide) q517 (fun _ z => z) (v := .int (nI at0)) rfl dX5_next_145 ?_
                    refine j_iconst (v := nI 1) C dX5_next_148 rfl ?_
                    refine j_iaddN C dX5_next_149 ?_
                    refine j_icmp_neN C 171 dX5_next_150 (by decide) (by first | omega | (have := htp at0; omega)) (by first | omega | (have := htp at0; omega)) (fun c150 => ?_) (fun c150 => ?_)
                    · refine j_aload_n C dX5_next_171 rfl 1 rfl ?_
                      refine j_get (w := ((mu w.1 r τ (.inr (5, [.ref ta, .int (nI sz), .int (nI (at0 + i)), .int (nI 2), .int (nI at0), .int (nI (dgV tp at0 i)), .ref mt]))), w.2)) C in_X5 (ci := 5) (T := TX5) rfl mu_s 5 (by decide) q518 (fun _ z => z) (v := .int (nI (dgV tp at0 i))) rfl dX5_next_172 ?_
                      refine j_put (w := ((mu w.1 r τ (.inr (5, [.ref ta, .int (nI sz), .int (nI (at0 + i)), .int (nI 2), .int (nI at0), .int (nI (dgV tp at0 i)), .ref mt]))), w.2)) C (ty0 := tyX5) in_X5 tyX5_ok nmX5 (ci := 5) (T := TX5) rfl mu_s 5 (by decide) q518 (fun _ z => z) rfl rfl rfl (fs' := [.ref ta, .int (nI sz), .int (nI (at0 + i)), .int (nI 2), .int (nI at0), .int (nI (dgV tp at0 i)), .ref mt]) (Nat.le_of_ble_eq_true rfl) rfl dX5_next_175 ?_
                      refine J.eq (w' := ((mu w.1 r τ (.inr (5, [.ref ta, .int (nI sz), .int (nI (at0 + i)), .int (nI 2), .int (nI at0), .int (nI (dgV tp at0 i)), .ref mt]))), w.2)) ?_ (congrArg (fun z => (z, w.2)) mu_mu) rfl rfl
                      refine j_aload_n C dX5_next_178 rfl 1 rfl ?_
                      refine j_dup C dX5_next_179 rfl ?_
                      refine j_get (w := ((mu w.1 r τ (.inr (5, [.ref ta, .int (nI sz), .int (nI (at0 + i)), .int (nI 2), .int (nI at0), .int (nI (dgV tp at0 i)), .ref mt]))), w.2)) C in_X5 (ci := 5) (T := TX5) rfl mu_s 2 (by decide) q515 (fun _ z => z) (v := .int (nI (at0 + i))) rfl dX5_next_180 ?_
                      refine j_iconst (v := nI 1) C dX5_next_183 rfl ?_
                      refine j_iaddN C dX5_next_184 ?_
                      refine j_put (w := ((mu w.1 r τ (.inr (5, [.ref ta, .int (nI sz), .int (nI (at0 + i)), .int (nI 2), .int (nI at0), .int (nI (dgV tp at0 i)), .ref mt]))), w.2)) C (ty0 := tyX5) in_X5 tyX5_ok nmX5 (ci := 5) (T := TX5) rfl mu_s 2 (by decide) q515 (fun _ z => z) rfl rfl rfl (fs' := [.ref ta, .int (nI sz), .int (nI ((at0 + i) + 1)), .int (nI 2), .int (nI at0), .int (nI (dgV tp at0 i)), .ref mt]) (Nat.le_of_ble_eq_true rfl) rfl dX5_next_185 ?_
                      refine J.eq (w' := ((mu w.1 r τ (.inr (5, [.ref ta, .int (nI sz), .int (nI ((at0 + i) + 1)), .int (nI 2), .int (nI at0), .int (nI (dgV tp at0 i)), .ref mt]))), w.2)) ?_ (congrArg (fun z => (z, w.2)) mu_mu) rfl rfl
                      refine j_goto C 122 dX5_next_188 (by decide) ?_
                      refine J.eq (w' := ((mu w.1 r τ (.inr (5, [.ref ta, .int (nI sz), .int (nI (at0 + (i + 1))), .int (nI 2), .int (nI at0), .int (nI (dgV tp at0 ((i + 1)))), .ref mt]))), w.2)) ?_ (by rw [dgV_s]; first | rw [if_pos (by omega)]; rfl | rw [if_neg (by omega)]; rfl) rfl rfl
                      exact ih (i + 1) (by omega) (by omega) (by omega) (by rw [hC, dgC_s, hdi]; rfl)
                    · refine j_bipush (v := nI 10) C dX5_next_153 rfl ?_
                      refine j_aload_n C dX5_next_155 rfl 1 rfl ?_
                      refine j_get (w := ((mu w.1 r τ (.inr (5, [.ref ta, .int (nI sz), .int (nI (at0 + i)), .int (nI 2), .int (nI at0), .int (nI (dgV tp at0 i)), .ref mt]))), w.2)) C in_X5 (ci := 5) (T := TX5) rfl mu_s 5 (by decide) q518 (fun _ z => z) (v := .int (nI (dgV tp at0 i))) rfl dX5_next_156 ?_
                      refine j_imulN C dX5_next_159 ?_
                      refine j_aload_n C dX5_next_160 rfl 1 rfl ?_
                      refine j_callV (w := ((mu w.1 r τ (.inr (5, [.ref ta, .int (nI sz), .int (nI (at0 + i)), .int (nI 2), .int (nI at0), .int (nI (dgV tp at0 i)), .ref mt]))), w.2)) C (kX5_look_C G ((mu w.1 r τ (.inr (5, [.ref ta, .int (nI sz), .int (nI (at0 + i)), .int (nI 2), .int (nI at0), .int (nI (dgV tp at0 i)), .ref mt]))), w.2) r τ ta sz (at0 + i) 2 at0 mt σ (nI (dgV tp at0 i)) f tp mu_s ((mu_n (Ne.symm hne)).trans hta) hsz (by omega) hf (by omega)) pI.ret (ci := 5) (T := TX5) mu_s rfl 0 q544 q546 qs8 q84 q547 (by decide +kernel) rfl (by decide) (by decide) (Nat.le_of_ble_eq_true rfl) rfl dX5_next_161 (by omega) (by omega) (qI.k ?_)
                      refine j_iaddN C dX5_next_164 ?_
                      refine j_bipush (v := nI 48) C dX5_next_165 rfl ?_
                      refine j_isubN C dX5_next_167 (by first | omega | (have := htp at0; omega)) ?_
                      refine j_goto C 175 dX5_next_168 (by decide) ?_
                      refine j_put (w := ((mu w.1 r τ (.inr (5, [.ref ta, .int (nI sz), .int (nI (at0 + i)), .int (nI 2), .int (nI at0), .int (nI (dgV tp at0 i)), .ref mt]))), w.2)) C (ty0 := tyX5) in_X5 tyX5_ok nmX5 (ci := 5) (T := TX5) rfl mu_s 5 (by decide) q518 (fun _ z => z) rfl rfl rfl (fs' := [.ref ta, .int (nI sz), .int (nI (at0 + i)), .int (nI 2), .int (nI at0), .int (nI (((10 * (dgV tp at0 i)) + (tp (at0 + i))) - 48)), .ref mt]) (Nat.le_of_ble_eq_true rfl) rfl dX5_next_175 ?_
                      refine J.eq (w' := ((mu w.1 r τ (.inr (5, [.ref ta, .int (nI sz), .int (nI (at0 + i)), .int (nI 2), .int (nI at0), .int (nI (((10 * (dgV tp at0 i)) + (tp (at0 + i))) - 48)), .ref mt]))), w.2)) ?_ (congrArg (fun z => (z, w.2)) mu_mu) rfl rfl
                      refine j_aload_n C dX5_next_178 rfl 1 rfl ?_
                      refine j_dup C dX5_next_179 rfl ?_
                      refine j_get (w := ((mu w.1 r τ (.inr (5, [.ref ta, .int (nI sz), .int (nI (at0 + i)), .int (nI 2), .int (nI at0), .int (nI (((10 * (dgV tp at0 i)) + (tp (at0 + i))) - 48)), .ref mt]))), w.2)) C in_X5 (ci := 5) (T := TX5) rfl mu_s 2 (by decide) q515 (fun _ z => z) (v := .int (nI (at0 + i))) rfl dX5_next_180 ?_
                      refine j_iconst (v := nI 1) C dX5_next_183 rfl ?_
                      refine j_iaddN C dX5_next_184 ?_
                      refine j_put (w := ((mu w.1 r τ (.inr (5, [.ref ta, .int (nI sz), .int (nI (at0 + i)), .int (nI 2), .int (nI at0), .int (nI (((10 * (dgV tp at0 i)) + (tp (at0 + i))) - 48)), .ref mt]))), w.2)) C (ty0 := tyX5) in_X5 tyX5_ok nmX5 (ci := 5) (T := TX5) rfl mu_s 2 (by decide) q515 (fun _ z => z) rfl rfl rfl (fs' := [.ref ta, .int (nI sz), .int (nI ((at0 + i) + 1)), .int (nI 2), .int (nI at0), .int (nI (((10 * (dgV tp at0 i)) + (tp (at0 + i))) - 48)), .ref mt]) (Nat.le_of_ble_eq_true rfl) rfl dX5_next_185 ?_
                      refine J.eq (w' := ((mu w.1 r τ (.inr (5, [.ref ta, .int (nI sz), .int (nI ((at0 + i) + 1)), .int (nI 2), .int (nI at0), .int (nI (((10 * (dgV tp at0 i)) + (tp (at0 + i))) - 48)), .ref mt]))), w.2)) ?_ (congrArg (fun z => (z, w.2)) mu_mu) rfl rfl
                      refine j_goto C 122 dX5_next_188 (by decide) ?_
                      refine J.eq (w' := ((mu w.1 r τ (.inr (5, [.ref ta, .int (nI sz), .int (nI (at0 + (i + 1))), .int (nI 2), .int (nI at0), .int (nI (dgV tp at0 ((i + 1)))), .ref mt]))), w.2)) ?_ (by rw [dgV_s]; first | rw [if_pos (by omega)]; rfl | rw [if_neg (by omega)]; rfl) rfl rfl
                      exact ih (i + 1) (by omega) (by omega) (by omega) (by rw [hC, dgC_s, hdi]; rfl)
                · refine j_aload_n C dX5_next_122 rfl 1 rfl ?_
                  refine j_callV (w := ((mu w.1 r τ (.inr (5, [.ref ta, .int (nI sz), .int (nI (at0 + i)), .int (nI 2), .int (nI at0), .int (nI (dgV tp at0 i)), .ref mt]))), w.2)) C (kX5_look_E G ((mu w.1 r τ (.inr (5, [.ref ta, .int (nI sz), .int (nI (at0 + i)), .int (nI 2), .int (nI at0), .int (nI (dgV tp at0 i)), .ref mt]))), w.2) r τ ta sz (at0 + i) 2 at0 mt σ (nI (dgV tp at0 i)) f tp mu_s ((mu_n (Ne.symm hne)).trans hta) hsz (by omega) hf (by omega)) pI.ret (ci := 5) (T := TX5) mu_s rfl 0 q544 q546 qs8 q84 q547 (by decide +kernel) rfl (by decide) (by decide) (Nat.le_of_ble_eq_true rfl) rfl dX5_next_123 (by omega) (by omega) (qI.k ?_)
                  refine j_i2l C dX5_next_126 ?_
                  refine j_ldc2 C q552 dX5_next_127 ?_
                  refine j_asl (y := (nI 48).toInt64) (by decide +kernel) ?_
                  refine j_ldc2 C q553 dX5_next_130 ?_
                  refine j_asl (y := (nI 57).toInt64) (by decide +kernel) ?_
                  refine j_callSN (w := ((mu w.1 r τ (.inr (5, [.ref ta, .int (nI sz), .int (nI (at0 + i)), .int (nI 2), .int (nI at0), .int (nI (dgV tp at0 i)), .ref mt]))), w.2)) C (kX0_isIn G ((mu w.1 r τ (.inr (5, [.ref ta, .int (nI sz), .int (nI (at0 + i)), .int (nI 2), .int (nI at0), .int (nI (dgV tp at0 i)), .ref mt]))), w.2) kNONE ((nI 48)) ((nI 57))) pI.ret 3 (C.nw hG q551 rfl) q388 q66 q389 (by decide +kernel) rfl (by decide) (by decide) (Nat.le_of_ble_eq_true rfl) rfl dX5_next_133 (by omega) (by omega) (qI.k ?_)
                  refine j_if_eqB C 191 dX5_next_136 (by decide) (fun c136 => ?_) (fun c136 => ?_)
                  · have hdi := dgt_o (b := tp) htp z
                    have e0 : dgC tp sz at0 121 0 = i := by rw [hC, dgC_s, hdi]; rfl
                    refine j_aload_n C dX5_next_191 rfl 1 rfl ?_
                    refine j_aload_n C dX5_next_192 rfl 1 rfl ?_
                    refine j_get (w := ((mu w.1 r τ (.inr (5, [.ref ta, .int (nI sz), .int (nI (at0 + i)), .int (nI 2), .int (nI at0), .int (nI (dgV tp at0 i)), .ref mt]))), w.2)) C in_X5 (ci := 5) (T := TX5) rfl mu_s 2 (by decide) q515 (fun _ z => z) (v := .int (nI (at0 + i))) rfl dX5_next_193 ?_
                    refine j_aload_n C dX5_next_196 rfl 1 rfl ?_
                    refine j_get (w := ((mu w.1 r τ (.inr (5, [.ref ta, .int (nI sz), .int (nI (at0 + i)), .int (nI 2), .int (nI at0), .int (nI (dgV tp at0 i)), .ref mt]))), w.2)) C in_X5 (ci := 5) (T := TX5) rfl mu_s 4 (by decide) q517 (fun _ z => z) (v := .int (nI at0)) rfl dX5_next_197 ?_
                    refine j_isubN C dX5_next_200 (by first | omega | (have := htp at0; omega)) ?_
                    refine j_iconst (v := nI 2) C dX5_next_201 rfl ?_
                    refine j_icmp_leN C 209 dX5_next_202 (by decide) (by first | omega | (have := htp at0; omega)) (by first | omega | (have := htp at0; omega)) (fun c202 => ?_) (fun c202 => ?_)
                    · refine j_iconst (v := nI 2) C dX5_next_209 rfl ?_
                      refine j_put (w := ((mu w.1 r τ (.inr (5, [.ref ta, .int (nI sz), .int (nI (at0 + i)), .int (nI 2), .int (nI at0), .int (nI (dgV tp at0 i)), .ref mt]))), w.2)) C (ty0 := tyX5) in_X5 tyX5_ok nmX5 (ci := 5) (T := TX5) rfl mu_s 3 (by decide) q516 (fun _ z => z) rfl rfl rfl (fs' := [.ref ta, .int (nI sz), .int (nI (at0 + i)), .int (nI 2), .int (nI at0), .int (nI (dgV tp at0 i)), .ref mt]) (Nat.le_of_ble_eq_true rfl) rfl dX5_next_210 ?_
                      refine J.eq (w' := ((mu w.1 r τ (.inr (5, [.ref ta, .int (nI sz), .int (nI (at0 + i)), .int (nI 2), .int (nI at0), .int (nI (dgV tp at0 i)), .ref mt]))), w.2)) ?_ (congrArg (fun z => (z, w.2)) mu_mu) rfl rfl
                      exact j_vret C (by omega) (by omega) (pV.mk (by rw [nx_num hd, e0]; first | (rw [if_pos (by omega)]; rfl) | (rw [if_neg (by omega)]; rfl))) dX5_next_213
                    · refine j_iconst (v := nI 4) C dX5_next_205 rfl ?_
                      refine j_goto C 210 dX5_next_206 (by decide) ?_
                      refine j_put (w := ((mu w.1 r τ (.inr (5, [.ref ta, .int (nI sz), .int (nI (at0 + i)), .int (nI 2), .int (nI at0), .int (nI (dgV tp at0 i)), .ref mt]))), w.2)) C (ty0 := tyX5) in_X5 tyX5_ok nmX5 (ci := 5) (T := TX5) rfl mu_s 3 (by decide) q516 (fun _ z => z) rfl rfl rfl (fs' := [.ref ta, .int (nI sz), .int (nI (at0 + i)), .int (nI 4), .int (nI at0), .int (nI (dgV tp at0 i)), .ref mt]) (Nat.le_of_ble_eq_true rfl) rfl dX5_next_210 ?_
                      refine J.eq (w' := ((mu w.1 r τ (.inr (5, [.ref ta, .int (nI sz), .int (nI (at0 + i)), .int (nI 4), .int (nI at0), .int (nI (dgV tp at0 i)), .ref mt]))), w.2)) ?_ (congrArg (fun z => (z, w.2)) mu_mu) rfl rfl
                      exact j_vret C (by omega) (by omega) (pV.mk (by rw [nx_num hd, e0]; first | (rw [if_pos (by omega)]; rfl) | (rw [if_neg (by omega)]; rfl))) dX5_next_213
                  · exact absurd c136 (by decide +kernel)
            refine J.eq (w' := ((mu w.1 r τ (.inr (5, [.ref ta, .int (nI sz), .int (nI (at0 + 1)), .int (nI 2), .int (nI at0), .int (nI (dgV tp at0 1)), .ref mt]))), w.2)) ?_ (by rw [dgV_1]) rfl rfl
            exact lp 120 1 (by omega) (by omega) (by omega) (by rw [dgC_s, Nat.add_zero, hd]; rfl)
          · exfalso; omega
      · exfalso
        have := (inB_i (by omega) (by decide) (by decide)).symm.trans c60
        have := of_decide_eq_true this; omega
    · exact absurd c42 (by intro z; exact absurd z (nI_kN (by have := htp at0; omega)))
  · exact absurd c26 (by intro z; exact absurd z (nI_kN (by have := htp at0; omega)))
/-- the next token -/
theorem kX5_next (G : gl_T) (w : wd_T) (hG : GH G) (r τ ta sz at0 tok fr mt σ : Nat) (va : Int32) (f : Nat → Int32) (tp : Nat → Nat) (hr : w.1 r = some (τ, rdE ta sz at0 tok fr va mt)) (hta : w.1 ta = some (σ, ai (gl_A G 1) 120 f)) (hne : r ≠ ta) (hsz : sz ≤ 120) (ha : at0 ≤ sz) (htp : ∀ i, tp i ≤ 255) (hf : ∀ i, i < sz → f i &&& nI 255 = nI (tp i)) : Mt G yX5_next cX5_next 2 none 1 [.ref r] w (qV (mu w.1 r τ (nxE ta mt tp sz at0), w.2)) 0 0 := by
  by_cases h : at0 < sz
  · cases hd : dgt tp sz at0 with
    | true => exact kX5_next_N G w hG r τ ta sz at0 tok fr mt σ va f tp hr hta hne hsz ha htp hf hd
    | false => exact kX5_next_C G w hG r τ ta sz at0 tok fr mt σ va f tp hr hta hne hsz ha htp hf h hd
  · exact kX5_next_E G w hG r τ ta sz at0 tok fr mt σ va f tp hr hta hne hsz ha htp hf h
