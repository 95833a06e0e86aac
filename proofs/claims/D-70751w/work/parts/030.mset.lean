/-! ===== the reference: its object at o, its arrays at o+1 .. o+18 ===== -/
set_option maxRecDepth 100000
/-- the reference's numbers: raw ints by field, plain numbers by field, raw arrays, arrays of plain numbers (by their place behind the object) -/
abbrev ms_T : Type := (Nat → Int32) × (Nat → Nat) × (Nat → Nat → Int32) × (Nat → Nat → Nat)
abbrev ms_f (S : ms_T) : Nat → Int32 := S.1
abbrev ms_n (S : ms_T) : Nat → Nat := S.2.1
abbrev ms_R (S : ms_T) : Nat → Nat → Int32 := S.2.2.1
abbrev ms_B (S : ms_T) : Nat → Nat → Nat := S.2.2.2
/-- one number, one array anew -/
def sF (S : ms_T) (j : Nat) (v : Int32) : ms_T := (fun i => if i = j then v else S.1 i, S.2.1, S.2.2.1, S.2.2.2)
def sN (S : ms_T) (j : Nat) (v : Nat) : ms_T := (S.1, fun i => if i = j then v else S.2.1 i, S.2.2.1, S.2.2.2)
def sR (S : ms_T) (j : Nat) (v : Nat → Int32) : ms_T := (S.1, S.2.1, fun i => if i = j then v else S.2.2.1 i, S.2.2.2)
def sB (S : ms_T) (j : Nat) (v : Nat → Nat) : ms_T := (S.1, S.2.1, S.2.2.1, fun i => if i = j then v else S.2.2.2 i)
def uN (f : Nat → Nat) (k v : Nat) : Nat → Nat := fun j => if j = k then v else f j
theorem uN_s {f : Nat → Nat} {k v : Nat} : uN f k v k = v := by simp [uN]
theorem uN_n {f : Nat → Nat} {k v j : Nat} (h : j ≠ k) : uN f k v j = f j := by simp [uN, h]
theorem upd_nI (f : Nat → Nat) (k v : Nat) : upd (fun i => nI (f i)) k (nI v) = fun i => nI (uN f k v i) := by
  funext i
  by_cases h : i = k <;> simp [upd, uN, h]
def mfs (o : Nat) (S : ms_T) : List Value := [.ref (o + 1), .ref (o + 2), .ref (o + 3), .ref (o + 4), .int (nI (S.2.1 4)), .ref (o + 5), .int (nI (S.2.1 6)), .int (nI (S.2.1 7)), .int (S.1 8), .int (nI (S.2.1 9)), .int (nI (S.2.1 10)), .int (nI (S.2.1 11)), .int (S.1 12), .ref (o + 6), .ref (o + 7), .ref (o + 8), .ref (o + 9), .int (nI (S.2.1 17)), .ref (o + 10), .ref (o + 11), .int (S.1 20), .ref (o + 12), .ref (o + 13), .ref (o + 14), .ref (o + 15), .ref (o + 16), .ref (o + 17), .int (S.1 27), .int (nI (S.2.1 28)), .int (nI (S.2.1 29)), .ref (o + 18), .int (nI (S.2.1 31))]
/-- the places of the arrays: lengths, and what they hold -/
def mlen (j : Nat) : Nat := match j with
  | 1 => 8
  | 2 => 8
  | 3 => 320
  | 4 => 40
  | 5 => 120
  | 6 => 42
  | 7 => 42
  | 8 => 42
  | 9 => 1008
  | 10 => 84
  | 11 => 2
  | 12 => 8
  | 13 => 9
  | 14 => 9
  | 15 => 9
  | 16 => 9
  | 17 => 8
  | 18 => 16
  | _ => 0
def mcl (j : Nat) : Nat := match j with
  | 11 => 3
  | _ => 0
def mcon (S : ms_T) (j : Nat) : Nat → Int32 := match j with
  | 1 => S.2.2.1 1
  | 2 => fun i => nI (S.2.2.2 2 i)
  | 3 => S.2.2.1 3
  | 4 => S.2.2.1 4
  | 5 => fun i => nI (S.2.2.2 5 i)
  | 6 => fun i => nI (S.2.2.2 6 i)
  | 7 => fun i => nI (S.2.2.2 7 i)
  | 8 => fun i => nI (S.2.2.2 8 i)
  | 9 => fun i => nI (S.2.2.2 9 i)
  | 10 => fun i => nI (S.2.2.2 10 i)
  | 11 => fun i => nI (S.2.2.2 11 i)
  | 12 => fun i => nI (S.2.2.2 12 i)
  | 13 => fun i => nI (S.2.2.2 13 i)
  | 14 => fun i => nI (S.2.2.2 14 i)
  | 15 => fun i => nI (S.2.2.2 15 i)
  | 16 => fun i => nI (S.2.2.2 16 i)
  | 17 => fun i => nI (S.2.2.2 17 i)
  | 18 => fun i => nI (S.2.2.2 18 i)
  | _ => fun _ => 0
/-- the reference's cells over a map M -/
def mset (G : gl_T) (M : Nat → Option (Nat × va_E)) (o : Nat) (S : ms_T) : Nat → Option (Nat × va_E) := fun q => if q = o then some (o, .inr (4, mfs o S)) else if o < q ∧ q ≤ o + 18 then some (o, ai (gl_A G (mcl (q - o))) (mlen (q - o)) (mcon S (q - o))) else M q
theorem mset_o {G : gl_T} {M : Nat → Option (Nat × va_E)} {o : Nat} {S : ms_T} : mset G M o S o = some (o, .inr (4, mfs o S)) := by simp [mset]
theorem mset_a {G : gl_T} {M : Nat → Option (Nat × va_E)} {o : Nat} {S : ms_T} (j : Nat) (h1 : 0 < j) (h2 : j ≤ 18) : mset G M o S (o + j) = some (o, ai (gl_A G (mcl j)) (mlen j) (mcon S j)) := by
  have e : o + j - o = j := by omega
  unfold mset
  rw [if_neg (by omega), if_pos ⟨by omega, by omega⟩, e]
theorem mset_out {G : gl_T} {M : Nat → Option (Nat × va_E)} {o q : Nat} {S : ms_T} (h : q < o ∨ o + 18 < q) : mset G M o S q = M q := by
  unfold mset
  rw [if_neg (by omega), if_neg (by omega)]
theorem mset_uo {G : gl_T} {M : Nat → Option (Nat × va_E)} {o : Nat} {S S' : ms_T} {fs : List Value} (hf : fs = mfs o S') (hc : ∀ j, mcon S j = mcon S' j) : mu (mset G M o S) o o (.inr (4, fs)) = mset G M o S' := by
  funext q
  by_cases h : q = o
  · subst h
    rw [mu_s, mset_o, hf]
  · rw [mu_n h]
    unfold mset
    rw [if_neg h, if_neg h]
    by_cases h2 : o < q ∧ q ≤ o + 18
    · rw [if_pos h2, if_pos h2, hc]
    · rw [if_neg h2, if_neg h2]
theorem mset_ua {G : gl_T} {M : Nat → Option (Nat × va_E)} {o : Nat} {S S' : ms_T} {g : Nat → Int32} (j : Nat) (h1 : 0 < j) (h2 : j ≤ 18) (hf : mfs o S = mfs o S') (hg : g = mcon S' j) (hc : ∀ i, i ≠ j → mcon S i = mcon S' i) : mu (mset G M o S) (o + j) o (ai (gl_A G (mcl j)) (mlen j) g) = mset G M o S' := by
  funext q
  by_cases h : q = o + j
  · subst h
    rw [mu_s, mset_a j h1 h2, hg]
  · rw [mu_n h]
    unfold mset
    by_cases h3 : q = o
    · rw [if_pos h3, if_pos h3, hf]
    · rw [if_neg h3, if_neg h3]
      by_cases h4 : o < q ∧ q ≤ o + 18
      · rw [if_pos h4, if_pos h4, hc (q - o) (by omega)]
      · rw [if_neg h4, if_neg h4]
theorem mcon_F (S : ms_T) (j : Nat) (v : Int32) : ∀ i, mcon S i = mcon (sF S j v) i := fun _ => rfl
theorem mcon_N (S : ms_T) (j v : Nat) : ∀ i, mcon S i = mcon (sN S j v) i := fun _ => rfl
theorem mfs_R (o : Nat) (S : ms_T) (j : Nat) (v : Nat → Int32) : mfs o S = mfs o (sR S j v) := rfl
theorem mfs_B (o : Nat) (S : ms_T) (j : Nat) (v : Nat → Nat) : mfs o S = mfs o (sB S j v) := rfl
theorem mcon_R (S : ms_T) (j : Nat) (v : Nat → Int32) : ∀ i, i ≠ j → mcon S i = mcon (sR S j v) i := by
  intro i h
  unfold mcon
  split <;> first | rfl | (simp only [sR]; rw [if_neg h])
theorem mcon_B (S : ms_T) (j : Nat) (v : Nat → Nat) : ∀ i, i ≠ j → mcon S i = mcon (sB S j v) i := by
  intro i h
  unfold mcon
  split <;> first | rfl | (simp only [sB]; rw [if_neg h])
section JM
variable {G : gl_T} {k : KX} {cc : ByteArray} {own nm : String} {nL hh mc ms : Nat} {rt : Option FieldType} {post : Outcome → wd_T → Prop}
variable {M : Nat → Option (Nat × va_E)} {sz : Nat} {lv : List (Nat × Value)} {pc ce sl : Nat} {st : List Value} {o : Nat} {S : ms_T}
theorem mg0 (C : Cx G k cc "MoodFareModel" nm nL rt hh mc ms post) {ix : Nat} (hl : Cond.fieldLink "MoodFareModel" ix (TX4 0).1 (TX4 0).2.1 (TX4 0).2.2.1 ∈ lw_all) (hd : decode cc pc = .ok (.getfield ix, 3)) (h : J G k (mset G M o S, sz) lv (pc + 3) (.ref (o + 1) :: st) ce sl) : J G k (mset G M o S, sz) lv pc (.ref o :: st) ce sl := j_get (w := (mset G M o S, sz)) C in_X4 (ci := 4) (T := TX4) rfl mset_o 0 (by decide) hl (fun _ z => z) (v := .ref (o + 1)) (by rfl) hd h
theorem mg1 (C : Cx G k cc "MoodFareModel" nm nL rt hh mc ms post) {ix : Nat} (hl : Cond.fieldLink "MoodFareModel" ix (TX4 1).1 (TX4 1).2.1 (TX4 1).2.2.1 ∈ lw_all) (hd : decode cc pc = .ok (.getfield ix, 3)) (h : J G k (mset G M o S, sz) lv (pc + 3) (.ref (o + 2) :: st) ce sl) : J G k (mset G M o S, sz) lv pc (.ref o :: st) ce sl := j_get (w := (mset G M o S, sz)) C in_X4 (ci := 4) (T := TX4) rfl mset_o 1 (by decide) hl (fun _ z => z) (v := .ref (o + 2)) (by rfl) hd h
theorem mg2 (C : Cx G k cc "MoodFareModel" nm nL rt hh mc ms post) {ix : Nat} (hl : Cond.fieldLink "MoodFareModel" ix (TX4 2).1 (TX4 2).2.1 (TX4 2).2.2.1 ∈ lw_all) (hd : decode cc pc = .ok (.getfield ix, 3)) (h : J G k (mset G M o S, sz) lv (pc + 3) (.ref (o + 3) :: st) ce sl) : J G k (mset G M o S, sz) lv pc (.ref o :: st) ce sl := j_get (w := (mset G M o S, sz)) C in_X4 (ci := 4) (T := TX4) rfl mset_o 2 (by decide) hl (fun _ z => z) (v := .ref (o + 3)) (by rfl) hd h
theorem mg3 (C : Cx G k cc "MoodFareModel" nm nL rt hh mc ms post) {ix : Nat} (hl : Cond.fieldLink "MoodFareModel" ix (TX4 3).1 (TX4 3).2.1 (TX4 3).2.2.1 ∈ lw_all) (hd : decode cc pc = .ok (.getfield ix, 3)) (h : J G k (mset G M o S, sz) lv (pc + 3) (.ref (o + 4) :: st) ce sl) : J G k (mset G M o S, sz) lv pc (.ref o :: st) ce sl := j_get (w := (mset G M o S, sz)) C in_X4 (ci := 4) (T := TX4) rfl mset_o 3 (by decide) hl (fun _ z => z) (v := .ref (o + 4)) (by rfl) hd h
theorem mg4 (C : Cx G k cc "MoodFareModel" nm nL rt hh mc ms post) {ix : Nat} (hl : Cond.fieldLink "MoodFareModel" ix (TX4 4).1 (TX4 4).2.1 (TX4 4).2.2.1 ∈ lw_all) (hd : decode cc pc = .ok (.getfield ix, 3)) {v : Nat} (hv : S.2.1 4 = v) (h : J G k (mset G M o S, sz) lv (pc + 3) (.int (nI v) :: st) ce sl) : J G k (mset G M o S, sz) lv pc (.ref o :: st) ce sl := j_get (w := (mset G M o S, sz)) C in_X4 (ci := 4) (T := TX4) rfl mset_o 4 (by decide) hl (fun _ z => z) (v := .int (nI v)) (by subst hv; rfl) hd h
theorem mp4 (C : Cx G k cc "MoodFareModel" nm nL rt hh mc ms post) {ix : Nat} (hl : Cond.fieldLink "MoodFareModel" ix (TX4 4).1 (TX4 4).2.1 (TX4 4).2.2.1 ∈ lw_all) (hd : decode cc pc = .ok (.putfield ix, 3)) {v : Nat} (h : J G k (mset G M o (sN S 4 v), sz) lv (pc + 3) st ce sl) : J G k (mset G M o S, sz) lv pc (.int (nI v) :: .ref o :: st) ce sl := by
  refine j_put (w := (mset G M o S, sz)) C (ty0 := tyX4) in_X4 tyX4_ok nmX4 (ci := 4) (T := TX4) rfl mset_o 4 (by decide) hl (fun _ z => z) rfl rfl rfl (fs' := mfs o (sN S 4 v)) (Nat.le_of_ble_eq_true rfl) rfl hd ?_
  exact J.eq h (congrArg (fun z => (z, sz)) (mset_uo (S' := sN S 4 v) rfl (mcon_N S 4 v))) rfl rfl
theorem mg5 (C : Cx G k cc "MoodFareModel" nm nL rt hh mc ms post) {ix : Nat} (hl : Cond.fieldLink "MoodFareModel" ix (TX4 5).1 (TX4 5).2.1 (TX4 5).2.2.1 ∈ lw_all) (hd : decode cc pc = .ok (.getfield ix, 3)) (h : J G k (mset G M o S, sz) lv (pc + 3) (.ref (o + 5) :: st) ce sl) : J G k (mset G M o S, sz) lv pc (.ref o :: st) ce sl := j_get (w := (mset G M o S, sz)) C in_X4 (ci := 4) (T := TX4) rfl mset_o 5 (by decide) hl (fun _ z => z) (v := .ref (o + 5)) (by rfl) hd h
theorem mg6 (C : Cx G k cc "MoodFareModel" nm nL rt hh mc ms post) {ix : Nat} (hl : Cond.fieldLink "MoodFareModel" ix (TX4 6).1 (TX4 6).2.1 (TX4 6).2.2.1 ∈ lw_all) (hd : decode cc pc = .ok (.getfield ix, 3)) {v : Nat} (hv : S.2.1 6 = v) (h : J G k (mset G M o S, sz) lv (pc + 3) (.int (nI v) :: st) ce sl) : J G k (mset G M o S, sz) lv pc (.ref o :: st) ce sl := j_get (w := (mset G M o S, sz)) C in_X4 (ci := 4) (T := TX4) rfl mset_o 6 (by decide) hl (fun _ z => z) (v := .int (nI v)) (by subst hv; rfl) hd h
theorem mp6 (C : Cx G k cc "MoodFareModel" nm nL rt hh mc ms post) {ix : Nat} (hl : Cond.fieldLink "MoodFareModel" ix (TX4 6).1 (TX4 6).2.1 (TX4 6).2.2.1 ∈ lw_all) (hd : decode cc pc = .ok (.putfield ix, 3)) {v : Nat} (h : J G k (mset G M o (sN S 6 v), sz) lv (pc + 3) st ce sl) : J G k (mset G M o S, sz) lv pc (.int (nI v) :: .ref o :: st) ce sl := by
  refine j_put (w := (mset G M o S, sz)) C (ty0 := tyX4) in_X4 tyX4_ok nmX4 (ci := 4) (T := TX4) rfl mset_o 6 (by decide) hl (fun _ z => z) rfl rfl rfl (fs' := mfs o (sN S 6 v)) (Nat.le_of_ble_eq_true rfl) rfl hd ?_
  exact J.eq h (congrArg (fun z => (z, sz)) (mset_uo (S' := sN S 6 v) rfl (mcon_N S 6 v))) rfl rfl
theorem mg7 (C : Cx G k cc "MoodFareModel" nm nL rt hh mc ms post) {ix : Nat} (hl : Cond.fieldLink "MoodFareModel" ix (TX4 7).1 (TX4 7).2.1 (TX4 7).2.2.1 ∈ lw_all) (hd : decode cc pc = .ok (.getfield ix, 3)) {v : Nat} (hv : S.2.1 7 = v) (h : J G k (mset G M o S, sz) lv (pc + 3) (.int (nI v) :: st) ce sl) : J G k (mset G M o S, sz) lv pc (.ref o :: st) ce sl := j_get (w := (mset G M o S, sz)) C in_X4 (ci := 4) (T := TX4) rfl mset_o 7 (by decide) hl (fun _ z => z) (v := .int (nI v)) (by subst hv; rfl) hd h
theorem mp7 (C : Cx G k cc "MoodFareModel" nm nL rt hh mc ms post) {ix : Nat} (hl : Cond.fieldLink "MoodFareModel" ix (TX4 7).1 (TX4 7).2.1 (TX4 7).2.2.1 ∈ lw_all) (hd : decode cc pc = .ok (.putfield ix, 3)) {v : Nat} (h : J G k (mset G M o (sN S 7 v), sz) lv (pc + 3) st ce sl) : J G k (mset G M o S, sz) lv pc (.int (nI v) :: .ref o :: st) ce sl := by
  refine j_put (w := (mset G M o S, sz)) C (ty0 := tyX4) in_X4 tyX4_ok nmX4 (ci := 4) (T := TX4) rfl mset_o 7 (by decide) hl (fun _ z => z) rfl rfl rfl (fs' := mfs o (sN S 7 v)) (Nat.le_of_ble_eq_true rfl) rfl hd ?_
  exact J.eq h (congrArg (fun z => (z, sz)) (mset_uo (S' := sN S 7 v) rfl (mcon_N S 7 v))) rfl rfl
theorem mg8 (C : Cx G k cc "MoodFareModel" nm nL rt hh mc ms post) {ix : Nat} (hl : Cond.fieldLink "MoodFareModel" ix (TX4 8).1 (TX4 8).2.1 (TX4 8).2.2.1 ∈ lw_all) (hd : decode cc pc = .ok (.getfield ix, 3)) {v : Int32} (hv : S.1 8 = v) (h : J G k (mset G M o S, sz) lv (pc + 3) (.int v :: st) ce sl) : J G k (mset G M o S, sz) lv pc (.ref o :: st) ce sl := j_get (w := (mset G M o S, sz)) C in_X4 (ci := 4) (T := TX4) rfl mset_o 8 (by decide) hl (fun _ z => z) (v := .int v) (by subst hv; rfl) hd h
theorem mp8 (C : Cx G k cc "MoodFareModel" nm nL rt hh mc ms post) {ix : Nat} (hl : Cond.fieldLink "MoodFareModel" ix (TX4 8).1 (TX4 8).2.1 (TX4 8).2.2.1 ∈ lw_all) (hd : decode cc pc = .ok (.putfield ix, 3)) {v : Int32} (h : J G k (mset G M o (sF S 8 v), sz) lv (pc + 3) st ce sl) : J G k (mset G M o S, sz) lv pc (.int v :: .ref o :: st) ce sl := by
  refine j_put (w := (mset G M o S, sz)) C (ty0 := tyX4) in_X4 tyX4_ok nmX4 (ci := 4) (T := TX4) rfl mset_o 8 (by decide) hl (fun _ z => z) rfl rfl rfl (fs' := mfs o (sF S 8 v)) (Nat.le_of_ble_eq_true rfl) rfl hd ?_
  exact J.eq h (congrArg (fun z => (z, sz)) (mset_uo (S' := sF S 8 v) rfl (mcon_F S 8 v))) rfl rfl
theorem mg9 (C : Cx G k cc "MoodFareModel" nm nL rt hh mc ms post) {ix : Nat} (hl : Cond.fieldLink "MoodFareModel" ix (TX4 9).1 (TX4 9).2.1 (TX4 9).2.2.1 ∈ lw_all) (hd : decode cc pc = .ok (.getfield ix, 3)) {v : Nat} (hv : S.2.1 9 = v) (h : J G k (mset G M o S, sz) lv (pc + 3) (.int (nI v) :: st) ce sl) : J G k (mset G M o S, sz) lv pc (.ref o :: st) ce sl := j_get (w := (mset G M o S, sz)) C in_X4 (ci := 4) (T := TX4) rfl mset_o 9 (by decide) hl (fun _ z => z) (v := .int (nI v)) (by subst hv; rfl) hd h
theorem mp9 (C : Cx G k cc "MoodFareModel" nm nL rt hh mc ms post) {ix : Nat} (hl : Cond.fieldLink "MoodFareModel" ix (TX4 9).1 (TX4 9).2.1 (TX4 9).2.2.1 ∈ lw_all) (hd : decode cc pc = .ok (.putfield ix, 3)) {v : Nat} (h : J G k (mset G M o (sN S 9 v), sz) lv (pc + 3) st ce sl) : J G k (mset G M o S, sz) lv pc (.int (nI v) :: .ref o :: st) ce sl := by
  refine j_put (w := (mset G M o S, sz)) C (ty0 := tyX4) in_X4 tyX4_ok nmX4 (ci := 4) (T := TX4) rfl mset_o 9 (by decide) hl (fun _ z => z) rfl rfl rfl (fs' := mfs o (sN S 9 v)) (Nat.le_of_ble_eq_true rfl) rfl hd ?_
  exact J.eq h (congrArg (fun z => (z, sz)) (mset_uo (S' := sN S 9 v) rfl (mcon_N S 9 v))) rfl rfl
theorem mg10 (C : Cx G k cc "MoodFareModel" nm nL rt hh mc ms post) {ix : Nat} (hl : Cond.fieldLink "MoodFareModel" ix (TX4 10).1 (TX4 10).2.1 (TX4 10).2.2.1 ∈ lw_all) (hd : decode cc pc = .ok (.getfield ix, 3)) {v : Nat} (hv : S.2.1 10 = v) (h : J G k (mset G M o S, sz) lv (pc + 3) (.int (nI v) :: st) ce sl) : J G k (mset G M o S, sz) lv pc (.ref o :: st) ce sl := j_get (w := (mset G M o S, sz)) C in_X4 (ci := 4) (T := TX4) rfl mset_o 10 (by decide) hl (fun _ z => z) (v := .int (nI v)) (by subst hv; rfl) hd h
theorem mp10 (C : Cx G k cc "MoodFareModel" nm nL rt hh mc ms post) {ix : Nat} (hl : Cond.fieldLink "MoodFareModel" ix (TX4 10).1 (TX4 10).2.1 (TX4 10).2.2.1 ∈ lw_all) (hd : decode cc pc = .ok (.putfield ix, 3)) {v : Nat} (h : J G k (mset G M o (sN S 10 v), sz) lv (pc + 3) st ce sl) : J G k (mset G M o S, sz) lv pc (.int (nI v) :: .ref o :: st) ce sl := by
  refine j_put (w := (mset G M o S, sz)) C (ty0 := tyX4) in_X4 tyX4_ok nmX4 (ci := 4) (T := TX4) rfl mset_o 10 (by decide) hl (fun _ z => z) rfl rfl rfl (fs' := mfs o (sN S 10 v)) (Nat.le_of_ble_eq_true rfl) rfl hd ?_
  exact J.eq h (congrArg (fun z => (z, sz)) (mset_uo (S' := sN S 10 v) rfl (mcon_N S 10 v))) rfl rfl
theorem mg11 (C : Cx G k cc "MoodFareModel" nm nL rt hh mc ms post) {ix : Nat} (hl : Cond.fieldLink "MoodFareModel" ix (TX4 11).1 (TX4 11).2.1 (TX4 11).2.2.1 ∈ lw_all) (hd : decode cc pc = .ok (.getfield ix, 3)) {v : Nat} (hv : S.2.1 11 = v) (h : J G k (mset G M o S, sz) lv (pc + 3) (.int (nI v) :: st) ce sl) : J G k (mset G M o S, sz) lv pc (.ref o :: st) ce sl := j_get (w := (mset G M o S, sz)) C in_X4 (ci := 4) (T := TX4) rfl mset_o 11 (by decide) hl (fun _ z => z) (v := .int (nI v)) (by subst hv; rfl) hd h
theorem mp11 (C : Cx G k cc "MoodFareModel" nm nL rt hh mc ms post) {ix : Nat} (hl : Cond.fieldLink "MoodFareModel" ix (TX4 11).1 (TX4 11).2.1 (TX4 11).2.2.1 ∈ lw_all) (hd : decode cc pc = .ok (.putfield ix, 3)) {v : Nat} (h : J G k (mset G M o (sN S 11 v), sz) lv (pc + 3) st ce sl) : J G k (mset G M o S, sz) lv pc (.int (nI v) :: .ref o :: st) ce sl := by
  refine j_put (w := (mset G M o S, sz)) C (ty0 := tyX4) in_X4 tyX4_ok nmX4 (ci := 4) (T := TX4) rfl mset_o 11 (by decide) hl (fun _ z => z) rfl rfl rfl (fs' := mfs o (sN S 11 v)) (Nat.le_of_ble_eq_true rfl) rfl hd ?_
  exact J.eq h (congrArg (fun z => (z, sz)) (mset_uo (S' := sN S 11 v) rfl (mcon_N S 11 v))) rfl rfl
theorem mg12 (C : Cx G k cc "MoodFareModel" nm nL rt hh mc ms post) {ix : Nat} (hl : Cond.fieldLink "MoodFareModel" ix (TX4 12).1 (TX4 12).2.1 (TX4 12).2.2.1 ∈ lw_all) (hd : decode cc pc = .ok (.getfield ix, 3)) {v : Int32} (hv : S.1 12 = v) (h : J G k (mset G M o S, sz) lv (pc + 3) (.int v :: st) ce sl) : J G k (mset G M o S, sz) lv pc (.ref o :: st) ce sl := j_get (w := (mset G M o S, sz)) C in_X4 (ci := 4) (T := TX4) rfl mset_o 12 (by decide) hl (fun _ z => z) (v := .int v) (by subst hv; rfl) hd h
theorem mp12 (C : Cx G k cc "MoodFareModel" nm nL rt hh mc ms post) {ix : Nat} (hl : Cond.fieldLink "MoodFareModel" ix (TX4 12).1 (TX4 12).2.1 (TX4 12).2.2.1 ∈ lw_all) (hd : decode cc pc = .ok (.putfield ix, 3)) {v : Int32} (h : J G k (mset G M o (sF S 12 v), sz) lv (pc + 3) st ce sl) : J G k (mset G M o S, sz) lv pc (.int v :: .ref o :: st) ce sl := by
  refine j_put (w := (mset G M o S, sz)) C (ty0 := tyX4) in_X4 tyX4_ok nmX4 (ci := 4) (T := TX4) rfl mset_o 12 (by decide) hl (fun _ z => z) rfl rfl rfl (fs' := mfs o (sF S 12 v)) (Nat.le_of_ble_eq_true rfl) rfl hd ?_
  exact J.eq h (congrArg (fun z => (z, sz)) (mset_uo (S' := sF S 12 v) rfl (mcon_F S 12 v))) rfl rfl
theorem mg13 (C : Cx G k cc "MoodFareModel" nm nL rt hh mc ms post) {ix : Nat} (hl : Cond.fieldLink "MoodFareModel" ix (TX4 13).1 (TX4 13).2.1 (TX4 13).2.2.1 ∈ lw_all) (hd : decode cc pc = .ok (.getfield ix, 3)) (h : J G k (mset G M o S, sz) lv (pc + 3) (.ref (o + 6) :: st) ce sl) : J G k (mset G M o S, sz) lv pc (.ref o :: st) ce sl := j_get (w := (mset G M o S, sz)) C in_X4 (ci := 4) (T := TX4) rfl mset_o 13 (by decide) hl (fun _ z => z) (v := .ref (o + 6)) (by rfl) hd h
theorem mg14 (C : Cx G k cc "MoodFareModel" nm nL rt hh mc ms post) {ix : Nat} (hl : Cond.fieldLink "MoodFareModel" ix (TX4 14).1 (TX4 14).2.1 (TX4 14).2.2.1 ∈ lw_all) (hd : decode cc pc = .ok (.getfield ix, 3)) (h : J G k (mset G M o S, sz) lv (pc + 3) (.ref (o + 7) :: st) ce sl) : J G k (mset G M o S, sz) lv pc (.ref o :: st) ce sl := j_get (w := (mset G M o S, sz)) C in_X4 (ci := 4) (T := TX4) rfl mset_o 14 (by decide) hl (fun _ z => z) (v := .ref (o + 7)) (by rfl) hd h
theorem mg15 (C : Cx G k cc "MoodFareModel" nm nL rt hh mc ms post) {ix : Nat} (hl : Cond.fieldLink "MoodFareModel" ix (TX4 15).1 (TX4 15).2.1 (TX4 15).2.2.1 ∈ lw_all) (hd : decode cc pc = .ok (.getfield ix, 3)) (h : J G k (mset G M o S, sz) lv (pc + 3) (.ref (o + 8) :: st) ce sl) : J G k (mset G M o S, sz) lv pc (.ref o :: st) ce sl := j_get (w := (mset G M o S, sz)) C in_X4 (ci := 4) (T := TX4) rfl mset_o 15 (by decide) hl (fun _ z => z) (v := .ref (o + 8)) (by rfl) hd h
theorem mg16 (C : Cx G k cc "MoodFareModel" nm nL rt hh mc ms post) {ix : Nat} (hl : Cond.fieldLink "MoodFareModel" ix (TX4 16).1 (TX4 16).2.1 (TX4 16).2.2.1 ∈ lw_all) (hd : decode cc pc = .ok (.getfield ix, 3)) (h : J G k (mset G M o S, sz) lv (pc + 3) (.ref (o + 9) :: st) ce sl) : J G k (mset G M o S, sz) lv pc (.ref o :: st) ce sl := j_get (w := (mset G M o S, sz)) C in_X4 (ci := 4) (T := TX4) rfl mset_o 16 (by decide) hl (fun _ z => z) (v := .ref (o + 9)) (by rfl) hd h
theorem mg17 (C : Cx G k cc "MoodFareModel" nm nL rt hh mc ms post) {ix : Nat} (hl : Cond.fieldLink "MoodFareModel" ix (TX4 17).1 (TX4 17).2.1 (TX4 17).2.2.1 ∈ lw_all) (hd : decode cc pc = .ok (.getfield ix, 3)) {v : Nat} (hv : S.2.1 17 = v) (h : J G k (mset G M o S, sz) lv (pc + 3) (.int (nI v) :: st) ce sl) : J G k (mset G M o S, sz) lv pc (.ref o :: st) ce sl := j_get (w := (mset G M o S, sz)) C in_X4 (ci := 4) (T := TX4) rfl mset_o 17 (by decide) hl (fun _ z => z) (v := .int (nI v)) (by subst hv; rfl) hd h
theorem mp17 (C : Cx G k cc "MoodFareModel" nm nL rt hh mc ms post) {ix : Nat} (hl : Cond.fieldLink "MoodFareModel" ix (TX4 17).1 (TX4 17).2.1 (TX4 17).2.2.1 ∈ lw_all) (hd : decode cc pc = .ok (.putfield ix, 3)) {v : Nat} (h : J G k (mset G M o (sN S 17 v), sz) lv (pc + 3) st ce sl) : J G k (mset G M o S, sz) lv pc (.int (nI v) :: .ref o :: st) ce sl := by
  refine j_put (w := (mset G M o S, sz)) C (ty0 := tyX4) in_X4 tyX4_ok nmX4 (ci := 4) (T := TX4) rfl mset_o 17 (by decide) hl (fun _ z => z) rfl rfl rfl (fs' := mfs o (sN S 17 v)) (Nat.le_of_ble_eq_true rfl) rfl hd ?_
  exact J.eq h (congrArg (fun z => (z, sz)) (mset_uo (S' := sN S 17 v) rfl (mcon_N S 17 v))) rfl rfl
theorem mg18 (C : Cx G k cc "MoodFareModel" nm nL rt hh mc ms post) {ix : Nat} (hl : Cond.fieldLink "MoodFareModel" ix (TX4 18).1 (TX4 18).2.1 (TX4 18).2.2.1 ∈ lw_all) (hd : decode cc pc = .ok (.getfield ix, 3)) (h : J G k (mset G M o S, sz) lv (pc + 3) (.ref (o + 10) :: st) ce sl) : J G k (mset G M o S, sz) lv pc (.ref o :: st) ce sl := j_get (w := (mset G M o S, sz)) C in_X4 (ci := 4) (T := TX4) rfl mset_o 18 (by decide) hl (fun _ z => z) (v := .ref (o + 10)) (by rfl) hd h
theorem mg19 (C : Cx G k cc "MoodFareModel" nm nL rt hh mc ms post) {ix : Nat} (hl : Cond.fieldLink "MoodFareModel" ix (TX4 19).1 (TX4 19).2.1 (TX4 19).2.2.1 ∈ lw_all) (hd : decode cc pc = .ok (.getfield ix, 3)) (h : J G k (mset G M o S, sz) lv (pc + 3) (.ref (o + 11) :: st) ce sl) : J G k (mset G M o S, sz) lv pc (.ref o :: st) ce sl := j_get (w := (mset G M o S, sz)) C in_X4 (ci := 4) (T := TX4) rfl mset_o 19 (by decide) hl (fun _ z => z) (v := .ref (o + 11)) (by rfl) hd h
theorem mg20 (C : Cx G k cc "MoodFareModel" nm nL rt hh mc ms post) {ix : Nat} (hl : Cond.fieldLink "MoodFareModel" ix (TX4 20).1 (TX4 20).2.1 (TX4 20).2.2.1 ∈ lw_all) (hd : decode cc pc = .ok (.getfield ix, 3)) {v : Int32} (hv : S.1 20 = v) (h : J G k (mset G M o S, sz) lv (pc + 3) (.int v :: st) ce sl) : J G k (mset G M o S, sz) lv pc (.ref o :: st) ce sl := j_get (w := (mset G M o S, sz)) C in_X4 (ci := 4) (T := TX4) rfl mset_o 20 (by decide) hl (fun _ z => z) (v := .int v) (by subst hv; rfl) hd h
theorem mp20 (C : Cx G k cc "MoodFareModel" nm nL rt hh mc ms post) {ix : Nat} (hl : Cond.fieldLink "MoodFareModel" ix (TX4 20).1 (TX4 20).2.1 (TX4 20).2.2.1 ∈ lw_all) (hd : decode cc pc = .ok (.putfield ix, 3)) {v : Int32} (h : J G k (mset G M o (sF S 20 v), sz) lv (pc + 3) st ce sl) : J G k (mset G M o S, sz) lv pc (.int v :: .ref o :: st) ce sl := by
  refine j_put (w := (mset G M o S, sz)) C (ty0 := tyX4) in_X4 tyX4_ok nmX4 (ci := 4) (T := TX4) rfl mset_o 20 (by decide) hl (fun _ z => z) rfl rfl rfl (fs' := mfs o (sF S 20 v)) (Nat.le_of_ble_eq_true rfl) rfl hd ?_
  exact J.eq h (congrArg (fun z => (z, sz)) (mset_uo (S' := sF S 20 v) rfl (mcon_F S 20 v))) rfl rfl
theorem mg21 (C : Cx G k cc "MoodFareModel" nm nL rt hh mc ms post) {ix : Nat} (hl : Cond.fieldLink "MoodFareModel" ix (TX4 21).1 (TX4 21).2.1 (TX4 21).2.2.1 ∈ lw_all) (hd : decode cc pc = .ok (.getfield ix, 3)) (h : J G k (mset G M o S, sz) lv (pc + 3) (.ref (o + 12) :: st) ce sl) : J G k (mset G M o S, sz) lv pc (.ref o :: st) ce sl := j_get (w := (mset G M o S, sz)) C in_X4 (ci := 4) (T := TX4) rfl mset_o 21 (by decide) hl (fun _ z => z) (v := .ref (o + 12)) (by rfl) hd h
theorem mg22 (C : Cx G k cc "MoodFareModel" nm nL rt hh mc ms post) {ix : Nat} (hl : Cond.fieldLink "MoodFareModel" ix (TX4 22).1 (TX4 22).2.1 (TX4 22).2.2.1 ∈ lw_all) (hd : decode cc pc = .ok (.getfield ix, 3)) (h : J G k (mset G M o S, sz) lv (pc + 3) (.ref (o + 13) :: st) ce sl) : J G k (mset G M o S, sz) lv pc (.ref o :: st) ce sl := j_get (w := (mset G M o S, sz)) C in_X4 (ci := 4) (T := TX4) rfl mset_o 22 (by decide) hl (fun _ z => z) (v := .ref (o + 13)) (by rfl) hd h
theorem mg23 (C : Cx G k cc "MoodFareModel" nm nL rt hh mc ms post) {ix : Nat} (hl : Cond.fieldLink "MoodFareModel" ix (TX4 23).1 (TX4 23).2.1 (TX4 23).2.2.1 ∈ lw_all) (hd : decode cc pc = .ok (.getfield ix, 3)) (h : J G k (mset G M o S, sz) lv (pc + 3) (.ref (o + 14) :: st) ce sl) : J G k (mset G M o S, sz) lv pc (.ref o :: st) ce sl := j_get (w := (mset G M o S, sz)) C in_X4 (ci := 4) (T := TX4) rfl mset_o 23 (by decide) hl (fun _ z => z) (v := .ref (o + 14)) (by rfl) hd h
theorem mg24 (C : Cx G k cc "MoodFareModel" nm nL rt hh mc ms post) {ix : Nat} (hl : Cond.fieldLink "MoodFareModel" ix (TX4 24).1 (TX4 24).2.1 (TX4 24).2.2.1 ∈ lw_all) (hd : decode cc pc = .ok (.getfield ix, 3)) (h : J G k (mset G M o S, sz) lv (pc + 3) (.ref (o + 15) :: st) ce sl) : J G k (mset G M o S, sz) lv pc (.ref o :: st) ce sl := j_get (w := (mset G M o S, sz)) C in_X4 (ci := 4) (T := TX4) rfl mset_o 24 (by decide) hl (fun _ z => z) (v := .ref (o + 15)) (by rfl) hd h
theorem mg25 (C : Cx G k cc "MoodFareModel" nm nL rt hh mc ms post) {ix : Nat} (hl : Cond.fieldLink "MoodFareModel" ix (TX4 25).1 (TX4 25).2.1 (TX4 25).2.2.1 ∈ lw_all) (hd : decode cc pc = .ok (.getfield ix, 3)) (h : J G k (mset G M o S, sz) lv (pc + 3) (.ref (o + 16) :: st) ce sl) : J G k (mset G M o S, sz) lv pc (.ref o :: st) ce sl := j_get (w := (mset G M o S, sz)) C in_X4 (ci := 4) (T := TX4) rfl mset_o 25 (by decide) hl (fun _ z => z) (v := .ref (o + 16)) (by rfl) hd h
theorem mg26 (C : Cx G k cc "MoodFareModel" nm nL rt hh mc ms post) {ix : Nat} (hl : Cond.fieldLink "MoodFareModel" ix (TX4 26).1 (TX4 26).2.1 (TX4 26).2.2.1 ∈ lw_all) (hd : decode cc pc = .ok (.getfield ix, 3)) (h : J G k (mset G M o S, sz) lv (pc + 3) (.ref (o + 17) :: st) ce sl) : J G k (mset G M o S, sz) lv pc (.ref o :: st) ce sl := j_get (w := (mset G M o S, sz)) C in_X4 (ci := 4) (T := TX4) rfl mset_o 26 (by decide) hl (fun _ z => z) (v := .ref (o + 17)) (by rfl) hd h
theorem mg27 (C : Cx G k cc "MoodFareModel" nm nL rt hh mc ms post) {ix : Nat} (hl : Cond.fieldLink "MoodFareModel" ix (TX4 27).1 (TX4 27).2.1 (TX4 27).2.2.1 ∈ lw_all) (hd : decode cc pc = .ok (.getfield ix, 3)) {v : Int32} (hv : S.1 27 = v) (h : J G k (mset G M o S, sz) lv (pc + 3) (.int v :: st) ce sl) : J G k (mset G M o S, sz) lv pc (.ref o :: st) ce sl := j_get (w := (mset G M o S, sz)) C in_X4 (ci := 4) (T := TX4) rfl mset_o 27 (by decide) hl (fun _ z => z) (v := .int v) (by subst hv; rfl) hd h
theorem mp27 (C : Cx G k cc "MoodFareModel" nm nL rt hh mc ms post) {ix : Nat} (hl : Cond.fieldLink "MoodFareModel" ix (TX4 27).1 (TX4 27).2.1 (TX4 27).2.2.1 ∈ lw_all) (hd : decode cc pc = .ok (.putfield ix, 3)) {v : Int32} (h : J G k (mset G M o (sF S 27 v), sz) lv (pc + 3) st ce sl) : J G k (mset G M o S, sz) lv pc (.int v :: .ref o :: st) ce sl := by
  refine j_put (w := (mset G M o S, sz)) C (ty0 := tyX4) in_X4 tyX4_ok nmX4 (ci := 4) (T := TX4) rfl mset_o 27 (by decide) hl (fun _ z => z) rfl rfl rfl (fs' := mfs o (sF S 27 v)) (Nat.le_of_ble_eq_true rfl) rfl hd ?_
  exact J.eq h (congrArg (fun z => (z, sz)) (mset_uo (S' := sF S 27 v) rfl (mcon_F S 27 v))) rfl rfl
theorem mg28 (C : Cx G k cc "MoodFareModel" nm nL rt hh mc ms post) {ix : Nat} (hl : Cond.fieldLink "MoodFareModel" ix (TX4 28).1 (TX4 28).2.1 (TX4 28).2.2.1 ∈ lw_all) (hd : decode cc pc = .ok (.getfield ix, 3)) {v : Nat} (hv : S.2.1 28 = v) (h : J G k (mset G M o S, sz) lv (pc + 3) (.int (nI v) :: st) ce sl) : J G k (mset G M o S, sz) lv pc (.ref o :: st) ce sl := j_get (w := (mset G M o S, sz)) C in_X4 (ci := 4) (T := TX4) rfl mset_o 28 (by decide) hl (fun _ z => z) (v := .int (nI v)) (by subst hv; rfl) hd h
theorem mp28 (C : Cx G k cc "MoodFareModel" nm nL rt hh mc ms post) {ix : Nat} (hl : Cond.fieldLink "MoodFareModel" ix (TX4 28).1 (TX4 28).2.1 (TX4 28).2.2.1 ∈ lw_all) (hd : decode cc pc = .ok (.putfield ix, 3)) {v : Nat} (h : J G k (mset G M o (sN S 28 v), sz) lv (pc + 3) st ce sl) : J G k (mset G M o S, sz) lv pc (.int (nI v) :: .ref o :: st) ce sl := by
  refine j_put (w := (mset G M o S, sz)) C (ty0 := tyX4) in_X4 tyX4_ok nmX4 (ci := 4) (T := TX4) rfl mset_o 28 (by decide) hl (fun _ z => z) rfl rfl rfl (fs' := mfs o (sN S 28 v)) (Nat.le_of_ble_eq_true rfl) rfl hd ?_
  exact J.eq h (congrArg (fun z => (z, sz)) (mset_uo (S' := sN S 28 v) rfl (mcon_N S 28 v))) rfl rfl
theorem mg29 (C : Cx G k cc "MoodFareModel" nm nL rt hh mc ms post) {ix : Nat} (hl : Cond.fieldLink "MoodFareModel" ix (TX4 29).1 (TX4 29).2.1 (TX4 29).2.2.1 ∈ lw_all) (hd : decode cc pc = .ok (.getfield ix, 3)) {v : Nat} (hv : S.2.1 29 = v) (h : J G k (mset G M o S, sz) lv (pc + 3) (.int (nI v) :: st) ce sl) : J G k (mset G M o S, sz) lv pc (.ref o :: st) ce sl := j_get (w := (mset G M o S, sz)) C in_X4 (ci := 4) (T := TX4) rfl mset_o 29 (by decide) hl (fun _ z => z) (v := .int (nI v)) (by subst hv; rfl) hd h
theorem mp29 (C : Cx G k cc "MoodFareModel" nm nL rt hh mc ms post) {ix : Nat} (hl : Cond.fieldLink "MoodFareModel" ix (TX4 29).1 (TX4 29).2.1 (TX4 29).2.2.1 ∈ lw_all) (hd : decode cc pc = .ok (.putfield ix, 3)) {v : Nat} (h : J G k (mset G M o (sN S 29 v), sz) lv (pc + 3) st ce sl) : J G k (mset G M o S, sz) lv pc (.int (nI v) :: .ref o :: st) ce sl := by
  refine j_put (w := (mset G M o S, sz)) C (ty0 := tyX4) in_X4 tyX4_ok nmX4 (ci := 4) (T := TX4) rfl mset_o 29 (by decide) hl (fun _ z => z) rfl rfl rfl (fs' := mfs o (sN S 29 v)) (Nat.le_of_ble_eq_true rfl) rfl hd ?_
  exact J.eq h (congrArg (fun z => (z, sz)) (mset_uo (S' := sN S 29 v) rfl (mcon_N S 29 v))) rfl rfl
theorem mg30 (C : Cx G k cc "MoodFareModel" nm nL rt hh mc ms post) {ix : Nat} (hl : Cond.fieldLink "MoodFareModel" ix (TX4 30).1 (TX4 30).2.1 (TX4 30).2.2.1 ∈ lw_all) (hd : decode cc pc = .ok (.getfield ix, 3)) (h : J G k (mset G M o S, sz) lv (pc + 3) (.ref (o + 18) :: st) ce sl) : J G k (mset G M o S, sz) lv pc (.ref o :: st) ce sl := j_get (w := (mset G M o S, sz)) C in_X4 (ci := 4) (T := TX4) rfl mset_o 30 (by decide) hl (fun _ z => z) (v := .ref (o + 18)) (by rfl) hd h
theorem mg31 (C : Cx G k cc "MoodFareModel" nm nL rt hh mc ms post) {ix : Nat} (hl : Cond.fieldLink "MoodFareModel" ix (TX4 31).1 (TX4 31).2.1 (TX4 31).2.2.1 ∈ lw_all) (hd : decode cc pc = .ok (.getfield ix, 3)) {v : Nat} (hv : S.2.1 31 = v) (h : J G k (mset G M o S, sz) lv (pc + 3) (.int (nI v) :: st) ce sl) : J G k (mset G M o S, sz) lv pc (.ref o :: st) ce sl := j_get (w := (mset G M o S, sz)) C in_X4 (ci := 4) (T := TX4) rfl mset_o 31 (by decide) hl (fun _ z => z) (v := .int (nI v)) (by subst hv; rfl) hd h
theorem mp31 (C : Cx G k cc "MoodFareModel" nm nL rt hh mc ms post) {ix : Nat} (hl : Cond.fieldLink "MoodFareModel" ix (TX4 31).1 (TX4 31).2.1 (TX4 31).2.2.1 ∈ lw_all) (hd : decode cc pc = .ok (.putfield ix, 3)) {v : Nat} (h : J G k (mset G M o (sN S 31 v), sz) lv (pc + 3) st ce sl) : J G k (mset G M o S, sz) lv pc (.int (nI v) :: .ref o :: st) ce sl := by
  refine j_put (w := (mset G M o S, sz)) C (ty0 := tyX4) in_X4 tyX4_ok nmX4 (ci := 4) (T := TX4) rfl mset_o 31 (by decide) hl (fun _ z => z) rfl rfl rfl (fs' := mfs o (sN S 31 v)) (Nat.le_of_ble_eq_true rfl) rfl hd ?_
  exact J.eq h (congrArg (fun z => (z, sz)) (mset_uo (S' := sN S 31 v) rfl (mcon_N S 31 v))) rfl rfl
/-- lane -/
theorem ml1 (C : Cx G k cc "MoodFareModel" nm nL rt hh mc ms post) (i : Nat) {x : Int32} (hx : x = nI i) (hi : i < 8) (hd : decode cc pc = .ok (.iaload, 1)) {v : Int32} (hv : S.2.2.1 1 i = v) (h : J G k (mset G M o S, sz) lv (pc + 1) (.int (v) :: st) ce sl) : J G k (mset G M o S, sz) lv pc (.int x :: .ref (o + 1) :: st) ce sl := j_ialdN (w := (mset G M o S, sz)) C (mset_a 1 (by decide) (by decide)) i hx hi (by decide) hd (by subst hv; exact h)
theorem mt1 (C : Cx G k cc "MoodFareModel" nm nL rt hh mc ms post) (i : Nat) {x v : Int32} (hx : x = nI i) (hi : i < 8) (hd : decode cc pc = .ok (.iastore, 1)) (h : J G k (mset G M o (sR S 1 (upd (S.2.2.1 1) i v)), sz) lv (pc + 1) st ce sl) : J G k (mset G M o S, sz) lv pc (.int v :: .int x :: .ref (o + 1) :: st) ce sl := by
  refine j_iastN (w := (mset G M o S, sz)) C (mset_a 1 (by decide) (by decide)) i hx hi (by decide) hd ?_
  have e := mset_ua (G := G) (M := M) (o := o) (S := S) (S' := sR S 1 (upd (S.2.2.1 1) i v)) (g := upd (S.2.2.1 1) i v) 1 (by decide) (by decide) (mfs_R ..) rfl (mcon_R _ _ _)
  exact J.eq h (congrArg (fun z => (z, sz)) e) rfl rfl
/-- many -/
theorem ml2 (C : Cx G k cc "MoodFareModel" nm nL rt hh mc ms post) (i : Nat) {x : Int32} (hx : x = nI i) (hi : i < 8) (hd : decode cc pc = .ok (.iaload, 1)) {v : Nat} (hv : S.2.2.2 2 i = v) (h : J G k (mset G M o S, sz) lv (pc + 1) (.int (nI v) :: st) ce sl) : J G k (mset G M o S, sz) lv pc (.int x :: .ref (o + 2) :: st) ce sl := j_ialdN (w := (mset G M o S, sz)) C (mset_a 2 (by decide) (by decide)) i hx hi (by decide) hd (by subst hv; exact h)
theorem mt2 (C : Cx G k cc "MoodFareModel" nm nL rt hh mc ms post) (i : Nat) {x : Int32} {v : Nat} (hx : x = nI i) (hi : i < 8) (hd : decode cc pc = .ok (.iastore, 1)) (h : J G k (mset G M o (sB S 2 (uN (S.2.2.2 2) i v)), sz) lv (pc + 1) st ce sl) : J G k (mset G M o S, sz) lv pc (.int (nI v) :: .int x :: .ref (o + 2) :: st) ce sl := by
  refine j_iastN (w := (mset G M o S, sz)) C (mset_a 2 (by decide) (by decide)) i hx hi (by decide) hd ?_
  have e := mset_ua (G := G) (M := M) (o := o) (S := S) (S' := sB S 2 (uN (S.2.2.2 2) i v)) (g := upd (fun i => nI (S.2.2.2 2 i)) i (nI v)) 2 (by decide) (by decide) (mfs_B ..) (upd_nI (S.2.2.2 2) i v) (mcon_B _ _ _)
  exact J.eq h (congrArg (fun z => (z, sz)) e) rfl rfl
/-- items -/
theorem ml3 (C : Cx G k cc "MoodFareModel" nm nL rt hh mc ms post) (i : Nat) {x : Int32} (hx : x = nI i) (hi : i < 320) (hd : decode cc pc = .ok (.iaload, 1)) {v : Int32} (hv : S.2.2.1 3 i = v) (h : J G k (mset G M o S, sz) lv (pc + 1) (.int (v) :: st) ce sl) : J G k (mset G M o S, sz) lv pc (.int x :: .ref (o + 3) :: st) ce sl := j_ialdN (w := (mset G M o S, sz)) C (mset_a 3 (by decide) (by decide)) i hx hi (by decide) hd (by subst hv; exact h)
theorem mt3 (C : Cx G k cc "MoodFareModel" nm nL rt hh mc ms post) (i : Nat) {x v : Int32} (hx : x = nI i) (hi : i < 320) (hd : decode cc pc = .ok (.iastore, 1)) (h : J G k (mset G M o (sR S 3 (upd (S.2.2.1 3) i v)), sz) lv (pc + 1) st ce sl) : J G k (mset G M o S, sz) lv pc (.int v :: .int x :: .ref (o + 3) :: st) ce sl := by
  refine j_iastN (w := (mset G M o S, sz)) C (mset_a 3 (by decide) (by decide)) i hx hi (by decide) hd ?_
  have e := mset_ua (G := G) (M := M) (o := o) (S := S) (S' := sR S 3 (upd (S.2.2.1 3) i v)) (g := upd (S.2.2.1 3) i v) 3 (by decide) (by decide) (mfs_R ..) rfl (mcon_R _ _ _)
  exact J.eq h (congrArg (fun z => (z, sz)) e) rfl rfl
/-- spare -/
theorem ml4 (C : Cx G k cc "MoodFareModel" nm nL rt hh mc ms post) (i : Nat) {x : Int32} (hx : x = nI i) (hi : i < 40) (hd : decode cc pc = .ok (.iaload, 1)) {v : Int32} (hv : S.2.2.1 4 i = v) (h : J G k (mset G M o S, sz) lv (pc + 1) (.int (v) :: st) ce sl) : J G k (mset G M o S, sz) lv pc (.int x :: .ref (o + 4) :: st) ce sl := j_ialdN (w := (mset G M o S, sz)) C (mset_a 4 (by decide) (by decide)) i hx hi (by decide) hd (by subst hv; exact h)
theorem mt4 (C : Cx G k cc "MoodFareModel" nm nL rt hh mc ms post) (i : Nat) {x v : Int32} (hx : x = nI i) (hi : i < 40) (hd : decode cc pc = .ok (.iastore, 1)) (h : J G k (mset G M o (sR S 4 (upd (S.2.2.1 4) i v)), sz) lv (pc + 1) st ce sl) : J G k (mset G M o S, sz) lv pc (.int v :: .int x :: .ref (o + 4) :: st) ce sl := by
  refine j_iastN (w := (mset G M o S, sz)) C (mset_a 4 (by decide) (by decide)) i hx hi (by decide) hd ?_
  have e := mset_ua (G := G) (M := M) (o := o) (S := S) (S' := sR S 4 (upd (S.2.2.1 4) i v)) (g := upd (S.2.2.1 4) i v) 4 (by decide) (by decide) (mfs_R ..) rfl (mcon_R _ _ _)
  exact J.eq h (congrArg (fun z => (z, sz)) e) rfl rfl
/-- tape -/
theorem ml5 (C : Cx G k cc "MoodFareModel" nm nL rt hh mc ms post) (i : Nat) {x : Int32} (hx : x = nI i) (hi : i < 120) (hd : decode cc pc = .ok (.iaload, 1)) {v : Nat} (hv : S.2.2.2 5 i = v) (h : J G k (mset G M o S, sz) lv (pc + 1) (.int (nI v) :: st) ce sl) : J G k (mset G M o S, sz) lv pc (.int x :: .ref (o + 5) :: st) ce sl := j_ialdN (w := (mset G M o S, sz)) C (mset_a 5 (by decide) (by decide)) i hx hi (by decide) hd (by subst hv; exact h)
theorem mt5 (C : Cx G k cc "MoodFareModel" nm nL rt hh mc ms post) (i : Nat) {x : Int32} {v : Nat} (hx : x = nI i) (hi : i < 120) (hd : decode cc pc = .ok (.iastore, 1)) (h : J G k (mset G M o (sB S 5 (uN (S.2.2.2 5) i v)), sz) lv (pc + 1) st ce sl) : J G k (mset G M o S, sz) lv pc (.int (nI v) :: .int x :: .ref (o + 5) :: st) ce sl := by
  refine j_iastN (w := (mset G M o S, sz)) C (mset_a 5 (by decide) (by decide)) i hx hi (by decide) hd ?_
  have e := mset_ua (G := G) (M := M) (o := o) (S := S) (S' := sB S 5 (uN (S.2.2.2 5) i v)) (g := upd (fun i => nI (S.2.2.2 5 i)) i (nI v)) 5 (by decide) (by decide) (mfs_B ..) (upd_nI (S.2.2.2 5) i v) (mcon_B _ _ _)
  exact J.eq h (congrArg (fun z => (z, sz)) e) rfl rfl
/-- now -/
theorem ml6 (C : Cx G k cc "MoodFareModel" nm nL rt hh mc ms post) (i : Nat) {x : Int32} (hx : x = nI i) (hi : i < 42) (hd : decode cc pc = .ok (.iaload, 1)) {v : Nat} (hv : S.2.2.2 6 i = v) (h : J G k (mset G M o S, sz) lv (pc + 1) (.int (nI v) :: st) ce sl) : J G k (mset G M o S, sz) lv pc (.int x :: .ref (o + 6) :: st) ce sl := j_ialdN (w := (mset G M o S, sz)) C (mset_a 6 (by decide) (by decide)) i hx hi (by decide) hd (by subst hv; exact h)
theorem mt6 (C : Cx G k cc "MoodFareModel" nm nL rt hh mc ms post) (i : Nat) {x : Int32} {v : Nat} (hx : x = nI i) (hi : i < 42) (hd : decode cc pc = .ok (.iastore, 1)) (h : J G k (mset G M o (sB S 6 (uN (S.2.2.2 6) i v)), sz) lv (pc + 1) st ce sl) : J G k (mset G M o S, sz) lv pc (.int (nI v) :: .int x :: .ref (o + 6) :: st) ce sl := by
  refine j_iastN (w := (mset G M o S, sz)) C (mset_a 6 (by decide) (by decide)) i hx hi (by decide) hd ?_
  have e := mset_ua (G := G) (M := M) (o := o) (S := S) (S' := sB S 6 (uN (S.2.2.2 6) i v)) (g := upd (fun i => nI (S.2.2.2 6 i)) i (nI v)) 6 (by decide) (by decide) (mfs_B ..) (upd_nI (S.2.2.2 6) i v) (mcon_B _ _ _)
  exact J.eq h (congrArg (fun z => (z, sz)) e) rfl rfl
/-- draft -/
theorem ml7 (C : Cx G k cc "MoodFareModel" nm nL rt hh mc ms post) (i : Nat) {x : Int32} (hx : x = nI i) (hi : i < 42) (hd : decode cc pc = .ok (.iaload, 1)) {v : Nat} (hv : S.2.2.2 7 i = v) (h : J G k (mset G M o S, sz) lv (pc + 1) (.int (nI v) :: st) ce sl) : J G k (mset G M o S, sz) lv pc (.int x :: .ref (o + 7) :: st) ce sl := j_ialdN (w := (mset G M o S, sz)) C (mset_a 7 (by decide) (by decide)) i hx hi (by decide) hd (by subst hv; exact h)
theorem mt7 (C : Cx G k cc "MoodFareModel" nm nL rt hh mc ms post) (i : Nat) {x : Int32} {v : Nat} (hx : x = nI i) (hi : i < 42) (hd : decode cc pc = .ok (.iastore, 1)) (h : J G k (mset G M o (sB S 7 (uN (S.2.2.2 7) i v)), sz) lv (pc + 1) st ce sl) : J G k (mset G M o S, sz) lv pc (.int (nI v) :: .int x :: .ref (o + 7) :: st) ce sl := by
  refine j_iastN (w := (mset G M o S, sz)) C (mset_a 7 (by decide) (by decide)) i hx hi (by decide) hd ?_
  have e := mset_ua (G := G) (M := M) (o := o) (S := S) (S' := sB S 7 (uN (S.2.2.2 7) i v)) (g := upd (fun i => nI (S.2.2.2 7 i)) i (nI v)) 7 (by decide) (by decide) (mfs_B ..) (upd_nI (S.2.2.2 7) i v) (mcon_B _ _ _)
  exact J.eq h (congrArg (fun z => (z, sz)) e) rfl rfl
/-- tried -/
theorem ml8 (C : Cx G k cc "MoodFareModel" nm nL rt hh mc ms post) (i : Nat) {x : Int32} (hx : x = nI i) (hi : i < 42) (hd : decode cc pc = .ok (.iaload, 1)) {v : Nat} (hv : S.2.2.2 8 i = v) (h : J G k (mset G M o S, sz) lv (pc + 1) (.int (nI v) :: st) ce sl) : J G k (mset G M o S, sz) lv pc (.int x :: .ref (o + 8) :: st) ce sl := j_ialdN (w := (mset G M o S, sz)) C (mset_a 8 (by decide) (by decide)) i hx hi (by decide) hd (by subst hv; exact h)
theorem mt8 (C : Cx G k cc "MoodFareModel" nm nL rt hh mc ms post) (i : Nat) {x : Int32} {v : Nat} (hx : x = nI i) (hi : i < 42) (hd : decode cc pc = .ok (.iastore, 1)) (h : J G k (mset G M o (sB S 8 (uN (S.2.2.2 8) i v)), sz) lv (pc + 1) st ce sl) : J G k (mset G M o S, sz) lv pc (.int (nI v) :: .int x :: .ref (o + 8) :: st) ce sl := by
  refine j_iastN (w := (mset G M o S, sz)) C (mset_a 8 (by decide) (by decide)) i hx hi (by decide) hd ?_
  have e := mset_ua (G := G) (M := M) (o := o) (S := S) (S' := sB S 8 (uN (S.2.2.2 8) i v)) (g := upd (fun i => nI (S.2.2.2 8 i)) i (nI v)) 8 (by decide) (by decide) (mfs_B ..) (upd_nI (S.2.2.2 8) i v) (mcon_B _ _ _)
  exact J.eq h (congrArg (fun z => (z, sz)) e) rfl rfl
/-- past -/
theorem ml9 (C : Cx G k cc "MoodFareModel" nm nL rt hh mc ms post) (i : Nat) {x : Int32} (hx : x = nI i) (hi : i < 1008) (hd : decode cc pc = .ok (.iaload, 1)) {v : Nat} (hv : S.2.2.2 9 i = v) (h : J G k (mset G M o S, sz) lv (pc + 1) (.int (nI v) :: st) ce sl) : J G k (mset G M o S, sz) lv pc (.int x :: .ref (o + 9) :: st) ce sl := j_ialdN (w := (mset G M o S, sz)) C (mset_a 9 (by decide) (by decide)) i hx hi (by decide) hd (by subst hv; exact h)
theorem mt9 (C : Cx G k cc "MoodFareModel" nm nL rt hh mc ms post) (i : Nat) {x : Int32} {v : Nat} (hx : x = nI i) (hi : i < 1008) (hd : decode cc pc = .ok (.iastore, 1)) (h : J G k (mset G M o (sB S 9 (uN (S.2.2.2 9) i v)), sz) lv (pc + 1) st ce sl) : J G k (mset G M o S, sz) lv pc (.int (nI v) :: .int x :: .ref (o + 9) :: st) ce sl := by
  refine j_iastN (w := (mset G M o S, sz)) C (mset_a 9 (by decide) (by decide)) i hx hi (by decide) hd ?_
  have e := mset_ua (G := G) (M := M) (o := o) (S := S) (S' := sB S 9 (uN (S.2.2.2 9) i v)) (g := upd (fun i => nI (S.2.2.2 9 i)) i (nI v)) 9 (by decide) (by decide) (mfs_B ..) (upd_nI (S.2.2.2 9) i v) (mcon_B _ _ _)
  exact J.eq h (congrArg (fun z => (z, sz)) e) rfl rfl
/-- images -/
theorem ml10 (C : Cx G k cc "MoodFareModel" nm nL rt hh mc ms post) (i : Nat) {x : Int32} (hx : x = nI i) (hi : i < 84) (hd : decode cc pc = .ok (.iaload, 1)) {v : Nat} (hv : S.2.2.2 10 i = v) (h : J G k (mset G M o S, sz) lv (pc + 1) (.int (nI v) :: st) ce sl) : J G k (mset G M o S, sz) lv pc (.int x :: .ref (o + 10) :: st) ce sl := j_ialdN (w := (mset G M o S, sz)) C (mset_a 10 (by decide) (by decide)) i hx hi (by decide) hd (by subst hv; exact h)
theorem mt10 (C : Cx G k cc "MoodFareModel" nm nL rt hh mc ms post) (i : Nat) {x : Int32} {v : Nat} (hx : x = nI i) (hi : i < 84) (hd : decode cc pc = .ok (.iastore, 1)) (h : J G k (mset G M o (sB S 10 (uN (S.2.2.2 10) i v)), sz) lv (pc + 1) st ce sl) : J G k (mset G M o S, sz) lv pc (.int (nI v) :: .int x :: .ref (o + 10) :: st) ce sl := by
  refine j_iastN (w := (mset G M o S, sz)) C (mset_a 10 (by decide) (by decide)) i hx hi (by decide) hd ?_
  have e := mset_ua (G := G) (M := M) (o := o) (S := S) (S' := sB S 10 (uN (S.2.2.2 10) i v)) (g := upd (fun i => nI (S.2.2.2 10 i)) i (nI v)) 10 (by decide) (by decide) (mfs_B ..) (upd_nI (S.2.2.2 10) i v) (mcon_B _ _ _)
  exact J.eq h (congrArg (fun z => (z, sz)) e) rfl rfl
/-- kept -/
theorem ml11 (C : Cx G k cc "MoodFareModel" nm nL rt hh mc ms post) (i : Nat) {x : Int32} (hx : x = nI i) (hi : i < 2) (hd : decode cc pc = .ok (.baload, 1)) {v : Nat} (hv : S.2.2.2 11 i = v) (h : J G k (mset G M o S, sz) lv (pc + 1) (.int (nI v) :: st) ce sl) : J G k (mset G M o S, sz) lv pc (.int x :: .ref (o + 11) :: st) ce sl := j_zaldN (w := (mset G M o S, sz)) C (mset_a 11 (by decide) (by decide)) i hx hi (by decide) hd (by subst hv; exact h)
theorem mt11 (C : Cx G k cc "MoodFareModel" nm nL rt hh mc ms post) (i : Nat) {x : Int32} {v : Nat} (hx : x = nI i) (hi : i < 2) (hv : v < 2) (hd : decode cc pc = .ok (.bastore, 1)) (h : J G k (mset G M o (sB S 11 (uN (S.2.2.2 11) i v)), sz) lv (pc + 1) st ce sl) : J G k (mset G M o S, sz) lv pc (.int (nI v) :: .int x :: .ref (o + 11) :: st) ce sl := by
  refine j_zastN (w := (mset G M o S, sz)) C (mset_a 11 (by decide) (by decide)) i hx hi (by decide) hd ?_
  have e := mset_ua (G := G) (M := M) (o := o) (S := S) (S' := sB S 11 (uN (S.2.2.2 11) i v)) (g := upd (fun i => nI (S.2.2.2 11 i)) i (vp_nar .boolean (nI v))) 11 (by decide) (by decide) (mfs_B ..) (by rw [show vp_nar .boolean (nI v) = nI v from by rcases (show v = 0 ∨ v = 1 by omega) with rfl | rfl <;> decide +kernel]; exact upd_nI (S.2.2.2 11) i v) (mcon_B _ _ _)
  exact J.eq h (congrArg (fun z => (z, sz)) e) rfl rfl
/-- path -/
theorem ml12 (C : Cx G k cc "MoodFareModel" nm nL rt hh mc ms post) (i : Nat) {x : Int32} (hx : x = nI i) (hi : i < 8) (hd : decode cc pc = .ok (.iaload, 1)) {v : Nat} (hv : S.2.2.2 12 i = v) (h : J G k (mset G M o S, sz) lv (pc + 1) (.int (nI v) :: st) ce sl) : J G k (mset G M o S, sz) lv pc (.int x :: .ref (o + 12) :: st) ce sl := j_ialdN (w := (mset G M o S, sz)) C (mset_a 12 (by decide) (by decide)) i hx hi (by decide) hd (by subst hv; exact h)
theorem mt12 (C : Cx G k cc "MoodFareModel" nm nL rt hh mc ms post) (i : Nat) {x : Int32} {v : Nat} (hx : x = nI i) (hi : i < 8) (hd : decode cc pc = .ok (.iastore, 1)) (h : J G k (mset G M o (sB S 12 (uN (S.2.2.2 12) i v)), sz) lv (pc + 1) st ce sl) : J G k (mset G M o S, sz) lv pc (.int (nI v) :: .int x :: .ref (o + 12) :: st) ce sl := by
  refine j_iastN (w := (mset G M o S, sz)) C (mset_a 12 (by decide) (by decide)) i hx hi (by decide) hd ?_
  have e := mset_ua (G := G) (M := M) (o := o) (S := S) (S' := sB S 12 (uN (S.2.2.2 12) i v)) (g := upd (fun i => nI (S.2.2.2 12 i)) i (nI v)) 12 (by decide) (by decide) (mfs_B ..) (upd_nI (S.2.2.2 12) i v) (mcon_B _ _ _)
  exact J.eq h (congrArg (fun z => (z, sz)) e) rfl rfl
/-- next -/
theorem ml13 (C : Cx G k cc "MoodFareModel" nm nL rt hh mc ms post) (i : Nat) {x : Int32} (hx : x = nI i) (hi : i < 9) (hd : decode cc pc = .ok (.iaload, 1)) {v : Nat} (hv : S.2.2.2 13 i = v) (h : J G k (mset G M o S, sz) lv (pc + 1) (.int (nI v) :: st) ce sl) : J G k (mset G M o S, sz) lv pc (.int x :: .ref (o + 13) :: st) ce sl := j_ialdN (w := (mset G M o S, sz)) C (mset_a 13 (by decide) (by decide)) i hx hi (by decide) hd (by subst hv; exact h)
theorem mt13 (C : Cx G k cc "MoodFareModel" nm nL rt hh mc ms post) (i : Nat) {x : Int32} {v : Nat} (hx : x = nI i) (hi : i < 9) (hd : decode cc pc = .ok (.iastore, 1)) (h : J G k (mset G M o (sB S 13 (uN (S.2.2.2 13) i v)), sz) lv (pc + 1) st ce sl) : J G k (mset G M o S, sz) lv pc (.int (nI v) :: .int x :: .ref (o + 13) :: st) ce sl := by
  refine j_iastN (w := (mset G M o S, sz)) C (mset_a 13 (by decide) (by decide)) i hx hi (by decide) hd ?_
  have e := mset_ua (G := G) (M := M) (o := o) (S := S) (S' := sB S 13 (uN (S.2.2.2 13) i v)) (g := upd (fun i => nI (S.2.2.2 13 i)) i (nI v)) 13 (by decide) (by decide) (mfs_B ..) (upd_nI (S.2.2.2 13) i v) (mcon_B _ _ _)
  exact J.eq h (congrArg (fun z => (z, sz)) e) rfl rfl
/-- where -/
theorem ml14 (C : Cx G k cc "MoodFareModel" nm nL rt hh mc ms post) (i : Nat) {x : Int32} (hx : x = nI i) (hi : i < 9) (hd : decode cc pc = .ok (.iaload, 1)) {v : Nat} (hv : S.2.2.2 14 i = v) (h : J G k (mset G M o S, sz) lv (pc + 1) (.int (nI v) :: st) ce sl) : J G k (mset G M o S, sz) lv pc (.int x :: .ref (o + 14) :: st) ce sl := j_ialdN (w := (mset G M o S, sz)) C (mset_a 14 (by decide) (by decide)) i hx hi (by decide) hd (by subst hv; exact h)
theorem mt14 (C : Cx G k cc "MoodFareModel" nm nL rt hh mc ms post) (i : Nat) {x : Int32} {v : Nat} (hx : x = nI i) (hi : i < 9) (hd : decode cc pc = .ok (.iastore, 1)) (h : J G k (mset G M o (sB S 14 (uN (S.2.2.2 14) i v)), sz) lv (pc + 1) st ce sl) : J G k (mset G M o S, sz) lv pc (.int (nI v) :: .int x :: .ref (o + 14) :: st) ce sl := by
  refine j_iastN (w := (mset G M o S, sz)) C (mset_a 14 (by decide) (by decide)) i hx hi (by decide) hd ?_
  have e := mset_ua (G := G) (M := M) (o := o) (S := S) (S' := sB S 14 (uN (S.2.2.2 14) i v)) (g := upd (fun i => nI (S.2.2.2 14 i)) i (nI v)) 14 (by decide) (by decide) (mfs_B ..) (upd_nI (S.2.2.2 14) i v) (mcon_B _ _ _)
  exact J.eq h (congrArg (fun z => (z, sz)) e) rfl rfl
/-- moods -/
theorem ml15 (C : Cx G k cc "MoodFareModel" nm nL rt hh mc ms post) (i : Nat) {x : Int32} (hx : x = nI i) (hi : i < 9) (hd : decode cc pc = .ok (.iaload, 1)) {v : Nat} (hv : S.2.2.2 15 i = v) (h : J G k (mset G M o S, sz) lv (pc + 1) (.int (nI v) :: st) ce sl) : J G k (mset G M o S, sz) lv pc (.int x :: .ref (o + 15) :: st) ce sl := j_ialdN (w := (mset G M o S, sz)) C (mset_a 15 (by decide) (by decide)) i hx hi (by decide) hd (by subst hv; exact h)
theorem mt15 (C : Cx G k cc "MoodFareModel" nm nL rt hh mc ms post) (i : Nat) {x : Int32} {v : Nat} (hx : x = nI i) (hi : i < 9) (hd : decode cc pc = .ok (.iastore, 1)) (h : J G k (mset G M o (sB S 15 (uN (S.2.2.2 15) i v)), sz) lv (pc + 1) st ce sl) : J G k (mset G M o S, sz) lv pc (.int (nI v) :: .int x :: .ref (o + 15) :: st) ce sl := by
  refine j_iastN (w := (mset G M o S, sz)) C (mset_a 15 (by decide) (by decide)) i hx hi (by decide) hd ?_
  have e := mset_ua (G := G) (M := M) (o := o) (S := S) (S' := sB S 15 (uN (S.2.2.2 15) i v)) (g := upd (fun i => nI (S.2.2.2 15 i)) i (nI v)) 15 (by decide) (by decide) (mfs_B ..) (upd_nI (S.2.2.2 15) i v) (mcon_B _ _ _)
  exact J.eq h (congrArg (fun z => (z, sz)) e) rfl rfl
/-- costs -/
theorem ml16 (C : Cx G k cc "MoodFareModel" nm nL rt hh mc ms post) (i : Nat) {x : Int32} (hx : x = nI i) (hi : i < 9) (hd : decode cc pc = .ok (.iaload, 1)) {v : Nat} (hv : S.2.2.2 16 i = v) (h : J G k (mset G M o S, sz) lv (pc + 1) (.int (nI v) :: st) ce sl) : J G k (mset G M o S, sz) lv pc (.int x :: .ref (o + 16) :: st) ce sl := j_ialdN (w := (mset G M o S, sz)) C (mset_a 16 (by decide) (by decide)) i hx hi (by decide) hd (by subst hv; exact h)
theorem mt16 (C : Cx G k cc "MoodFareModel" nm nL rt hh mc ms post) (i : Nat) {x : Int32} {v : Nat} (hx : x = nI i) (hi : i < 9) (hd : decode cc pc = .ok (.iastore, 1)) (h : J G k (mset G M o (sB S 16 (uN (S.2.2.2 16) i v)), sz) lv (pc + 1) st ce sl) : J G k (mset G M o S, sz) lv pc (.int (nI v) :: .int x :: .ref (o + 16) :: st) ce sl := by
  refine j_iastN (w := (mset G M o S, sz)) C (mset_a 16 (by decide) (by decide)) i hx hi (by decide) hd ?_
  have e := mset_ua (G := G) (M := M) (o := o) (S := S) (S' := sB S 16 (uN (S.2.2.2 16) i v)) (g := upd (fun i => nI (S.2.2.2 16 i)) i (nI v)) 16 (by decide) (by decide) (mfs_B ..) (upd_nI (S.2.2.2 16) i v) (mcon_B _ _ _)
  exact J.eq h (congrArg (fun z => (z, sz)) e) rfl rfl
/-- best -/
theorem ml17 (C : Cx G k cc "MoodFareModel" nm nL rt hh mc ms post) (i : Nat) {x : Int32} (hx : x = nI i) (hi : i < 8) (hd : decode cc pc = .ok (.iaload, 1)) {v : Nat} (hv : S.2.2.2 17 i = v) (h : J G k (mset G M o S, sz) lv (pc + 1) (.int (nI v) :: st) ce sl) : J G k (mset G M o S, sz) lv pc (.int x :: .ref (o + 17) :: st) ce sl := j_ialdN (w := (mset G M o S, sz)) C (mset_a 17 (by decide) (by decide)) i hx hi (by decide) hd (by subst hv; exact h)
theorem mt17 (C : Cx G k cc "MoodFareModel" nm nL rt hh mc ms post) (i : Nat) {x : Int32} {v : Nat} (hx : x = nI i) (hi : i < 8) (hd : decode cc pc = .ok (.iastore, 1)) (h : J G k (mset G M o (sB S 17 (uN (S.2.2.2 17) i v)), sz) lv (pc + 1) st ce sl) : J G k (mset G M o S, sz) lv pc (.int (nI v) :: .int x :: .ref (o + 17) :: st) ce sl := by
  refine j_iastN (w := (mset G M o S, sz)) C (mset_a 17 (by decide) (by decide)) i hx hi (by decide) hd ?_
  have e := mset_ua (G := G) (M := M) (o := o) (S := S) (S' := sB S 17 (uN (S.2.2.2 17) i v)) (g := upd (fun i => nI (S.2.2.2 17 i)) i (nI v)) 17 (by decide) (by decide) (mfs_B ..) (upd_nI (S.2.2.2 17) i v) (mcon_B _ _ _)
  exact J.eq h (congrArg (fun z => (z, sz)) e) rfl rfl
/-- trace -/
theorem ml18 (C : Cx G k cc "MoodFareModel" nm nL rt hh mc ms post) (i : Nat) {x : Int32} (hx : x = nI i) (hi : i < 16) (hd : decode cc pc = .ok (.iaload, 1)) {v : Nat} (hv : S.2.2.2 18 i = v) (h : J G k (mset G M o S, sz) lv (pc + 1) (.int (nI v) :: st) ce sl) : J G k (mset G M o S, sz) lv pc (.int x :: .ref (o + 18) :: st) ce sl := j_ialdN (w := (mset G M o S, sz)) C (mset_a 18 (by decide) (by decide)) i hx hi (by decide) hd (by subst hv; exact h)
theorem mt18 (C : Cx G k cc "MoodFareModel" nm nL rt hh mc ms post) (i : Nat) {x : Int32} {v : Nat} (hx : x = nI i) (hi : i < 16) (hd : decode cc pc = .ok (.iastore, 1)) (h : J G k (mset G M o (sB S 18 (uN (S.2.2.2 18) i v)), sz) lv (pc + 1) st ce sl) : J G k (mset G M o S, sz) lv pc (.int (nI v) :: .int x :: .ref (o + 18) :: st) ce sl := by
  refine j_iastN (w := (mset G M o S, sz)) C (mset_a 18 (by decide) (by decide)) i hx hi (by decide) hd ?_
  have e := mset_ua (G := G) (M := M) (o := o) (S := S) (S' := sB S 18 (uN (S.2.2.2 18) i v)) (g := upd (fun i => nI (S.2.2.2 18 i)) i (nI v)) 18 (by decide) (by decide) (mfs_B ..) (upd_nI (S.2.2.2 18) i v) (mcon_B _ _ _)
  exact J.eq h (congrArg (fun z => (z, sz)) e) rfl rfl
end JM
