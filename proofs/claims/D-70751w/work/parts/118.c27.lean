/-! ===== the class: a trail on which bodies are left ===== -/
set_option maxRecDepth 100000
/-- the world w with a trail at tr (its array at d) that holds p.1 bodies, as p.2 says -/
def trW (G : gl_T) (w : wd_T) (tr d τ : Nat) (p : Nat × (Nat → Int32)) : wd_T := (mu (mu w.1 tr τ (.inr (3, [.ref d, .int (nI p.1)]))) d τ (ai (gl_A G 0) 16 p.2), w.2)
/-- bodies are plain numbers -/
def gdP (p : Nat × (Nat → Int32)) : Prop := ∃ g : Nat → Nat, ∀ i, i < p.1 → p.2 i = nI (g i)
def tpV (p : Nat × (Nat → Int32)) (b : Nat) : Nat × (Nat → Int32) := (p.1 + 1, upd p.2 p.1 (nI b))
theorem gdP_tp {p : Nat × (Nat → Int32)} {b : Nat} (h : gdP p) : gdP (tpV p b) := by
  obtain ⟨g, hg⟩ := h
  refine ⟨uN g p.1 b, fun i hi => ?_⟩
  have hi : i < p.1 + 1 := hi
  show upd p.2 p.1 (nI b) i = nI (uN g p.1 b i)
  by_cases z : i = p.1
  · subst z
    rw [uN_s]
    simp [upd]
  · rw [uN_n z, show upd p.2 p.1 (nI b) i = p.2 i by simp [upd, z]]
    exact hg i (by omega)
section TW
variable {G : gl_T} {w : wd_T} {tr d τ b : Nat} {p q : Nat × (Nat → Int32)}
theorem trW_t (h : tr ≠ d) : (trW G w tr d τ p).1 tr = some (τ, .inr (3, [.ref d, .int (nI p.1)])) := (mu_n h).trans mu_s
theorem trW_d : (trW G w tr d τ p).1 d = some (τ, ai (gl_A G 0) 16 p.2) := mu_s
theorem trW_o {c : Nat × va_E} (h : w.1 b = some c) (h1 : b ≠ tr) (h2 : b ≠ d) : (trW G w tr d τ p).1 b = some c := (mu_n h2).trans ((mu_n h1).trans h)
theorem trW_trW : trW G (trW G w tr d τ p) tr d τ q = trW G w tr d τ q := by
  unfold trW
  refine Prod.ext ?_ rfl
  show mu (mu (mu (mu w.1 tr τ _) d τ _) tr τ _) d τ _ = mu (mu w.1 tr τ _) d τ _
  rw [mu_d1]
  by_cases h : tr = d
  · subst h
    rw [mu_mu, mu_mu, mu_mu]
  · rw [mu_mu]
theorem kT_begins (G : gl_T) (w : wd_T) (tr d τ : Nat) (p : Nat × (Nat → Int32)) (v : Nat) (h : tr ≠ d) (hn : p.1 < 16) : Mt G yX3_begins cX3_begins 2 none 0 [.ref tr, .int (nI v)] (trW G w tr d τ p) (qV (trW G w tr d τ (tpV p v))) 0 0 := by
  have := kX3_begins G (trW G w tr d τ p) tr d τ p.1 v p.2 (trW_t h) trW_d h hn
  refine this.mono fun o w' h' => ?_
  have e : (mu (mu (trW G w tr d τ p).1 tr τ (.inr (3, [.ref d, .int (nI (p.1 + 1))]))) d τ (ai (gl_A G 0) 16 (upd p.2 p.1 (nI v))), (trW G w tr d τ p).2) = trW G w tr d τ (tpV p v) := trW_trW (q := tpV p v)
  rw [e] at h'
  exact h'
end TW
/-- a walk of a method without handlers -/
def Mw (G : gl_T) (y : MethodName) (bytes : ByteArray) (maxL : Nat) (ret : Option FieldType) (h : Nat) (av : List Value) (w : wd_T) (post : Outcome → wd_T → Prop) (mc ms : Nat) : Prop :=
  (lg_sl av).length ≤ maxL ∧ ∀ k : KX, Cx G k bytes y.cls y.name maxL ret h mc ms post → J G k w (lv_args 0 av) 0 [] 0 0
section MW
variable {G : gl_T} {y : MethodName} {bytes : ByteArray} {maxL : Nat} {ret : Option FieldType} {hd : List (Nat × Nat × Nat × Nat)} {h : Nat} {av : List Value} {w : wd_T} {post : Outcome → wd_T → Prop} {mc ms : Nat}
theorem Mw.mt (hM : Mw G y bytes maxL ret h av w post mc ms) (hy : plainName y.cls = true) : Mt G y bytes maxL ret h av w post mc ms := Mt.start hy hM.1 hM.2
theorem Mw.mb (hM : Mw G y bytes maxL ret h av w post mc ms) : Mb G y bytes maxL ret hd h av w post mc ms := ⟨hM.1, fun k C _ => hM.2 k C⟩
end MW
theorem pI.nt {P : Int32 → wd_T → Prop} {a : Nat} {w : wd_T} {X : Prop} (h : pI P (.threw a) w) : X := by
  obtain ⟨v, hv⟩ := pI.ret _ _ h
  cases hv
/-! ===== the class: sizes, marks ===== -/
set_option maxRecDepth 100000
set_option maxHeartbeats 400000 in
theorem kX21_size_7 (G : gl_T) (w : wd_T) (hG : GH G) (hD : GD G) (b tr d τ σ ha υ : Nat) (x y u : Int32) (fs : List Value) (p : Nat × (Nat → Int32)) (hb : w.1 b = some (σ, .inr (7, [.int x, .int y]))) (hbt : b ≠ tr) (hbd : b ≠ d) (htd : tr ≠ d) (hha : w.1 ha = some (υ, .inr (19, fs))) (hat : ha ≠ tr) (had : ha ≠ d) (hm : ∀ p : Nat × (Nat → Int32), p.1 ≤ 16 → gdP p → Mt G yX20_much cX20_much 1 (some .int) 0 [.ref ha] (trW G w tr d τ p) (qI u (trW G w tr d τ p)) 0 0) (hp : p.1 + 1 ≤ 16) (hgd : gdP p) : Mw G yX21_size cX21_size 3 (some .int) 1 [.ref b, .ref tr, .ref ha] (trW G w tr d τ p) (qI (y) (trW G w tr d τ (tpV p 10))) 0 0 := by
  refine ⟨Nat.le_of_ble_eq_true rfl, fun k C => ?_⟩
  have C : Cx G k cX21_size "MoodFare$Marked" "size" 3 (some .int) 1 0 0 _ := C
  refine j_aload_n C dX21_size_0 rfl 1 rfl ?_
  refine j_bipush (v := nI 10) C dX21_size_1 rfl ?_
  refine j_callV (w := (trW G w tr d τ p)) C (kT_begins G w tr d τ p 10 htd (by show p.1 + 0 < 16; omega)) pV.ret (ci := 3) (T := TX3) (trW_t htd) rfl 1 q1369 q1364 q1365 q72 q1366 (by decide +kernel) rfl (by decide) (by decide) (Nat.le_of_ble_eq_true rfl) rfl dX21_size_3 (by omega) (by omega) (qV.k ?_)
  refine j_aload_n C dX21_size_6 rfl 0 rfl ?_
  refine j_callF (w := (trW G w tr d τ (tpV p 10))) C (kX7_fee_7 G (trW G w tr d τ (tpV p 10)) b σ x y (trW_o hb hbt hbd)) pI.ret (ci := 7) (T := TX8) (trW_o hb hbt hbd) rfl 0 (C.fw hG ⟨q1373, q1372, q1377, q1383, q1381, by decide⟩) q1371 q1382 q943 q91 q950 (by decide +kernel) rfl (by decide) (by decide) (Nat.le_of_ble_eq_true rfl) rfl dX21_size_7 (by omega) (by omega) (qI.k ?_)
  exact j_iret C (by omega) (by omega) (pI.mk ⟨rfl, rfl⟩) dX21_size_12
set_option maxHeartbeats 400000 in
theorem kX21_mark_7 (G : gl_T) (w : wd_T) (hG : GH G) (hD : GD G) (b tr d τ σ ha υ : Nat) (x y u : Int32) (fs : List Value) (p : Nat × (Nat → Int32)) (hb : w.1 b = some (σ, .inr (7, [.int x, .int y]))) (hbt : b ≠ tr) (hbd : b ≠ d) (htd : tr ≠ d) (hha : w.1 ha = some (υ, .inr (19, fs))) (hat : ha ≠ tr) (had : ha ≠ d) (hm : ∀ p : Nat × (Nat → Int32), p.1 ≤ 16 → gdP p → Mt G yX20_much cX20_much 1 (some .int) 0 [.ref ha] (trW G w tr d τ p) (qI u (trW G w tr d τ p)) 0 0) (hp : p.1 + 1 ≤ 16) (hgd : gdP p) : Mw G yX21_mark cX21_mark 3 (some .int) 1 [.ref b, .ref tr, .ref ha] (trW G w tr d τ p) (qI (x) (trW G w tr d τ (tpV p 20))) 0 0 := by
  refine ⟨Nat.le_of_ble_eq_true rfl, fun k C => ?_⟩
  have C : Cx G k cX21_mark "MoodFare$Marked" "mark" 3 (some .int) 1 0 0 _ := C
  refine j_aload_n C dX21_mark_0 rfl 1 rfl ?_
  refine j_bipush (v := nI 20) C dX21_mark_1 rfl ?_
  refine j_callV (w := (trW G w tr d τ p)) C (kT_begins G w tr d τ p 20 htd (by show p.1 + 0 < 16; omega)) pV.ret (ci := 3) (T := TX3) (trW_t htd) rfl 1 q1369 q1364 q1365 q72 q1366 (by decide +kernel) rfl (by decide) (by decide) (Nat.le_of_ble_eq_true rfl) rfl dX21_mark_3 (by omega) (by omega) (qV.k ?_)
  refine j_aload_n C dX21_mark_6 rfl 0 rfl ?_
  refine j_callF (w := (trW G w tr d τ (tpV p 20))) C (kX7_number_7 G (trW G w tr d τ (tpV p 20)) b σ x y (trW_o hb hbt hbd)) pI.ret (ci := 7) (T := TX8) (trW_o hb hbt hbd) rfl 0 (C.fw hG ⟨q1415, q1414, q1418, q1422, q1381, by decide⟩) q1413 q1421 q1333 q91 q1340 (by decide +kernel) rfl (by decide) (by decide) (Nat.le_of_ble_eq_true rfl) rfl dX21_mark_7 (by omega) (by omega) (qI.k ?_)
  exact j_iret C (by omega) (by omega) (pI.mk ⟨rfl, rfl⟩) dX21_mark_12
set_option maxHeartbeats 400000 in
theorem kX21_size_8 (G : gl_T) (w : wd_T) (hG : GH G) (hD : GD G) (b tr d τ σ ha υ : Nat) (x y u : Int32) (fs : List Value) (p : Nat × (Nat → Int32)) (hb : w.1 b = some (σ, .inr (8, [.int x, .int y]))) (hbt : b ≠ tr) (hbd : b ≠ d) (htd : tr ≠ d) (hha : w.1 ha = some (υ, .inr (19, fs))) (hat : ha ≠ tr) (had : ha ≠ d) (hm : ∀ p : Nat × (Nat → Int32), p.1 ≤ 16 → gdP p → Mt G yX20_much cX20_much 1 (some .int) 0 [.ref ha] (trW G w tr d τ p) (qI u (trW G w tr d τ p)) 0 0) (hp : p.1 + 1 ≤ 16) (hgd : gdP p) : Mw G yX21_size cX21_size 3 (some .int) 1 [.ref b, .ref tr, .ref ha] (trW G w tr d τ p) (qI (y) (trW G w tr d τ (tpV p 10))) 0 0 := by
  refine ⟨Nat.le_of_ble_eq_true rfl, fun k C => ?_⟩
  have C : Cx G k cX21_size "MoodFare$Marked" "size" 3 (some .int) 1 0 0 _ := C
  refine j_aload_n C dX21_size_0 rfl 1 rfl ?_
  refine j_bipush (v := nI 10) C dX21_size_1 rfl ?_
  refine j_callV (w := (trW G w tr d τ p)) C (kT_begins G w tr d τ p 10 htd (by show p.1 + 0 < 16; omega)) pV.ret (ci := 3) (T := TX3) (trW_t htd) rfl 1 q1369 q1364 q1365 q72 q1366 (by decide +kernel) rfl (by decide) (by decide) (Nat.le_of_ble_eq_true rfl) rfl dX21_size_3 (by omega) (by omega) (qV.k ?_)
  refine j_aload_n C dX21_size_6 rfl 0 rfl ?_
  refine j_callF (w := (trW G w tr d τ (tpV p 10))) C (kX7_fee_8 G (trW G w tr d τ (tpV p 10)) b σ x y (trW_o hb hbt hbd)) pI.ret (ci := 8) (T := TX9) (trW_o hb hbt hbd) rfl 0 (C.fw hG ⟨q1373, q1372, q1377, q1386, q1384, by decide⟩) q1371 q1385 q943 q91 q950 (by decide +kernel) rfl (by decide) (by decide) (Nat.le_of_ble_eq_true rfl) rfl dX21_size_7 (by omega) (by omega) (qI.k ?_)
  exact j_iret C (by omega) (by omega) (pI.mk ⟨rfl, rfl⟩) dX21_size_12
set_option maxHeartbeats 400000 in
theorem kX21_mark_8 (G : gl_T) (w : wd_T) (hG : GH G) (hD : GD G) (b tr d τ σ ha υ : Nat) (x y u : Int32) (fs : List Value) (p : Nat × (Nat → Int32)) (hb : w.1 b = some (σ, .inr (8, [.int x, .int y]))) (hbt : b ≠ tr) (hbd : b ≠ d) (htd : tr ≠ d) (hha : w.1 ha = some (υ, .inr (19, fs))) (hat : ha ≠ tr) (had : ha ≠ d) (hm : ∀ p : Nat × (Nat → Int32), p.1 ≤ 16 → gdP p → Mt G yX20_much cX20_much 1 (some .int) 0 [.ref ha] (trW G w tr d τ p) (qI u (trW G w tr d τ p)) 0 0) (hp : p.1 + 1 ≤ 16) (hgd : gdP p) : Mw G yX21_mark cX21_mark 3 (some .int) 1 [.ref b, .ref tr, .ref ha] (trW G w tr d τ p) (qI (x) (trW G w tr d τ (tpV p 20))) 0 0 := by
  refine ⟨Nat.le_of_ble_eq_true rfl, fun k C => ?_⟩
  have C : Cx G k cX21_mark "MoodFare$Marked" "mark" 3 (some .int) 1 0 0 _ := C
  refine j_aload_n C dX21_mark_0 rfl 1 rfl ?_
  refine j_bipush (v := nI 20) C dX21_mark_1 rfl ?_
  refine j_callV (w := (trW G w tr d τ p)) C (kT_begins G w tr d τ p 20 htd (by show p.1 + 0 < 16; omega)) pV.ret (ci := 3) (T := TX3) (trW_t htd) rfl 1 q1369 q1364 q1365 q72 q1366 (by decide +kernel) rfl (by decide) (by decide) (Nat.le_of_ble_eq_true rfl) rfl dX21_mark_3 (by omega) (by omega) (qV.k ?_)
  refine j_aload_n C dX21_mark_6 rfl 0 rfl ?_
  refine j_callF (w := (trW G w tr d τ (tpV p 20))) C (kX7_number_8 G (trW G w tr d τ (tpV p 20)) b σ x y (trW_o hb hbt hbd)) pI.ret (ci := 8) (T := TX9) (trW_o hb hbt hbd) rfl 0 (C.fw hG ⟨q1415, q1414, q1418, q1424, q1384, by decide⟩) q1413 q1423 q1333 q91 q1340 (by decide +kernel) rfl (by decide) (by decide) (Nat.le_of_ble_eq_true rfl) rfl dX21_mark_7 (by omega) (by omega) (qI.k ?_)
  exact j_iret C (by omega) (by omega) (pI.mk ⟨rfl, rfl⟩) dX21_mark_12
set_option maxHeartbeats 400000 in
theorem kX21_size_9 (G : gl_T) (w : wd_T) (hG : GH G) (hD : GD G) (b tr d τ σ ha υ : Nat) (x y u : Int32) (fs : List Value) (p : Nat × (Nat → Int32)) (hb : w.1 b = some (σ, .inr (9, [.int x, .int y]))) (hbt : b ≠ tr) (hbd : b ≠ d) (htd : tr ≠ d) (hha : w.1 ha = some (υ, .inr (19, fs))) (hat : ha ≠ tr) (had : ha ≠ d) (hm : ∀ p : Nat × (Nat → Int32), p.1 ≤ 16 → gdP p → Mt G yX20_much cX20_much 1 (some .int) 0 [.ref ha] (trW G w tr d τ p) (qI u (trW G w tr d τ p)) 0 0) (hp : p.1 + 1 ≤ 16) (hgd : gdP p) : Mw G yX21_size cX21_size 3 (some .int) 1 [.ref b, .ref tr, .ref ha] (trW G w tr d τ p) (qI (y) (trW G w tr d τ (tpV p 10))) 0 0 := by
  refine ⟨Nat.le_of_ble_eq_true rfl, fun k C => ?_⟩
  have C : Cx G k cX21_size "MoodFare$Marked" "size" 3 (some .int) 1 0 0 _ := C
  refine j_aload_n C dX21_size_0 rfl 1 rfl ?_
  refine j_bipush (v := nI 10) C dX21_size_1 rfl ?_
  refine j_callV (w := (trW G w tr d τ p)) C (kT_begins G w tr d τ p 10 htd (by show p.1 + 0 < 16; omega)) pV.ret (ci := 3) (T := TX3) (trW_t htd) rfl 1 q1369 q1364 q1365 q72 q1366 (by decide +kernel) rfl (by decide) (by decide) (Nat.le_of_ble_eq_true rfl) rfl dX21_size_3 (by omega) (by omega) (qV.k ?_)
  refine j_aload_n C dX21_size_6 rfl 0 rfl ?_
  refine j_callF (w := (trW G w tr d τ (tpV p 10))) C (kX7_fee_9 G (trW G w tr d τ (tpV p 10)) b σ x y (trW_o hb hbt hbd)) pI.ret (ci := 9) (T := TX10) (trW_o hb hbt hbd) rfl 0 (C.fw hG ⟨q1373, q1372, q1377, q1380, q1378, by decide⟩) q1371 q1379 q943 q91 q950 (by decide +kernel) rfl (by decide) (by decide) (Nat.le_of_ble_eq_true rfl) rfl dX21_size_7 (by omega) (by omega) (qI.k ?_)
  exact j_iret C (by omega) (by omega) (pI.mk ⟨rfl, rfl⟩) dX21_size_12
set_option maxHeartbeats 400000 in
theorem kX21_mark_9 (G : gl_T) (w : wd_T) (hG : GH G) (hD : GD G) (b tr d τ σ ha υ : Nat) (x y u : Int32) (fs : List Value) (p : Nat × (Nat → Int32)) (hb : w.1 b = some (σ, .inr (9, [.int x, .int y]))) (hbt : b ≠ tr) (hbd : b ≠ d) (htd : tr ≠ d) (hha : w.1 ha = some (υ, .inr (19, fs))) (hat : ha ≠ tr) (had : ha ≠ d) (hm : ∀ p : Nat × (Nat → Int32), p.1 ≤ 16 → gdP p → Mt G yX20_much cX20_much 1 (some .int) 0 [.ref ha] (trW G w tr d τ p) (qI u (trW G w tr d τ p)) 0 0) (hp : p.1 + 1 ≤ 16) (hgd : gdP p) : Mw G yX21_mark cX21_mark 3 (some .int) 1 [.ref b, .ref tr, .ref ha] (trW G w tr d τ p) (qI (x) (trW G w tr d τ (tpV p 20))) 0 0 := by
  refine ⟨Nat.le_of_ble_eq_true rfl, fun k C => ?_⟩
  have C : Cx G k cX21_mark "MoodFare$Marked" "mark" 3 (some .int) 1 0 0 _ := C
  refine j_aload_n C dX21_mark_0 rfl 1 rfl ?_
  refine j_bipush (v := nI 20) C dX21_mark_1 rfl ?_
  refine j_callV (w := (trW G w tr d τ p)) C (kT_begins G w tr d τ p 20 htd (by show p.1 + 0 < 16; omega)) pV.ret (ci := 3) (T := TX3) (trW_t htd) rfl 1 q1369 q1364 q1365 q72 q1366 (by decide +kernel) rfl (by decide) (by decide) (Nat.le_of_ble_eq_true rfl) rfl dX21_mark_3 (by omega) (by omega) (qV.k ?_)
  refine j_aload_n C dX21_mark_6 rfl 0 rfl ?_
  refine j_callF (w := (trW G w tr d τ (tpV p 20))) C (kX7_number_9 G (trW G w tr d τ (tpV p 20)) b σ x y (trW_o hb hbt hbd)) pI.ret (ci := 9) (T := TX10) (trW_o hb hbt hbd) rfl 0 (C.fw hG ⟨q1415, q1414, q1418, q1420, q1378, by decide⟩) q1413 q1419 q1333 q91 q1340 (by decide +kernel) rfl (by decide) (by decide) (Nat.le_of_ble_eq_true rfl) rfl dX21_mark_7 (by omega) (by omega) (qI.k ?_)
  exact j_iret C (by omega) (by omega) (pI.mk ⟨rfl, rfl⟩) dX21_mark_12
set_option maxHeartbeats 400000 in
theorem kX21_size_10 (G : gl_T) (w : wd_T) (hG : GH G) (hD : GD G) (b tr d τ σ ha υ : Nat) (x y u : Int32) (fs : List Value) (p : Nat × (Nat → Int32)) (hb : w.1 b = some (σ, .inr (10, [.int x, .int y]))) (hbt : b ≠ tr) (hbd : b ≠ d) (htd : tr ≠ d) (hha : w.1 ha = some (υ, .inr (19, fs))) (hat : ha ≠ tr) (had : ha ≠ d) (hm : ∀ p : Nat × (Nat → Int32), p.1 ≤ 16 → gdP p → Mt G yX20_much cX20_much 1 (some .int) 0 [.ref ha] (trW G w tr d τ p) (qI u (trW G w tr d τ p)) 0 0) (hp : p.1 + 1 ≤ 16) (hgd : gdP p) : Mw G yX21_size cX21_size 3 (some .int) 1 [.ref b, .ref tr, .ref ha] (trW G w tr d τ p) (qI (y) (trW G w tr d τ (tpV p 10))) 0 0 := by
  refine ⟨Nat.le_of_ble_eq_true rfl, fun k C => ?_⟩
  have C : Cx G k cX21_size "MoodFare$Marked" "size" 3 (some .int) 1 0 0 _ := C
  refine j_aload_n C dX21_size_0 rfl 1 rfl ?_
  refine j_bipush (v := nI 10) C dX21_size_1 rfl ?_
  refine j_callV (w := (trW G w tr d τ p)) C (kT_begins G w tr d τ p 10 htd (by show p.1 + 0 < 16; omega)) pV.ret (ci := 3) (T := TX3) (trW_t htd) rfl 1 q1369 q1364 q1365 q72 q1366 (by decide +kernel) rfl (by decide) (by decide) (Nat.le_of_ble_eq_true rfl) rfl dX21_size_3 (by omega) (by omega) (qV.k ?_)
  refine j_aload_n C dX21_size_6 rfl 0 rfl ?_
  refine j_callF (w := (trW G w tr d τ (tpV p 10))) C (kX7_fee_10 G (trW G w tr d τ (tpV p 10)) b σ x y (trW_o hb hbt hbd)) pI.ret (ci := 10) (T := TX11) (trW_o hb hbt hbd) rfl 0 (C.fw hG ⟨q1373, q1372, q1377, q1376, q1374, by decide⟩) q1371 q1375 q943 q91 q950 (by decide +kernel) rfl (by decide) (by decide) (Nat.le_of_ble_eq_true rfl) rfl dX21_size_7 (by omega) (by omega) (qI.k ?_)
  exact j_iret C (by omega) (by omega) (pI.mk ⟨rfl, rfl⟩) dX21_size_12
set_option maxHeartbeats 400000 in
theorem kX21_mark_10 (G : gl_T) (w : wd_T) (hG : GH G) (hD : GD G) (b tr d τ σ ha υ : Nat) (x y u : Int32) (fs : List Value) (p : Nat × (Nat → Int32)) (hb : w.1 b = some (σ, .inr (10, [.int x, .int y]))) (hbt : b ≠ tr) (hbd : b ≠ d) (htd : tr ≠ d) (hha : w.1 ha = some (υ, .inr (19, fs))) (hat : ha ≠ tr) (had : ha ≠ d) (hm : ∀ p : Nat × (Nat → Int32), p.1 ≤ 16 → gdP p → Mt G yX20_much cX20_much 1 (some .int) 0 [.ref ha] (trW G w tr d τ p) (qI u (trW G w tr d τ p)) 0 0) (hp : p.1 + 1 ≤ 16) (hgd : gdP p) : Mw G yX21_mark cX21_mark 3 (some .int) 1 [.ref b, .ref tr, .ref ha] (trW G w tr d τ p) (qI (x) (trW G w tr d τ (tpV p 20))) 0 0 := by
  refine ⟨Nat.le_of_ble_eq_true rfl, fun k C => ?_⟩
  have C : Cx G k cX21_mark "MoodFare$Marked" "mark" 3 (some .int) 1 0 0 _ := C
  refine j_aload_n C dX21_mark_0 rfl 1 rfl ?_
  refine j_bipush (v := nI 20) C dX21_mark_1 rfl ?_
  refine j_callV (w := (trW G w tr d τ p)) C (kT_begins G w tr d τ p 20 htd (by show p.1 + 0 < 16; omega)) pV.ret (ci := 3) (T := TX3) (trW_t htd) rfl 1 q1369 q1364 q1365 q72 q1366 (by decide +kernel) rfl (by decide) (by decide) (Nat.le_of_ble_eq_true rfl) rfl dX21_mark_3 (by omega) (by omega) (qV.k ?_)
  refine j_aload_n C dX21_mark_6 rfl 0 rfl ?_
  refine j_callF (w := (trW G w tr d τ (tpV p 20))) C (kX7_number_10 G (trW G w tr d τ (tpV p 20)) b σ x y (trW_o hb hbt hbd)) pI.ret (ci := 10) (T := TX11) (trW_o hb hbt hbd) rfl 0 (C.fw hG ⟨q1415, q1414, q1418, q1417, q1374, by decide⟩) q1413 q1416 q1333 q91 q1340 (by decide +kernel) rfl (by decide) (by decide) (Nat.le_of_ble_eq_true rfl) rfl dX21_mark_7 (by omega) (by omega) (qI.k ?_)
  exact j_iret C (by omega) (by omega) (pI.mk ⟨rfl, rfl⟩) dX21_mark_12
set_option maxHeartbeats 400000 in
theorem kX21_size_11 (G : gl_T) (w : wd_T) (hG : GH G) (hD : GD G) (b tr d τ σ ha υ : Nat) (x y u : Int32) (fs : List Value) (p : Nat × (Nat → Int32)) (hb : w.1 b = some (σ, .inr (11, [.int x, .int y]))) (hbt : b ≠ tr) (hbd : b ≠ d) (htd : tr ≠ d) (hha : w.1 ha = some (υ, .inr (19, fs))) (hat : ha ≠ tr) (had : ha ≠ d) (hm : ∀ p : Nat × (Nat → Int32), p.1 ≤ 16 → gdP p → Mt G yX20_much cX20_much 1 (some .int) 0 [.ref ha] (trW G w tr d τ p) (qI u (trW G w tr d τ p)) 0 0) (hp : p.1 + 1 ≤ 16) (hgd : gdP p) : Mw G yX21_size cX21_size 3 (some .int) 1 [.ref b, .ref tr, .ref ha] (trW G w tr d τ p) (qI (y) (trW G w tr d τ (tpV p 10))) 0 0 := by
  refine ⟨Nat.le_of_ble_eq_true rfl, fun k C => ?_⟩
  have C : Cx G k cX21_size "MoodFare$Marked" "size" 3 (some .int) 1 0 0 _ := C
  refine j_aload_n C dX21_size_0 rfl 1 rfl ?_
  refine j_bipush (v := nI 10) C dX21_size_1 rfl ?_
  refine j_callV (w := (trW G w tr d τ p)) C (kT_begins G w tr d τ p 10 htd (by show p.1 + 0 < 16; omega)) pV.ret (ci := 3) (T := TX3) (trW_t htd) rfl 1 q1369 q1364 q1365 q72 q1366 (by decide +kernel) rfl (by decide) (by decide) (Nat.le_of_ble_eq_true rfl) rfl dX21_size_3 (by omega) (by omega) (qV.k ?_)
  refine j_aload_n C dX21_size_6 rfl 0 rfl ?_
  refine j_callF (w := (trW G w tr d τ (tpV p 10))) C (kX7_fee_11 G (trW G w tr d τ (tpV p 10)) b σ x y (trW_o hb hbt hbd)) pI.ret (ci := 11) (T := TX12) (trW_o hb hbt hbd) rfl 0 (C.fw hG ⟨q1373, q1372, q1377, q1389, q1387, by decide⟩) q1371 q1388 q943 q91 q950 (by decide +kernel) rfl (by decide) (by decide) (Nat.le_of_ble_eq_true rfl) rfl dX21_size_7 (by omega) (by omega) (qI.k ?_)
  exact j_iret C (by omega) (by omega) (pI.mk ⟨rfl, rfl⟩) dX21_size_12
set_option maxHeartbeats 400000 in
theorem kX21_mark_11 (G : gl_T) (w : wd_T) (hG : GH G) (hD : GD G) (b tr d τ σ ha υ : Nat) (x y u : Int32) (fs : List Value) (p : Nat × (Nat → Int32)) (hb : w.1 b = some (σ, .inr (11, [.int x, .int y]))) (hbt : b ≠ tr) (hbd : b ≠ d) (htd : tr ≠ d) (hha : w.1 ha = some (υ, .inr (19, fs))) (hat : ha ≠ tr) (had : ha ≠ d) (hm : ∀ p : Nat × (Nat → Int32), p.1 ≤ 16 → gdP p → Mt G yX20_much cX20_much 1 (some .int) 0 [.ref ha] (trW G w tr d τ p) (qI u (trW G w tr d τ p)) 0 0) (hp : p.1 + 1 ≤ 16) (hgd : gdP p) : Mw G yX21_mark cX21_mark 3 (some .int) 1 [.ref b, .ref tr, .ref ha] (trW G w tr d τ p) (qI (x) (trW G w tr d τ (tpV p 20))) 0 0 := by
  refine ⟨Nat.le_of_ble_eq_true rfl, fun k C => ?_⟩
  have C : Cx G k cX21_mark "MoodFare$Marked" "mark" 3 (some .int) 1 0 0 _ := C
  refine j_aload_n C dX21_mark_0 rfl 1 rfl ?_
  refine j_bipush (v := nI 20) C dX21_mark_1 rfl ?_
  refine j_callV (w := (trW G w tr d τ p)) C (kT_begins G w tr d τ p 20 htd (by show p.1 + 0 < 16; omega)) pV.ret (ci := 3) (T := TX3) (trW_t htd) rfl 1 q1369 q1364 q1365 q72 q1366 (by decide +kernel) rfl (by decide) (by decide) (Nat.le_of_ble_eq_true rfl) rfl dX21_mark_3 (by omega) (by omega) (qV.k ?_)
  refine j_aload_n C dX21_mark_6 rfl 0 rfl ?_
  refine j_callF (w := (trW G w tr d τ (tpV p 20))) C (kX7_number_11 G (trW G w tr d τ (tpV p 20)) b σ x y (trW_o hb hbt hbd)) pI.ret (ci := 11) (T := TX12) (trW_o hb hbt hbd) rfl 0 (C.fw hG ⟨q1415, q1414, q1418, q1426, q1387, by decide⟩) q1413 q1425 q1333 q91 q1340 (by decide +kernel) rfl (by decide) (by decide) (Nat.le_of_ble_eq_true rfl) rfl dX21_mark_7 (by omega) (by omega) (qI.k ?_)
  exact j_iret C (by omega) (by omega) (pI.mk ⟨rfl, rfl⟩) dX21_mark_12
set_option maxHeartbeats 400000 in
theorem kX8_mark_7 (G : gl_T) (w : wd_T) (hG : GH G) (hD : GD G) (b tr d τ σ ha υ : Nat) (x y u : Int32) (fs : List Value) (p : Nat × (Nat → Int32)) (hb : w.1 b = some (σ, .inr (7, [.int x, .int y]))) (hbt : b ≠ tr) (hbd : b ≠ d) (htd : tr ≠ d) (hha : w.1 ha = some (υ, .inr (19, fs))) (hat : ha ≠ tr) (had : ha ≠ d) (hm : ∀ p : Nat × (Nat → Int32), p.1 ≤ 16 → gdP p → Mt G yX20_much cX20_much 1 (some .int) 0 [.ref ha] (trW G w tr d τ p) (qI u (trW G w tr d τ p)) 0 0) (hp : p.1 + 2 ≤ 16) (hgd : gdP p) : Mw G yX8_mark cX8_mark 3 (some .int) 2 [.ref b, .ref tr, .ref ha] (trW G w tr d τ p) (qI ((x + u)) (trW G w tr d τ (tpV (tpV p 21) 20))) 0 0 := by
  refine ⟨Nat.le_of_ble_eq_true rfl, fun k C => ?_⟩
  have C : Cx G k cX8_mark "MoodFare$Joy" "mark" 3 (some .int) 2 0 0 _ := C
  refine j_aload_n C dX8_mark_0 rfl 1 rfl ?_
  refine j_bipush (v := nI 21) C dX8_mark_1 rfl ?_
  refine j_callV (w := (trW G w tr d τ p)) C (kT_begins G w tr d τ p 21 htd (by show p.1 + 0 < 16; omega)) pV.ret (ci := 3) (T := TX3) (trW_t htd) rfl 1 q1393 q1364 q1365 q72 q1366 (by decide +kernel) rfl (by decide) (by decide) (Nat.le_of_ble_eq_true rfl) rfl dX8_mark_3 (by omega) (by omega) (qV.k ?_)
  refine j_aload_n C dX8_mark_6 rfl 0 rfl ?_
  refine j_aload_n C dX8_mark_7 rfl 1 rfl ?_
  refine j_aload_n C dX8_mark_8 rfl 2 rfl ?_
  refine j_in (w := (trW G w tr d τ (tpV p 21))) C (iv_D C hD (ci := 7) (Tt := TX8) (trW_o hb hbt hbd) rfl (Or.inr rfl) (List.mem_of_getElem? (show defaultWords_1[4]? = some _ from rfl)) (List.mem_of_getElem? (show defaultWords_1[5]? = some _ from rfl)) q1410 q721 q1411 (As := [.ref tr, .ref ha]) rfl rfl dX8_mark_9) (kX21_mark_7 G w hG hD b tr d τ σ ha υ x y u fs (tpV p 21) hb hbt hbd htd hha hat had hm (by show p.1 + 1 + 1 ≤ 16; omega) (gdP_tp hgd)).mb (Or.inr ⟨rfl, q1411⟩) (by decide +kernel) (by decide) (by decide) (Nat.le_of_ble_eq_true rfl) (by omega) (by omega) (qI.k ?_) (fun _ _ h => pI.nt h)
  refine j_aload_n C dX8_mark_12 rfl 2 rfl ?_
  refine j_callF (w := (trW G w tr d τ (tpV (tpV p 21) 20))) C (hm (tpV (tpV p 21) 20) (by show p.1 + 2 ≤ 16; omega) (gdP_tp (gdP_tp hgd))) pI.ret (ci := 19) (T := TX20) (trW_o hha hat had) rfl 0 (C.fw hG ⟨q1430, q1429, q1435, q1433, q1431, by decide⟩) q1428 q1432 q1434 q108 q1436 (by decide +kernel) rfl (by decide) (by decide) (Nat.le_of_ble_eq_true rfl) rfl dX8_mark_13 (by omega) (by omega) (qI.k ?_)
  refine j_iadd C dX8_mark_18 ?_
  exact j_iret C (by omega) (by omega) (pI.mk ⟨rfl, rfl⟩) dX8_mark_19
set_option maxHeartbeats 400000 in
theorem kX8_size_7 (G : gl_T) (w : wd_T) (hG : GH G) (hD : GD G) (b tr d τ σ ha υ : Nat) (x y u : Int32) (fs : List Value) (p : Nat × (Nat → Int32)) (hb : w.1 b = some (σ, .inr (7, [.int x, .int y]))) (hbt : b ≠ tr) (hbd : b ≠ d) (htd : tr ≠ d) (hha : w.1 ha = some (υ, .inr (19, fs))) (hat : ha ≠ tr) (had : ha ≠ d) (hm : ∀ p : Nat × (Nat → Int32), p.1 ≤ 16 → gdP p → Mt G yX20_much cX20_much 1 (some .int) 0 [.ref ha] (trW G w tr d τ p) (qI u (trW G w tr d τ p)) 0 0) (hp : p.1 + 4 ≤ 16) (hgd : gdP p) : Mw G yX8_size cX8_size 3 (some .int) 4 [.ref b, .ref tr, .ref ha] (trW G w tr d τ p) (qI ((y + (x + u))) (trW G w tr d τ (tpV (tpV (tpV (tpV p 11) 10) 21) 20))) 0 0 := by
  refine ⟨Nat.le_of_ble_eq_true rfl, fun k C => ?_⟩
  have C : Cx G k cX8_size "MoodFare$Joy" "size" 3 (some .int) 4 0 0 _ := C
  refine j_aload_n C dX8_size_0 rfl 1 rfl ?_
  refine j_bipush (v := nI 11) C dX8_size_1 rfl ?_
  refine j_callV (w := (trW G w tr d τ p)) C (kT_begins G w tr d τ p 11 htd (by show p.1 + 0 < 16; omega)) pV.ret (ci := 3) (T := TX3) (trW_t htd) rfl 1 q1393 q1364 q1365 q72 q1366 (by decide +kernel) rfl (by decide) (by decide) (Nat.le_of_ble_eq_true rfl) rfl dX8_size_3 (by omega) (by omega) (qV.k ?_)
  refine j_aload_n C dX8_size_6 rfl 0 rfl ?_
  refine j_aload_n C dX8_size_7 rfl 1 rfl ?_
  refine j_aload_n C dX8_size_8 rfl 2 rfl ?_
  refine j_in (w := (trW G w tr d τ (tpV p 11))) C (iv_D C hD (ci := 7) (Tt := TX8) (trW_o hb hbt hbd) rfl (Or.inl rfl) (List.mem_of_getElem? (show defaultWords_1[3]? = some _ from rfl)) (List.mem_of_getElem? (show defaultWords_1[1]? = some _ from rfl)) q1367 q721 q1368 (As := [.ref tr, .ref ha]) rfl rfl dX8_size_9) (kX21_size_7 G w hG hD b tr d τ σ ha υ x y u fs (tpV p 11) hb hbt hbd htd hha hat had hm (by show p.1 + 1 + 1 ≤ 16; omega) (gdP_tp hgd)).mb (Or.inr ⟨rfl, q1368⟩) (by decide +kernel) (by decide) (by decide) (Nat.le_of_ble_eq_true rfl) (by omega) (by omega) (qI.k ?_) (fun _ _ h => pI.nt h)
  refine j_aload_n C dX8_size_12 rfl 0 rfl ?_
  refine j_aload_n C dX8_size_13 rfl 1 rfl ?_
  refine j_aload_n C dX8_size_14 rfl 2 rfl ?_
  refine j_callV (w := (trW G w tr d τ (tpV (tpV p 11) 10))) C ((kX8_mark_7 G w hG hD b tr d τ σ ha υ x y u fs (tpV (tpV p 11) 10) hb hbt hbd htd hha hat had hm (by show p.1 + 2 + 2 ≤ 16; omega) (gdP_tp (gdP_tp hgd))).mt (by decide)) pI.ret (ci := 7) (T := TX8) (trW_o hb hbt hbd) rfl 2 q1394 q1395 q1396 q92 q1408 (by decide +kernel) rfl (by decide) (by decide) (Nat.le_of_ble_eq_true rfl) rfl dX8_size_15 (by omega) (by omega) (qI.k ?_)
  refine j_iadd C dX8_size_18 ?_
  exact j_iret C (by omega) (by omega) (pI.mk ⟨rfl, rfl⟩) dX8_size_19
set_option maxHeartbeats 400000 in
theorem kX8_mark_8 (G : gl_T) (w : wd_T) (hG : GH G) (hD : GD G) (b tr d τ σ ha υ : Nat) (x y u : Int32) (fs : List Value) (p : Nat × (Nat → Int32)) (hb : w.1 b = some (σ, .inr (8, [.int x, .int y]))) (hbt : b ≠ tr) (hbd : b ≠ d) (htd : tr ≠ d) (hha : w.1 ha = some (υ, .inr (19, fs))) (hat : ha ≠ tr) (had : ha ≠ d) (hm : ∀ p : Nat × (Nat → Int32), p.1 ≤ 16 → gdP p → Mt G yX20_much cX20_much 1 (some .int) 0 [.ref ha] (trW G w tr d τ p) (qI u (trW G w tr d τ p)) 0 0) (hp : p.1 + 2 ≤ 16) (hgd : gdP p) : Mw G yX8_mark cX8_mark 3 (some .int) 2 [.ref b, .ref tr, .ref ha] (trW G w tr d τ p) (qI ((x + u)) (trW G w tr d τ (tpV (tpV p 21) 20))) 0 0 := by
  refine ⟨Nat.le_of_ble_eq_true rfl, fun k C => ?_⟩
  have C : Cx G k cX8_mark "MoodFare$Joy" "mark" 3 (some .int) 2 0 0 _ := C
  refine j_aload_n C dX8_mark_0 rfl 1 rfl ?_
  refine j_bipush (v := nI 21) C dX8_mark_1 rfl ?_
  refine j_callV (w := (trW G w tr d τ p)) C (kT_begins G w tr d τ p 21 htd (by show p.1 + 0 < 16; omega)) pV.ret (ci := 3) (T := TX3) (trW_t htd) rfl 1 q1393 q1364 q1365 q72 q1366 (by decide +kernel) rfl (by decide) (by decide) (Nat.le_of_ble_eq_true rfl) rfl dX8_mark_3 (by omega) (by omega) (qV.k ?_)
  refine j_aload_n C dX8_mark_6 rfl 0 rfl ?_
  refine j_aload_n C dX8_mark_7 rfl 1 rfl ?_
  refine j_aload_n C dX8_mark_8 rfl 2 rfl ?_
  refine j_in (w := (trW G w tr d τ (tpV p 21))) C (iv_D C hD (ci := 8) (Tt := TX9) (trW_o hb hbt hbd) rfl (Or.inr rfl) (List.mem_of_getElem? (show defaultWords_1[4]? = some _ from rfl)) (List.mem_of_getElem? (show defaultWords_1[5]? = some _ from rfl)) q1410 q721 q1411 (As := [.ref tr, .ref ha]) rfl rfl dX8_mark_9) (kX21_mark_8 G w hG hD b tr d τ σ ha υ x y u fs (tpV p 21) hb hbt hbd htd hha hat had hm (by show p.1 + 1 + 1 ≤ 16; omega) (gdP_tp hgd)).mb (Or.inr ⟨rfl, q1411⟩) (by decide +kernel) (by decide) (by decide) (Nat.le_of_ble_eq_true rfl) (by omega) (by omega) (qI.k ?_) (fun _ _ h => pI.nt h)
  refine j_aload_n C dX8_mark_12 rfl 2 rfl ?_
  refine j_callF (w := (trW G w tr d τ (tpV (tpV p 21) 20))) C (hm (tpV (tpV p 21) 20) (by show p.1 + 2 ≤ 16; omega) (gdP_tp (gdP_tp hgd))) pI.ret (ci := 19) (T := TX20) (trW_o hha hat had) rfl 0 (C.fw hG ⟨q1430, q1429, q1435, q1433, q1431, by decide⟩) q1428 q1432 q1434 q108 q1436 (by decide +kernel) rfl (by decide) (by decide) (Nat.le_of_ble_eq_true rfl) rfl dX8_mark_13 (by omega) (by omega) (qI.k ?_)
  refine j_iadd C dX8_mark_18 ?_
  exact j_iret C (by omega) (by omega) (pI.mk ⟨rfl, rfl⟩) dX8_mark_19
set_option maxHeartbeats 400000 in
theorem kX9_mark_8 (G : gl_T) (w : wd_T) (hG : GH G) (hD : GD G) (b tr d τ σ ha υ : Nat) (x y u : Int32) (fs : List Value) (p : Nat × (Nat → Int32)) (hb : w.1 b = some (σ, .inr (8, [.int x, .int y]))) (hbt : b ≠ tr) (hbd : b ≠ d) (htd : tr ≠ d) (hha : w.1 ha = some (υ, .inr (19, fs))) (hat : ha ≠ tr) (had : ha ≠ d) (hm : ∀ p : Nat × (Nat → Int32), p.1 ≤ 16 → gdP p → Mt G yX20_much cX20_much 1 (some .int) 0 [.ref ha] (trW G w tr d τ p) (qI u (trW G w tr d τ p)) 0 0) (hp : p.1 + 3 ≤ 16) (hgd : gdP p) : Mw G yX9_mark cX9_mark 3 (some .int) 3 [.ref b, .ref tr, .ref ha] (trW G w tr d τ p) (qI ((nI 2 * (x + u))) (trW G w tr d τ (tpV (tpV (tpV p 24) 21) 20))) 0 0 := by
  refine ⟨Nat.le_of_ble_eq_true rfl, fun k C => ?_⟩
  have C : Cx G k cX9_mark "MoodFare$Love" "mark" 3 (some .int) 3 0 0 _ := C
  refine j_aload_n C dX9_mark_0 rfl 1 rfl ?_
  refine j_bipush (v := nI 24) C dX9_mark_1 rfl ?_
  refine j_callV (w := (trW G w tr d τ p)) C (kT_begins G w tr d τ p 24 htd (by show p.1 + 0 < 16; omega)) pV.ret (ci := 3) (T := TX3) (trW_t htd) rfl 1 q1406 q1364 q1365 q72 q1366 (by decide +kernel) rfl (by decide) (by decide) (Nat.le_of_ble_eq_true rfl) rfl dX9_mark_3 (by omega) (by omega) (qV.k ?_)
  refine j_iconst (v := nI 2) C dX9_mark_6 rfl ?_
  refine j_aload_n C dX9_mark_7 rfl 0 rfl ?_
  refine j_aload_n C dX9_mark_8 rfl 1 rfl ?_
  refine j_aload_n C dX9_mark_9 rfl 2 rfl ?_
  refine j_callSU (w := (trW G w tr d τ (tpV p 24))) C ((kX8_mark_8 G w hG hD b tr d τ σ ha υ x y u fs (tpV p 24) hb hbt hbd htd hha hat had hm (by show p.1 + 1 + 2 ≤ 16; omega) (gdP_tp hgd)).mt (by decide)) pI.ret (ci := 8) (T := TX9) (trW_o hb hbt hbd) rfl 2 q1407 q1397 q730 q1395 q92 q1408 (by decide +kernel) rfl (by decide) (by decide) (Nat.le_of_ble_eq_true rfl) rfl dX9_mark_10 (by omega) (by omega) (qI.k ?_)
  refine j_imul C dX9_mark_13 ?_
  exact j_iret C (by omega) (by omega) (pI.mk ⟨rfl, rfl⟩) dX9_mark_14
set_option maxHeartbeats 400000 in
theorem kX8_size_8 (G : gl_T) (w : wd_T) (hG : GH G) (hD : GD G) (b tr d τ σ ha υ : Nat) (x y u : Int32) (fs : List Value) (p : Nat × (Nat → Int32)) (hb : w.1 b = some (σ, .inr (8, [.int x, .int y]))) (hbt : b ≠ tr) (hbd : b ≠ d) (htd : tr ≠ d) (hha : w.1 ha = some (υ, .inr (19, fs))) (hat : ha ≠ tr) (had : ha ≠ d) (hm : ∀ p : Nat × (Nat → Int32), p.1 ≤ 16 → gdP p → Mt G yX20_much cX20_much 1 (some .int) 0 [.ref ha] (trW G w tr d τ p) (qI u (trW G w tr d τ p)) 0 0) (hp : p.1 + 5 ≤ 16) (hgd : gdP p) : Mw G yX8_size cX8_size 3 (some .int) 4 [.ref b, .ref tr, .ref ha] (trW G w tr d τ p) (qI ((y + (nI 2 * (x + u)))) (trW G w tr d τ (tpV (tpV (tpV (tpV (tpV p 11) 10) 24) 21) 20))) 0 0 := by
  refine ⟨Nat.le_of_ble_eq_true rfl, fun k C => ?_⟩
  have C : Cx G k cX8_size "MoodFare$Joy" "size" 3 (some .int) 4 0 0 _ := C
  refine j_aload_n C dX8_size_0 rfl 1 rfl ?_
  refine j_bipush (v := nI 11) C dX8_size_1 rfl ?_
  refine j_callV (w := (trW G w tr d τ p)) C (kT_begins G w tr d τ p 11 htd (by show p.1 + 0 < 16; omega)) pV.ret (ci := 3) (T := TX3) (trW_t htd) rfl 1 q1393 q1364 q1365 q72 q1366 (by decide +kernel) rfl (by decide) (by decide) (Nat.le_of_ble_eq_true rfl) rfl dX8_size_3 (by omega) (by omega) (qV.k ?_)
  refine j_aload_n C dX8_size_6 rfl 0 rfl ?_
  refine j_aload_n C dX8_size_7 rfl 1 rfl ?_
  refine j_aload_n C dX8_size_8 rfl 2 rfl ?_
  refine j_in (w := (trW G w tr d τ (tpV p 11))) C (iv_D C hD (ci := 8) (Tt := TX9) (trW_o hb hbt hbd) rfl (Or.inl rfl) (List.mem_of_getElem? (show defaultWords_1[3]? = some _ from rfl)) (List.mem_of_getElem? (show defaultWords_1[1]? = some _ from rfl)) q1367 q721 q1368 (As := [.ref tr, .ref ha]) rfl rfl dX8_size_9) (kX21_size_8 G w hG hD b tr d τ σ ha υ x y u fs (tpV p 11) hb hbt hbd htd hha hat had hm (by show p.1 + 1 + 1 ≤ 16; omega) (gdP_tp hgd)).mb (Or.inr ⟨rfl, q1368⟩) (by decide +kernel) (by decide) (by decide) (Nat.le_of_ble_eq_true rfl) (by omega) (by omega) (qI.k ?_) (fun _ _ h => pI.nt h)
  refine j_aload_n C dX8_size_12 rfl 0 rfl ?_
  refine j_aload_n C dX8_size_13 rfl 1 rfl ?_
  refine j_aload_n C dX8_size_14 rfl 2 rfl ?_
  refine j_callA (w := (trW G w tr d τ (tpV (tpV p 11) 10))) C ((kX9_mark_8 G w hG hD b tr d τ σ ha υ x y u fs (tpV (tpV p 11) 10) hb hbt hbd htd hha hat had hm (by show p.1 + 2 + 3 ≤ 16; omega) (gdP_tp (gdP_tp hgd))).mt (by decide)) pI.ret (x := (⟨"MoodFare$Joy", "mark", "(LMoodFare$Trail;LMoodFare$Held;)I"⟩ : MethodName)) (owner := "MoodFare$Joy") (ci := 8) (T := TX9) (trW_o hb hbt hbd) rfl 2 (va_Decl.of (C.hts _ q1395) (C.hts _ q1408)) q1394 q1397 q1403 q1404 q93 q1405 (by decide +kernel) rfl (by decide) (by decide) (Nat.le_of_ble_eq_true rfl) rfl dX8_size_15 (by omega) (by omega) (qI.k ?_)
  refine j_iadd C dX8_size_18 ?_
  exact j_iret C (by omega) (by omega) (pI.mk ⟨rfl, rfl⟩) dX8_size_19
set_option maxHeartbeats 400000 in
theorem kX9_size_8 (G : gl_T) (w : wd_T) (hG : GH G) (hD : GD G) (b tr d τ σ ha υ : Nat) (x y u : Int32) (fs : List Value) (p : Nat × (Nat → Int32)) (hb : w.1 b = some (σ, .inr (8, [.int x, .int y]))) (hbt : b ≠ tr) (hbd : b ≠ d) (htd : tr ≠ d) (hha : w.1 ha = some (υ, .inr (19, fs))) (hat : ha ≠ tr) (had : ha ≠ d) (hm : ∀ p : Nat × (Nat → Int32), p.1 ≤ 16 → gdP p → Mt G yX20_much cX20_much 1 (some .int) 0 [.ref ha] (trW G w tr d τ p) (qI u (trW G w tr d τ p)) 0 0) (hp : p.1 + 6 ≤ 16) (hgd : gdP p) : Mw G yX9_size cX9_size 3 (some .int) 5 [.ref b, .ref tr, .ref ha] (trW G w tr d τ p) (qI ((-(y + (nI 2 * (x + u))))) (trW G w tr d τ (tpV (tpV (tpV (tpV (tpV (tpV p 12) 11) 10) 24) 21) 20))) 0 0 := by
  refine ⟨Nat.le_of_ble_eq_true rfl, fun k C => ?_⟩
  have C : Cx G k cX9_size "MoodFare$Love" "size" 3 (some .int) 5 0 0 _ := C
  refine j_aload_n C dX9_size_0 rfl 1 rfl ?_
  refine j_bipush (v := nI 12) C dX9_size_1 rfl ?_
  refine j_callV (w := (trW G w tr d τ p)) C (kT_begins G w tr d τ p 12 htd (by show p.1 + 0 < 16; omega)) pV.ret (ci := 3) (T := TX3) (trW_t htd) rfl 1 q1406 q1364 q1365 q72 q1366 (by decide +kernel) rfl (by decide) (by decide) (Nat.le_of_ble_eq_true rfl) rfl dX9_size_3 (by omega) (by omega) (qV.k ?_)
  refine j_aload_n C dX9_size_6 rfl 0 rfl ?_
  refine j_aload_n C dX9_size_7 rfl 1 rfl ?_
  refine j_aload_n C dX9_size_8 rfl 2 rfl ?_
  refine j_callSU (w := (trW G w tr d τ (tpV p 12))) C ((kX8_size_8 G w hG hD b tr d τ σ ha υ x y u fs (tpV p 12) hb hbt hbd htd hha hat had hm (by show p.1 + 1 + 5 ≤ 16; omega) (gdP_tp hgd)).mt (by decide)) pI.ret (ci := 8) (T := TX9) (trW_o hb hbt hbd) rfl 2 q1441 q1885 q730 q1391 q92 q1392 (by decide +kernel) rfl (by decide) (by decide) (Nat.le_of_ble_eq_true rfl) rfl dX9_size_9 (by omega) (by omega) (qI.k ?_)
  refine j_ineg C dX9_size_12 ?_
  exact j_iret C (by omega) (by omega) (pI.mk ⟨rfl, rfl⟩) dX9_size_13
set_option maxHeartbeats 400000 in
theorem kX8_mark_9 (G : gl_T) (w : wd_T) (hG : GH G) (hD : GD G) (b tr d τ σ ha υ : Nat) (x y u : Int32) (fs : List Value) (p : Nat × (Nat → Int32)) (hb : w.1 b = some (σ, .inr (9, [.int x, .int y]))) (hbt : b ≠ tr) (hbd : b ≠ d) (htd : tr ≠ d) (hha : w.1 ha = some (υ, .inr (19, fs))) (hat : ha ≠ tr) (had : ha ≠ d) (hm : ∀ p : Nat × (Nat → Int32), p.1 ≤ 16 → gdP p → Mt G yX20_much cX20_much 1 (some .int) 0 [.ref ha] (trW G w tr d τ p) (qI u (trW G w tr d τ p)) 0 0) (hp : p.1 + 2 ≤ 16) (hgd : gdP p) : Mw G yX8_mark cX8_mark 3 (some .int) 2 [.ref b, .ref tr, .ref ha] (trW G w tr d τ p) (qI ((x + u)) (trW G w tr d τ (tpV (tpV p 21) 20))) 0 0 := by
  refine ⟨Nat.le_of_ble_eq_true rfl, fun k C => ?_⟩
  have C : Cx G k cX8_mark "MoodFare$Joy" "mark" 3 (some .int) 2 0 0 _ := C
  refine j_aload_n C dX8_mark_0 rfl 1 rfl ?_
  refine j_bipush (v := nI 21) C dX8_mark_1 rfl ?_
  refine j_callV (w := (trW G w tr d τ p)) C (kT_begins G w tr d τ p 21 htd (by show p.1 + 0 < 16; omega)) pV.ret (ci := 3) (T := TX3) (trW_t htd) rfl 1 q1393 q1364 q1365 q72 q1366 (by decide +kernel) rfl (by decide) (by decide) (Nat.le_of_ble_eq_true rfl) rfl dX8_mark_3 (by omega) (by omega) (qV.k ?_)
  refine j_aload_n C dX8_mark_6 rfl 0 rfl ?_
  refine j_aload_n C dX8_mark_7 rfl 1 rfl ?_
  refine j_aload_n C dX8_mark_8 rfl 2 rfl ?_
  refine j_in (w := (trW G w tr d τ (tpV p 21))) C (iv_D C hD (ci := 9) (Tt := TX10) (trW_o hb hbt hbd) rfl (Or.inr rfl) (List.mem_of_getElem? (show defaultWords_1[4]? = some _ from rfl)) (List.mem_of_getElem? (show defaultWords_1[5]? = some _ from rfl)) q1410 q721 q1411 (As := [.ref tr, .ref ha]) rfl rfl dX8_mark_9) (kX21_mark_9 G w hG hD b tr d τ σ ha υ x y u fs (tpV p 21) hb hbt hbd htd hha hat had hm (by show p.1 + 1 + 1 ≤ 16; omega) (gdP_tp hgd)).mb (Or.inr ⟨rfl, q1411⟩) (by decide +kernel) (by decide) (by decide) (Nat.le_of_ble_eq_true rfl) (by omega) (by omega) (qI.k ?_) (fun _ _ h => pI.nt h)
  refine j_aload_n C dX8_mark_12 rfl 2 rfl ?_
  refine j_callF (w := (trW G w tr d τ (tpV (tpV p 21) 20))) C (hm (tpV (tpV p 21) 20) (by show p.1 + 2 ≤ 16; omega) (gdP_tp (gdP_tp hgd))) pI.ret (ci := 19) (T := TX20) (trW_o hha hat had) rfl 0 (C.fw hG ⟨q1430, q1429, q1435, q1433, q1431, by decide⟩) q1428 q1432 q1434 q108 q1436 (by decide +kernel) rfl (by decide) (by decide) (Nat.le_of_ble_eq_true rfl) rfl dX8_mark_13 (by omega) (by omega) (qI.k ?_)
  refine j_iadd C dX8_mark_18 ?_
  exact j_iret C (by omega) (by omega) (pI.mk ⟨rfl, rfl⟩) dX8_mark_19
set_option maxHeartbeats 400000 in
theorem kX10_mark_9 (G : gl_T) (w : wd_T) (hG : GH G) (hD : GD G) (b tr d τ σ ha υ : Nat) (x y u : Int32) (fs : List Value) (p : Nat × (Nat → Int32)) (hb : w.1 b = some (σ, .inr (9, [.int x, .int y]))) (hbt : b ≠ tr) (hbd : b ≠ d) (htd : tr ≠ d) (hha : w.1 ha = some (υ, .inr (19, fs))) (hat : ha ≠ tr) (had : ha ≠ d) (hm : ∀ p : Nat × (Nat → Int32), p.1 ≤ 16 → gdP p → Mt G yX20_much cX20_much 1 (some .int) 0 [.ref ha] (trW G w tr d τ p) (qI u (trW G w tr d τ p)) 0 0) (hp : p.1 + 3 ≤ 16) (hgd : gdP p) : Mw G yX10_mark cX10_mark 3 (some .int) 3 [.ref b, .ref tr, .ref ha] (trW G w tr d τ p) (qI (((x + u) - nI 1000)) (trW G w tr d τ (tpV (tpV (tpV p 22) 21) 20))) 0 0 := by
  refine ⟨Nat.le_of_ble_eq_true rfl, fun k C => ?_⟩
  have C : Cx G k cX10_mark "MoodFare$Haste" "mark" 3 (some .int) 3 0 0 _ := C
  refine j_aload_n C dX10_mark_0 rfl 1 rfl ?_
  refine j_bipush (v := nI 22) C dX10_mark_1 rfl ?_
  refine j_callV (w := (trW G w tr d τ p)) C (kT_begins G w tr d τ p 22 htd (by show p.1 + 0 < 16; omega)) pV.ret (ci := 3) (T := TX3) (trW_t htd) rfl 1 q1401 q1364 q1365 q72 q1366 (by decide +kernel) rfl (by decide) (by decide) (Nat.le_of_ble_eq_true rfl) rfl dX10_mark_3 (by omega) (by omega) (qV.k ?_)
  refine j_aload_n C dX10_mark_6 rfl 0 rfl ?_
  refine j_aload_n C dX10_mark_7 rfl 1 rfl ?_
  refine j_aload_n C dX10_mark_8 rfl 2 rfl ?_
  refine j_callSU (w := (trW G w tr d τ (tpV p 22))) C ((kX8_mark_9 G w hG hD b tr d τ σ ha υ x y u fs (tpV p 22) hb hbt hbd htd hha hat had hm (by show p.1 + 1 + 2 ≤ 16; omega) (gdP_tp hgd)).mt (by decide)) pI.ret (ci := 9) (T := TX10) (trW_o hb hbt hbd) rfl 2 q1402 q1397 q739 q1395 q92 q1408 (by decide +kernel) rfl (by decide) (by decide) (Nat.le_of_ble_eq_true rfl) rfl dX10_mark_9 (by omega) (by omega) (qI.k ?_)
  refine j_sipush (v := nI 1000) C dX10_mark_12 rfl ?_
  refine j_isub C dX10_mark_15 ?_
  exact j_iret C (by omega) (by omega) (pI.mk ⟨rfl, rfl⟩) dX10_mark_16
set_option maxHeartbeats 400000 in
theorem kX8_size_9 (G : gl_T) (w : wd_T) (hG : GH G) (hD : GD G) (b tr d τ σ ha υ : Nat) (x y u : Int32) (fs : List Value) (p : Nat × (Nat → Int32)) (hb : w.1 b = some (σ, .inr (9, [.int x, .int y]))) (hbt : b ≠ tr) (hbd : b ≠ d) (htd : tr ≠ d) (hha : w.1 ha = some (υ, .inr (19, fs))) (hat : ha ≠ tr) (had : ha ≠ d) (hm : ∀ p : Nat × (Nat → Int32), p.1 ≤ 16 → gdP p → Mt G yX20_much cX20_much 1 (some .int) 0 [.ref ha] (trW G w tr d τ p) (qI u (trW G w tr d τ p)) 0 0) (hp : p.1 + 5 ≤ 16) (hgd : gdP p) : Mw G yX8_size cX8_size 3 (some .int) 4 [.ref b, .ref tr, .ref ha] (trW G w tr d τ p) (qI ((y + ((x + u) - nI 1000))) (trW G w tr d τ (tpV (tpV (tpV (tpV (tpV p 11) 10) 22) 21) 20))) 0 0 := by
  refine ⟨Nat.le_of_ble_eq_true rfl, fun k C => ?_⟩
  have C : Cx G k cX8_size "MoodFare$Joy" "size" 3 (some .int) 4 0 0 _ := C
  refine j_aload_n C dX8_size_0 rfl 1 rfl ?_
  refine j_bipush (v := nI 11) C dX8_size_1 rfl ?_
  refine j_callV (w := (trW G w tr d τ p)) C (kT_begins G w tr d τ p 11 htd (by show p.1 + 0 < 16; omega)) pV.ret (ci := 3) (T := TX3) (trW_t htd) rfl 1 q1393 q1364 q1365 q72 q1366 (by decide +kernel) rfl (by decide) (by decide) (Nat.le_of_ble_eq_true rfl) rfl dX8_size_3 (by omega) (by omega) (qV.k ?_)
  refine j_aload_n C dX8_size_6 rfl 0 rfl ?_
  refine j_aload_n C dX8_size_7 rfl 1 rfl ?_
  refine j_aload_n C dX8_size_8 rfl 2 rfl ?_
  refine j_in (w := (trW G w tr d τ (tpV p 11))) C (iv_D C hD (ci := 9) (Tt := TX10) (trW_o hb hbt hbd) rfl (Or.inl rfl) (List.mem_of_getElem? (show defaultWords_1[3]? = some _ from rfl)) (List.mem_of_getElem? (show defaultWords_1[1]? = some _ from rfl)) q1367 q721 q1368 (As := [.ref tr, .ref ha]) rfl rfl dX8_size_9) (kX21_size_9 G w hG hD b tr d τ σ ha υ x y u fs (tpV p 11) hb hbt hbd htd hha hat had hm (by show p.1 + 1 + 1 ≤ 16; omega) (gdP_tp hgd)).mb (Or.inr ⟨rfl, q1368⟩) (by decide +kernel) (by decide) (by decide) (Nat.le_of_ble_eq_true rfl) (by omega) (by omega) (qI.k ?_) (fun _ _ h => pI.nt h)
  refine j_aload_n C dX8_size_12 rfl 0 rfl ?_
  refine j_aload_n C dX8_size_13 rfl 1 rfl ?_
  refine j_aload_n C dX8_size_14 rfl 2 rfl ?_
  refine j_callA (w := (trW G w tr d τ (tpV (tpV p 11) 10))) C ((kX10_mark_9 G w hG hD b tr d τ σ ha υ x y u fs (tpV (tpV p 11) 10) hb hbt hbd htd hha hat had hm (by show p.1 + 2 + 3 ≤ 16; omega) (gdP_tp (gdP_tp hgd))).mt (by decide)) pI.ret (x := (⟨"MoodFare$Joy", "mark", "(LMoodFare$Trail;LMoodFare$Held;)I"⟩ : MethodName)) (owner := "MoodFare$Joy") (ci := 9) (T := TX10) (trW_o hb hbt hbd) rfl 2 (va_Decl.of (C.hts _ q1395) (C.hts _ q1408)) q1394 q1397 q1398 q1399 q94 q1400 (by decide +kernel) rfl (by decide) (by decide) (Nat.le_of_ble_eq_true rfl) rfl dX8_size_15 (by omega) (by omega) (qI.k ?_)
  refine j_iadd C dX8_size_18 ?_
  exact j_iret C (by omega) (by omega) (pI.mk ⟨rfl, rfl⟩) dX8_size_19
set_option maxHeartbeats 400000 in
theorem kX11_size_10 (G : gl_T) (w : wd_T) (hG : GH G) (hD : GD G) (b tr d τ σ ha υ : Nat) (x y u : Int32) (fs : List Value) (p : Nat × (Nat → Int32)) (hb : w.1 b = some (σ, .inr (10, [.int x, .int y]))) (hbt : b ≠ tr) (hbd : b ≠ d) (htd : tr ≠ d) (hha : w.1 ha = some (υ, .inr (19, fs))) (hat : ha ≠ tr) (had : ha ≠ d) (hm : ∀ p : Nat × (Nat → Int32), p.1 ≤ 16 → gdP p → Mt G yX20_much cX20_much 1 (some .int) 0 [.ref ha] (trW G w tr d τ p) (qI u (trW G w tr d τ p)) 0 0) (hp : p.1 + 2 ≤ 16) (hgd : gdP p) : Mw G yX11_size cX11_size 3 (some .int) 2 [.ref b, .ref tr, .ref ha] (trW G w tr d τ p) (qI ((y - nI 100)) (trW G w tr d τ (tpV (tpV p 13) 10))) 0 0 := by
  refine ⟨Nat.le_of_ble_eq_true rfl, fun k C => ?_⟩
  have C : Cx G k cX11_size "MoodFare$Grief" "size" 3 (some .int) 2 0 0 _ := C
  refine j_aload_n C dX11_size_0 rfl 1 rfl ?_
  refine j_bipush (v := nI 13) C dX11_size_1 rfl ?_
  refine j_callV (w := (trW G w tr d τ p)) C (kT_begins G w tr d τ p 13 htd (by show p.1 + 0 < 16; omega)) pV.ret (ci := 3) (T := TX3) (trW_t htd) rfl 1 q1363 q1364 q1365 q72 q1366 (by decide +kernel) rfl (by decide) (by decide) (Nat.le_of_ble_eq_true rfl) rfl dX11_size_3 (by omega) (by omega) (qV.k ?_)
  refine j_aload_n C dX11_size_6 rfl 0 rfl ?_
  refine j_aload_n C dX11_size_7 rfl 1 rfl ?_
  refine j_aload_n C dX11_size_8 rfl 2 rfl ?_
  refine j_in (w := (trW G w tr d τ (tpV p 13))) C (iv_D C hD (ci := 10) (Tt := TX11) (trW_o hb hbt hbd) rfl (Or.inl rfl) (List.mem_of_getElem? (show defaultWords_1[2]? = some _ from rfl)) (List.mem_of_getElem? (show defaultWords_1[1]? = some _ from rfl)) q1367 q748 q1368 (As := [.ref tr, .ref ha]) rfl rfl dX11_size_9) (kX21_size_10 G w hG hD b tr d τ σ ha υ x y u fs (tpV p 13) hb hbt hbd htd hha hat had hm (by show p.1 + 1 + 1 ≤ 16; omega) (gdP_tp hgd)).mb (Or.inr ⟨rfl, q1368⟩) (by decide +kernel) (by decide) (by decide) (Nat.le_of_ble_eq_true rfl) (by omega) (by omega) (qI.k ?_) (fun _ _ h => pI.nt h)
  refine j_bipush (v := nI 100) C dX11_size_12 rfl ?_
  refine j_isub C dX11_size_14 ?_
  exact j_iret C (by omega) (by omega) (pI.mk ⟨rfl, rfl⟩) dX11_size_15
set_option maxHeartbeats 400000 in
theorem kX11_mark_10 (G : gl_T) (w : wd_T) (hG : GH G) (hD : GD G) (b tr d τ σ ha υ : Nat) (x y u : Int32) (fs : List Value) (p : Nat × (Nat → Int32)) (hb : w.1 b = some (σ, .inr (10, [.int x, .int y]))) (hbt : b ≠ tr) (hbd : b ≠ d) (htd : tr ≠ d) (hha : w.1 ha = some (υ, .inr (19, fs))) (hat : ha ≠ tr) (had : ha ≠ d) (hm : ∀ p : Nat × (Nat → Int32), p.1 ≤ 16 → gdP p → Mt G yX20_much cX20_much 1 (some .int) 0 [.ref ha] (trW G w tr d τ p) (qI u (trW G w tr d τ p)) 0 0) (hp : p.1 + 4 ≤ 16) (hgd : gdP p) : Mw G yX11_mark cX11_mark 3 (some .int) 4 [.ref b, .ref tr, .ref ha] (trW G w tr d τ p) (qI ((x - (y - nI 100))) (trW G w tr d τ (tpV (tpV (tpV (tpV p 23) 20) 13) 10))) 0 0 := by
  refine ⟨Nat.le_of_ble_eq_true rfl, fun k C => ?_⟩
  have C : Cx G k cX11_mark "MoodFare$Grief" "mark" 3 (some .int) 4 0 0 _ := C
  refine j_aload_n C dX11_mark_0 rfl 1 rfl ?_
  refine j_bipush (v := nI 23) C dX11_mark_1 rfl ?_
  refine j_callV (w := (trW G w tr d τ p)) C (kT_begins G w tr d τ p 23 htd (by show p.1 + 0 < 16; omega)) pV.ret (ci := 3) (T := TX3) (trW_t htd) rfl 1 q1363 q1364 q1365 q72 q1366 (by decide +kernel) rfl (by decide) (by decide) (Nat.le_of_ble_eq_true rfl) rfl dX11_mark_3 (by omega) (by omega) (qV.k ?_)
  refine j_aload_n C dX11_mark_6 rfl 0 rfl ?_
  refine j_aload_n C dX11_mark_7 rfl 1 rfl ?_
  refine j_aload_n C dX11_mark_8 rfl 2 rfl ?_
  refine j_in (w := (trW G w tr d τ (tpV p 23))) C (iv_D C hD (ci := 10) (Tt := TX11) (trW_o hb hbt hbd) rfl (Or.inr rfl) (List.mem_of_getElem? (show defaultWords_1[7]? = some _ from rfl)) (List.mem_of_getElem? (show defaultWords_1[5]? = some _ from rfl)) q1410 q748 q1411 (As := [.ref tr, .ref ha]) rfl rfl dX11_mark_9) (kX21_mark_10 G w hG hD b tr d τ σ ha υ x y u fs (tpV p 23) hb hbt hbd htd hha hat had hm (by show p.1 + 1 + 1 ≤ 16; omega) (gdP_tp hgd)).mb (Or.inr ⟨rfl, q1411⟩) (by decide +kernel) (by decide) (by decide) (Nat.le_of_ble_eq_true rfl) (by omega) (by omega) (qI.k ?_) (fun _ _ h => pI.nt h)
  refine j_aload_n C dX11_mark_12 rfl 0 rfl ?_
  refine j_aload_n C dX11_mark_13 rfl 1 rfl ?_
  refine j_aload_n C dX11_mark_14 rfl 2 rfl ?_
  refine j_callV (w := (trW G w tr d τ (tpV (tpV p 23) 20))) C ((kX11_size_10 G w hG hD b tr d τ σ ha υ x y u fs (tpV (tpV p 23) 20) hb hbt hbd htd hha hat had hm (by show p.1 + 2 + 2 ≤ 16; omega) (gdP_tp (gdP_tp hgd))).mt (by decide)) pI.ret (ci := 10) (T := TX11) (trW_o hb hbt hbd) rfl 2 q1450 q1361 q1887 q95 q1362 (by decide +kernel) rfl (by decide) (by decide) (Nat.le_of_ble_eq_true rfl) rfl dX11_mark_15 (by omega) (by omega) (qI.k ?_)
  refine j_isub C dX11_mark_18 ?_
  exact j_iret C (by omega) (by omega) (pI.mk ⟨rfl, rfl⟩) dX11_mark_19
set_option maxHeartbeats 400000 in
theorem kX11_size_11 (G : gl_T) (w : wd_T) (hG : GH G) (hD : GD G) (b tr d τ σ ha υ : Nat) (x y u : Int32) (fs : List Value) (p : Nat × (Nat → Int32)) (hb : w.1 b = some (σ, .inr (11, [.int x, .int y]))) (hbt : b ≠ tr) (hbd : b ≠ d) (htd : tr ≠ d) (hha : w.1 ha = some (υ, .inr (19, fs))) (hat : ha ≠ tr) (had : ha ≠ d) (hm : ∀ p : Nat × (Nat → Int32), p.1 ≤ 16 → gdP p → Mt G yX20_much cX20_much 1 (some .int) 0 [.ref ha] (trW G w tr d τ p) (qI u (trW G w tr d τ p)) 0 0) (hp : p.1 + 2 ≤ 16) (hgd : gdP p) : Mw G yX11_size cX11_size 3 (some .int) 2 [.ref b, .ref tr, .ref ha] (trW G w tr d τ p) (qI ((y - nI 100)) (trW G w tr d τ (tpV (tpV p 13) 10))) 0 0 := by
  refine ⟨Nat.le_of_ble_eq_true rfl, fun k C => ?_⟩
  have C : Cx G k cX11_size "MoodFare$Grief" "size" 3 (some .int) 2 0 0 _ := C
  refine j_aload_n C dX11_size_0 rfl 1 rfl ?_
  refine j_bipush (v := nI 13) C dX11_size_1 rfl ?_
  refine j_callV (w := (trW G w tr d τ p)) C (kT_begins G w tr d τ p 13 htd (by show p.1 + 0 < 16; omega)) pV.ret (ci := 3) (T := TX3) (trW_t htd) rfl 1 q1363 q1364 q1365 q72 q1366 (by decide +kernel) rfl (by decide) (by decide) (Nat.le_of_ble_eq_true rfl) rfl dX11_size_3 (by omega) (by omega) (qV.k ?_)
  refine j_aload_n C dX11_size_6 rfl 0 rfl ?_
  refine j_aload_n C dX11_size_7 rfl 1 rfl ?_
  refine j_aload_n C dX11_size_8 rfl 2 rfl ?_
  refine j_in (w := (trW G w tr d τ (tpV p 13))) C (iv_D C hD (ci := 11) (Tt := TX12) (trW_o hb hbt hbd) rfl (Or.inl rfl) (List.mem_of_getElem? (show defaultWords_1[2]? = some _ from rfl)) (List.mem_of_getElem? (show defaultWords_1[1]? = some _ from rfl)) q1367 q748 q1368 (As := [.ref tr, .ref ha]) rfl rfl dX11_size_9) (kX21_size_11 G w hG hD b tr d τ σ ha υ x y u fs (tpV p 13) hb hbt hbd htd hha hat had hm (by show p.1 + 1 + 1 ≤ 16; omega) (gdP_tp hgd)).mb (Or.inr ⟨rfl, q1368⟩) (by decide +kernel) (by decide) (by decide) (Nat.le_of_ble_eq_true rfl) (by omega) (by omega) (qI.k ?_) (fun _ _ h => pI.nt h)
  refine j_bipush (v := nI 100) C dX11_size_12 rfl ?_
  refine j_isub C dX11_size_14 ?_
  exact j_iret C (by omega) (by omega) (pI.mk ⟨rfl, rfl⟩) dX11_size_15
set_option maxHeartbeats 400000 in
theorem kX12_size_11 (G : gl_T) (w : wd_T) (hG : GH G) (hD : GD G) (b tr d τ σ ha υ : Nat) (x y u : Int32) (fs : List Value) (p : Nat × (Nat → Int32)) (hb : w.1 b = some (σ, .inr (11, [.int x, .int y]))) (hbt : b ≠ tr) (hbd : b ≠ d) (htd : tr ≠ d) (hha : w.1 ha = some (υ, .inr (19, fs))) (hat : ha ≠ tr) (had : ha ≠ d) (hm : ∀ p : Nat × (Nat → Int32), p.1 ≤ 16 → gdP p → Mt G yX20_much cX20_much 1 (some .int) 0 [.ref ha] (trW G w tr d τ p) (qI u (trW G w tr d τ p)) 0 0) (hp : p.1 + 3 ≤ 16) (hgd : gdP p) : Mw G yX12_size cX12_size 3 (some .int) 3 [.ref b, .ref tr, .ref ha] (trW G w tr d τ p) (qI ((nI 2 * (y - nI 100))) (trW G w tr d τ (tpV (tpV (tpV p 14) 13) 10))) 0 0 := by
  refine ⟨Nat.le_of_ble_eq_true rfl, fun k C => ?_⟩
  have C : Cx G k cX12_size "MoodFare$Ruin" "size" 3 (some .int) 3 0 0 _ := C
  refine j_aload_n C dX12_size_0 rfl 1 rfl ?_
  refine j_bipush (v := nI 14) C dX12_size_1 rfl ?_
  refine j_callV (w := (trW G w tr d τ p)) C (kT_begins G w tr d τ p 14 htd (by show p.1 + 0 < 16; omega)) pV.ret (ci := 3) (T := TX3) (trW_t htd) rfl 1 q1445 q1364 q1365 q72 q1366 (by decide +kernel) rfl (by decide) (by decide) (Nat.le_of_ble_eq_true rfl) rfl dX12_size_3 (by omega) (by omega) (qV.k ?_)
  refine j_iconst (v := nI 2) C dX12_size_6 rfl ?_
  refine j_aload_n C dX12_size_7 rfl 0 rfl ?_
  refine j_aload_n C dX12_size_8 rfl 1 rfl ?_
  refine j_aload_n C dX12_size_9 rfl 2 rfl ?_
  refine j_callSU (w := (trW G w tr d τ (tpV p 14))) C ((kX11_size_11 G w hG hD b tr d τ σ ha υ x y u fs (tpV p 14) hb hbt hbd htd hha hat had hm (by show p.1 + 1 + 2 ≤ 16; omega) (gdP_tp hgd)).mt (by decide)) pI.ret (ci := 11) (T := TX12) (trW_o hb hbt hbd) rfl 2 q1446 q1886 q757 q1361 q95 q1362 (by decide +kernel) rfl (by decide) (by decide) (Nat.le_of_ble_eq_true rfl) rfl dX12_size_10 (by omega) (by omega) (qI.k ?_)
  refine j_imul C dX12_size_13 ?_
  exact j_iret C (by omega) (by omega) (pI.mk ⟨rfl, rfl⟩) dX12_size_14
set_option maxHeartbeats 400000 in
theorem kX11_mark_11 (G : gl_T) (w : wd_T) (hG : GH G) (hD : GD G) (b tr d τ σ ha υ : Nat) (x y u : Int32) (fs : List Value) (p : Nat × (Nat → Int32)) (hb : w.1 b = some (σ, .inr (11, [.int x, .int y]))) (hbt : b ≠ tr) (hbd : b ≠ d) (htd : tr ≠ d) (hha : w.1 ha = some (υ, .inr (19, fs))) (hat : ha ≠ tr) (had : ha ≠ d) (hm : ∀ p : Nat × (Nat → Int32), p.1 ≤ 16 → gdP p → Mt G yX20_much cX20_much 1 (some .int) 0 [.ref ha] (trW G w tr d τ p) (qI u (trW G w tr d τ p)) 0 0) (hp : p.1 + 5 ≤ 16) (hgd : gdP p) : Mw G yX11_mark cX11_mark 3 (some .int) 4 [.ref b, .ref tr, .ref ha] (trW G w tr d τ p) (qI ((x - (nI 2 * (y - nI 100)))) (trW G w tr d τ (tpV (tpV (tpV (tpV (tpV p 23) 20) 14) 13) 10))) 0 0 := by
  refine ⟨Nat.le_of_ble_eq_true rfl, fun k C => ?_⟩
  have C : Cx G k cX11_mark "MoodFare$Grief" "mark" 3 (some .int) 4 0 0 _ := C
  refine j_aload_n C dX11_mark_0 rfl 1 rfl ?_
  refine j_bipush (v := nI 23) C dX11_mark_1 rfl ?_
  refine j_callV (w := (trW G w tr d τ p)) C (kT_begins G w tr d τ p 23 htd (by show p.1 + 0 < 16; omega)) pV.ret (ci := 3) (T := TX3) (trW_t htd) rfl 1 q1363 q1364 q1365 q72 q1366 (by decide +kernel) rfl (by decide) (by decide) (Nat.le_of_ble_eq_true rfl) rfl dX11_mark_3 (by omega) (by omega) (qV.k ?_)
  refine j_aload_n C dX11_mark_6 rfl 0 rfl ?_
  refine j_aload_n C dX11_mark_7 rfl 1 rfl ?_
  refine j_aload_n C dX11_mark_8 rfl 2 rfl ?_
  refine j_in (w := (trW G w tr d τ (tpV p 23))) C (iv_D C hD (ci := 11) (Tt := TX12) (trW_o hb hbt hbd) rfl (Or.inr rfl) (List.mem_of_getElem? (show defaultWords_1[7]? = some _ from rfl)) (List.mem_of_getElem? (show defaultWords_1[5]? = some _ from rfl)) q1410 q748 q1411 (As := [.ref tr, .ref ha]) rfl rfl dX11_mark_9) (kX21_mark_11 G w hG hD b tr d τ σ ha υ x y u fs (tpV p 23) hb hbt hbd htd hha hat had hm (by show p.1 + 1 + 1 ≤ 16; omega) (gdP_tp hgd)).mb (Or.inr ⟨rfl, q1411⟩) (by decide +kernel) (by decide) (by decide) (Nat.le_of_ble_eq_true rfl) (by omega) (by omega) (qI.k ?_) (fun _ _ h => pI.nt h)
  refine j_aload_n C dX11_mark_12 rfl 0 rfl ?_
  refine j_aload_n C dX11_mark_13 rfl 1 rfl ?_
  refine j_aload_n C dX11_mark_14 rfl 2 rfl ?_
  refine j_callA (w := (trW G w tr d τ (tpV (tpV p 23) 20))) C ((kX12_size_11 G w hG hD b tr d τ σ ha υ x y u fs (tpV (tpV p 23) 20) hb hbt hbd htd hha hat had hm (by show p.1 + 2 + 3 ≤ 16; omega) (gdP_tp (gdP_tp hgd))).mt (by decide)) pI.ret (x := (⟨"MoodFare$Grief", "size", "(LMoodFare$Trail;LMoodFare$Held;)I"⟩ : MethodName)) (owner := "MoodFare$Grief") (ci := 11) (T := TX12) (trW_o hb hbt hbd) rfl 2 (va_Decl.of (C.hts _ q1361) (C.hts _ q1362)) q1450 q1886 q1888 q1443 q96 q1444 (by decide +kernel) rfl (by decide) (by decide) (Nat.le_of_ble_eq_true rfl) rfl dX11_mark_15 (by omega) (by omega) (qI.k ?_)
  refine j_isub C dX11_mark_18 ?_
  exact j_iret C (by omega) (by omega) (pI.mk ⟨rfl, rfl⟩) dX11_mark_19
