/-! ===== J: rows that touch the heap ===== -/
set_option maxRecDepth 100000
/-- an array cell of ints (also of bytes, shorts, booleans), of references -/
abbrev ai (c n : Nat) (f : Nat → Int32) : va_E := .inl (c, n, .inl f)
abbrev aq (c n : Nat) (f : Nat → Option Nat) : va_E := .inl (c, n, .inr (.inr (.inr (.inr f))))
section JH
variable {G : gl_T} {k : KX} {cc : ByteArray} {own nm : String} {nL hh mc ms : Nat} {rt : Option FieldType} {post : Outcome → wd_T → Prop}
variable {w : wd_T} {lv : List (Nat × Value)} {pc ce sl : Nat} {st : List Value} {a τ : Nat}
theorem lc_add {locs : List Loc} {b i : Nat} (h : ∀ q ∈ locs, gl_fr G q.base) (hb : gl_fr G b) : ∀ q ∈ locs ++ [⟨b, i⟩], gl_fr G q.base := by
  intro q hq
  rcases List.mem_append.mp hq with h1 | h1
  · exact h q h1
  · rw [List.mem_singleton.mp h1]; exact hb
theorem j_get (C : Cx G k cc own nm nL rt hh mc ms post) {ref D : String} {T : u_T} {N ci index : Nat} {fs : List Value} {v : Value} (hin : ∀ w ∈ u_ws D T N, w ∈ lw_all) (hc : jcl[ci]? = some (D, T, N)) (he : w.1 a = some (τ, .inr (ci, fs))) (i : Nat) (hi : i < N) (hl : Cond.fieldLink own index ref (T i).2.1 (T i).2.2.1 ∈ lw_all) (hsame : ∀ x, (k_s k).fieldFound? (T i).1 (T i).2.1 (T i).2.2.1 = some x → (k_s k).fieldFound? ref (T i).2.1 (T i).2.2.1 = some x) (hv : fs[i]? = some v) (hd : decode cc pc = .ok (.getfield index, 3)) (h : J G k w lv (pc + 3) (v :: st) ce sl) : J G k w lv pc (.ref a :: st) ce sl :=
  fun ls H locs hl2 hp hf => va_get (D := gl_D G) (cl := jcl) (ws := [(a, .inr (ci, fs))]) C.hx C.hb C.hts hin C.hown C.hK.1 (hp.at' he) 0 rfl hc i hi (C.hts _ hl) hsame hv hd (h ls H locs hl2 hp hf)
theorem j_getN (C : Cx G k cc own nm nL rt hh mc ms post) {ref D host : String} {T : u_T} {N ci index : Nat} {fs : List Value} {v : Value} (hin : ∀ w ∈ u_ws D T N, w ∈ lw_all) (hc : jcl[ci]? = some (D, T, N)) (he : w.1 a = some (τ, .inr (ci, fs))) (i : Nat) (hi : i < N) (hl : va_Nw (Cond.fieldLinkNest own index ref (T i).2.1 (T i).2.2.1 host) (k_s k)) (hsame : ∀ x, (k_s k).fieldFound? (T i).1 (T i).2.1 (T i).2.2.1 = some x → (k_s k).fieldFound? ref (T i).2.1 (T i).2.2.1 = some x) (hv : fs[i]? = some v) (hd : decode cc pc = .ok (.getfield index, 3)) (h : J G k w lv (pc + 3) (v :: st) ce sl) : J G k w lv pc (.ref a :: st) ce sl :=
  fun ls H locs hl2 hp hf => va_getN (D := gl_D G) (cl := jcl) (ws := [(a, .inr (ci, fs))]) C.hx C.hb C.hts hin C.hown C.hK.1 (hp.at' he) 0 rfl hc i hi (va_Nw.use rfl hl) hsame hv hd (h ls H locs hl2 hp hf)
theorem j_put (C : Cx G k cc own nm nL rt hh mc ms post) {ref D : String} {T : u_T} {N ci index : Nat} {fs fs' : List Value} {v : Value} {ty0 : Nat → FieldType} (hin : ∀ w ∈ u_ws D T N, w ∈ lw_all) (hty : ∀ k, k < N → parseFieldDescriptor (T k).2.2.1 = some (ty0 k)) (hnm : ∀ a, a < N → ∀ b, b < N → a ≠ b → (T a).2.1 ≠ (T b).2.1) (hc : jcl[ci]? = some (D, T, N)) (he : w.1 a = some (τ, .inr (ci, fs))) (i : Nat) (hi : i < N) (hl : Cond.fieldLink own index ref (T i).2.1 (T i).2.2.1 ∈ lw_all) (hsame : ∀ x, (k_s k).fieldFound? (T i).1 (T i).2.1 (T i).2.2.1 = some x → (k_s k).fieldFound? ref (T i).2.1 (T i).2.2.1 = some x) (hfin : (T i).2.2.2 = false) (hn : narrow (ty0 i) v = v) (hfit : fits (ty0 i) v = true) (hlen : i < fs.length) (hs : fs.set i v = fs') (hd : decode cc pc = .ok (.putfield index, 3)) (h : J G k (mu w.1 a τ (.inr (ci, fs')), w.2) lv (pc + 3) st ce sl) : J G k w lv pc (v :: .ref a :: st) ce sl := by
  intro ls H locs hl2 hpp hf
  subst hs
  have hK := C.hK.1
  have hap := va_apart (own := own) C.hts hin ty0 hty hnm hK hc
  obtain ⟨hA, r, h1, cell, q1, q2, q3, q4⟩ := hpp.2.2.2 a τ _ he
  have hr : r = (D, T, N) := Option.some.inj (h1.symm.trans hc)
  subst hr
  obtain ⟨hS, hfc, kC, hkC, hkind⟩ := hK.1 ci _ hc
  obtain ⟨cf, kf, fi, f, hif, hsl⟩ := hS i hi
  have hlay := C.hts _ (hin _ (u_in_lay hi))
  unfold u_lay at hlay
  rw [if_neg (by rw [hfin]; decide)] at hlay
  have hst := (u_facts hfc hkC (u_lays C.hts hin hi) hif).1
  have h6 := u_store hfc hkC hkind hlay hif (hty i hi) hn hfit
  refine W.putK C.hx C.hb (f := f) ⟨C.hown, C.hts _ hl, ⟨_, _, _, hsame _ hif⟩, hst⟩ (by rw [q2]; exact h6) q1 q3 (by rw [hsl]; exact k2_hasslot (q4 i hi)) rfl rfl hd fun H' e1 e2 e3 => ?_
  rw [hsl] at e1 ⊢
  exact h ls H' _ hl2 (hpp.set he ⟨_, hc, t_OB.to (V := updV (vp_V fs) i v) ⟨_, e1, q2, q3, t_set q4 hap hi v⟩ (fun j _ => vp_updV_set hlen v j)⟩ e2 e3) (lc_add hf hA)
theorem j_putN (C : Cx G k cc own nm nL rt hh mc ms post) {ref D host : String} {T : u_T} {N ci index : Nat} {fs fs' : List Value} {v : Value} {ty0 : Nat → FieldType} (hin : ∀ w ∈ u_ws D T N, w ∈ lw_all) (hty : ∀ k, k < N → parseFieldDescriptor (T k).2.2.1 = some (ty0 k)) (hnm : ∀ a, a < N → ∀ b, b < N → a ≠ b → (T a).2.1 ≠ (T b).2.1) (hc : jcl[ci]? = some (D, T, N)) (he : w.1 a = some (τ, .inr (ci, fs))) (i : Nat) (hi : i < N) (hl : va_Nw (Cond.fieldLinkNest own index ref (T i).2.1 (T i).2.2.1 host) (k_s k)) (hsame : ∀ x, (k_s k).fieldFound? (T i).1 (T i).2.1 (T i).2.2.1 = some x → (k_s k).fieldFound? ref (T i).2.1 (T i).2.2.1 = some x) (hfin : (T i).2.2.2 = false) (hn : narrow (ty0 i) v = v) (hfit : fits (ty0 i) v = true) (hlen : i < fs.length) (hs : fs.set i v = fs') (hd : decode cc pc = .ok (.putfield index, 3)) (h : J G k (mu w.1 a τ (.inr (ci, fs')), w.2) lv (pc + 3) st ce sl) : J G k w lv pc (v :: .ref a :: st) ce sl := by
  intro ls H locs hl2 hpp hf
  subst hs
  have hK := C.hK.1
  have hap := va_apart (own := own) C.hts hin ty0 hty hnm hK hc
  obtain ⟨hA, r, h1, cell, q1, q2, q3, q4⟩ := hpp.2.2.2 a τ _ he
  have hr : r = (D, T, N) := Option.some.inj (h1.symm.trans hc)
  subst hr
  obtain ⟨hS, hfc, kC, hkC, hkind⟩ := hK.1 ci _ hc
  obtain ⟨cf, kf, fi, f, hif, hsl⟩ := hS i hi
  have hlay := C.hts _ (hin _ (u_in_lay hi))
  unfold u_lay at hlay
  rw [if_neg (by rw [hfin]; decide)] at hlay
  have hst := (u_facts hfc hkC (u_lays C.hts hin hi) hif).1
  have h6 := u_store hfc hkC hkind hlay hif (hty i hi) hn hfit
  refine va_WputK C.hx C.hb (f := f) C.hown (va_Nw.use rfl hl) (hsame _ hif) hst (by rw [q2]; exact h6) q1 q3 (by rw [hsl]; exact k2_hasslot (q4 i hi)) rfl rfl hd fun H' e1 e2 e3 => ?_
  rw [hsl] at e1 ⊢
  exact h ls H' _ hl2 (hpp.set he ⟨_, hc, t_OB.to (V := updV (vp_V fs) i v) ⟨_, e1, q2, q3, t_set q4 hap hi v⟩ (fun j _ => vp_updV_set hlen v j)⟩ e2 e3) (lc_add hf hA)
theorem j_putF (C : Cx G k cc own "<init>" nL rt hh mc ms post) {ref D : String} {T : u_T} {N ci index : Nat} {fs fs' : List Value} {v : Value} {ty0 : Nat → FieldType} (hin : ∀ w ∈ u_ws D T N, w ∈ lw_all) (hty : ∀ k, k < N → parseFieldDescriptor (T k).2.2.1 = some (ty0 k)) (hnm : ∀ a, a < N → ∀ b, b < N → a ≠ b → (T a).2.1 ≠ (T b).2.1) (hc : jcl[ci]? = some (D, T, N)) (he : w.1 a = some (τ, .inr (ci, fs))) (i : Nat) (hi : i < N) (hl : Cond.fieldLink own index ref (T i).2.1 (T i).2.2.1 ∈ lw_all) (hsame : ∀ x, (k_s k).fieldFound? (T i).1 (T i).2.1 (T i).2.2.1 = some x → (k_s k).fieldFound? ref (T i).2.1 (T i).2.2.1 = some x) (hfin : (T i).2.2.2 = true) (hdecl : (T i).1 = own) (hn : narrow (ty0 i) v = v) (hfit : fits (ty0 i) v = true) (hlen : i < fs.length) (hs : fs.set i v = fs') (hd : decode cc pc = .ok (.putfield index, 3)) (h : J G k (mu w.1 a τ (.inr (ci, fs')), w.2) lv (pc + 3) st ce sl) : J G k w lv pc (v :: .ref a :: st) ce sl := by
  intro ls H locs hl2 hpp hf
  subst hs
  have hK := C.hK.1
  have hap := va_apart (own := own) C.hts hin ty0 hty hnm hK hc
  obtain ⟨hA, r, h1, cell, q1, q2, q3, q4⟩ := hpp.2.2.2 a τ _ he
  have hr : r = (D, T, N) := Option.some.inj (h1.symm.trans hc)
  subst hr
  obtain ⟨hS, hfc, kC, hkC, hkind⟩ := hK.1 ci _ hc
  obtain ⟨cf, kf, fi, f, hif, hsl⟩ := hS i hi
  have hlay := C.hts _ (hin _ (u_in_lay hi))
  unfold u_lay at hlay
  rw [if_pos hfin] at hlay
  have hst := (u_facts hfc hkC (u_lays C.hts hin hi) hif).1
  have hcf : (k_m k).cls = cf := by
    obtain ⟨_, _, c', _, _, _, -, -, hf', -, -, -, hown2, -⟩ := Cond.laysFinal_spec hlay
    have e1 : c' = cf := by have := hif.symm.trans hf'; simp at this; exact this.1.symm
    rw [hdecl] at hown2
    rw [← e1]; exact Option.some.inj (C.hown.symm.trans hown2)
  have h6 := u_fits hfc hkC hkind (Or.inr hlay) hif (hty i hi) hn hfit
  refine W.putFinK C.hx C.hb C.hown (C.hts _ hl) (hsame _ hif) hst hcf C.hname (by rw [q2]; exact h6) q1 q3 (by rw [hsl]; exact k2_hasslot (q4 i hi)) rfl rfl hd fun H' e1 e2 e3 => ?_
  rw [hsl] at e1 ⊢
  exact h ls H' _ hl2 (hpp.set he ⟨_, hc, t_OB.to (V := updV (vp_V fs) i v) ⟨_, e1, q2, q3, t_set q4 hap hi v⟩ (fun j _ => vp_updV_set hlen v j)⟩ e2 e3) (lc_add hf hA)

theorem j_iald (C : Cx G k cc own nm nL rt hh mc ms post) {n : Nat} {f : Nat → Int32} {i : Int32} (he : w.1 a = some (τ, ai (gl_A G 0) n f)) (hin : vp_in i n) (hd : decode cc pc = .ok (.iaload, 1)) (h : J G k w lv (pc + 1) (.int (f i.toNatClampNeg) :: st) ce sl) : J G k w lv pc (.int i :: .ref a :: st) ce sl :=
  fun ls H locs hl2 hp hf => va_iald (D := gl_D G) (cl := jcl) (tys := gl_tys G) (ws := [(a, ai (gl_A G 0) n f)]) C.hx C.hb C.hK.1 (hp.at' he) 0 0 rfl rfl hin hd (h ls H locs hl2 hp hf)
/-- the same at a place that is a known number -/
theorem j_ialdN (C : Cx G k cc own nm nL rt hh mc ms post) {n : Nat} {f : Nat → Int32} {i : Int32} (he : w.1 a = some (τ, ai (gl_A G 0) n f)) (j : Nat) (hi : i = nI j) (hj : j < n) (hn : n < 2 ^ 31) (hd : decode cc pc = .ok (.iaload, 1)) (h : J G k w lv (pc + 1) (.int (f j) :: st) ce sl) : J G k w lv pc (.int i :: .ref a :: st) ce sl := by
  subst hi
  refine j_iald C he (vp_in_nI hj hn) hd ?_
  rw [nI_clamp (by omega)]
  exact h
theorem j_iast (C : Cx G k cc own nm nL rt hh mc ms post) {n : Nat} {f : Nat → Int32} {i x : Int32} (he : w.1 a = some (τ, ai (gl_A G 0) n f)) (hin : vp_in i n) (hd : decode cc pc = .ok (.iastore, 1)) (h : J G k (mu w.1 a τ (ai (gl_A G 0) n (upd f i.toNatClampNeg x)), w.2) lv (pc + 1) st ce sl) : J G k w lv pc (.int x :: .int i :: .ref a :: st) ce sl := by
  intro ls H locs hl2 hpp hf
  obtain ⟨hA, q1⟩ := hpp.2.2.2 a τ _ he
  refine W.iast C.hx C.hb q1 ((C.hK.1.2 0 _ rfl).1 n (fun j => .int (f j))) (fun q => by cases q) (by show ¬ (i < 0 ∨ (arrV _ _ _).slots.size ≤ _); rw [arrV_size]; exact hin) rfl rfl hd fun H1 e z oq => ?_
  refine h ls H1 _ hl2 (hpp.set he ?_ z oq) (lc_add hf hA)
  show H1[a]? = some (vp_cell _ _)
  rw [e]
  rw [vp_cell_i, vp_cell_i, arrV_store]
  congr 2
  funext q
  by_cases hq : q = i.toNatClampNeg
  · subst hq
    simp [updV, upd, vp_nar]
    try rfl
  · simp [updV, upd, hq]
theorem j_iastN (C : Cx G k cc own nm nL rt hh mc ms post) {n : Nat} {f : Nat → Int32} {i x : Int32} (he : w.1 a = some (τ, ai (gl_A G 0) n f)) (j : Nat) (hi : i = nI j) (hj : j < n) (hn : n < 2 ^ 31) (hd : decode cc pc = .ok (.iastore, 1)) (h : J G k (mu w.1 a τ (ai (gl_A G 0) n (upd f j x)), w.2) lv (pc + 1) st ce sl) : J G k w lv pc (.int x :: .int i :: .ref a :: st) ce sl := by
  subst hi
  refine j_iast C he (vp_in_nI hj hn) hd ?_
  rw [nI_clamp (by omega)]
  exact h

theorem j_bald (C : Cx G k cc own nm nL rt hh mc ms post) {n : Nat} {f : Nat → Int32} {i : Int32} (he : w.1 a = some (τ, ai (gl_A G 1) n f)) (hin : vp_in i n) (hd : decode cc pc = .ok (.baload, 1)) (h : J G k w lv (pc + 1) (.int (f i.toNatClampNeg) :: st) ce sl) : J G k w lv pc (.int i :: .ref a :: st) ce sl :=
  fun ls H locs hl2 hp hf => va_bald (D := gl_D G) (cl := jcl) (tys := gl_tys G) (ws := [(a, ai (gl_A G 1) n f)]) C.hx C.hb C.hK.1 (hp.at' he) 0 1 rfl rfl hin hd (h ls H locs hl2 hp hf)
/-- the same at a place that is a known number -/
theorem j_baldN (C : Cx G k cc own nm nL rt hh mc ms post) {n : Nat} {f : Nat → Int32} {i : Int32} (he : w.1 a = some (τ, ai (gl_A G 1) n f)) (j : Nat) (hi : i = nI j) (hj : j < n) (hn : n < 2 ^ 31) (hd : decode cc pc = .ok (.baload, 1)) (h : J G k w lv (pc + 1) (.int (f j) :: st) ce sl) : J G k w lv pc (.int i :: .ref a :: st) ce sl := by
  subst hi
  refine j_bald C he (vp_in_nI hj hn) hd ?_
  rw [nI_clamp (by omega)]
  exact h
theorem j_bast (C : Cx G k cc own nm nL rt hh mc ms post) {n : Nat} {f : Nat → Int32} {i x : Int32} (he : w.1 a = some (τ, ai (gl_A G 1) n f)) (hin : vp_in i n) (hd : decode cc pc = .ok (.bastore, 1)) (h : J G k (mu w.1 a τ (ai (gl_A G 1) n (upd f i.toNatClampNeg (vp_nar .byte x))), w.2) lv (pc + 1) st ce sl) : J G k w lv pc (.int x :: .int i :: .ref a :: st) ce sl := by
  intro ls H locs hl2 hpp hf
  obtain ⟨hA, q1⟩ := hpp.2.2.2 a τ _ he
  refine W.bast C.hx C.hb q1 ((C.hK.1.2 1 _ rfl).1 n (fun j => .int (f j))) (fun q => by cases q) (by show ¬ (i < 0 ∨ (arrV _ _ _).slots.size ≤ _); rw [arrV_size]; exact hin) rfl rfl hd fun H1 e z oq => ?_
  refine h ls H1 _ hl2 (hpp.set he ?_ z oq) (lc_add hf hA)
  show H1[a]? = some (vp_cell _ _)
  rw [e]
  rw [vp_cell_i, vp_cell_i, arrV_store]
  congr 2
  funext q
  by_cases hq : q = i.toNatClampNeg
  · subst hq
    simp [updV, upd, vp_nar]
    try rfl
  · simp [updV, upd, hq]
theorem j_bastN (C : Cx G k cc own nm nL rt hh mc ms post) {n : Nat} {f : Nat → Int32} {i x : Int32} (he : w.1 a = some (τ, ai (gl_A G 1) n f)) (j : Nat) (hi : i = nI j) (hj : j < n) (hn : n < 2 ^ 31) (hd : decode cc pc = .ok (.bastore, 1)) (h : J G k (mu w.1 a τ (ai (gl_A G 1) n (upd f j (vp_nar .byte x))), w.2) lv (pc + 1) st ce sl) : J G k w lv pc (.int x :: .int i :: .ref a :: st) ce sl := by
  subst hi
  refine j_bast C he (vp_in_nI hj hn) hd ?_
  rw [nI_clamp (by omega)]
  exact h

theorem j_sald (C : Cx G k cc own nm nL rt hh mc ms post) {n : Nat} {f : Nat → Int32} {i : Int32} (he : w.1 a = some (τ, ai (gl_A G 2) n f)) (hin : vp_in i n) (hd : decode cc pc = .ok (.saload, 1)) (h : J G k w lv (pc + 1) (.int (f i.toNatClampNeg) :: st) ce sl) : J G k w lv pc (.int i :: .ref a :: st) ce sl :=
  fun ls H locs hl2 hp hf => va_sald (D := gl_D G) (cl := jcl) (tys := gl_tys G) (ws := [(a, ai (gl_A G 2) n f)]) C.hx C.hb C.hK.1 (hp.at' he) 0 2 rfl rfl hin hd (h ls H locs hl2 hp hf)
/-- the same at a place that is a known number -/
theorem j_saldN (C : Cx G k cc own nm nL rt hh mc ms post) {n : Nat} {f : Nat → Int32} {i : Int32} (he : w.1 a = some (τ, ai (gl_A G 2) n f)) (j : Nat) (hi : i = nI j) (hj : j < n) (hn : n < 2 ^ 31) (hd : decode cc pc = .ok (.saload, 1)) (h : J G k w lv (pc + 1) (.int (f j) :: st) ce sl) : J G k w lv pc (.int i :: .ref a :: st) ce sl := by
  subst hi
  refine j_sald C he (vp_in_nI hj hn) hd ?_
  rw [nI_clamp (by omega)]
  exact h
theorem j_sast (C : Cx G k cc own nm nL rt hh mc ms post) {n : Nat} {f : Nat → Int32} {i x : Int32} (he : w.1 a = some (τ, ai (gl_A G 2) n f)) (hin : vp_in i n) (hd : decode cc pc = .ok (.sastore, 1)) (h : J G k (mu w.1 a τ (ai (gl_A G 2) n (upd f i.toNatClampNeg (vp_nar .short x))), w.2) lv (pc + 1) st ce sl) : J G k w lv pc (.int x :: .int i :: .ref a :: st) ce sl := by
  intro ls H locs hl2 hpp hf
  obtain ⟨hA, q1⟩ := hpp.2.2.2 a τ _ he
  refine W.sast C.hx C.hb q1 ((C.hK.1.2 2 _ rfl).1 n (fun j => .int (f j))) (fun q => by cases q) (by show ¬ (i < 0 ∨ (arrV _ _ _).slots.size ≤ _); rw [arrV_size]; exact hin) rfl rfl hd fun H1 e z oq => ?_
  refine h ls H1 _ hl2 (hpp.set he ?_ z oq) (lc_add hf hA)
  show H1[a]? = some (vp_cell _ _)
  rw [e]
  rw [vp_cell_i, vp_cell_i, arrV_store]
  congr 2
  funext q
  by_cases hq : q = i.toNatClampNeg
  · subst hq
    simp [updV, upd, vp_nar]
    try rfl
  · simp [updV, upd, hq]
theorem j_sastN (C : Cx G k cc own nm nL rt hh mc ms post) {n : Nat} {f : Nat → Int32} {i x : Int32} (he : w.1 a = some (τ, ai (gl_A G 2) n f)) (j : Nat) (hi : i = nI j) (hj : j < n) (hn : n < 2 ^ 31) (hd : decode cc pc = .ok (.sastore, 1)) (h : J G k (mu w.1 a τ (ai (gl_A G 2) n (upd f j (vp_nar .short x))), w.2) lv (pc + 1) st ce sl) : J G k w lv pc (.int x :: .int i :: .ref a :: st) ce sl := by
  subst hi
  refine j_sast C he (vp_in_nI hj hn) hd ?_
  rw [nI_clamp (by omega)]
  exact h

theorem j_zald (C : Cx G k cc own nm nL rt hh mc ms post) {n : Nat} {f : Nat → Int32} {i : Int32} (he : w.1 a = some (τ, ai (gl_A G 3) n f)) (hin : vp_in i n) (hd : decode cc pc = .ok (.baload, 1)) (h : J G k w lv (pc + 1) (.int (f i.toNatClampNeg) :: st) ce sl) : J G k w lv pc (.int i :: .ref a :: st) ce sl :=
  fun ls H locs hl2 hp hf => va_zald (D := gl_D G) (cl := jcl) (tys := gl_tys G) (ws := [(a, ai (gl_A G 3) n f)]) C.hx C.hb C.hK.1 (hp.at' he) 0 3 rfl rfl hin hd (h ls H locs hl2 hp hf)
/-- the same at a place that is a known number -/
theorem j_zaldN (C : Cx G k cc own nm nL rt hh mc ms post) {n : Nat} {f : Nat → Int32} {i : Int32} (he : w.1 a = some (τ, ai (gl_A G 3) n f)) (j : Nat) (hi : i = nI j) (hj : j < n) (hn : n < 2 ^ 31) (hd : decode cc pc = .ok (.baload, 1)) (h : J G k w lv (pc + 1) (.int (f j) :: st) ce sl) : J G k w lv pc (.int i :: .ref a :: st) ce sl := by
  subst hi
  refine j_zald C he (vp_in_nI hj hn) hd ?_
  rw [nI_clamp (by omega)]
  exact h
theorem j_zast (C : Cx G k cc own nm nL rt hh mc ms post) {n : Nat} {f : Nat → Int32} {i x : Int32} (he : w.1 a = some (τ, ai (gl_A G 3) n f)) (hin : vp_in i n) (hd : decode cc pc = .ok (.bastore, 1)) (h : J G k (mu w.1 a τ (ai (gl_A G 3) n (upd f i.toNatClampNeg (vp_nar .boolean x))), w.2) lv (pc + 1) st ce sl) : J G k w lv pc (.int x :: .int i :: .ref a :: st) ce sl := by
  intro ls H locs hl2 hpp hf
  obtain ⟨hA, q1⟩ := hpp.2.2.2 a τ _ he
  refine W.zast C.hx C.hb q1 ((C.hK.1.2 3 _ rfl).1 n (fun j => .int (f j))) (fun q => by cases q) (by show ¬ (i < 0 ∨ (arrV _ _ _).slots.size ≤ _); rw [arrV_size]; exact hin) rfl rfl hd fun H1 e z oq => ?_
  refine h ls H1 _ hl2 (hpp.set he ?_ z oq) (lc_add hf hA)
  show H1[a]? = some (vp_cell _ _)
  rw [e]
  rw [vp_cell_i, vp_cell_i, arrV_store]
  congr 2
  funext q
  by_cases hq : q = i.toNatClampNeg
  · subst hq
    simp [updV, upd, vp_nar]
    try rfl
  · simp [updV, upd, hq]
theorem j_zastN (C : Cx G k cc own nm nL rt hh mc ms post) {n : Nat} {f : Nat → Int32} {i x : Int32} (he : w.1 a = some (τ, ai (gl_A G 3) n f)) (j : Nat) (hi : i = nI j) (hj : j < n) (hn : n < 2 ^ 31) (hd : decode cc pc = .ok (.bastore, 1)) (h : J G k (mu w.1 a τ (ai (gl_A G 3) n (upd f j (vp_nar .boolean x))), w.2) lv (pc + 1) st ce sl) : J G k w lv pc (.int x :: .int i :: .ref a :: st) ce sl := by
  subst hi
  refine j_zast C he (vp_in_nI hj hn) hd ?_
  rw [nI_clamp (by omega)]
  exact h

theorem j_alen (C : Cx G k cc own nm nL rt hh mc ms post) (t0 : Nat) {c : Nat} {x : vp_A} {ty : FieldType} (he : w.1 a = some (τ, .inl (c, x))) (ht : (gl_tys G)[t0]? = some (c, ty)) (hd : decode cc pc = .ok (.arraylength, 1)) (h : J G k w lv (pc + 1) (.int (nI x.1) :: st) ce sl) : J G k w lv pc (.ref a :: st) ce sl :=
  fun ls H locs hl2 hp hf => va_alen (D := gl_D G) (cl := jcl) (tys := gl_tys G) (ws := [(a, .inl (c, x))]) C.hx C.hb C.hK.1 (hp.at' he) 0 t0 rfl ht rfl hd (h ls H locs hl2 hp hf)
theorem j_aald (C : Cx G k cc own nm nL rt hh mc ms post) (t0 : Nat) {c n : Nat} {D : String} {f : Nat → Option Nat} {i : Int32} (he : w.1 a = some (τ, aq c n f)) (ht : (gl_tys G)[t0]? = some (c, .object D)) (j : Nat) (hi : i = nI j) (hj : j < n) (hn : n < 2 ^ 31) (hd : decode cc pc = .ok (.aaload, 1)) (h : J G k w lv (pc + 1) (va_rf (f j) :: st) ce sl) : J G k w lv pc (.int i :: .ref a :: st) ce sl := by
  subst hi
  intro ls H locs hl2 hp hf
  refine va_aldq (D := gl_D G) (cl := jcl) (tys := gl_tys G) (ws := [(a, aq c n f)]) C.hx C.hb C.hK.1 (hp.at' he) 0 t0 rfl ht (vp_in_nI hj hn) hd ?_
  rw [nI_clamp (by omega)]
  exact h ls H locs hl2 hp hf
/-- a reference is stored into an array of its own class -/
theorem j_aast (C : Cx G k cc own nm nL rt hh mc ms post) (t0 : Nat) {c n v σ ci : Nat} {r : vw_C} {vs : List Value} {f : Nat → Option Nat} {i : Int32} (he : w.1 a = some (τ, aq c n f)) (ht : (gl_tys G)[t0]? = some (c, .object r.1)) (hv : w.1 v = some (σ, .inr (ci, vs))) (hc : jcl[ci]? = some r) (j : Nat) (hi : i = nI j) (hj : j < n) (hn : n < 2 ^ 31) (hd : decode cc pc = .ok (.aastore, 1)) (h : J G k (mu w.1 a τ (aq c n (va_up f j (some v))), w.2) lv (pc + 1) st ce sl) : J G k w lv pc (.ref v :: .int i :: .ref a :: st) ce sl := by
  subst hi
  intro ls H locs hl2 hpp hf
  have hK := C.hK.1
  obtain ⟨hA, q1⟩ := hpp.2.2.2 a τ _ he
  obtain ⟨-, r', hr', cellV, g1, g2, g3, -⟩ := hpp.2.2.2 v σ _ hv
  have hcls := (hK.1 ci r hc).2
  obtain ⟨kA, comp, k1, k2, k3, -⟩ := (hK.2 t0 _ ht).2
  have hcomp : comp = (gl_D G).1 ci := Option.some.inj (k3.symm.trans hcls.1)
  subst hcomp
  obtain ⟨kC, hkC, -⟩ := hcls.2
  have hcl : (nI j).toNatClampNeg = j := nI_clamp (by omega)
  refine W.aast C.hx C.hb q1 (fun q h => by cases h) (fun h => by cases h) k1 k2 rfl hkC ⟨nI_pos (by omega), by show _ < (arrV _ _ _).slots.size; rw [arrV_size, hcl]; exact hj⟩ g1 (fun q h => by rw [g3] at h; cases h) (by rw [g2]; exact hkC) (by rw [g2]; exact va_assign hcls) rfl rfl hd fun H1 e z oq => ?_
  refine h ls H1 _ hl2 (hpp.set he ?_ z oq) (lc_add hf hA)
  show H1[a]? = some (vp_cell _ _)
  rw [e, hcl]
  rw [vp_cell_q, vp_cell_q, arrV_store]
  congr 2
  funext q
  by_cases hq : q = j
  · subst hq
    simp [updV, va_up, va_rf]
  · simp [updV, va_up, hq]
/-- a reference is stored into an array of another class's, to which its own can be assigned -/
theorem j_aastO (C : Cx G k cc own nm nL rt hh mc ms post) (t0 : Nat) {c n v σ ci : Nat} {E : String} {r : vw_C} {vs : List Value} {f : Nat → Option Nat} {i : Int32} (he : w.1 a = some (τ, aq c n f)) (ht : (gl_tys G)[t0]? = some (c, .object E)) (hca : va_Nw (.castable r.1 E) (k_s k)) (hv : w.1 v = some (σ, .inr (ci, vs))) (hc : jcl[ci]? = some r) (j : Nat) (hi : i = nI j) (hj : j < n) (hn : n < 2 ^ 31) (hd : decode cc pc = .ok (.aastore, 1)) (h : J G k (mu w.1 a τ (aq c n (va_up f j (some v))), w.2) lv (pc + 1) st ce sl) : J G k w lv pc (.ref v :: .int i :: .ref a :: st) ce sl := by
  subst hi
  intro ls H locs hl2 hpp hf
  have hK := C.hK.1
  obtain ⟨hA, q1⟩ := hpp.2.2.2 a τ _ he
  obtain ⟨-, r', hr', cellV, g1, g2, g3, -⟩ := hpp.2.2.2 v σ _ hv
  have hcls := (hK.1 ci r hc).2
  obtain ⟨kA, comp, k1, k2, k3, -⟩ := (hK.2 t0 _ ht).2
  obtain ⟨kC, hkC, -⟩ := hcls.2
  have hcl : (nI j).toNatClampNeg = j := nI_clamp (by omega)
  obtain ⟨kE, hkE, -⟩ := Vm.findClass_spec k3
  obtain ⟨c0, t1, f1, f2, f3⟩ := Cond.castable_spec (va_Nw.use (A := k_a k) rfl hca)
  cases hcls.1.symm.trans f1
  cases k3.symm.trans f2
  refine W.aast C.hx C.hb q1 (fun q h => by cases h) (fun h => by cases h) k1 k2 rfl hkE ⟨nI_pos (by omega), by show _ < (arrV _ _ _).slots.size; rw [arrV_size, hcl]; exact hj⟩ g1 (fun q h => by rw [g3] at h; cases h) (by rw [g2]; exact hkC) (by rw [g2]; exact f3) rfl rfl hd fun H1 e z oq => ?_
  refine h ls H1 _ hl2 (hpp.set he ?_ z oq) (lc_add hf hA)
  show H1[a]? = some (vp_cell _ _)
  rw [e, hcl]
  rw [vp_cell_q, vp_cell_q, arrV_store]
  congr 2
  funext q
  by_cases hq : q = j
  · subst hq
    simp [updV, va_up, va_rf]
  · simp [updV, va_up, hq]
/-- null is stored into an array -/
theorem j_aastN (C : Cx G k cc own nm nL rt hh mc ms post) (t0 : Nat) {c n : Nat} {E : String} {f : Nat → Option Nat} {i : Int32} (he : w.1 a = some (τ, aq c n f)) (ht : (gl_tys G)[t0]? = some (c, .object E)) (j : Nat) (hi : i = nI j) (hj : j < n) (hn : n < 2 ^ 31) (hd : decode cc pc = .ok (.aastore, 1)) (h : J G k (mu w.1 a τ (aq c n (va_up f j none)), w.2) lv (pc + 1) st ce sl) : J G k w lv pc (.null :: .int i :: .ref a :: st) ce sl := by
  subst hi
  intro ls H locs hl2 hpp hf
  obtain ⟨hA, q1⟩ := hpp.2.2.2 a τ _ he
  have hcl : (nI j).toNatClampNeg = j := nI_clamp (by omega)
  refine va_WaastN C.hx C.hb (C := E) q1 ((C.hK.1.2 t0 _ ht).1 n (fun j => va_rf (f j))) (fun q => by cases q) (by show ¬ (_ ∨ (arrV _ _ _).slots.size ≤ _); rw [arrV_size]; exact vp_in_nI hj hn) rfl rfl hd fun H1 e z oq => ?_
  refine h ls H1 _ hl2 (hpp.set he ?_ z oq) (lc_add hf hA)
  show H1[a]? = some (vp_cell _ _)
  rw [e, hcl]
  rw [vp_cell_q, vp_cell_q, arrV_store]
  congr 2
  funext q
  by_cases hq : q = j
  · subst hq
    simp [updV, va_up, va_rf]
  · simp [updV, va_up, hq]
theorem j_new (C : Cx G k cc own nm nL rt hh mc ms post) (τ : Nat) {D : String} {T : u_T} {N ci index : Nat} {fs : List Value} {ty : Nat → FieldType} (hin : ∀ w ∈ u_ws D T N, w ∈ lw_all) (hty : ∀ k, k < N → parseFieldDescriptor (T k).2.2.1 = some (ty k)) (hc : jcl[ci]? = some (D, T, N)) (hcl : Cond.classLink own index D ∈ lw_all) (hins : Cond.instantiable D N ∈ lw_all) (hini : Cond.initialized D ∈ lw_all) (hfs : ∀ j, j < N → defaultValue (ty j) = vp_V fs j) (h1 : ce + 1 ≤ mc) (h2 : sl + N ≤ ms) (hd : decode cc pc = .ok (.new index, 3)) (h : J G k (mu w.1 w.2 τ (.inr (ci, fs)), w.2 + 1) lv (pc + 3) (.ref w.2 :: st) (ce + 1) (sl + N)) : J G k w lv pc st ce sl := by
  intro ls H locs hl2 hpp hf
  have hKn := C.hK.1.1 ci _ hc
  refine W.newcK C.hx C.hb C.hown (C.hts _ hcl) (C.hts _ hins) (C.hts _ hini) rfl hd (by rw [C.hR]; exact h1) (by rw [C.hR]; exact h2) hKn.2.1 hpp.1 fun H1 kC hkC e1 z1 o1 => ?_
  exact h ls H1 locs hl2 (hpp.push τ ⟨_, hc, (u_born ty C.hts hin hKn hkC e1 hty).to hfs⟩ (by rw [z1, hpp.1]) (fun q hq => o1 q (by rw [← hpp.1]; exact hq))) hf

theorem j_newi (C : Cx G k cc own nm nL rt hh mc ms post) (τ : Nat) {n : Int32} (N : Nat) (harr : Cond.arrayClass (newarray.typeOf .int) ∈ lw_all) (hn : n = nI N) (hN : N ≤ 65536) (h1 : ce + 1 ≤ mc) (h2 : sl + N ≤ ms) (hd : decode cc pc = .ok (.newarray .int, 2)) (h : J G k (mu w.1 w.2 τ (ai (gl_A G 0) N (fun _ => 0)), w.2 + 1) lv (pc + 2) (.ref w.2 :: st) (ce + 1) (sl + N)) : J G k w lv pc (.int n :: st) ce sl := by
  subst hn
  intro ls H locs hl2 hpp hf
  refine va_newaK C.hx C.hb (C.hts _ harr) rfl hd rfl (nI_pos (by omega)) (nI_clamp (by omega)) (by simp [newarray.typeOf, componentBytes]; omega) (by rw [C.hR]; exact h1) (by rw [C.hR]; exact h2) hpp.1 fun H1 cA e1 z1 o1 hAr hNm => ?_
  have hcA : cA = gl_A G 0 := Option.some.inj (hNm.symm.trans (C.hK.1.2 0 _ rfl).2)
  subst hcA
  exact h ls H1 locs hl2 (hpp.push τ (by show H1[_]? = some (vp_cell _ _); rw [vp_cell_i]; exact e1) (by rw [z1, hpp.1]) (fun q hq => o1 q (by rw [← hpp.1]; exact hq))) hf

theorem j_newb (C : Cx G k cc own nm nL rt hh mc ms post) (τ : Nat) {n : Int32} (N : Nat) (harr : Cond.arrayClass (newarray.typeOf .byte) ∈ lw_all) (hn : n = nI N) (hN : N ≤ 65536) (h1 : ce + 1 ≤ mc) (h2 : sl + N ≤ ms) (hd : decode cc pc = .ok (.newarray .byte, 2)) (h : J G k (mu w.1 w.2 τ (ai (gl_A G 1) N (fun _ => 0)), w.2 + 1) lv (pc + 2) (.ref w.2 :: st) (ce + 1) (sl + N)) : J G k w lv pc (.int n :: st) ce sl := by
  subst hn
  intro ls H locs hl2 hpp hf
  refine va_newaK C.hx C.hb (C.hts _ harr) rfl hd rfl (nI_pos (by omega)) (nI_clamp (by omega)) (by simp [newarray.typeOf, componentBytes]; omega) (by rw [C.hR]; exact h1) (by rw [C.hR]; exact h2) hpp.1 fun H1 cA e1 z1 o1 hAr hNm => ?_
  have hcA : cA = gl_A G 1 := Option.some.inj (hNm.symm.trans (C.hK.1.2 1 _ rfl).2)
  subst hcA
  exact h ls H1 locs hl2 (hpp.push τ (by show H1[_]? = some (vp_cell _ _); rw [vp_cell_i]; exact e1) (by rw [z1, hpp.1]) (fun q hq => o1 q (by rw [← hpp.1]; exact hq))) hf

theorem j_news (C : Cx G k cc own nm nL rt hh mc ms post) (τ : Nat) {n : Int32} (N : Nat) (harr : Cond.arrayClass (newarray.typeOf .short) ∈ lw_all) (hn : n = nI N) (hN : N ≤ 65536) (h1 : ce + 1 ≤ mc) (h2 : sl + N ≤ ms) (hd : decode cc pc = .ok (.newarray .short, 2)) (h : J G k (mu w.1 w.2 τ (ai (gl_A G 2) N (fun _ => 0)), w.2 + 1) lv (pc + 2) (.ref w.2 :: st) (ce + 1) (sl + N)) : J G k w lv pc (.int n :: st) ce sl := by
  subst hn
  intro ls H locs hl2 hpp hf
  refine va_newaK C.hx C.hb (C.hts _ harr) rfl hd rfl (nI_pos (by omega)) (nI_clamp (by omega)) (by simp [newarray.typeOf, componentBytes]; omega) (by rw [C.hR]; exact h1) (by rw [C.hR]; exact h2) hpp.1 fun H1 cA e1 z1 o1 hAr hNm => ?_
  have hcA : cA = gl_A G 2 := Option.some.inj (hNm.symm.trans (C.hK.1.2 2 _ rfl).2)
  subst hcA
  exact h ls H1 locs hl2 (hpp.push τ (by show H1[_]? = some (vp_cell _ _); rw [vp_cell_i]; exact e1) (by rw [z1, hpp.1]) (fun q hq => o1 q (by rw [← hpp.1]; exact hq))) hf

theorem j_newz (C : Cx G k cc own nm nL rt hh mc ms post) (τ : Nat) {n : Int32} (N : Nat) (harr : Cond.arrayClass (newarray.typeOf .boolean) ∈ lw_all) (hn : n = nI N) (hN : N ≤ 65536) (h1 : ce + 1 ≤ mc) (h2 : sl + N ≤ ms) (hd : decode cc pc = .ok (.newarray .boolean, 2)) (h : J G k (mu w.1 w.2 τ (ai (gl_A G 3) N (fun _ => 0)), w.2 + 1) lv (pc + 2) (.ref w.2 :: st) (ce + 1) (sl + N)) : J G k w lv pc (.int n :: st) ce sl := by
  subst hn
  intro ls H locs hl2 hpp hf
  refine va_newaK C.hx C.hb (C.hts _ harr) rfl hd rfl (nI_pos (by omega)) (nI_clamp (by omega)) (by simp [newarray.typeOf, componentBytes]; omega) (by rw [C.hR]; exact h1) (by rw [C.hR]; exact h2) hpp.1 fun H1 cA e1 z1 o1 hAr hNm => ?_
  have hcA : cA = gl_A G 3 := Option.some.inj (hNm.symm.trans (C.hK.1.2 3 _ rfl).2)
  subst hcA
  exact h ls H1 locs hl2 (hpp.push τ (by show H1[_]? = some (vp_cell _ _); rw [vp_cell_i]; exact e1) (by rw [z1, hpp.1]) (fun q hq => o1 q (by rw [← hpp.1]; exact hq))) hf

theorem j_newq (C : Cx G k cc own nm nL rt hh mc ms post) (τ t0 : Nat) {n : Int32} (N : Nat) {D : String} {index c : Nat} (hcl : Cond.classLink own index D ∈ lw_all) (hover : va_AO D (k_s k)) (ht : (gl_tys G)[t0]? = some (c, .object D)) (hn : n = nI N) (hN : N ≤ 65536) (h1 : ce + 1 ≤ mc) (h2 : sl + N ≤ ms) (hd : decode cc pc = .ok (.anewarray index, 3)) (h : J G k (mu w.1 w.2 τ (aq c N (fun _ => none)), w.2 + 1) lv (pc + 3) (.ref w.2 :: st) (ce + 1) (sl + N)) : J G k w lv pc (.int n :: st) ce sl := by
  subst hn
  intro ls H locs hl2 hpp hf
  have hcN : (nI N).toNatClampNeg = N := nI_clamp (by omega)
  refine W.anew C.hx C.hb C.hown (C.hts _ hcl) (va_AO.use hover) rfl hd rfl (nI_pos (by omega)) (by rw [hcN]; omega) (by rw [C.hR]; exact h1) (by rw [C.hR, hcN]; exact h2) fun cA kA comp f1 f2 f3 f4 => ?_
  obtain ⟨kA', comp', k1, k2, k3, k4⟩ := (C.hK.1.2 t0 _ ht).2
  rw [hcN, hpp.1]
  have z1 : (H.push ({ cls := cA, slots := Array.replicate N .null, vm := .none } : Cell)).size = H.size + 1 := by rw [Array.size_push]
  have e1 : (H.push ({ cls := cA, slots := Array.replicate N .null, vm := .none } : Cell))[H.size]? = some (arrV cA N (fun _ => .null)) := by rw [Array.getElem?_push_size, ← arrV_new]
  have o1 : ∀ q : Nat, q < H.size → (H.push ({ cls := cA, slots := Array.replicate N .null, vm := .none } : Cell))[q]? = H[q]? := fun q hq => by rw [Array.getElem?_push, if_neg (Nat.ne_of_lt hq)]
  have hcA : cA = c := by
    first
      | exact Option.some.inj (f1.symm.trans k4)
      | exact Option.some.inj (f4.symm.trans k4)
  subst hcA
  exact h ls _ locs hl2 (hpp.push τ (by show _ = some (vp_cell _ _); rw [vp_cell_q, ← hpp.1]; exact e1) z1 o1) hf
/-- the ends -/
theorem MX.of {t : State} {o : Outcome} {locs : List Loc} {H : Heap} (hpo : k_po k = post) (hmc : k_mc k = mc) (hms : k_ms k = ms) (h1 : ce ≤ mc) (h2 : sl ≤ ms) (hr : t.status = .running) (he : Ended t (k_b k) o) (ht : t.heap = H) (hq : post o w) (hpp : hp G w H) (hf : ∀ q ∈ locs, gl_fr G q.base) (hW : (k_s k).WarmedH t.vm) (hs : (k_s k).sameButNew ({ t with vm := (k_s k).vm } : State) locs ce sl) : MX G k t :=
  ⟨o, hr, he, ⟨w, by rw [hpo]; exact hq, by rw [ht]; exact hpp⟩, locs, ⟨hW, by rw [hmc, hms]; exact hs.mono h1 h2⟩, hf⟩
theorem j_iret (C : Cx G k cc own nm nL (some .int) hh mc ms post) {x : Int32} (h1 : ce ≤ mc) (h2 : sl ≤ ms) (hq : post (.returned (some (.int x))) w) (hd : decode cc pc = .ok (.ireturn, 1)) : J G k w lv pc [.int x] ce sl := by
  intro ls H locs hl2 hpp hf T hT X
  have hlocks : (k_me k).locks = false := C.hlocks
  obtain ⟨fs, hret, hrun, hended, hW, hframe⟩ := X.leave (v := some (.int x)) (fun h => by rw [C.hr] at h; cases h)
  have hmeth' : T.vm.method? (k_m k) = some (k_me k) := X.method'
  refine ⟨T.setFrames fs, ?_, MX.of C.hpo C.hmc C.hms h1 h2 hrun hended hT hq hpp hf hW hframe⟩
  jvm_step X.here [X.here.top, C.hx, C.hb, hd, hmeth', C.hr, narrow]
  (try refine ⟨rfl, ?_⟩); (try refine ⟨rfl, ?_⟩)
  first | (intro acts; rw [hret _ acts rfl rfl rfl]) | rw [hret _ _ rfl rfl rfl]
  exact Steps.refl _
theorem j_zret (C : Cx G k cc own nm nL (some .boolean) hh mc ms post) {x : Int32} (hn : narrow .boolean (.int x) = .int x) (h1 : ce ≤ mc) (h2 : sl ≤ ms) (hq : post (.returned (some (.int x))) w) (hd : decode cc pc = .ok (.ireturn, 1)) : J G k w lv pc [.int x] ce sl := by
  intro ls H locs hl2 hpp hf T hT X
  have hlocks : (k_me k).locks = false := C.hlocks
  obtain ⟨fs, hret, hrun, hended, hW, hframe⟩ := X.leave (v := some (.int x)) (fun h => by rw [C.hr] at h; cases h)
  have hmeth' : T.vm.method? (k_m k) = some (k_me k) := X.method'
  refine ⟨T.setFrames fs, ?_, MX.of C.hpo C.hmc C.hms h1 h2 hrun hended hT hq hpp hf hW hframe⟩
  jvm_step X.here [X.here.top, C.hx, C.hb, hd, hmeth', C.hr, hn]
  (try refine ⟨rfl, ?_⟩); (try refine ⟨rfl, ?_⟩)
  first | (intro acts; rw [hret _ acts rfl rfl rfl]) | rw [hret _ _ rfl rfl rfl]
  exact Steps.refl _
theorem j_vret (C : Cx G k cc own nm nL none hh mc ms post) (h1 : ce ≤ mc) (h2 : sl ≤ ms) (hq : post (.returned none) w) (hd : decode cc pc = .ok (.return_, 1)) : J G k w lv pc [] ce sl := by
  intro ls H locs hl2 hpp hf T hT X
  have hlocks : (k_me k).locks = false := C.hlocks
  obtain ⟨fs, hret, hrun, hended, hW, hframe⟩ := X.leave (v := none) (fun _ => rfl)
  have hmeth' : T.vm.method? (k_m k) = some (k_me k) := X.method'
  refine ⟨T.setFrames fs, ?_, MX.of C.hpo C.hmc C.hms h1 h2 hrun hended hT hq hpp hf hW hframe⟩
  jvm_step X.here [X.here.top, C.hx, C.hb, hd, hmeth', C.hr]
  (try refine ⟨rfl, ?_⟩); (try refine ⟨rfl, ?_⟩)
  first | (intro acts; rw [hret _ acts rfl rfl rfl]) | rw [hret _ _ rfl rfl rfl]
  exact Steps.refl _
theorem j_aret {t : FieldType} (C : Cx G k cc own nm nL (some t) hh mc ms post) {x : Value} (ht : (∃ n, t = .object n) ∨ ∃ u, t = .array u) (hv : x = .null ∨ ∃ a, x = .ref a) (h1 : ce ≤ mc) (h2 : sl ≤ ms) (hq : post (.returned (some x)) w) (hd : decode cc pc = .ok (.areturn, 1)) : J G k w lv pc [x] ce sl := by
  intro ls H locs hl2 hpp hf T hT X
  have hlocks : (k_me k).locks = false := C.hlocks
  obtain ⟨fs, hret, hrun, hended, hW, hframe⟩ := X.leave (v := some x) (fun h => by rw [C.hr] at h; cases h)
  have hmeth' : T.vm.method? (k_m k) = some (k_me k) := X.method'
  refine ⟨T.setFrames fs, ?_, MX.of C.hpo C.hmc C.hms h1 h2 hrun hended hT hq hpp hf hW hframe⟩
  have hr := C.hr
  rcases ht with ⟨n, rfl⟩ | ⟨u, rfl⟩ <;> rcases hv with rfl | ⟨a, rfl⟩ <;>
    (jvm_step X.here [X.here.top, C.hx, C.hb, hd, hmeth', hr]
     (try refine ⟨rfl, ?_⟩); (try refine ⟨rfl, ?_⟩)
     first | (intro acts; rw [hret _ acts rfl rfl rfl]) | rw [hret _ _ rfl rfl rfl]
     exact Steps.refl _)
end JH
/-- **a contract out of a walk** -/
theorem Mt.start {G : gl_T} {y : MethodName} {bytes : ByteArray} {maxL : Nat} {ret : Option FieldType} {h : Nat} {av : List Value} {w : wd_T} {post : Outcome → wd_T → Prop} {mc ms : Nat} (hy : plainName y.cls = true) (hl : (lg_sl av).length ≤ maxL)
    (body : ∀ k : KX, Cx G k bytes y.cls y.name maxL ret h mc ms post → J G k w (lv_args 0 av) 0 [] 0 0) : Mt G y bytes maxL ret h av w post mc ms := by
  refine MetFree.of_bodyS (code := bytes) (maxLocals := maxL) (ret := ret) hy ?_ ?_
  · intro args s m h hn
    obtain ⟨meth, c, h1, h2, h3, h4, h5, h6, -, -⟩ := Cond.code_spec hn (atoms_spec (ws := ws_ y bytes maxL ret) h _ List.mem_cons_self)
    exact ⟨meth, c, h1, h2, h3, h4, h5, h6⟩
  · intro p e s m args below meth c s₁ B hml hP _
    obtain ⟨rfl, hpp, hkk⟩ := hP
    have hh0 : s₁.heap = s.heap := by rw [B.state]; rfl
    have hts := atoms_spec (ws := ws_ y bytes maxL ret) B.pre
    have hts : ∀ w ∈ lw_all, w.before av.toArray s = true := fun w h => hts w (List.mem_cons_of_mem _ h)
    obtain ⟨t, a1, o, b1, b2, b3, b4⟩ := body (p, e, (headSpec (ws_ y bytes maxL ret) (rmh h mc ms)).room, s, m, av.toArray, below, meth, c, post, mc, ms, maxL)
      ⟨B.exec, B.bytes, B.returns, hml, rfl, findClass_of_methodNamed B.named, hts, hkk, B.notSynchronized, (name_of_methodNamed B.named B.method).1, rfl, rfl, rfl, ⟨w, hpp⟩, rfl⟩
      _ s.heap [] (lv_entry av hl) hpp (fun q h => by cases h) s₁ hh0 (Stand.of_body B)
    exact ⟨t, o, by rw [lg_entry_eq]; exact a1, b1, b2, b3, b4⟩

