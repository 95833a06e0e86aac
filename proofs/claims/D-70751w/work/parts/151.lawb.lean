/-! ===== the law: both in one world ===== -/
set_option maxRecDepth 100000
theorem st_R {p : Program} {l : Launch} {e : Env} {R R' : Room} {s : State} {m : MethodId} {args : Array Value} {below : List Frame} {meth : Method} {c : Code} {T : State} {locs : List Loc} {cells slots : Nat} (X : Stand p l e R s m args below meth c T locs cells slots) (h1 : R'.frames ≤ R.frames) (h2 : R'.locals ≤ R.locals) (h3 : R'.cells ≤ R.cells) (h4 : R'.slots ≤ R.slots) : Stand p l e R' s m args below meth c T locs cells slots := by
  refine { X with room := ?_ }
  have h := X.room
  simp only [State.hasRoom, Bool.and_eq_true, decide_eq_true_eq] at h ⊢
  obtain ⟨⟨⟨⟨a, b⟩, c⟩, d⟩, e⟩ := h
  exact ⟨⟨⟨⟨by omega, by omega⟩, by omega⟩, by omega⟩, e⟩
theorem same_nil {s t : State} {L : List Loc} {k n : Nat} (h : s.sameButNew t L k n) (hL : ∀ q ∈ L, s.heap.size ≤ q.base) : s.sameButNew t [] k n := by
  obtain ⟨h1, h2, h3, h4, h5, h6⟩ := h
  refine ⟨h1, h2, h3, h4, h5, fun a c hc => ?_⟩
  obtain ⟨c', g1, g2, g3, g4⟩ := h6 a c hc
  refine ⟨c', g1, g2, g3, fun i _ => g4 i (fun hm => ?_)⟩
  have := hL _ hm
  have h7 := (Array.getElem?_eq_some_iff.mp hc).1
  have this : s.heap.size ≤ a := this
  omega
/-- the reference lies at o -/
def mo (G : gl_T) (w : wd_T) (o : Nat) (S : ms_T) : Prop := mset G w.1 o S = w.1
theorem mset_cell {G : gl_T} {M : Nat → Option (Nat × va_E)} {o q : Nat} {S : ms_T} (h1 : o ≤ q) (h2 : q ≤ o + 18) : ∃ e, mset G M o S q = some (o, e) ∧ ¬ isC e := by
  unfold mset
  by_cases z : q = o
  · rw [if_pos z]
    exact ⟨_, rfl, fun y => by have : (7 : Nat) ≤ 4 := y.1; omega⟩
  · rw [if_neg z, if_pos (by omega)]
    exact ⟨_, rfl, fun y => y⟩
theorem mset_in {G : gl_T} {M N : Nat → Option (Nat × va_E)} {o q : Nat} {S : ms_T} (h1 : o ≤ q) (h2 : q ≤ o + 18) : mset G M o S q = mset G N o S q := by
  unfold mset
  by_cases y : q = o
  · rw [if_pos y, if_pos y]
  · rw [if_neg y, if_neg y, if_pos (by omega), if_pos (by omega)]
theorem mset_two {G : gl_T} {M : Nat → Option (Nat × va_E)} {o : Nat} {S S' : ms_T} : mset G (mset G M o S) o S' = mset G M o S' := by
  funext q
  by_cases z : o ≤ q ∧ q ≤ o + 18
  · exact mset_in z.1 z.2
  · rw [mset_out (by omega), mset_out (by omega), mset_out (by omega)]
theorem mo.mk {G : gl_T} {M : Nat → Option (Nat × va_E)} {o sz : Nat} {S : ms_T} : mo G (mset G M o S, sz) o S := mset_two
theorem mo.cell {G : gl_T} {w : wd_T} {o q : Nat} {S : ms_T} (h : mo G w o S) (h1 : o ≤ q) (h2 : q ≤ o + 18) : ∃ e, w.1 q = some (o, e) ∧ ¬ isC e := by
  have h : mset G w.1 o S = w.1 := h
  rw [← h]
  exact mset_cell h1 h2
section LB
variable {G : gl_T} {w0 w w' : wd_T} {x o : Nat} {O : Nat → Prop} {S : ms_T} {V : fv_T} {Z : fz_T}
/-- the class has acted: the reference stands -/
theorem mo.kept (h : mo G w o S) (hf : FX G w w' x (fun σ => σ = o) V Z) : mo G w' o S := by
  obtain ⟨W, hA, -⟩ := hf
  show mset G w'.1 o S = w'.1
  funext q
  by_cases z : o ≤ q ∧ q ≤ o + 18
  · obtain ⟨e, he, -⟩ := h.cell z.1 z.2
    rw [hA.fr0 q o e rfl he, ← he]
    have h : mset G w.1 o S = w.1 := h
    rw [← h]
    exact mset_in z.1 z.2
  · exact mset_out (by omega)
/-- the reference has acted: the class stands -/
theorem FX.ref (hf : FX G w0 w x (fun σ => σ = o) V Z) (h : mo G w o S) (S' : ms_T) : FX G (mset G w.1 o S', w.2) (mset G w.1 o S', w.2) x (fun σ => σ = o) V Z := by
  obtain ⟨W, hA, hv⟩ := hf
  have hO := hA.frO o rfl
  have hF : FR o w (mset G w.1 o S', w.2) := ⟨Nat.le_refl _, fun b σ e hb hc => by
    by_cases z : o ≤ b ∧ b ≤ o + 18
    · obtain ⟨e', he', hn⟩ := h.cell z.1 z.2
      rw [hb] at he'
      cases he'
      rcases hc with hc | hc
      · exact absurd rfl hc
      · exact absurd hc hn
    · rw [← hb]
      exact mset_out (by omega)⟩
  refine ⟨W, ⟨fun b σ e hb => ?_, fun j hj => hF.2 _ _ _ (hA.cell j hj) (Or.inl (by omega)), fun i c hi hc => (hA.tn hi hc).fr hF (fun z => hO.2.2.2 i hi (by rw [hc, z])), hA.2.2.2.1, hA.a0, hA.a1, hA.rid, hA.past, fun k hk => ?_, ⟨hF.2 _ _ _ hA.tr.1 (Or.inl (Ne.symm hO.2.2.1)), hF.2 _ _ _ hA.tr.2.1 (Or.inl (Ne.symm hO.2.2.1)), hA.tr.2.2⟩, fun b σ e _ hb => hb, fun σ hσ => hA.frO σ hσ⟩, hv⟩
  · have hb : mset G w.1 o S' b = some (σ, e) := hb
    by_cases z : o ≤ b ∧ b ≤ o + 18
    · obtain ⟨e', he', -⟩ := h.cell z.1 z.2
      exact hA.wf b _ _ he'
    · rw [mset_out (by omega)] at hb
      exact hA.wf b _ _ hb
  · rcases hA.rows k hk with h1 | ⟨l, n, f, c, h1, h2, h3, h4, h5⟩
    · exact Or.inl h1
    · exact Or.inr ⟨l, n, f, c, h1, h2, h3, h4, hF.2 _ _ _ h5 (Or.inl (by omega))⟩
/-- from now on -/
theorem FX.now (hf : FX G w0 w x (fun σ => σ = o) V Z) : FX G w w x (fun σ => σ = o) V Z := by
  obtain ⟨W, hA, hv⟩ := hf
  exact ⟨W, hA.rebase (fun σ h => Or.inl h), hv⟩
/-- a town is known by its 42 numbers -/
theorem FX.cgT (hf : FX G w0 w x O V Z) {u : Nat → Nat} (hu : eqT V.2.1 u) (hk : okT V.2.1) : FX G w0 w x O (vT V u) Z := by
  obtain ⟨W, hA, hv⟩ := hf
  have e0 : W.2.1 0 = V.2.1 := hv.t
  have h6 := hk.1.2.2.2.2.2.2.1
  have hT : TN G w (x + 11) u := by
    have h := hA.tn (i := 0) (by omega) hA.a0
    rw [e0] at h
    exact h.cg (fun i hi => (hu i (by omega)).symm) (hu 25 (by omega)).symm (fun c hc => ⟨(hu _ (by omega)).symm, (hu _ (by omega)).symm⟩) (fun c hc => (hu _ (by omega)).symm) (fun c hc => ⟨(hu _ (by omega)).symm, (hu _ (by omega)).symm⟩)
  refine ⟨wT W 0 u, hA.town (by omega) hA.a0 hT (FR.refl _ _) hA.wf, hv.1, wT_s, fun k hk => (if_neg (by omega)).trans (hv.p k hk), fun k hk => ?_, hv.r, hv.tp, hv.b, ((if_neg (show ¬ (1 : Nat) = 0 by omega)).trans hv.z : (if (1 : Nat) = 0 then u else W.2.1 1) = Z.1), hv.d, fun k hk => (if_neg (by omega)).trans (hv.k k hk), hv.u, hv.v⟩
  have e : (wT W 0 u).2.1 (26 + k) = W.2.1 (26 + k) := if_neg (by omega)
  rw [e]
  exact hv.i k hk
theorem RLw.norm (h : RLw S V) : RL S (vT V (S.2.2.2 6)) := by
  obtain ⟨a, ⟨h2, hk⟩, h3, h4, h5, h6, h7, h8⟩ := h
  exact ⟨rfl, a, ⟨eqT.rf _, okT_cg hk h2⟩, h3, h4, h5, h6, h7, h8⟩
/-- **the law's state**: both objects in one world, tied -/
def LI (G : gl_T) (w : wd_T) (x o : Nat) (S : ms_T) (V : fv_T) (Z : fz_T) : Prop := RL S V ∧ FX G w w x (fun σ => σ = o) V Z ∧ mo G w o S
theorem LI.next {V' : fv_T} {Z' : fz_T} {S' : ms_T} (h : LI G w x o S V Z) (hf : FX G w w' x (fun σ => σ = o) V' Z') (hr : RLw S' V') : LI G (mset G w'.1 o S', w'.2) x o S' (vT V' (S'.2.2.2 6)) Z' :=
  ⟨hr.norm, (hf.ref (h.2.2.kept hf) S').cgT hr.2.1.1 hr.2.1.2, mo.mk⟩
theorem mo.eq {S : ms_T} (h : mo G w o S) : w = (mset G w.1 o S, w.2) := Prod.ext (Eq.symm h) rfl
/-- the script -/
def GB (G : gl_T) (L : Nat) (xs : Nat → Int32) : Prop := ∀ U, gl_X G U → va_X (gl_z G 3) L xs U (gl_H G)
end LB
section LBR
variable {G : gl_T} {k : KX} {cc : ByteArray} {own nm : String} {nL hh mc ms : Nat} {rt : Option FieldType} {post : Outcome → wd_T → Prop}
variable {w : wd_T} {lv : List (Nat × Value)} {pc ce sl L : Nat} {st : List Value} {xs : Nat → Int32}
theorem j_slen (C : Cx G k cc own nm nL rt hh mc ms post) (hB : GB G L xs) (hd : decode cc pc = .ok (.arraylength, 1)) (h : J G k w lv (pc + 1) (.int (nI L) :: st) ce sl) : J G k w lv pc (.ref (gl_z G 3) :: st) ce sl := by
  intro ls H locs hl2 hpp hf
  obtain ⟨scr, h1, h2, h3, h4, h5⟩ := hB _ C.hK.X
  have hlt : gl_z G 3 < (gl_H G).size := (Array.getElem?_eq_some_iff.mp h1).1
  exact W.alen (n := nI L) C.hx C.hb (by rw [hpp.2.2.1.1 _ hlt]; exact h1) h2 (by rw [h4]; rfl) rfl rfl hd (h ls H locs hl2 hpp hf)
theorem j_sld (C : Cx G k cc own nm nL rt hh mc ms post) (hB : GB G L xs) (hL : L ≤ 512) {i : Int32} (j : Nat) (hi : i = nI j) (hj : j < L) (hd : decode cc pc = .ok (.iaload, 1)) (h : J G k w lv (pc + 1) (.int (xs j) :: st) ce sl) : J G k w lv pc (.int i :: .ref (gl_z G 3) :: st) ce sl := by
  subst hi
  intro ls H locs hl2 hpp hf
  obtain ⟨scr, h1, h2, h3, h4, h5⟩ := hB _ C.hK.X
  have hlt : gl_z G 3 < (gl_H G).size := (Array.getElem?_eq_some_iff.mp h1).1
  have e : (nI j).toNatClampNeg = j := nI_clamp (by omega)
  have hin : ¬ (nI j < 0 ∨ scr.slots.size ≤ (nI j).toNatClampNeg) := by
    rw [e, h4]
    rintro (q | q)
    · exact nI_pos (by omega) q
    · omega
  exact W.iald (v := .int (xs j)) C.hx C.hb (by rw [hpp.2.2.1.1 _ hlt]; exact h1) h2 h3 hin (by rw [e]; exact h5 j hj) rfl rfl hd (h ls H locs hl2 hpp hf)
end LBR
