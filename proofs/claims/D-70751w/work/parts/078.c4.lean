/-! ===== the class: a town becomes another one ===== -/
set_option maxRecDepth 100000
theorem j_abs {G : gl_T} {k : KX} {w : wd_T} {lv : List (Nat × Value)} {pc ce sl : Nat} {st : List Value} {P : wd_T → Prop} (hP : P w) (h : ∀ w', P w' → J G k w' lv pc st ce sl) : J G k w lv pc st ce sl := h w hP
theorem j_wf {G : gl_T} {k : KX} {w : wd_T} {lv : List (Nat × Value)} {pc ce sl : Nat} {st : List Value} (h : WF w → J G k w lv pc st ce sl) : J G k w lv pc st ce sl := j_sz (fun _ h2 => h h2)
theorem j_castC {G : gl_T} {k : KX} {cc : ByteArray} {own nm : String} {nL hh mc ms : Nat} {rt : Option FieldType} {post : Outcome → wd_T → Prop} {w : wd_T} {lv : List (Nat × Value)} {pc ce sl index : Nat} {st : List Value} (C : Cx G k cc own nm nL rt hh mc ms post) (hG : GH G) {t : Nat → Nat} {c q τ : Nat} (hq : w.1 q = some (τ, CE t c)) (h1 : 1 ≤ t (7 + 3 * c)) (h2 : t (7 + 3 * c) ≤ 5) (q1 : Cond.classLink own index "MoodFare$Corner" ∈ lw_all) (hd : decode cc pc = .ok (.checkcast index, 3)) (h : J G k w lv (pc + 3) (.ref q :: st) ce sl) : J G k w lv pc (.ref q :: st) ce sl := by
  unfold CE at hq
  rcases (show t (7 + 3 * c) = 1 ∨ t (7 + 3 * c) = 2 ∨ t (7 + 3 * c) = 3 ∨ t (7 + 3 * c) = 4 ∨ t (7 + 3 * c) = 5 by omega) with e | e | e | e | e <;> rw [e] at hq
  · exact j_castY C (ci := 7) (T := TX8) hq rfl q1 (C.nw hG q1892 rfl) hd h
  · exact j_castY C (ci := 8) (T := TX9) hq rfl q1 (C.nw hG q1893 rfl) hd h
  · exact j_castY C (ci := 9) (T := TX10) hq rfl q1 (C.nw hG q1891 rfl) hd h
  · exact j_castY C (ci := 10) (T := TX11) hq rfl q1 (C.nw hG q1890 rfl) hd h
  · exact j_castY C (ci := 11) (T := TX12) hq rfl q1 (C.nw hG q1894 rfl) hd h
/-- rows on the way: numbers of streets, of corners taken over -/
def bcA (t u : Nat → Nat) : Nat → Nat := fun i => if i = 0 ∨ 25 ≤ i ∨ (7 ≤ i ∧ i % 3 = 2) then u i else t i
def bcT (t u : Nat → Nat) (k : Nat) : Nat → Nat := fun i => if i = 6 then k else if 1 ≤ i ∧ i ≤ 5 then t i else u i
theorem cpy_in {f g : Nat → Int32} {n i : Nat} (h : i < n) : va_cpy f g 0 0 n i = f i := by
  unfold va_cpy
  rw [if_pos (by omega)]
  congr 1
  omega
theorem bc_law1 {G : gl_T} {w : wd_T} {a o : Nat} {t u : Nat → Nat} (hT : TN G w a t) (hO : TN G w o u) (hoa : o ≠ a) (hw : WF w) {f1 f2 f3 : Nat → Int32} (e1 : ∀ i, i < 6 → f1 i = nI (u (7 + 3 * i + 1))) (e2 : ∀ i, i < 8 → f2 i = nI (u (26 + 2 * i))) (e3 : ∀ i, i < 8 → f3 i = nI (u (26 + 2 * i + 1))) :
    TN G (mu (mu (mu (mu w.1 a a (.inr (2, [.int (nI (u 0)), .int (nI (t 1)), .int (nI (t 4)), .int (nI (t 2)), .int (nI (t 3)), .ref (a + 1), .ref (a + 2), .int (nI (u 25)), .ref (a + 3), .ref (a + 4), .int (nI (t 5))]))) (a + 2) a (ai (gl_A G 0) 6 f1)) (a + 3) a (ai (gl_A G 0) 8 f2)) (a + 4) a (ai (gl_A G 0) 8 f3), w.2) a (bcA t u) ∧
    TN G (mu (mu (mu (mu w.1 a a (.inr (2, [.int (nI (u 0)), .int (nI (t 1)), .int (nI (t 4)), .int (nI (t 2)), .int (nI (t 3)), .ref (a + 1), .ref (a + 2), .int (nI (u 25)), .ref (a + 3), .ref (a + 4), .int (nI (t 5))]))) (a + 2) a (ai (gl_A G 0) 6 f1)) (a + 3) a (ai (gl_A G 0) 8 f2)) (a + 4) a (ai (gl_A G 0) 8 f3), w.2) o u ∧
    FR a w (mu (mu (mu (mu w.1 a a (.inr (2, [.int (nI (u 0)), .int (nI (t 1)), .int (nI (t 4)), .int (nI (t 2)), .int (nI (t 3)), .ref (a + 1), .ref (a + 2), .int (nI (u 25)), .ref (a + 3), .ref (a + 4), .int (nI (t 5))]))) (a + 2) a (ai (gl_A G 0) 6 f1)) (a + 3) a (ai (gl_A G 0) 8 f2)) (a + 4) a (ai (gl_A G 0) 8 f3), w.2) ∧
    WF (mu (mu (mu (mu w.1 a a (.inr (2, [.int (nI (u 0)), .int (nI (t 1)), .int (nI (t 4)), .int (nI (t 2)), .int (nI (t 3)), .ref (a + 1), .ref (a + 2), .int (nI (u 25)), .ref (a + 3), .ref (a + 4), .int (nI (t 5))]))) (a + 2) a (ai (gl_A G 0) 6 f1)) (a + 3) a (ai (gl_A G 0) 8 f2)) (a + 4) a (ai (gl_A G 0) 8 f3), w.2) := by
  obtain ⟨g0, ⟨e, md, hl, hL⟩, ⟨fm, g3, g4⟩, ⟨ff, g5, g6⟩, ⟨ft, g7, g8⟩, g9, g10⟩ := id hT
  have a1 := FR.upd (e1 := .inr (2, [.int (nI (u 0)), .int (nI (t 1)), .int (nI (t 4)), .int (nI (t 2)), .int (nI (t 3)), .ref (a + 1), .ref (a + 2), .int (nI (u 25)), .ref (a + 3), .ref (a + 4), .int (nI (t 5))])) g0 isC_TE
  have w1 := hw.upd (e1 := .inr (2, [.int (nI (u 0)), .int (nI (t 1)), .int (nI (t 4)), .int (nI (t 2)), .int (nI (t 3)), .ref (a + 1), .ref (a + 2), .int (nI (u 25)), .ref (a + 3), .ref (a + 4), .int (nI (t 5))])) g0
  have k3 := (mu_n (f := w.1) (τ := a) (e := .inr (2, [.int (nI (u 0)), .int (nI (t 1)), .int (nI (t 4)), .int (nI (t 2)), .int (nI (t 3)), .ref (a + 1), .ref (a + 2), .int (nI (u 25)), .ref (a + 3), .ref (a + 4), .int (nI (t 5))])) (show a + 2 ≠ a by omega)).trans g3
  have a2 := a1.trans (FR.upd (e1 := ai (gl_A G 0) 6 f1) k3 (fun z => z))
  have w2 := w1.upd (e1 := ai (gl_A G 0) 6 f1) k3
  have k5 := (mu_n (f := mu w.1 a a (.inr (2, [.int (nI (u 0)), .int (nI (t 1)), .int (nI (t 4)), .int (nI (t 2)), .int (nI (t 3)), .ref (a + 1), .ref (a + 2), .int (nI (u 25)), .ref (a + 3), .ref (a + 4), .int (nI (t 5))]))) (τ := a) (e := ai (gl_A G 0) 6 f1) (show a + 3 ≠ a + 2 by omega)).trans ((mu_n (show a + 3 ≠ a by omega)).trans g5)
  have a3 := a2.trans (FR.upd (e1 := ai (gl_A G 0) 8 f2) k5 (fun z => z))
  have w3 := w2.upd (e1 := ai (gl_A G 0) 8 f2) k5
  have k7 := (mu_n (f := mu (mu w.1 a a (.inr (2, [.int (nI (u 0)), .int (nI (t 1)), .int (nI (t 4)), .int (nI (t 2)), .int (nI (t 3)), .ref (a + 1), .ref (a + 2), .int (nI (u 25)), .ref (a + 3), .ref (a + 4), .int (nI (t 5))]))) (a + 2) a (ai (gl_A G 0) 6 f1)) (τ := a) (e := ai (gl_A G 0) 8 f2) (show a + 4 ≠ a + 3 by omega)).trans ((mu_n (show a + 4 ≠ a + 2 by omega)).trans ((mu_n (show a + 4 ≠ a by omega)).trans g7))
  have a4 := a3.trans (FR.upd (e1 := ai (gl_A G 0) 8 f3) k7 (fun z => z))
  have w4 := w3.upd (e1 := ai (gl_A G 0) 8 f3) k7
  have b6 : bcA t u 6 = t 6 := rfl
  have nev : ∀ {b : Nat} {σ : Nat} {c n : Nat} {g : Nat → Int32}, w.1 b = some (σ, ai c n g) → ∀ {f : Nat → Option Nat}, w.1 e = some (a, aq (gl_A G 4) 10 f) → e ≠ b := fun hb _ he z => by
    rw [z, hb] at he
    cases he
  refine ⟨⟨?_, ⟨e, md, ?_, ?_⟩, ⟨f1, ?_, fun i hi => ?_⟩, ⟨f2, ?_, fun i hi => ?_⟩, ⟨f3, ?_, fun i hi => ?_⟩, g9, fun c hc => ?_⟩, hO.fr a4 hoa, a4, w4⟩
  · exact (mu_n (by omega)).trans ((mu_n (by omega)).trans ((mu_n (by omega)).trans mu_s))
  · exact (mu_n (by omega)).trans ((mu_n (by omega)).trans ((mu_n (by omega)).trans ((mu_n (by omega)).trans hl)))
  · rcases hL with ⟨h2, h2'⟩ | ⟨f, he, hf⟩
    · exact Or.inl ⟨h2, h2'⟩
    · have n0 : e ≠ a := fun z => by
        rw [z, g0] at he
        cases he
      refine Or.inr ⟨f, (mu_n (nev g7 he)).trans ((mu_n (nev g5 he)).trans ((mu_n (nev g3 he)).trans ((mu_n n0).trans he))), fun c hc => ?_⟩
      obtain ⟨q, hq, hcell⟩ := hf c hc
      have hc6 : c < t 6 := hc
      have ec : CE (bcA t u) c = CE t c := by
        unfold CE bcA
        rw [if_neg (by omega), if_neg (by omega)]
      refine ⟨q, hq, ?_⟩
      rw [ec]
      exact a4.2 _ _ _ hcell (Or.inr (isC_CE (g10 c hc6).1 (g10 c hc6).2))
  · exact (mu_n (by omega)).trans ((mu_n (by omega)).trans mu_s)
  · rw [e1 i hi]
    unfold bcA
    rw [if_pos (by omega)]
  · exact (mu_n (by omega)).trans mu_s
  · rw [e2 i hi]
    unfold bcA
    rw [if_pos (by omega)]
  · exact mu_s
  · rw [e3 i hi]
    unfold bcA
    rw [if_pos (by omega)]
  · have hc6 : c < t 6 := hc
    unfold bcA
    rw [if_neg (by omega)]
    exact g10 c hc6
theorem bc_law2 {G : gl_T} {w : wd_T} {a : Nat} {t u : Nat → Nat} (h : TN G w a (uN (bcA t u) 6 0)) : TN G w a (bcT t u 0) := by
  refine h.cg (fun i hi => ?_) ?_ (fun c hc => ?_) (fun c hc => ?_) (fun c hc => ?_)
  · rcases (show i = 0 ∨ i = 1 ∨ i = 2 ∨ i = 3 ∨ i = 4 ∨ i = 5 ∨ i = 6 by omega) with rfl | rfl | rfl | rfl | rfl | rfl | rfl <;> rfl
  · rfl
  · rw [uN_s] at hc
    omega
  · rw [uN_n (by omega)]
    unfold bcT bcA
    rw [if_neg (by omega), if_neg (by omega), if_pos (by omega)]
  · rw [uN_n (by omega), uN_n (by omega)]
    unfold bcT bcA
    rw [if_neg (by omega), if_neg (by omega), if_pos (by omega), if_neg (by omega), if_neg (by omega), if_pos (by omega)]
    exact ⟨rfl, rfl⟩
theorem bc_ad {t u : Nat → Nat} {i : Nat} : adT (bcT t u i) (u (7 + 3 * i)) (u (7 + 3 * i + 2)) = bcT t u (i + 1) := by
  have h6 : bcT t u i 6 = i := rfl
  funext j
  unfold adT
  rw [h6]
  unfold uN bcT
  by_cases z : j = 6
  · rw [if_pos z, if_pos z]
  · rw [if_neg z, if_neg z]
    by_cases z1 : j = 7 + 3 * i + 2
    · rw [if_pos z1, if_neg z, if_neg (show ¬ (1 ≤ j ∧ j ≤ 5) by omega), z1]
    · rw [if_neg z1]
      by_cases z2 : j = 7 + 3 * i
      · rw [if_pos z2, if_neg z, if_neg (show ¬ (1 ≤ j ∧ j ≤ 5) by omega), z2]
      · rw [if_neg z2, if_neg z]
theorem bc_law3 {G : gl_T} {w0 w : wd_T} {a : Nat} {t u : Nat → Nat} (hT : TN G w a (bcT t u (u 6))) (hF : FR a w0 w) (hw : WF w) : TN G (mu w.1 a a (TE a (rAs (bcT t u (u 6)) u)), w.2) a u ∧ FR a w0 (mu w.1 a a (TE a (rAs (bcT t u (u 6)) u)), w.2) ∧ WF (mu w.1 a a (TE a (rAs (bcT t u (u 6)) u)), w.2) := by
  have e : rAs (bcT t u (u 6)) u = u := by
    funext i
    unfold rAs bcT
    by_cases z : 1 ≤ i ∧ i ≤ 5
    · rw [if_pos z]
    · rw [if_neg z]
      by_cases z6 : i = 6
      · rw [if_pos z6, z6]
      · rw [if_neg z6, if_neg z]
  rw [e]
  refine ⟨hT.sc rfl (fun i h1 h2 => ?_), hF.trans (FR.upd hT.1 isC_TE), hw.upd hT.1⟩
  unfold bcT
  rw [if_neg (by omega), if_neg (by omega)]
theorem tag_ne {w : wd_T} {a b τ σ : Nat} {e e' : va_E} (ha : w.1 a = some (τ, e)) (hb : w.1 b = some (σ, e')) (h : τ ≠ σ) : a ≠ b := fun z => by
  rw [z, hb] at ha
  cases ha
  exact h rfl
set_option maxHeartbeats 400000 in
theorem kX2_become (G : gl_T) (w : wd_T) (hG : GH G) (a o : Nat) (t u : Nat → Nat) (hT : TN G w a t) (hO : TN G w o u) (hoa : o ≠ a) (hw : WF w) : Mt G yX2_become cX2_become 3 none 5 [.ref a, .ref o] w (pV (fun w' => TN G w' a u ∧ FR a w w' ∧ WF w')) 1 10 := by
  refine Mt.start (by decide) (Nat.le_of_ble_eq_true rfl) (fun k C => ?_)
  have C : Cx G k cX2_become "MoodFare$Town" "become" 3 none 5 1 10 _ := C
  obtain ⟨h0, ⟨e, md, h1, h2⟩, ⟨fm, hm, vm⟩, ⟨ff, hf, vf⟩, ⟨ft, ho, vo⟩, h6, hk⟩ := id hT
  obtain ⟨oh0, ⟨oe, omd, oh1, oh2⟩, ⟨ofm, ohm, ovm⟩, ⟨off, ohf, ovf⟩, ⟨oft, oho, ovo⟩, oh6, ohk⟩ := id hO
  refine j_aload_n C dX2_become_0 rfl 0 rfl ?_
  refine j_aload_n C dX2_become_1 rfl 1 rfl ?_
  refine j_get (w := w) C in_X2 (ci := 2) (T := TX2) rfl oh0 0 (by decide) q165 (fun _ z => z) (v := .int (nI (u 0))) rfl dX2_become_2 ?_
  refine j_put (w := w) C (ty0 := tyX2) in_X2 tyX2_ok nmX2 (ci := 2) (T := TX2) rfl h0 0 (by decide) q165 (fun _ z => z) rfl rfl rfl (fs' := [.int (nI (u 0)), .int (nI (t 1)), .int (nI (t 4)), .int (nI (t 2)), .int (nI (t 3)), .ref (a + 1), .ref (a + 2), .int (nI (t 25)), .ref (a + 3), .ref (a + 4), .int (nI (t 5))]) (Nat.le_of_ble_eq_true rfl) rfl dX2_become_5 ?_
  refine j_aload_n C dX2_become_8 rfl 0 rfl ?_
  refine j_aload_n C dX2_become_9 rfl 1 rfl ?_
  refine j_get (w := ((mu w.1 a a (.inr (2, [.int (nI (u 0)), .int (nI (t 1)), .int (nI (t 4)), .int (nI (t 2)), .int (nI (t 3)), .ref (a + 1), .ref (a + 2), .int (nI (t 25)), .ref (a + 3), .ref (a + 4), .int (nI (t 5))]))), w.2)) C in_X2 (ci := 2) (T := TX2) rfl ((mu_n (tag_ne oh0 h0 hoa)).trans oh0) 7 (by decide) q193 (fun _ z => z) (v := .int (nI (u 25))) rfl dX2_become_10 ?_
  refine j_put (w := ((mu w.1 a a (.inr (2, [.int (nI (u 0)), .int (nI (t 1)), .int (nI (t 4)), .int (nI (t 2)), .int (nI (t 3)), .ref (a + 1), .ref (a + 2), .int (nI (t 25)), .ref (a + 3), .ref (a + 4), .int (nI (t 5))]))), w.2)) C (ty0 := tyX2) in_X2 tyX2_ok nmX2 (ci := 2) (T := TX2) rfl mu_s 7 (by decide) q193 (fun _ z => z) rfl rfl rfl (fs' := [.int (nI (u 0)), .int (nI (t 1)), .int (nI (t 4)), .int (nI (t 2)), .int (nI (t 3)), .ref (a + 1), .ref (a + 2), .int (nI (u 25)), .ref (a + 3), .ref (a + 4), .int (nI (t 5))]) (Nat.le_of_ble_eq_true rfl) rfl dX2_become_13 ?_
  refine J.eq (w' := ((mu w.1 a a (.inr (2, [.int (nI (u 0)), .int (nI (t 1)), .int (nI (t 4)), .int (nI (t 2)), .int (nI (t 3)), .ref (a + 1), .ref (a + 2), .int (nI (u 25)), .ref (a + 3), .ref (a + 4), .int (nI (t 5))]))), w.2)) ?_ (congrArg (fun z => (z, w.2)) mu_mu) rfl rfl
  refine j_aload_n C dX2_become_16 rfl 1 rfl ?_
  refine j_get (w := ((mu w.1 a a (.inr (2, [.int (nI (u 0)), .int (nI (t 1)), .int (nI (t 4)), .int (nI (t 2)), .int (nI (t 3)), .ref (a + 1), .ref (a + 2), .int (nI (u 25)), .ref (a + 3), .ref (a + 4), .int (nI (t 5))]))), w.2)) C in_X2 (ci := 2) (T := TX2) rfl ((mu_n (tag_ne oh0 h0 hoa)).trans oh0) 6 (by decide) q188 (fun _ z => z) (v := .ref (o + 2)) rfl dX2_become_17 ?_
  refine j_iconst (v := nI 0) C dX2_become_20 rfl ?_
  refine j_aload_n C dX2_become_21 rfl 0 rfl ?_
  refine j_get (w := ((mu w.1 a a (.inr (2, [.int (nI (u 0)), .int (nI (t 1)), .int (nI (t 4)), .int (nI (t 2)), .int (nI (t 3)), .ref (a + 1), .ref (a + 2), .int (nI (u 25)), .ref (a + 3), .ref (a + 4), .int (nI (t 5))]))), w.2)) C in_X2 (ci := 2) (T := TX2) rfl mu_s 6 (by decide) q188 (fun _ z => z) (v := .ref (a + 2)) rfl dX2_become_22 ?_
  refine j_iconst (v := nI 0) C dX2_become_25 rfl ?_
  refine j_bipush (v := nI 6) C dX2_become_26 rfl ?_
  refine j_copyi (w := ((mu w.1 a a (.inr (2, [.int (nI (u 0)), .int (nI (t 1)), .int (nI (t 4)), .int (nI (t 2)), .int (nI (t 3)), .ref (a + 1), .ref (a + 2), .int (nI (u 25)), .ref (a + 3), .ref (a + 4), .int (nI (t 5))]))), w.2)) C 0 ((mu_n (tag_ne ohm h0 hoa)).trans ohm) ((mu_n (by omega)).trans hm) rfl rfl q843 q485 q484 q83 (0) (0) (6) rfl rfl rfl (by omega) (by omega) (by decide) (by decide) (fun _ _ => rfl) (Nat.le_of_ble_eq_true rfl) dX2_become_28 ?_
  refine j_aload_n C dX2_become_31 rfl 1 rfl ?_
  refine j_get (w := ((mu (mu w.1 a a (.inr (2, [.int (nI (u 0)), .int (nI (t 1)), .int (nI (t 4)), .int (nI (t 2)), .int (nI (t 3)), .ref (a + 1), .ref (a + 2), .int (nI (u 25)), .ref (a + 3), .ref (a + 4), .int (nI (t 5))]))) (a + 2) a (ai (gl_A G 0) 6 (va_cpy ofm fm 0 0 6))), w.2)) C in_X2 (ci := 2) (T := TX2) rfl ((mu_n (tag_ne oh0 hm hoa)).trans ((mu_n (tag_ne oh0 h0 hoa)).trans oh0)) 8 (by decide) q196 (fun _ z => z) (v := .ref (o + 3)) rfl dX2_become_32 ?_
  refine j_iconst (v := nI 0) C dX2_become_35 rfl ?_
  refine j_aload_n C dX2_become_36 rfl 0 rfl ?_
  refine j_get (w := ((mu (mu w.1 a a (.inr (2, [.int (nI (u 0)), .int (nI (t 1)), .int (nI (t 4)), .int (nI (t 2)), .int (nI (t 3)), .ref (a + 1), .ref (a + 2), .int (nI (u 25)), .ref (a + 3), .ref (a + 4), .int (nI (t 5))]))) (a + 2) a (ai (gl_A G 0) 6 (va_cpy ofm fm 0 0 6))), w.2)) C in_X2 (ci := 2) (T := TX2) rfl ((mu_n (by omega)).trans mu_s) 8 (by decide) q196 (fun _ z => z) (v := .ref (a + 3)) rfl dX2_become_37 ?_
  refine j_iconst (v := nI 0) C dX2_become_40 rfl ?_
  refine j_bipush (v := nI 8) C dX2_become_41 rfl ?_
  refine j_copyi (w := ((mu (mu w.1 a a (.inr (2, [.int (nI (u 0)), .int (nI (t 1)), .int (nI (t 4)), .int (nI (t 2)), .int (nI (t 3)), .ref (a + 1), .ref (a + 2), .int (nI (u 25)), .ref (a + 3), .ref (a + 4), .int (nI (t 5))]))) (a + 2) a (ai (gl_A G 0) 6 (va_cpy ofm fm 0 0 6))), w.2)) C 0 ((mu_n (tag_ne ohf hm hoa)).trans ((mu_n (tag_ne ohf h0 hoa)).trans ohf)) ((mu_n (by omega)).trans ((mu_n (by omega)).trans hf)) rfl rfl q843 q485 q484 q83 (0) (0) (8) rfl rfl rfl (by omega) (by omega) (by decide) (by decide) (fun _ _ => rfl) (Nat.le_of_ble_eq_true rfl) dX2_become_43 ?_
  refine j_aload_n C dX2_become_46 rfl 1 rfl ?_
  refine j_get (w := ((mu (mu (mu w.1 a a (.inr (2, [.int (nI (u 0)), .int (nI (t 1)), .int (nI (t 4)), .int (nI (t 2)), .int (nI (t 3)), .ref (a + 1), .ref (a + 2), .int (nI (u 25)), .ref (a + 3), .ref (a + 4), .int (nI (t 5))]))) (a + 2) a (ai (gl_A G 0) 6 (va_cpy ofm fm 0 0 6))) (a + 3) a (ai (gl_A G 0) 8 (va_cpy off ff 0 0 8))), w.2)) C in_X2 (ci := 2) (T := TX2) rfl ((mu_n (tag_ne oh0 hf hoa)).trans ((mu_n (tag_ne oh0 hm hoa)).trans ((mu_n (tag_ne oh0 h0 hoa)).trans oh0))) 9 (by decide) q199 (fun _ z => z) (v := .ref (o + 4)) rfl dX2_become_47 ?_
  refine j_iconst (v := nI 0) C dX2_become_50 rfl ?_
  refine j_aload_n C dX2_become_51 rfl 0 rfl ?_
  refine j_get (w := ((mu (mu (mu w.1 a a (.inr (2, [.int (nI (u 0)), .int (nI (t 1)), .int (nI (t 4)), .int (nI (t 2)), .int (nI (t 3)), .ref (a + 1), .ref (a + 2), .int (nI (u 25)), .ref (a + 3), .ref (a + 4), .int (nI (t 5))]))) (a + 2) a (ai (gl_A G 0) 6 (va_cpy ofm fm 0 0 6))) (a + 3) a (ai (gl_A G 0) 8 (va_cpy off ff 0 0 8))), w.2)) C in_X2 (ci := 2) (T := TX2) rfl ((mu_n (by omega)).trans ((mu_n (by omega)).trans mu_s)) 9 (by decide) q199 (fun _ z => z) (v := .ref (a + 4)) rfl dX2_become_52 ?_
  refine j_iconst (v := nI 0) C dX2_become_55 rfl ?_
  refine j_bipush (v := nI 8) C dX2_become_56 rfl ?_
  refine j_copyi (w := ((mu (mu (mu w.1 a a (.inr (2, [.int (nI (u 0)), .int (nI (t 1)), .int (nI (t 4)), .int (nI (t 2)), .int (nI (t 3)), .ref (a + 1), .ref (a + 2), .int (nI (u 25)), .ref (a + 3), .ref (a + 4), .int (nI (t 5))]))) (a + 2) a (ai (gl_A G 0) 6 (va_cpy ofm fm 0 0 6))) (a + 3) a (ai (gl_A G 0) 8 (va_cpy off ff 0 0 8))), w.2)) C 0 ((mu_n (tag_ne oho hf hoa)).trans ((mu_n (tag_ne oho hm hoa)).trans ((mu_n (tag_ne oho h0 hoa)).trans oho))) ((mu_n (by omega)).trans ((mu_n (by omega)).trans ((mu_n (by omega)).trans ho))) rfl rfl q843 q485 q484 q83 (0) (0) (8) rfl rfl rfl (by omega) (by omega) (by decide) (by decide) (fun _ _ => rfl) (Nat.le_of_ble_eq_true rfl) dX2_become_58 ?_
  refine j_abs (P := fun w4 => TN G w4 a (bcA t u) ∧ TN G w4 o u ∧ FR a w w4 ∧ WF w4) (bc_law1 hT hO hoa hw (fun i hi => (cpy_in hi).trans (ovm i hi)) (fun i hi => (cpy_in hi).trans (ovf i hi)) (fun i hi => (cpy_in hi).trans (ovo i hi))) (fun w4 h4 => ?_)
  obtain ⟨hT4, hO4, hF4, hW4⟩ := h4
  obtain ⟨x4h0, ⟨x4e, x4md, x4h1, x4h2⟩, ⟨x4fm, x4hm, x4vm⟩, ⟨x4ff, x4hf, x4vf⟩, ⟨x4ft, x4ho, x4vo⟩, x4h6, x4hk⟩ := id hT4
  obtain ⟨y4h0, ⟨y4e, y4md, y4h1, y4h2⟩, ⟨y4fm, y4hm, y4vm⟩, ⟨y4ff, y4hf, y4vf⟩, ⟨y4ft, y4ho, y4vo⟩, y4h6, y4hk⟩ := id hO4
  refine j_aload_n C dX2_become_61 rfl 0 rfl ?_
  refine j_get (w := w4) C in_X2 (ci := 2) (T := TX2) rfl x4h0 5 (by decide) q184 (fun _ z => z) (v := .ref (a + 1)) rfl dX2_become_62 ?_
  refine j_callF (w := w4) C (tn_clear hT4 hW4) pV.ret (ci := 20) (T := TJ2) x4h1 rfl 0 (C.fw hG ⟨q847, q846, q851, q849, q697, by decide⟩) q845 q848 q850 q71 q852 (by decide +kernel) rfl (by decide) (by decide) (Nat.le_of_ble_eq_true rfl) rfl dX2_become_65 (by omega) (by omega) (pV.k (fun w5 h5 => ?_))
  obtain ⟨hT5a, hF5a, hW5⟩ := h5
  have hT5 := bc_law2 hT5a
  have hO5 := hO4.fr hF5a hoa
  have hF5 := hF4.trans hF5a
  obtain ⟨x5h0, ⟨x5e, x5md, x5h1, x5h2⟩, ⟨x5fm, x5hm, x5vm⟩, ⟨x5ff, x5hf, x5vf⟩, ⟨x5ft, x5ho, x5vo⟩, x5h6, x5hk⟩ := id hT5
  obtain ⟨y5h0, ⟨y5e, y5md, y5h1, y5h2⟩, ⟨y5fm, y5hm, y5vm⟩, ⟨y5ff, y5hf, y5vf⟩, ⟨y5ft, y5ho, y5vo⟩, y5h6, y5hk⟩ := id hO5
  refine j_iconst (v := nI 0) C dX2_become_70 rfl ?_
  refine j_istore_n (lv' := [(2, .int (nI 0)), (0, .ref a), (1, .ref o)]) C dX2_become_71 rfl (by decide) rfl ?_
  have lp : ∀ (n i : Nat) (w6 : wd_T), 1 ≤ i → i ≤ u 6 → u 6 < i + n → TN G w6 a (bcT t u i) → OWN G w6 a → TN G w6 o u → FR a w w6 → WF w6 → J G k w6 [(2, .int (nI i)), (0, .ref a), (1, .ref o)] 72 [] 1 10 := by
    intro n
    induction n with
    | zero => intro i w6 h1 h2 h3; omega
    | succ n ih =>
      intro i w6 h1 h2 h3 hT6 hN6 hO6 hF6 hW6
      obtain ⟨x6h0, ⟨x6e, x6md, x6h1, x6h2⟩, ⟨x6fm, x6hm, x6vm⟩, ⟨x6ff, x6hf, x6vf⟩, ⟨x6ft, x6ho, x6vo⟩, x6h6, x6hk⟩ := id hT6
      obtain ⟨y6h0, ⟨y6e, y6md, y6h1, y6h2⟩, ⟨y6fm, y6hm, y6vm⟩, ⟨y6ff, y6hf, y6vf⟩, ⟨y6ft, y6ho, y6vo⟩, y6h6, y6hk⟩ := id hO6
      refine j_iload_n C dX2_become_72 rfl 0 rfl ?_
      refine j_aload_n C dX2_become_73 rfl 2 rfl ?_
      refine j_get (w := w6) C in_X2 (ci := 2) (T := TX2) rfl y6h0 5 (by decide) q184 (fun _ z => z) (v := .ref (o + 1)) rfl dX2_become_74 ?_
      refine j_callF (w := w6) C (tn_size hO6) pI.ret (ci := 20) (T := TJ2) y6h1 rfl 0 (C.fw hG ⟨q696, q695, q701, q699, q697, by decide⟩) q694 q698 q700 q71 q702 (by decide +kernel) rfl (by decide) (by decide) (Nat.le_of_ble_eq_true rfl) rfl dX2_become_77 (by omega) (by omega) (qI.k ?_)
      refine j_icmp_geN C 114 dX2_become_82 (by decide) (by omega) (by omega) (fun c82 => ?_) (fun c82 => ?_)
      · obtain rfl : i = u 6 := by have z : u 6 ≤ i := c82; omega
        refine j_aload_n C dX2_become_114 rfl 1 rfl ?_
        refine j_aload_n C dX2_become_115 rfl 2 rfl ?_
        refine j_callV (w := w6) C (kX2_rideAs G w6 a o (bcT t u (u 6)) u x6h0 y6h0 hoa) pV.ret (ci := 2) (T := TX2) x6h0 rfl 1 q875 q876 q877 q68 q878 (by decide +kernel) rfl (by decide) (by decide) (Nat.le_of_ble_eq_true rfl) rfl dX2_become_116 (by omega) (by omega) (qV.k ?_)
        exact j_vret C (by omega) (by omega) (pV.mk (bc_law3 hT6 hF6 hW6)) dX2_become_119
      · refine j_aload_n C dX2_become_85 rfl 1 rfl ?_
        refine j_get (w := w6) C in_X2 (ci := 2) (T := TX2) rfl x6h0 5 (by decide) q184 (fun _ z => z) (v := .ref (a + 1)) rfl dX2_become_86 ?_
        refine j_aload_n C dX2_become_89 rfl 2 rfl ?_
        refine j_get (w := w6) C in_X2 (ci := 2) (T := TX2) rfl y6h0 5 (by decide) q184 (fun _ z => z) (v := .ref (o + 1)) rfl dX2_become_90 ?_
        refine j_iload_n C dX2_become_93 rfl 0 rfl ?_
        obtain ⟨q1, hq1, gq1⟩ := tn_get hO6 i (by omega)
        refine j_callF (w := w6) C (gq1) pA.ret (ci := 20) (T := TJ2) y6h1 rfl 1 (C.fw hG ⟨q856, q855, q860, q858, q697, by decide⟩) q854 q857 q859 q71 q861 (by decide +kernel) rfl (by decide) (by decide) (Nat.le_of_ble_eq_true rfl) rfl dX2_become_94 (by omega) (by omega) (qA.k ?_)
        refine j_castC (w := w6) C hG hq1 (hO6.2.2.2.2.2.2 i (by omega)).1 (hO6.2.2.2.2.2.2 i (by omega)).2 q872 dX2_become_99 ?_
        refine j_callF (w := w6) C (tn_add_own (kd := u (7 + 3 * i)) (fee := u (7 + 3 * i + 2)) hG hT6 hN6 hW6 (show i < 6 by omega) hq1 (hO6.2.2.2.2.2.2 i (by omega)).1 (hO6.2.2.2.2.2.2 i (by omega)).2) pI.ret (ci := 20) (T := TJ2) x6h1 rfl 1 (C.fw hG ⟨q761, q760, q765, q763, q697, by decide⟩) q874 q762 q764 q71 q766 (by decide +kernel) rfl (by decide) (by decide) (Nat.le_of_ble_eq_true rfl) rfl dX2_become_102 (by omega) (by omega) (pI.k (fun r7 w7 h7 => ?_))
        obtain ⟨hT7a, hN7, hF7a, hW7⟩ := h7
        have hT7 := hT7a.eq bc_ad
        have hO7 := hO6.fr hF7a hoa
        have hF7 := hF6.trans hF7a
        refine j_pop C dX2_become_107 rfl ?_
        refine j_iincN (lv' := [(2, .int (nI (i + 1))), (0, .ref a), (1, .ref o)]) C dX2_become_108 0 rfl (by decide) rfl ?_
        refine j_goto C 72 dX2_become_111 (by decide) ?_
        refine j_lv [0, 1, 2] (lv' := [(2, .int (nI (i + 1))), (0, .ref a), (1, .ref o)]) rfl ?_
        exact ih (i + 1) w7 (by omega) (by omega) (by omega) hT7 hN7 hO7 hF7 hW7
  refine j_iload_n C dX2_become_72 rfl 0 rfl ?_
  refine j_aload_n C dX2_become_73 rfl 2 rfl ?_
  refine j_get (w := w5) C in_X2 (ci := 2) (T := TX2) rfl y5h0 5 (by decide) q184 (fun _ z => z) (v := .ref (o + 1)) rfl dX2_become_74 ?_
  refine j_callF (w := w5) C (tn_size hO5) pI.ret (ci := 20) (T := TJ2) y5h1 rfl 0 (C.fw hG ⟨q696, q695, q701, q699, q697, by decide⟩) q694 q698 q700 q71 q702 (by decide +kernel) rfl (by decide) (by decide) (Nat.le_of_ble_eq_true rfl) rfl dX2_become_77 (by omega) (by omega) (qI.k ?_)
  refine j_icmp_geN C 114 dX2_become_82 (by decide) (by omega) (by omega) (fun c82 => ?_) (fun c82 => ?_)
  · have z6 : u 6 = 0 := by have z : u 6 ≤ 0 := c82; omega
    refine j_aload_n C dX2_become_114 rfl 1 rfl ?_
    refine j_aload_n C dX2_become_115 rfl 2 rfl ?_
    refine j_callV (w := w5) C (kX2_rideAs G w5 a o (bcT t u 0) u x5h0 y5h0 hoa) pV.ret (ci := 2) (T := TX2) x5h0 rfl 1 q875 q876 q877 q68 q878 (by decide +kernel) rfl (by decide) (by decide) (Nat.le_of_ble_eq_true rfl) rfl dX2_become_116 (by omega) (by omega) (qV.k ?_)
    exact j_vret C (by omega) (by omega) (pV.mk (bc_law3 (show TN G w5 a (bcT t u (u 6)) by rw [z6]; exact hT5) hF5 hW5 |> fun q => by rw [z6] at q; exact q)) dX2_become_119
  · refine j_aload_n C dX2_become_85 rfl 1 rfl ?_
    refine j_get (w := w5) C in_X2 (ci := 2) (T := TX2) rfl x5h0 5 (by decide) q184 (fun _ z => z) (v := .ref (a + 1)) rfl dX2_become_86 ?_
    refine j_aload_n C dX2_become_89 rfl 2 rfl ?_
    refine j_get (w := w5) C in_X2 (ci := 2) (T := TX2) rfl y5h0 5 (by decide) q184 (fun _ z => z) (v := .ref (o + 1)) rfl dX2_become_90 ?_
    refine j_iload_n C dX2_become_93 rfl 0 rfl ?_
    obtain ⟨q2, hq2, gq2⟩ := tn_get hO5 0 (by omega)
    refine j_callF (w := w5) C (gq2) pA.ret (ci := 20) (T := TJ2) y5h1 rfl 1 (C.fw hG ⟨q856, q855, q860, q858, q697, by decide⟩) q854 q857 q859 q71 q861 (by decide +kernel) rfl (by decide) (by decide) (Nat.le_of_ble_eq_true rfl) rfl dX2_become_94 (by omega) (by omega) (qA.k ?_)
    refine j_castC (w := w5) C hG hq2 (hO5.2.2.2.2.2.2 0 (by omega)).1 (hO5.2.2.2.2.2.2 0 (by omega)).2 q872 dX2_become_99 ?_
    refine j_callF (w := w5) C (tn_add (kd := u (7 + 3 * 0)) (fee := u (7 + 3 * 0 + 2)) hG hT5 hW5 (show 0 < 6 by omega) hq2 (hO5.2.2.2.2.2.2 0 (by omega)).1 (hO5.2.2.2.2.2.2 0 (by omega)).2) pI.ret (ci := 20) (T := TJ2) x5h1 rfl 1 (C.fw hG ⟨q761, q760, q765, q763, q697, by decide⟩) q874 q762 q764 q71 q766 (by decide +kernel) rfl (by decide) (by decide) (Nat.le_of_ble_eq_true rfl) rfl dX2_become_102 (by omega) (by omega) (pI.k (fun r7 w7 h7 => ?_))
    obtain ⟨hT7a, hN7, hF7a, hW7⟩ := h7
    have hT7 := hT7a.eq bc_ad
    have hO7 := hO5.fr hF7a hoa
    have hF7 := hF5.trans hF7a
    refine j_pop C dX2_become_107 rfl ?_
    refine j_iincN (lv' := [(2, .int (nI (0 + 1))), (0, .ref a), (1, .ref o)]) C dX2_become_108 0 rfl (by decide) rfl ?_
    refine j_goto C 72 dX2_become_111 (by decide) ?_
    refine j_lv [0, 1, 2] (lv' := [(2, .int (nI 1)), (0, .ref a), (1, .ref o)]) rfl ?_
    exact lp (u 6) 1 w7 (by omega) (by omega) (by omega) hT7 hN7 hO7 hF7 hW7
