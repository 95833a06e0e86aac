/-! ===== the class: a town's list ===== -/
set_option maxRecDepth 100000
theorem tn_size {G : gl_T} {w : wd_T} {a : Nat} {t : Nat → Nat} (h : TN G w a t) : Mt G yJ2_size cJ2_size 1 (some .int) 0 [.ref (a + 1)] w (qI (nI (t 6)) w) 0 0 := by
  obtain ⟨-, ⟨e, md, h1, -⟩, -⟩ := h
  exact kJ2_size G w (a + 1) a e (t 6) md h1
theorem tn_get {G : gl_T} {w : wd_T} {a : Nat} {t : Nat → Nat} (h : TN G w a t) (c : Nat) (hc : c < t 6) : ∃ q, w.1 q = some (q, CE t c) ∧ Mt G yJ2_get cJ2_get 2 (some (.object "java/lang/Object")) 2 [.ref (a + 1), .int (nI c)] w (qA (.ref q) w) 0 0 := by
  obtain ⟨-, ⟨e, md, h1, h2⟩, -, -, -, h6, -⟩ := h
  rcases h2 with ⟨-, h2⟩ | ⟨f, h2, h3⟩
  · omega
  · obtain ⟨q, hq, hcell⟩ := h3 c hc
    refine ⟨q, hcell, kJ2_get G w (a + 1) a e (t 6) md f h1 h2 (fun z => ?_) c q hc (by omega) hq⟩
    rw [z, h2] at h1
    cases h1
/-- any corner's class can be cast to Object -/
theorem cast_obj {G : gl_T} (hG : GH G) {k : Nat} (h1 : 1 ≤ k) (h2 : k ≤ 5) : ∃ r : vw_C, jcl[6 + k]? = some r ∧ ∀ U, KK G U → va_Nw (.castable r.1 "java/lang/Object") U := by
  rcases (show k = 1 ∨ k = 2 ∨ k = 3 ∨ k = 4 ∨ k = 5 by omega) with rfl | rfl | rfl | rfl | rfl
  · exact ⟨_, rfl, fun U hU => (hG.1 U hU.X).1 _ q1910 rfl⟩
  · exact ⟨_, rfl, fun U hU => (hG.1 U hU.X).1 _ q1911 rfl⟩
  · exact ⟨_, rfl, fun U hU => (hG.1 U hU.X).1 _ q1912 rfl⟩
  · exact ⟨_, rfl, fun U hU => (hG.1 U hU.X).1 _ q1913 rfl⟩
  · exact ⟨_, rfl, fun U hU => (hG.1 U hU.X).1 _ q1914 rfl⟩
/-- one more corner -/
def adT (t : Nat → Nat) (kd fee : Nat) : Nat → Nat := uN (uN (uN t (7 + 3 * t 6) kd) (7 + 3 * t 6 + 2) fee) 6 (t 6 + 1)
theorem CE_ne {t : Nat → Nat} {c a τ : Nat} {w : wd_T} {fs : List Value} {ci : Nat} (hq : w.1 a = some (τ, CE t c)) (h : w.1 a = some (τ, .inr (ci, fs))) (h1 : 1 ≤ t (7 + 3 * c)) (hc : ¬ (7 ≤ ci ∧ ci ≤ 11)) (h2 : t (7 + 3 * c) ≤ 5) : False := by
  rw [hq] at h
  have := congrArg (fun o => Option.map (fun p : Nat × va_E => match p.2 with | .inr (k, _) => k | _ => 0) o) h
  simp at this
  omega
theorem tn_add_law {G : gl_T} {w : wd_T} {a e v kd fee : Nat} {md md' : Int32} {t : Nat → Nat} {f : Nat → Option Nat} (h : TN G w a t) (hw : WF w) (hl : w.1 (a + 1) = some (a, .inr (20, [.int md, .ref e, .int (nI (t 6))]))) (he : w.1 e = some (a, aq (gl_A G 4) 10 f)) (hf : ∀ c, c < t 6 → ∃ q, f c = some q ∧ w.1 q = some (q, CE t c)) (h6 : t 6 < 6) (hv : w.1 v = some (v, .inr (6 + kd, [.int (nI (t 6)), .int (nI fee)]))) (k1 : 1 ≤ kd) (k2 : kd ≤ 5) :
    TN G (mu (mu w.1 e a (aq (gl_A G 4) 10 (va_up f (t 6) (some v)))) (a + 1) a (.inr (20, [.int md', .ref e, .int (nI (t 6 + 1))])), w.2) a (adT t kd fee) ∧ FR a w (mu (mu w.1 e a (aq (gl_A G 4) 10 (va_up f (t 6) (some v)))) (a + 1) a (.inr (20, [.int md', .ref e, .int (nI (t 6 + 1))])), w.2) ∧ WF (mu (mu w.1 e a (aq (gl_A G 4) 10 (va_up f (t 6) (some v)))) (a + 1) a (.inr (20, [.int md', .ref e, .int (nI (t 6 + 1))])), w.2) := by
  have hne : a + 1 ≠ e := fun z => by
    rw [z, he] at hl
    cases hl
  obtain ⟨g0, -, ⟨fm, g3, g4⟩, ⟨ff, g5, g6⟩, ⟨ft, g7, g8⟩, g9, g10⟩ := h
  have ne0 : a ≠ e := fun z => by
    rw [z, he] at g0
    cases g0
  have nev : ∀ {b : Nat} {σ : Nat} {c n : Nat} {g : Nat → Int32}, w.1 b = some (σ, ai c n g) → b ≠ e := fun hb z => by
    rw [z, he] at hb
    cases hb
  have hF : FR a w (mu (mu w.1 e a (aq (gl_A G 4) 10 (va_up f (t 6) (some v)))) (a + 1) a (.inr (20, [.int md', .ref e, .int (nI (t 6 + 1))])), w.2) :=
    (FR.upd he (fun z => z)).trans (FR.upd (w := (mu w.1 e a (aq (gl_A G 4) 10 (va_up f (t 6) (some v))), w.2)) ((mu_n hne).trans hl) (fun z => by have : (20 : Nat) ≤ 11 := z.2; omega))
  refine ⟨⟨?_, ⟨e, md', ?_, Or.inr ⟨va_up f (t 6) (some v), ?_, fun c hc => ?_⟩⟩, ⟨fm, ?_, fun i hi => ?_⟩, ⟨ff, ?_, fun i hi => ?_⟩, ⟨ft, ?_, fun i hi => ?_⟩, ?_, fun c hc => ?_⟩, hF, (hw.upd he).upd ((mu_n hne).trans hl)⟩
  · have ea : ∀ i, i < 6 ∨ i = 25 → adT t kd fee i = t i := by
      intro i hi
      unfold adT uN
      rw [if_neg (by omega), if_neg (by omega), if_neg (by omega)]
    have : TE a (adT t kd fee) = TE a t := by
      unfold TE
      rw [ea 0 (by omega), ea 1 (by omega), ea 2 (by omega), ea 3 (by omega), ea 4 (by omega), ea 5 (by omega), ea 25 (by omega)]
    rw [this]
    exact (mu_n (by omega)).trans ((mu_n ne0).trans g0)
  · exact mu_s
  · exact (mu_n (Ne.symm hne)).trans mu_s
  · have e6 : adT t kd fee 6 = t 6 + 1 := by simp [adT, uN]
    by_cases z : c = t 6
    · subst z
      refine ⟨v, va_up_self _ _ _, ?_⟩
      have n1 : v ≠ a + 1 := fun z => by
        rw [z, hl] at hv
        cases hv
      have n2 : v ≠ e := fun z => by
        rw [z, he] at hv
        cases hv
      have ec : CE (adT t kd fee) (t 6) = .inr (6 + kd, [.int (nI (t 6)), .int (nI fee)]) := by
        unfold CE adT uN
        rw [if_neg (show ¬ 7 + 3 * t 6 = 6 by omega), if_neg (show ¬ 7 + 3 * t 6 = 7 + 3 * t 6 + 2 by omega), if_pos rfl, if_neg (show ¬ 7 + 3 * t 6 + 2 = 6 by omega), if_pos rfl]
      rw [ec]
      exact (mu_n n1).trans ((mu_n n2).trans hv)
    · obtain ⟨q, hq, hcell⟩ := hf c (by omega)
      refine ⟨q, (va_up_ne _ _ z).trans hq, ?_⟩
      have n1 : q ≠ a + 1 := fun z => by
        have hb := g10 c (by omega)
        rw [z] at hcell
        rw [hl] at hcell
        have := congrArg (fun o => Option.map (fun p : Nat × va_E => match p.2 with | .inr (k, _) => k | _ => 0) o) hcell
        simp at this
        omega
      have n2 : q ≠ e := fun z => by
        rw [z, he] at hcell
        cases hcell
      have ec : CE (adT t kd fee) c = CE t c := by
        unfold CE adT uN
        rw [if_neg (show ¬ 7 + 3 * c = 6 by omega), if_neg (show ¬ 7 + 3 * c = 7 + 3 * t 6 + 2 by omega), if_neg (show ¬ 7 + 3 * c = 7 + 3 * t 6 by omega), if_neg (show ¬ 7 + 3 * c + 2 = 6 by omega), if_neg (show ¬ 7 + 3 * c + 2 = 7 + 3 * t 6 + 2 by omega), if_neg (show ¬ 7 + 3 * c + 2 = 7 + 3 * t 6 by omega)]
      rw [ec]
      exact (mu_n n1).trans ((mu_n n2).trans hcell)
  · exact (mu_n (by omega)).trans ((mu_n (nev g3)).trans g3)
  · rw [g4 i hi]
    unfold adT uN
    rw [if_neg (show ¬ 7 + 3 * i + 1 = 6 by omega), if_neg (show ¬ 7 + 3 * i + 1 = 7 + 3 * t 6 + 2 by omega), if_neg (show ¬ 7 + 3 * i + 1 = 7 + 3 * t 6 by omega)]
  · exact (mu_n (by omega)).trans ((mu_n (nev g5)).trans g5)
  · rw [g6 i hi]
    unfold adT uN
    rw [if_neg (show ¬ 26 + 2 * i = 6 by omega), if_neg (show ¬ 26 + 2 * i = 7 + 3 * t 6 + 2 by omega), if_neg (show ¬ 26 + 2 * i = 7 + 3 * t 6 by omega)]
  · exact (mu_n (by omega)).trans ((mu_n (nev g7)).trans g7)
  · rw [g8 i hi]
    unfold adT uN
    rw [if_neg (show ¬ 26 + 2 * i + 1 = 6 by omega), if_neg (show ¬ 26 + 2 * i + 1 = 7 + 3 * t 6 + 2 by omega), if_neg (show ¬ 26 + 2 * i + 1 = 7 + 3 * t 6 by omega)]
  · show adT t kd fee 6 ≤ 6
    simp [adT, uN]
    omega
  · have e6 : adT t kd fee 6 = t 6 + 1 := by simp [adT, uN]
    by_cases z : c = t 6
    · subst z
      have : adT t kd fee (7 + 3 * t 6) = kd := by
        unfold adT uN
        rw [if_neg (show ¬ 7 + 3 * t 6 = 6 by omega), if_neg (show ¬ 7 + 3 * t 6 = 7 + 3 * t 6 + 2 by omega), if_pos rfl]
      omega
    · have : adT t kd fee (7 + 3 * c) = t (7 + 3 * c) := by
        unfold adT uN
        rw [if_neg (show ¬ 7 + 3 * c = 6 by omega), if_neg (show ¬ 7 + 3 * c = 7 + 3 * t 6 + 2 by omega), if_neg (show ¬ 7 + 3 * c = 7 + 3 * t 6 by omega)]
      rw [this]
      exact g10 c (by omega)
/-- the town's row matters as far as it is told -/
def OWN (G : gl_T) (w : wd_T) (a : Nat) : Prop := ∃ (e : Nat) (md : Int32) (x : Value) (f : Nat → Option Nat), w.1 (a + 1) = some (a, .inr (20, [.int md, .ref e, x])) ∧ w.1 e = some (a, aq (gl_A G 4) 10 f)
theorem OWN.fr {G : gl_T} {w w' : wd_T} {a τ : Nat} (h : OWN G w a) (hF : FR τ w w') (hne : a ≠ τ) : OWN G w' a := by
  obtain ⟨e, md, x, f, h1, h2⟩ := h
  exact ⟨e, md, x, f, hF.2 _ _ _ h1 (Or.inl hne), hF.2 _ _ _ h2 (Or.inl hne)⟩
theorem tn_add_own {G : gl_T} {w : wd_T} {a v kd fee : Nat} {t : Nat → Nat} (hG : GH G) (h : TN G w a t) (hO : OWN G w a) (hw : WF w) (h6 : t 6 < 6) (hv : w.1 v = some (v, .inr (6 + kd, [.int (nI (t 6)), .int (nI fee)]))) (k1 : 1 ≤ kd) (k2 : kd ≤ 5) :
    Mt G yJ2_add cJ2_add 2 (some .boolean) 4 [.ref (a + 1), .ref v] w (pI (fun _ w' => TN G w' a (adT t kd fee) ∧ OWN G w' a ∧ FR a w w' ∧ WF w')) 0 0 := by
  obtain ⟨g0, ⟨e, md, hl, hL⟩, g⟩ := id h
  obtain ⟨r, hr, hca⟩ := cast_obj hG k1 k2
  have hvl : v ≠ a + 1 := fun z => by
    rw [z, hl] at hv
    have := congrArg (fun o => Option.map (fun p : Nat × va_E => match p.2 with | .inr (k, _) => k | _ => 0) o) hv
    simp at this
    omega
  obtain ⟨e', md', x, f, ho1, ho2⟩ := hO
  rw [hl] at ho1
  cases ho1
  have hf : ∀ c, c < t 6 → ∃ q, f c = some q ∧ w.1 q = some (q, CE t c) := by
    rcases hL with ⟨-, hz⟩ | ⟨f2, he2, hf2⟩
    · intro c hc
      omega
    · rw [ho2] at he2
      cases he2
      exact hf2
  have hne : a + 1 ≠ e := fun z => by
    rw [z, ho2] at hl
    cases hl
  have hve : v ≠ e := fun z => by
    rw [z, ho2] at hv
    cases hv
  refine Mt.mono (kJ2_add_o G w (a + 1) a e (t 6) md f hl ho2 hne v v (6 + kd) r _ hv hr hca hve hvl (by omega)) ?_
  intro o w' ho
  obtain ⟨x, rfl, -, rfl⟩ := ho
  have := tn_add_law (md' := md + 1) h hw hl ho2 hf h6 hv k1 k2
  exact ⟨x, rfl, this.1, ⟨e, md + 1, _, _, mu_s, (mu_n (Ne.symm hne)).trans mu_s⟩, this.2⟩
theorem tn_add {G : gl_T} {w : wd_T} {a v kd fee : Nat} {t : Nat → Nat} (hG : GH G) (h : TN G w a t) (hw : WF w) (h6 : t 6 < 6) (hv : w.1 v = some (v, .inr (6 + kd, [.int (nI (t 6)), .int (nI fee)]))) (k1 : 1 ≤ kd) (k2 : kd ≤ 5) :
    Mt G yJ2_add cJ2_add 2 (some .boolean) 4 [.ref (a + 1), .ref v] w (pI (fun _ w' => TN G w' a (adT t kd fee) ∧ OWN G w' a ∧ FR a w w' ∧ WF w')) 1 10 := by
  obtain ⟨g0, ⟨e, md, hl, hL⟩, g⟩ := id h
  obtain ⟨r, hr, hca⟩ := cast_obj hG k1 k2
  have hvl : v ≠ a + 1 := fun z => by
    rw [z, hl] at hv
    have := congrArg (fun o => Option.map (fun p : Nat × va_E => match p.2 with | .inr (k, _) => k | _ => 0) o) hv
    simp at this
    omega
  rcases hL with ⟨rfl, hz⟩ | ⟨f, he, hf⟩
  · rw [hz] at hl
    refine Mt.mono (kJ2_add_z G w hG (a + 1) a md hl (hw _ _ _ hl) v v (6 + kd) r _ hv hr hca (hw _ _ _ hv) hvl) ?_
    intro o w' ho
    obtain ⟨x, rfl, -, rfl⟩ := ho
    refine ⟨x, rfl, ?_⟩
    -- the array first, empty
    have hne2 : a + 1 ≠ w.2 := Nat.ne_of_lt (hw _ _ _ hl)
    have hv2 : v ≠ w.2 := Nat.ne_of_lt (hw _ _ _ hv)
    have hw1 : WF (mu w.1 w.2 a (aq (gl_A G 4) 10 (fun _ => none)), w.2 + 1) := hw.new
    have hF1 : ∀ τ, FR τ w (mu w.1 w.2 a (aq (gl_A G 4) 10 (fun _ => none)), w.2 + 1) := fun τ => FR.new hw
    have hl1 : (mu w.1 w.2 a (aq (gl_A G 4) 10 (fun _ => none)), w.2 + 1).1 (a + 1) = some (a, .inr (20, [.int md, .ref (gl_z G 0), .int (nI 0)])) := (mu_n hne2).trans hl
    have hT1 : TN G (mu (mu w.1 w.2 a (aq (gl_A G 4) 10 (fun _ => none))) (a + 1) a (.inr (20, [.int md, .ref w.2, .int (nI 0)])), w.2 + 1) a t := by
      obtain ⟨⟨fm, g3, g4⟩, ⟨ff, g5, g6⟩, ⟨ft, g7, g8⟩, g9, g10⟩ := g
      refine ⟨(mu_n (by omega)).trans ((mu_n (Nat.ne_of_lt (hw _ _ _ g0))).trans g0), ⟨w.2, md, by rw [hz]; exact mu_s, Or.inr ⟨fun _ => none, (mu_n (Ne.symm hne2)).trans mu_s, fun c hc => by omega⟩⟩, ⟨fm, (mu_n (by omega)).trans ((mu_n (Nat.ne_of_lt (hw _ _ _ g3))).trans g3), g4⟩, ⟨ff, (mu_n (by omega)).trans ((mu_n (Nat.ne_of_lt (hw _ _ _ g5))).trans g5), g6⟩, ⟨ft, (mu_n (by omega)).trans ((mu_n (Nat.ne_of_lt (hw _ _ _ g7))).trans g7), g8⟩, g9, g10⟩
    have hw2 : WF (mu (mu w.1 w.2 a (aq (gl_A G 4) 10 (fun _ => none))) (a + 1) a (.inr (20, [.int md, .ref w.2, .int (nI 0)])), w.2 + 1) := hw1.upd hl1
    have hF2 : FR a w (mu (mu w.1 w.2 a (aq (gl_A G 4) 10 (fun _ => none))) (a + 1) a (.inr (20, [.int md, .ref w.2, .int (nI 0)])), w.2 + 1) := (hF1 a).trans (FR.upd hl1 (fun z => by have : (20 : Nat) ≤ 11 := z.2; omega))
    have := tn_add_law (md' := md + 1) (v := v) (kd := kd) (fee := fee) hT1 hw2 (e := w.2) (md := md) (f := fun _ => none) (by rw [hz]; exact mu_s) ((mu_n (Ne.symm hne2)).trans mu_s) (fun c hc => by omega) h6 ((mu_n hvl).trans ((mu_n hv2).trans hv)) k1 k2
    obtain ⟨p1, p2, p3⟩ := this
    have ew : (mu (mu (mu (mu w.1 w.2 a (aq (gl_A G 4) 10 (fun _ => none))) (a + 1) a (.inr (20, [.int md, .ref w.2, .int (nI 0)]))) w.2 a (aq (gl_A G 4) 10 (va_up (fun _ => none) (t 6) (some v)))) (a + 1) a (.inr (20, [.int (md + 1), .ref w.2, .int (nI (t 6 + 1))])), w.2 + 1) = (mu (mu w.1 w.2 a (aq (gl_A G 4) 10 (va_up (fun _ => none) 0 (some v)))) (a + 1) a (.inr (20, [.int (md + 1), .ref w.2, .int (nI 1)])), w.2 + 1) := by
      rw [hz]
      refine Prod.ext ?_ rfl
      show mu _ _ _ _ = mu _ _ _ _
      rw [mu_d1]
      rw [mu_mu]
    have p1' := p1
    have p2' := p2
    have p3' := p3
    rw [show ((mu (mu w.1 w.2 a (aq (gl_A G 4) 10 (fun _ => none))) (a + 1) a (.inr (20, [.int md, .ref w.2, .int (nI 0)])), w.2 + 1) : wd_T).1 = mu (mu w.1 w.2 a (aq (gl_A G 4) 10 (fun _ => none))) (a + 1) a (.inr (20, [.int md, .ref w.2, .int (nI 0)])) from rfl] at p1' p2' p3'
    rw [show ((mu (mu w.1 w.2 a (aq (gl_A G 4) 10 (fun _ => none))) (a + 1) a (.inr (20, [.int md, .ref w.2, .int (nI 0)])), w.2 + 1) : wd_T).2 = w.2 + 1 from rfl, ew] at p1' p2' p3'
    exact ⟨p1', ⟨w.2, md + 1, _, _, mu_s, (mu_n (Ne.symm hne2)).trans mu_s⟩, hF2.trans p2', p3'⟩
  · have hne : a + 1 ≠ e := fun z => by
      rw [z, he] at hl
      cases hl
    have hve : v ≠ e := fun z => by
      rw [z, he] at hv
      cases hv
    refine Mt.mono (kJ2_add G w (a + 1) a e (t 6) md f hl he hne v v (6 + kd) r _ hv hr hca hve hvl (by omega)) ?_
    intro o w' ho
    obtain ⟨x, rfl, -, rfl⟩ := ho
    have := tn_add_law (md' := md + 1) h hw hl he hf h6 hv k1 k2
    exact ⟨x, rfl, this.1, ⟨e, md + 1, _, _, mu_s, (mu_n (Ne.symm hne)).trans mu_s⟩, this.2⟩
/-- the list is emptied -/
theorem tn_clear {G : gl_T} {w : wd_T} {a : Nat} {t : Nat → Nat} (h : TN G w a t) (hw : WF w) : Mt G yJ2_clear cJ2_clear 4 none 0 [.ref (a + 1)] w (pV (fun w' => TN G w' a (uN t 6 0) ∧ FR a w w' ∧ WF w')) 0 0 := by
  obtain ⟨g0, ⟨e, md, hl, hL⟩, ⟨fm, g3, g4⟩, ⟨ff, g5, g6⟩, ⟨ft, g7, g8⟩, g9, g10⟩ := id h
  have hC : ¬ isC (.inr (20, [.int md, .ref e, .int (nI (t 6))])) := fun z => by have : (20 : Nat) ≤ 11 := z.2; omega
  have hte : TE a (uN t 6 0) = TE a t := rfl
  rcases hL with ⟨rfl, hz⟩ | ⟨f, he, hf⟩
  · rw [hz] at hl hC
    refine Mt.mono (kJ2_clear_z G w (a + 1) a md hl) ?_
    intro o w' ho
    obtain ⟨rfl, rfl⟩ := ho
    refine ⟨rfl, ⟨?_, ⟨_, md + 1, mu_s, Or.inl ⟨rfl, uN_s⟩⟩, ⟨fm, (mu_n (by omega)).trans g3, fun i hi => ?_⟩, ⟨ff, (mu_n (by omega)).trans g5, fun i hi => ?_⟩, ⟨ft, (mu_n (by omega)).trans g7, fun i hi => ?_⟩, by rw [uN_s]; omega, fun c hc => by rw [uN_s] at hc; omega⟩, FR.upd hl hC, hw.upd hl⟩
    · rw [hte]
      exact (mu_n (by omega)).trans g0
    · rw [g4 i hi, uN_n (by omega)]
    · rw [g6 i hi, uN_n (by omega)]
    · rw [g8 i hi, uN_n (by omega)]
  · have hne : a + 1 ≠ e := fun z => by
      rw [z, he] at hl
      cases hl
    have ne0 : a ≠ e := fun z => by
      rw [z, he] at g0
      cases g0
    have nev : ∀ {b : Nat} {σ : Nat} {c n : Nat} {g : Nat → Int32}, w.1 b = some (σ, ai c n g) → b ≠ e := fun hb z => by
      rw [z, he] at hb
      cases hb
    refine Mt.mono (kJ2_clear G w (a + 1) a e (t 6) md f hl he hne (by omega)) ?_
    intro o w' ho
    obtain ⟨rfl, rfl⟩ := ho
    have h1 : (mu w.1 (a + 1) a (.inr (20, [.int (md + 1), .ref e, .int (nI 0)])), w.2).1 e = some (a, aq (gl_A G 4) 10 f) := (mu_n (Ne.symm hne)).trans he
    refine ⟨rfl, ⟨?_, ⟨e, md + 1, (mu_n hne).trans (by rw [uN_s]; exact mu_s), Or.inr ⟨clF f (t 6), mu_s, fun c hc => by rw [uN_s] at hc; omega⟩⟩, ⟨fm, (mu_n (nev g3)).trans ((mu_n (by omega)).trans g3), fun i hi => ?_⟩, ⟨ff, (mu_n (nev g5)).trans ((mu_n (by omega)).trans g5), fun i hi => ?_⟩, ⟨ft, (mu_n (nev g7)).trans ((mu_n (by omega)).trans g7), fun i hi => ?_⟩, by rw [uN_s]; omega, fun c hc => by rw [uN_s] at hc; omega⟩, (FR.upd hl hC).trans (FR.upd h1 (fun z => z)), (hw.upd hl).upd h1⟩
    · rw [hte]
      exact (mu_n ne0).trans ((mu_n (by omega)).trans g0)
    · rw [g4 i hi, uN_n (by omega)]
    · rw [g6 i hi, uN_n (by omega)]
    · rw [g8 i hi, uN_n (by omega)]
/-- a corner takes another's place -/
theorem tn_set {G : gl_T} {w : wd_T} {a v kd c : Nat} {t : Nat → Nat} (hG : GH G) (h : TN G w a t) (hw : WF w) (hc : c < t 6) (hv : w.1 v = some (v, .inr (6 + kd, [.int (nI c), .int (nI (t (7 + 3 * c + 2)))]))) (k1 : 1 ≤ kd) (k2 : kd ≤ 5) :
    Mt G yJ2_set cJ2_set 4 (some (.object "java/lang/Object")) 2 [.ref (a + 1), .int (nI c), .ref v] w (pA (fun r w' => (∃ q0, r = .ref q0) ∧ TN G w' a (uN t (7 + 3 * c) kd) ∧ FR a w w' ∧ WF w')) 0 0 := by
  obtain ⟨g0, ⟨e, md, hl, hL⟩, ⟨fm, g3, g4⟩, ⟨ff, g5, g6⟩, ⟨ft, g7, g8⟩, g9, g10⟩ := id h
  obtain ⟨r, hr, hca⟩ := cast_obj hG k1 k2
  rcases hL with ⟨-, hz⟩ | ⟨f, he, hf⟩
  · omega
  · have hne : a + 1 ≠ e := fun z => by
      rw [z, he] at hl
      cases hl
    have ne0 : a ≠ e := fun z => by
      rw [z, he] at g0
      cases g0
    have nev : ∀ {b : Nat} {σ : Nat} {c n : Nat} {g : Nat → Int32}, w.1 b = some (σ, ai c n g) → b ≠ e := fun hb z => by
      rw [z, he] at hb
      cases hb
    have hve : v ≠ e := fun z => by
      rw [z, he] at hv
      cases hv
    have hvl : v ≠ a + 1 := fun z => by
      rw [z, hl] at hv
      have := congrArg (fun o => Option.map (fun p : Nat × va_E => match p.2 with | .inr (k, _) => k | _ => 0) o) hv
      simp at this
      omega
    obtain ⟨q0, hq0, -⟩ := hf c hc
    refine Mt.mono (kJ2_set G w (a + 1) a e (t 6) md f hl he hne v v (6 + kd) r _ hv hr hca hve hvl c q0 hc (by omega) hq0) ?_
    intro o w' ho
    obtain ⟨x, rfl, hx, rfl⟩ := ho
    have hte : TE a (uN t (7 + 3 * c) kd) = TE a t := by
      unfold TE
      rw [uN_n (show 0 ≠ 7 + 3 * c by omega), uN_n (show 1 ≠ 7 + 3 * c by omega), uN_n (show 2 ≠ 7 + 3 * c by omega), uN_n (show 3 ≠ 7 + 3 * c by omega), uN_n (show 4 ≠ 7 + 3 * c by omega), uN_n (show 5 ≠ 7 + 3 * c by omega), uN_n (show 25 ≠ 7 + 3 * c by omega)]
    have e6 : uN t (7 + 3 * c) kd 6 = t 6 := uN_n (by omega)
    refine ⟨x, rfl, ⟨q0, hx⟩, ⟨?_, ⟨e, md, (mu_n hne).trans (by rw [e6]; exact hl), Or.inr ⟨_, mu_s, fun i hi => ?_⟩⟩, ⟨fm, (mu_n (nev g3)).trans g3, fun i hi => ?_⟩, ⟨ff, (mu_n (nev g5)).trans g5, fun i hi => ?_⟩, ⟨ft, (mu_n (nev g7)).trans g7, fun i hi => ?_⟩, by rw [e6]; exact g9, fun i hi => ?_⟩, FR.upd he (fun z => z), hw.upd he⟩
    · rw [hte]
      exact (mu_n ne0).trans g0
    · rw [e6] at hi
      by_cases z : i = c
      · subst z
        refine ⟨v, va_up_self _ _ _, (mu_n hve).trans ?_⟩
        rw [hv]
        unfold CE
        rw [uN_s, uN_n (show 7 + 3 * i + 2 ≠ 7 + 3 * i by omega)]
      · obtain ⟨q, hq, hcell⟩ := hf i hi
        refine ⟨q, (va_up_ne _ _ z).trans hq, (mu_n (fun z => ?_)).trans ?_⟩
        · rw [z, he] at hcell
          cases hcell
        · rw [hcell]
          unfold CE
          rw [uN_n (show 7 + 3 * i ≠ 7 + 3 * c by omega), uN_n (show 7 + 3 * i + 2 ≠ 7 + 3 * c by omega)]
    · rw [g4 i hi, uN_n (by omega)]
    · rw [g6 i hi, uN_n (by omega)]
    · rw [g8 i hi, uN_n (by omega)]
    · rw [e6] at hi
      by_cases z : i = c
      · subst z
        rw [uN_s]
        exact ⟨k1, k2⟩
      · rw [uN_n (by omega)]
        exact g10 i hi
/-- the rider, the meter, what is open, as in another one -/
def rAs (t u : Nat → Nat) : Nat → Nat := fun i => if 1 ≤ i ∧ i ≤ 5 then u i else t i
/-- whether one of the first k streets goes from p to q -/
def hsN (t : Nat → Nat) (p q : Nat) : Nat → Bool
  | 0 => false
  | k + 1 => hsN t p q k || (decide (t (26 + 2 * k) = p) && decide (t (26 + 2 * k + 1) = q))
theorem hsN_in {t : Nat → Nat} {p q k : Nat} : ∀ {n : Nat}, k < n → (decide (t (26 + 2 * k) = p) && decide (t (26 + 2 * k + 1) = q)) = true → hsN t p q n = true := by
  intro n
  induction n with
  | zero => intro h; omega
  | succ n ih =>
    intro h e
    unfold hsN
    by_cases z : k = n
    · subst z
      rw [e]
      simp
    · rw [ih (by omega) e]
      rfl
theorem tn_new {G : gl_T} {w : wd_T} {b : Nat} {e0 : va_E} (hb : w.1 b = some (b, e0)) (hsz : w.2 = b + 1) (hw : WF w) :
    TN G (mu (mu (mu (mu (mu w.1 w.2 b (.inr (20, [.int (nI 0), .ref (gl_z G 0), .int (nI 0)]))) (w.2 + 1) b (ai (gl_A G 0) 6 (fun _ => 0))) (w.2 + 2) b (ai (gl_A G 0) 8 (fun _ => 0))) (w.2 + 3) b (ai (gl_A G 0) 8 (fun _ => 0))) b b (.inr (2, [.int (nI 0), .int (nI 0), .int (nI 0), .int (nI 0), .int (nI 0), .ref w.2, .ref (w.2 + 1), .int (nI 0), .ref (w.2 + 2), .ref (w.2 + 3), .int (nI 0)])), w.2 + 4) b (fun _ => 0) ∧
    (mu (mu (mu (mu (mu w.1 w.2 b (.inr (20, [.int (nI 0), .ref (gl_z G 0), .int (nI 0)]))) (w.2 + 1) b (ai (gl_A G 0) 6 (fun _ => 0))) (w.2 + 2) b (ai (gl_A G 0) 8 (fun _ => 0))) (w.2 + 3) b (ai (gl_A G 0) 8 (fun _ => 0))) b b (.inr (2, [.int (nI 0), .int (nI 0), .int (nI 0), .int (nI 0), .int (nI 0), .ref w.2, .ref (w.2 + 1), .int (nI 0), .ref (w.2 + 2), .ref (w.2 + 3), .int (nI 0)])), w.2 + 4).2 = b + 5 ∧
    (∀ c σ e, c ≠ b → w.1 c = some (σ, e) → (mu (mu (mu (mu (mu w.1 w.2 b (.inr (20, [.int (nI 0), .ref (gl_z G 0), .int (nI 0)]))) (w.2 + 1) b (ai (gl_A G 0) 6 (fun _ => 0))) (w.2 + 2) b (ai (gl_A G 0) 8 (fun _ => 0))) (w.2 + 3) b (ai (gl_A G 0) 8 (fun _ => 0))) b b (.inr (2, [.int (nI 0), .int (nI 0), .int (nI 0), .int (nI 0), .int (nI 0), .ref w.2, .ref (w.2 + 1), .int (nI 0), .ref (w.2 + 2), .ref (w.2 + 3), .int (nI 0)])), w.2 + 4).1 c = some (σ, e)) ∧
    WF (mu (mu (mu (mu (mu w.1 w.2 b (.inr (20, [.int (nI 0), .ref (gl_z G 0), .int (nI 0)]))) (w.2 + 1) b (ai (gl_A G 0) 6 (fun _ => 0))) (w.2 + 2) b (ai (gl_A G 0) 8 (fun _ => 0))) (w.2 + 3) b (ai (gl_A G 0) 8 (fun _ => 0))) b b (.inr (2, [.int (nI 0), .int (nI 0), .int (nI 0), .int (nI 0), .int (nI 0), .ref w.2, .ref (w.2 + 1), .int (nI 0), .ref (w.2 + 2), .ref (w.2 + 3), .int (nI 0)])), w.2 + 4) := by
  obtain ⟨f, s⟩ := w
  have hsz : s = b + 1 := hsz
  subst hsz
  refine ⟨⟨mu_s, ⟨gl_z G 0, nI 0, ?_, Or.inl ⟨rfl, rfl⟩⟩, ⟨_, ?_, fun _ _ => rfl⟩, ⟨_, ?_, fun _ _ => rfl⟩, ⟨_, ?_, fun _ _ => rfl⟩, Nat.zero_le _, fun c hc => absurd hc (Nat.not_lt_zero c)⟩, rfl, fun c σ e hc h => ?_, fun c σ e h => ?_⟩
  · exact (mu_n (by omega)).trans ((mu_n (by omega)).trans ((mu_n (by omega)).trans ((mu_n (by omega)).trans mu_s)))
  · exact (mu_n (by omega)).trans ((mu_n (by omega)).trans ((mu_n (by omega)).trans mu_s))
  · exact (mu_n (by omega)).trans ((mu_n (by omega)).trans mu_s)
  · exact (mu_n (by omega)).trans mu_s
  · have hl : c < b + 1 := hw c σ e h
    exact (mu_n hc).trans ((mu_n (by show c ≠ b + 1 + 3; omega)).trans ((mu_n (by show c ≠ b + 1 + 2; omega)).trans ((mu_n (by show c ≠ b + 1 + 1; omega)).trans ((mu_n (by show c ≠ b + 1; omega)).trans h))))
  · show c < b + 1 + 4
    by_cases z : c < b + 5
    · omega
    · have h1 : f c = some (σ, e) := by
        exact (mu_n (show c ≠ b + 1 by omega)).symm.trans ((mu_n (show c ≠ b + 1 + 1 by omega)).symm.trans ((mu_n (show c ≠ b + 1 + 2 by omega)).symm.trans ((mu_n (show c ≠ b + 1 + 3 by omega)).symm.trans ((mu_n (show c ≠ b by omega)).symm.trans h))))
      have hl : c < b + 1 := hw c σ e h1
      omega
