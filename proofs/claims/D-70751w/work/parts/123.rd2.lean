/-! ===== the class: the reader, in the reference's words ===== -/
set_option maxRecDepth 100000
def tkC (n : Nat) : Nat := if n ≤ 2 then n else if n ≤ 4 then 3 else 4
def vaC (S : ms_T) : Int32 := if S.2.1 11 = 0 then kNONE else S.1 12
/-- the reader's cell -/
def rdS (ta mt : Nat) (S : ms_T) : va_E := rdE ta (S.2.1 6) (S.2.1 9) (tkC (S.2.1 11)) (S.2.1 10) (vaC S) mt
/-- values are what tokens say -/
def vOK (S : ms_T) : Prop := (S.2.1 11 = 2 → ∃ n, n ≤ 5000 ∧ S.1 12 = nI n) ∧ (S.2.1 11 = 1 → ∃ n, 97 ≤ n ∧ n ≤ 122 ∧ S.1 12 = nI n) ∧ (S.2.1 11 = 3 → S.1 12 = nI 44) ∧ (S.2.1 11 = 4 → S.1 12 = nI 59)
theorem tokN_chr {c : Nat} (h : c ≤ 255) : tokN (nI c) = if inB (nI c) (nI 97) (nI 122) then 1 else if c = 44 then 3 else if c = 59 then 4 else 5 := by
  unfold tokN
  rw [if_neg (nI_pos (by omega))]
  congr 1
  have e1 : (nI c = nI 44) = (c = 44) := propext (nI_eq (by omega) (by decide))
  have e2 : (nI c = nI 59) = (c = 59) := propext (nI_eq (by omega) (by decide))
  simp only [e1, e2]
theorem advS_10 (S : ms_T) : (advS S).2.1 10 = S.2.1 9 := by
  unfold advS
  split <;> rfl
theorem advS_6 (S : ms_T) : (advS S).2.1 6 = S.2.1 6 := by
  unfold advS
  split <;> rfl
theorem nx_adv {ta mt : Nat} {S : ms_T} (hp : pOK S) : nxE ta mt (S.2.2.2 5) (S.2.1 6) (S.2.1 9) = rdS ta mt (advS S) := by
  have hb := hp.2.2.2.2.1
  by_cases h : S.2.1 9 < S.2.1 6
  · cases hd : dgt (S.2.2.2 5) (S.2.1 6) (S.2.1 9) with
    | true =>
      rw [nx_num hd]
      unfold advS
      rw [if_pos hd]
      show rdE ta _ _ _ _ _ mt = rdE ta (S.2.1 6) (S.2.1 9 + dgC (S.2.2.2 5) (S.2.1 6) (S.2.1 9) 121 0) (tkC (if dgC (S.2.2.2 5) (S.2.1 6) (S.2.1 9) 121 0 < 3 then 2 else 5)) (S.2.1 9) (if (if dgC (S.2.2.2 5) (S.2.1 6) (S.2.1 9) 121 0 < 3 then 2 else 5) = 0 then kNONE else nI (dgV (S.2.2.2 5) (S.2.1 9) (dgC (S.2.2.2 5) (S.2.1 6) (S.2.1 9) 121 0))) mt
      split <;> rfl
    | false =>
      rw [nx_chr h hd]
      have e : tokN (byt (S.2.2.2 5) (S.2.1 6) (S.2.1 9)) = if inB (nI (S.2.2.2 5 (S.2.1 9))) (nI 97) (nI 122) then 1 else if S.2.2.2 5 (S.2.1 9) = 44 then 3 else if S.2.2.2 5 (S.2.1 9) = 59 then 4 else 5 := by
        rw [byt_lt h]
        exact tokN_chr (hb _)
      have e0 : ¬ tokN (byt (S.2.2.2 5) (S.2.1 6) (S.2.1 9)) = 0 := by
        rw [e]
        repeat' split
        all_goals omega
      unfold advS
      rw [if_neg (show ¬ dgt (S.2.2.2 5) (S.2.1 6) (S.2.1 9) = true by rw [hd]; exact Bool.false_ne_true)]
      show rdE ta _ _ _ _ _ mt = rdE ta (S.2.1 6) (S.2.1 9 + if tokN (byt (S.2.2.2 5) (S.2.1 6) (S.2.1 9)) = 0 then 0 else 1) (tkC (tokN (byt (S.2.2.2 5) (S.2.1 6) (S.2.1 9)))) (S.2.1 9) (if tokN (byt (S.2.2.2 5) (S.2.1 6) (S.2.1 9)) = 0 then kNONE else byt (S.2.2.2 5) (S.2.1 6) (S.2.1 9)) mt
      rw [if_neg e0, if_neg e0, e, byt_lt h]
      congr 1
      by_cases z1 : inB (nI (S.2.2.2 5 (S.2.1 9))) (nI 97) (nI 122) = true
      · rw [if_pos z1, if_pos z1]
        rfl
      · rw [if_neg z1, if_neg z1]
        by_cases z2 : S.2.2.2 5 (S.2.1 9) = 44
        · rw [if_pos (Or.inl z2), if_pos z2]
          rfl
        · rw [if_neg z2]
          by_cases z3 : S.2.2.2 5 (S.2.1 9) = 59
          · rw [if_pos (Or.inr z3), if_pos z3]
            rfl
          · rw [if_neg (fun z => z.elim z2 z3), if_neg z3]
            rfl
  · rw [nx_end hb h]
    have hd := dgt_o (b := S.2.2.2 5) (n := S.2.1 6) (s := S.2.1 9) hb h
    have e0 : tokN (byt (S.2.2.2 5) (S.2.1 6) (S.2.1 9)) = 0 := by rw [byt_ge h]; decide +kernel
    unfold advS
    rw [if_neg (show ¬ dgt (S.2.2.2 5) (S.2.1 6) (S.2.1 9) = true by rw [hd]; exact Bool.false_ne_true)]
    show rdE ta _ _ _ _ _ mt = rdE ta (S.2.1 6) (S.2.1 9 + if tokN (byt (S.2.2.2 5) (S.2.1 6) (S.2.1 9)) = 0 then 0 else 1) (tkC (tokN (byt (S.2.2.2 5) (S.2.1 6) (S.2.1 9)))) (S.2.1 9) (if tokN (byt (S.2.2.2 5) (S.2.1 6) (S.2.1 9)) = 0 then kNONE else byt (S.2.2.2 5) (S.2.1 6) (S.2.1 9)) mt
    rw [if_pos e0, if_pos e0, e0]
    rfl
theorem tokN_s (c : Int32) : (tokN c = 1 → inB c (nI 97) (nI 122) = true) ∧ (tokN c = 3 → c = nI 44) ∧ (tokN c = 4 → c = nI 59) ∧ ¬ tokN c = 2 := by
  unfold tokN
  refine ⟨fun h => ?_, fun h => ?_, fun h => ?_, fun h => ?_⟩
  all_goals (repeat' split at h)
  all_goals first | omega | assumption
theorem advS_v {S : ms_T} (hp : pOK S) : vOK (advS S) := by
  have hb := hp.2.2.2.2.1
  have ht := tokN_s (byt (S.2.2.2 5) (S.2.1 6) (S.2.1 9))
  unfold advS
  split
  · have h0 : ∀ k, ¬ k = 2 → ¬ k = 5 → ¬ (if dgC (S.2.2.2 5) (S.2.1 6) (S.2.1 9) 121 0 < 3 then 2 else 5) = k := fun k h1 h2 z => by
      split at z <;> omega
    exact ⟨fun _ => ⟨_, dgV_le hb _, rfl⟩, fun h => absurd h (h0 1 (by omega) (by omega)), fun h => absurd h (h0 3 (by omega) (by omega)), fun h => absurd h (h0 4 (by omega) (by omega))⟩
  · refine ⟨fun h => absurd h ht.2.2.2, fun h => ?_, fun h => ht.2.1 h, fun h => ht.2.2.1 h⟩
    obtain ⟨n, hn, h1, h2⟩ := inB_n (by decide) (ht.1 h) (by decide)
    exact ⟨n, h1, h2, hn⟩
/-- what one reader's act leaves -/
def FR2 (r mt : Nat) (w w' : wd_T) : Prop := w.2 ≤ w'.2 ∧ ∀ (b σ : Nat) (e : va_E), w.1 b = some (σ, e) → σ ≠ r → σ ≠ mt → w'.1 b = some (σ, e)
theorem FR2.refl (r mt : Nat) (w : wd_T) : FR2 r mt w w := ⟨Nat.le_refl _, fun _ _ _ h _ _ => h⟩
theorem FR2.trans {r mt : Nat} {w w1 w2 : wd_T} (h : FR2 r mt w w1) (h2 : FR2 r mt w1 w2) : FR2 r mt w w2 := ⟨Nat.le_trans h.1 h2.1, fun b σ e hb a c => h2.2 b σ e (h.2 b σ e hb a c) a c⟩
theorem FR2.ofM {r mt : Nat} {w w' : wd_T} (h : FR mt w w') : FR2 r mt w w' := ⟨h.1, fun b σ e hb _ c => h.2 b σ e hb (Or.inl c)⟩
theorem FR2.ofR {r mt : Nat} {w w' : wd_T} (h : FR r w w') : FR2 r mt w w' := ⟨h.1, fun b σ e hb a _ => h.2 b σ e hb (Or.inl a)⟩
/-- the reader at r, the town that it makes at mt -/
def RD (G : gl_T) (w : wd_T) (r mt ta : Nat) (S : ms_T) (t : Nat → Nat) : Prop :=
  WF w ∧ w.1 r = some (r, rdS ta mt S) ∧ TN G w mt t ∧ (∃ σ f, w.1 ta = some (σ, ai (gl_A G 1) 120 f) ∧ σ ≠ r ∧ σ ≠ mt ∧ ∀ i, i < S.2.1 6 → f i &&& nI 255 = nI (S.2.2.2 5 i)) ∧ pOK S ∧ S.1 8 < 0 ∧ vOK S
section RDS
variable {G : gl_T} {w w' : wd_T} {r mt ta : Nat} {S : ms_T} {t t' : Nat → Nat}
theorem RD.ne (h : RD G w r mt ta S t) : r ≠ ta ∧ r ≠ mt ∧ r < w.2 := by
  obtain ⟨hw, h1, h2, ⟨σ, f, h3, -⟩, -⟩ := h
  refine ⟨fun z => ?_, fun z => ?_, hw _ _ _ h1⟩
  · rw [← z, h1] at h3
    cases h3
  · have := h2.1
    rw [← z, h1] at this
    cases this
/-- the town acts -/
theorem RD.town (h : RD G w r mt ta S t) (hT : TN G w' mt t') (hF : FR mt w w') (hw : WF w') : RD G w' r mt ta S t' := by
  have hn := h.ne
  obtain ⟨h0, h1, h2, ⟨σ, f, h3, h4, h5, h6⟩, h7⟩ := h
  exact ⟨hw, hF.2 _ _ _ h1 (Or.inl hn.2.1), hT, ⟨σ, f, hF.2 _ _ _ h3 (Or.inl h5), h4, h5, h6⟩, h7⟩
/-- the reader goes on -/
theorem RD.next (h : RD G w r mt ta S t) : RD G (mu w.1 r r (rdS ta mt (advS S)), w.2) r mt ta (advS S) t ∧ FR2 r mt w (mu w.1 r r (rdS ta mt (advS S)), w.2) := by
  have hn := h.ne
  obtain ⟨h0, h1, h2, ⟨σ, f, h3, h4, h5, h6⟩, h7, h8, h9⟩ := h
  have hF : FR r w (mu w.1 r r (rdS ta mt (advS S)), w.2) := FR.upd h1 (fun z => by have : (7 : Nat) ≤ 5 := z.1; omega)
  refine ⟨⟨h0.upd h1, mu_s, h2.fr hF (Ne.symm hn.2.1), ⟨σ, f, hF.2 _ _ _ h3 (Or.inl h4), h4, h5, fun i hi => ?_⟩, advS_ok h7, by rw [advS_8]; exact h8, advS_v h7⟩, FR2.ofR hF⟩
  rw [advS_6] at hi
  rw [show (advS S).2.2.2 5 = S.2.2.2 5 from congrArg (fun z => z.2 5) (advS_t S)]
  exact h6 i hi
end RDS
def fltE (kd pl : Nat) : va_E := .inr (6, [.null, .null, .null, .null, .null, .int (nI 0), .int (nI kd), .int (nI pl)])
/-- a reader's method ended: it returned, or a fault was thrown -/
def rdP (G : gl_T) (r mt ta : Nat) (w : wd_T) (S : ms_T) (t : Nat → Nat) (v : Option Value) : Outcome → wd_T → Prop := fun o w' =>
  (S.1 8 < 0 ∧ o = .returned v ∧ RD G w' r mt ta S t ∧ FR2 r mt w w') ∨ (¬ S.1 8 < 0 ∧ ∃ a pl, o = .threw a ∧ S.1 8 = nI pl ∧ w'.1 a = some (a, fltE (S.2.1 7) pl) ∧ WF w' ∧ FR2 r mt w w')
section RDP
variable {G : gl_T} {w w' w1 : wd_T} {r mt ta : Nat} {S S' : ms_T} {t t' : Nat → Nat} {v : Option Value}
theorem rdP.ok (h8 : S.1 8 < 0) (h : RD G w' r mt ta S t) (hF : FR2 r mt w w') : rdP G r mt ta w S t v (.returned v) w' := Or.inl ⟨h8, rfl, h, hF⟩
theorem rdP.k {K : Option Value → wd_T → Prop} (h : ∀ w', S.1 8 < 0 → RD G w' r mt ta S t → FR2 r mt w w' → K v w') : ∀ u w', rdP G r mt ta w S t v (.returned u) w' → K u w' := by
  intro u w' hu
  rcases hu with ⟨h1, h2, h3, h4⟩ | ⟨-, a, pl, h2, -⟩
  · cases h2
    exact h w' h1 h3 h4
  · cases h2
/-- a fault goes on outward -/
theorem rdP.up (hF : FR2 r mt w w1) (he : ¬ S.1 8 < 0 → S' = S) {a : Nat} (h : rdP G r mt ta w1 S t v (.threw a) w') {t'' : Nat → Nat} {v' : Option Value} : rdP G r mt ta w S' t'' v' (.threw a) w' := by
  rcases h with ⟨-, h2, -⟩ | ⟨h1, a', pl, h2, h3, h4, h5, h6⟩
  · cases h2
  · cases h2
    rw [he h1]
    exact Or.inr ⟨h1, a, pl, rfl, h3, h4, h5, hF.trans h6⟩
/-- a fault is thrown here -/
theorem rdP.flt (h : RD G w1 r mt ta S t) (hF : FR2 r mt w w1) {kd : Nat} (hS : S' = sN (sF S 8 (nI (S.2.1 10))) 7 kd) : rdP G r mt ta w S' t' v (.threw w1.2) (mu w1.1 w1.2 w1.2 (fltE kd (S.2.1 10)), w1.2 + 1) := by
  subst hS
  have h10 := h.2.2.2.2.1.2.2.1
  refine Or.inr ⟨?_, w1.2, S.2.1 10, rfl, rfl, ?_, h.1.new, hF.trans (FR2.ofM (FR.new h.1))⟩
  · show ¬ nI (S.2.1 10) < 0
    exact nI_pos (by omega)
  · show mu w1.1 w1.2 w1.2 _ w1.2 = _
    rw [mu_s]
    rfl
end RDP
theorem pV.nt {P : wd_T → Prop} {a : Nat} {w : wd_T} {X : Prop} (h : pV P (.threw a) w) : X := by
  obtain ⟨v, hv⟩ := pV.ret _ _ h
  cases hv
theorem tkC_2 {n : Nat} : tkC n = 2 ↔ n = 2 := by
  unfold tkC
  repeat' split
  all_goals omega
theorem tkC_1 {n : Nat} : tkC n = 1 ↔ n = 1 := by
  unfold tkC
  repeat' split
  all_goals omega
theorem tkC_0 {n : Nat} : tkC n = 0 ↔ n = 0 := by
  unfold tkC
  repeat' split
  all_goals omega
theorem sg_3 {G : gl_T} {w : wd_T} {r mt ta : Nat} {S : ms_T} {t : Nat → Nat} (h : RD G w r mt ta S t) : (decide (tkC (S.2.1 11) = 3) && decide (vaC S = nI 44)) = decide (S.2.1 11 = 3) := by
  obtain ⟨-, -, -, -, hp, -, hv⟩ := h
  have h11 := hp.2.2.2.1
  unfold vaC
  rcases (show S.2.1 11 = 0 ∨ S.2.1 11 = 1 ∨ S.2.1 11 = 2 ∨ S.2.1 11 = 3 ∨ S.2.1 11 = 4 ∨ S.2.1 11 = 5 by omega) with e | e | e | e | e | e
  · rw [e]; rfl
  · rw [e]; rfl
  · rw [e]; rfl
  · rw [e, if_neg (by omega), hv.2.2.1 e]; rfl
  · rw [e, if_neg (by omega), hv.2.2.2 e]; decide +kernel
  · rw [e]; rfl
theorem sg_4 {G : gl_T} {w : wd_T} {r mt ta : Nat} {S : ms_T} {t : Nat → Nat} (h : RD G w r mt ta S t) : (decide (tkC (S.2.1 11) = 3) && decide (vaC S = nI 59)) = decide (S.2.1 11 = 4) := by
  obtain ⟨-, -, -, -, hp, -, hv⟩ := h
  have h11 := hp.2.2.2.1
  unfold vaC
  rcases (show S.2.1 11 = 0 ∨ S.2.1 11 = 1 ∨ S.2.1 11 = 2 ∨ S.2.1 11 = 3 ∨ S.2.1 11 = 4 ∨ S.2.1 11 = 5 by omega) with e | e | e | e | e | e
  · rw [e]; rfl
  · rw [e]; rfl
  · rw [e]; rfl
  · rw [e, if_neg (by omega), hv.2.2.1 e]; decide +kernel
  · rw [e, if_neg (by omega), hv.2.2.2 e]; rfl
  · rw [e]; rfl
theorem tkC_le (n : Nat) : tkC n ≤ 4 := by
  unfold tkC
  repeat' split
  all_goals omega
