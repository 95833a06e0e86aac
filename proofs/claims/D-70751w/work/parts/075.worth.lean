/-! ===== what is so well of rows: plain words ===== -/
set_option maxRecDepth 100000
theorem nI_NONE {x : Nat} (h : x < 2 ^ 31) : ¬ nI x = kNONE := fun z => by
  have h1 : (0 : Int32) ≤ nI x := nI_pos' h
  rw [z] at h1
  exact absurd h1 (by decide)
theorem NONE_lt {x : Nat} (h : x < 2 ^ 31) : kNONE < nI x := Int32.lt_of_lt_of_le (show kNONE < 0 by decide) (nI_pos' h)
theorem isb_f {α : Type} {w : wd_T} {b ci : Nat} {fs : α → List Value} {r : Bool × α} {p : α} (hb : w.1 b = some (b, .inr (ci, fs p))) (e : r = (false, p)) : nI 0 = bZ r.1 ∧ w = (mu w.1 b b (.inr (ci, fs r.2)), w.2) := by
  subst e
  exact ⟨rfl, Prod.ext (mu_self hb).symm rfl⟩
theorem isb_m {α : Type} {w : wd_T} {b ci : Nat} {fs : α → List Value} {r : Bool × α} {p : α} (e : r = (false, p)) : nI 0 = bZ r.1 ∧ (mu w.1 b b (.inr (ci, fs p)), w.2) = (mu w.1 b b (.inr (ci, fs r.2)), w.2) := by
  subst e
  exact ⟨rfl, rfl⟩
theorem isb_t {α : Type} {w : wd_T} {b ci : Nat} {fs : α → List Value} {r : Bool × α} {p : α} (e : r = (true, p)) : nI 1 = bZ r.1 ∧ (mu w.1 b b (.inr (ci, fs p)), w.2) = (mu w.1 b b (.inr (ci, fs r.2)), w.2) := by
  subst e
  exact ⟨rfl, rfl⟩
/-- the cheapest to a corner: what it costs, how many streets -/
def fsC (cr : Nat) : Option (Nat × Nat) → List Value
  | none => [.int (nI cr), .int kNONE, .int (nI 0)]
  | some (x, y) => [.int (nI cr), .int (nI x), .int (nI y)]
def btC (cr : Nat) (t : Nat → Nat) (n c : Nat) : Option (Nat × Nat) → Bool × Option (Nat × Nat)
  | none => if t 4 = cr then (true, some (c, n)) else (false, none)
  | some (x, y) => if t 4 = cr ∧ ¬ (x < c ∨ x = c ∧ y ≤ n) then (true, some (c, n)) else (false, some (x, y))
/-- the dearest of so many: what it costs, where it ends -/
def fsD (st : Nat) : Option (Nat × Nat) → List Value
  | none => [.int (nI st), .int kNONE, .int (nI 0)]
  | some (x, y) => [.int (nI st), .int (nI x), .int (nI y)]
def btD (st : Nat) (t : Nat → Nat) (n c : Nat) : Option (Nat × Nat) → Bool × Option (Nat × Nat)
  | none => if n < st then (false, none) else (true, some (c, t 4))
  | some (x, y) => if n < st ∨ c ≤ x then (false, some (x, y)) else (true, some (c, t 4))
/-- moods at a corner behind so many -/
def fsM (cr st : Nat) (p : Nat) : List Value := [.int (nI cr), .int (nI st), .int (nI p)]
def btM (cr st : Nat) (t : Nat → Nat) (n _c : Nat) (p : Nat) : Bool × Nat := (false, p ||| (if n = st ∧ t 4 = cr then 2 ^ t 1 else 0))
/-- the soonest of a mood -/
def fsS (md : Nat) : Option Nat → List Value
  | none => [.int (nI md), .int kNONE]
  | some x => [.int (nI md), .int (nI x)]
def btS (md : Nat) (t : Nat → Nat) (n _c : Nat) : Option Nat → Bool × Option Nat
  | none => if t 1 = md then (true, some n) else (false, none)
  | some x => if t 1 = md ∧ n < x then (true, some n) else (false, some x)
def okC (p : Option (Nat × Nat)) : Prop := ∀ x y, p = some (x, y) → x ≤ 2000 ∧ y ≤ 8
def okS (p : Option Nat) : Prop := ∀ x, p = some x → x ≤ 8
abbrev xBet : MethodName := ⟨"MoodFare$Worth", "isBetter", "(LMoodFare$Town;II)Z"⟩
/-- **a Worth**: an object of class ci whose fields tell p; isBetter does what bt says -/
def WO (G : gl_T) {α : Type} (ci : Nat) (fs : α → List Value) (ok : α → Prop) (bt : (Nat → Nat) → Nat → Nat → α → Bool × α) : Prop :=
  ∃ (D : String) (T : u_T) (N : Nat) (y : MethodName) (bytes : ByteArray) (maxL : Nat), jcl[ci]? = some (D, T, N) ∧ FwIn D xBet y ∧ Cond.selects D xBet y ∈ lw_all ∧ Cond.instanceMethod y ∈ lw_all ∧ Cond.initialized y.cls ∈ lw_all ∧ Cond.code y bytes maxL (some .boolean) ∈ lw_all ∧ maxL ≤ 20 ∧
    (∀ (t : Nat → Nat) (n c : Nat) (p : α), ok p → n ≤ 8 → c ≤ 2000 → t 1 ≤ 9 → t 4 < 6 → ok (bt t n c p).2) ∧
    ∀ (w : wd_T) (b a : Nat) (t : Nat → Nat) (n c : Nat) (p : α), w.1 b = some (b, .inr (ci, fs p)) → w.1 a = some (a, TE a t) → b ≠ a → ok p → n ≤ 8 → c ≤ 2000 → t 1 ≤ 9 → t 4 < 6 →
      Mt G y bytes maxL (some .boolean) 0 [.ref b, .ref a, .int (nI n), .int (nI c)] w (qI (bZ (bt t n c p).1) (mu w.1 b b (.inr (ci, fs (bt t n c p).2)), w.2)) 0 0
