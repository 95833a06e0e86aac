/-! ===== J: rows over numbers that are known as Nat, and over truth values ===== -/
set_option maxRecDepth 100000
def bZ (b : Bool) : Int32 := if b then nI 1 else nI 0
theorem bZ_t : bZ true = nI 1 := rfl
theorem bZ_f : bZ false = nI 0 := rfl
theorem bZ_n (b : Bool) : narrow .boolean (.int (bZ b)) = .int (bZ b) := by cases b <;> decide +kernel
theorem nI_one : (1 : Int32) = nI 1 := by decide +kernel
theorem nI_zero : (0 : Int32) = nI 0 := by decide +kernel
theorem nx_and' (a b : Nat) : nI a &&& nI b = nI (a &&& b) := by
  apply Int32.toBitVec_inj.mp
  show BitVec.ofNat 32 a &&& BitVec.ofNat 32 b = BitVec.ofNat 32 (a &&& b)
  exact (BitVec.ofNat_and ..).symm
theorem nx_or' (a b : Nat) : nI a ||| nI b = nI (a ||| b) := by
  apply Int32.toBitVec_inj.mp
  show BitVec.ofNat 32 a ||| BitVec.ofNat 32 b = BitVec.ofNat 32 (a ||| b)
  exact (BitVec.ofNat_or ..).symm
theorem nx_xor' (a b : Nat) : nI a ^^^ nI b = nI (a ^^^ b) := by
  apply Int32.toBitVec_inj.mp
  show BitVec.ofNat 32 a ^^^ BitVec.ofNat 32 b = BitVec.ofNat 32 (a ^^^ b)
  exact (BitVec.ofNat_xor ..).symm
theorem nx_sm : ∀ n, n < 32 → ((nI n &&& 31).toBitVec.smod 32).toNat = n := by decide +kernel
theorem nx_shl1 {a : Nat} (h : a ≤ 30) : nI 1 <<< (nI a &&& 31) = nI (2 ^ a) := by
  have h2 : 2 ^ a ≤ 2 ^ 30 := Nat.pow_le_pow_right (by decide) h
  have := pk_shlN (n := 1) (nI a &&& 31) a (nx_sm a (by omega)) (by omega)
  rw [this]
  simp
theorem nx_shr {x a : Nat} (hx : x < 2 ^ 31) (h : a ≤ 30) : nI x >>> (nI a &&& 31) = nI (x / 2 ^ a) := pk_shrN hx (nI a &&& 31) a (nx_sm a (by omega))
/-- v between two numbers -/
def inB (v lo hi : Int32) : Bool := decide (lo ≤ v ∧ v ≤ hi)
theorem inB_n {x : Int32} {a b : Nat} (hb : b < 2 ^ 31) (h : inB x (nI a) (nI b) = true) (ha : a < 2 ^ 31) : ∃ j : Nat, x = nI j ∧ a ≤ j ∧ j ≤ b := by
  have h1 := of_decide_eq_true h
  have h0 : ¬ x < 0 := by
    intro q
    have q1 := Int32.le_iff_toInt_le.mp h1.1
    have q2 := Int32.lt_iff_toInt_lt.mp q
    rw [nI_toInt ha] at q1
    have : (0 : Int32).toInt = 0 := rfl
    omega
  obtain ⟨j, hj, rfl⟩ := nI_of h0
  exact ⟨j, rfl, (nI_leI ha hj).mp h1.1, (nI_leI hj hb).mp h1.2⟩
theorem inB_t {j a b : Nat} (hb : b < 2 ^ 31) (h1 : a ≤ j) (h2 : j ≤ b) : inB (nI j) (nI a) (nI b) = true := decide_eq_true ⟨(nI_leI (by omega) (by omega)).mpr h1, (nI_leI (by omega) hb).mpr h2⟩
theorem inB_i {j a b : Nat} (hj : j < 2 ^ 31) (ha : a < 2 ^ 31) (hb : b < 2 ^ 31) : inB (nI j) (nI a) (nI b) = decide (a ≤ j ∧ j ≤ b) := by
  unfold inB
  exact decide_eq_decide.mpr (and_congr (nI_leI ha hj) (nI_leI hj hb))
/-- below a number less one -/
theorem inB_p {x : Int32} {n : Nat} (hn : n < 2 ^ 31) (h : inB x (nI 0) (nI n - nI 1) = true) : ∃ j : Nat, x = nI j ∧ j < n := by
  cases n with
  | zero =>
    have h1 := of_decide_eq_true h
    have q1 := Int32.le_iff_toInt_le.mp h1.1
    have q2 := Int32.le_iff_toInt_le.mp h1.2
    have e1 : (nI 0).toInt = 0 := by decide +kernel
    have e2 : (nI 0 - nI 1).toInt = -1 := by decide +kernel
    omega
  | succ n =>
    rw [← nI_one, nI_pred] at h
    obtain ⟨j, rfl, -, h2⟩ := inB_n (by omega) h (by omega)
    exact ⟨j, rfl, by omega⟩
theorem inB_pt {j n : Nat} (hn : n < 2 ^ 31) (h : j < n) : inB (nI j) (nI 0) (nI n - nI 1) = true := by
  cases n with
  | zero => omega
  | succ n =>
    rw [← nI_one, nI_pred]
    exact inB_t (by omega) (by omega) (by omega)
section JN
variable {G : gl_T} {k : KX} {cc : ByteArray} {own nm : String} {nL hh mc ms : Nat} {rt : Option FieldType} {post : Outcome → wd_T → Prop}
variable {w : wd_T} {lv : List (Nat × Value)} {pc ce sl : Nat} {st : List Value}

theorem j_iaddN (C : Cx G k cc own nm nL rt hh mc ms post) {a b : Nat} (hd : decode cc pc = .ok (.iadd, 1)) (h : J G k w lv (pc + 1) (.int (nI (a + b)) :: st) ce sl) : J G k w lv pc (.int (nI b) :: .int (nI a) :: st) ce sl := j_iadd C hd (j_as (nI_add a b) h)
theorem j_imulN (C : Cx G k cc own nm nL rt hh mc ms post) {a b : Nat} (hd : decode cc pc = .ok (.imul, 1)) (h : J G k w lv (pc + 1) (.int (nI (a * b)) :: st) ce sl) : J G k w lv pc (.int (nI b) :: .int (nI a) :: st) ce sl := j_imul C hd (j_as (pk_mul a b) h)
theorem j_iandN (C : Cx G k cc own nm nL rt hh mc ms post) {a b : Nat} (hd : decode cc pc = .ok (.iand, 1)) (h : J G k w lv (pc + 1) (.int (nI (a &&& b)) :: st) ce sl) : J G k w lv pc (.int (nI b) :: .int (nI a) :: st) ce sl := j_iand C hd (j_as (nx_and' a b) h)
theorem j_iorN (C : Cx G k cc own nm nL rt hh mc ms post) {a b : Nat} (hd : decode cc pc = .ok (.ior, 1)) (h : J G k w lv (pc + 1) (.int (nI (a ||| b)) :: st) ce sl) : J G k w lv pc (.int (nI b) :: .int (nI a) :: st) ce sl := j_ior C hd (j_as (nx_or' a b) h)
theorem j_ixorN (C : Cx G k cc own nm nL rt hh mc ms post) {a b : Nat} (hd : decode cc pc = .ok (.ixor, 1)) (h : J G k w lv (pc + 1) (.int (nI (a ^^^ b)) :: st) ce sl) : J G k w lv pc (.int (nI b) :: .int (nI a) :: st) ce sl := j_ixor C hd (j_as (nx_xor' a b) h)
theorem j_isubN (C : Cx G k cc own nm nL rt hh mc ms post) {a b : Nat} (hd : decode cc pc = .ok (.isub, 1)) (hb : b ≤ a) (h : J G k w lv (pc + 1) (.int (nI (a - b)) :: st) ce sl) : J G k w lv pc (.int (nI b) :: .int (nI a) :: st) ce sl := j_isub C hd (j_as (pk_sub hb) h)
theorem j_shl1 (C : Cx G k cc own nm nL rt hh mc ms post) {a : Nat} (hd : decode cc pc = .ok (.ishl, 1)) (ha : a ≤ 30) (h : J G k w lv (pc + 1) (.int (nI (2 ^ a)) :: st) ce sl) : J G k w lv pc (.int (nI a) :: .int (nI 1) :: st) ce sl := j_ishl C hd (j_as (nx_shl1 ha) h)
theorem j_ishrN (C : Cx G k cc own nm nL rt hh mc ms post) {a x : Nat} (hd : decode cc pc = .ok (.ishr, 1)) (hx : x < 2 ^ 31) (ha : a ≤ 30) (h : J G k w lv (pc + 1) (.int (nI (x / 2 ^ a)) :: st) ce sl) : J G k w lv pc (.int (nI a) :: .int (nI x) :: st) ce sl := j_ishr C hd (j_as (nx_shr hx ha) h)
theorem j_idivN (C : Cx G k cc own nm nL rt hh mc ms post) {a d : Nat} (hd : decode cc pc = .ok (.idiv, 1)) (ha : a < 2 ^ 31) (h0 : 0 < d) (hdd : d < 2 ^ 31) (h : J G k w lv (pc + 1) (.int (nI (a / d)) :: st) ce sl) : J G k w lv pc (.int (nI d) :: .int (nI a) :: st) ce sl := j_idiv C hd (nI_ne0 h0 hdd) (j_as (pk_div ha h0 hdd) h)
theorem j_iremN (C : Cx G k cc own nm nL rt hh mc ms post) {a d : Nat} (hd : decode cc pc = .ok (.irem, 1)) (ha : a < 2 ^ 31) (h0 : 0 < d) (hdd : d < 2 ^ 31) (h : J G k w lv (pc + 1) (.int (nI (a % d)) :: st) ce sl) : J G k w lv pc (.int (nI d) :: .int (nI a) :: st) ce sl := j_irem C hd (nI_ne0 h0 hdd) (j_as (pk_rem ha h0 hdd) h)
theorem j_iincN (C : Cx G k cc own nm nL rt hh mc ms post) {i a : Nat} {lv' : List (Nat × Value)} (hd : decode cc pc = .ok (.iinc i 1, 3)) (q : Nat) (hq : lv[q]? = some (i, .int (nI a))) (hn : i < nL) (he : (i, Value.int (nI (a + 1))) :: lv.filter (fun q => !(q.1 == i) && !(q.1 + 1 == i && q.2.category == 2)) = lv') (h : J G k w lv' (pc + 3) st ce sl) : J G k w lv pc st ce sl := j_iinc C hd q hq (by show nI a + nI 1 = _; exact nI_add a 1) hn he h
theorem j_icmp_eqN (C : Cx G k cc own nm nL rt hh mc ms post) {a b : Nat} {off : Int} (tgt : Nat) (hd : decode cc pc = .ok (.if_icmp .eq off, 3)) (ht : (pc : Int) + off = (tgt : Int)) (ha : a < 2 ^ 31) (hb : b < 2 ^ 31) (kt : a = b → J G k w lv tgt st ce sl) (kf : ¬ (a = b) → J G k w lv (pc + 3) st ce sl) : J G k w lv pc (.int (nI b) :: .int (nI a) :: st) ce sl := j_icmp_eq C tgt hd ht (fun z => kt ((nI_eq ha hb).mp z)) (fun z => kf (fun q => z ((nI_eq ha hb).mpr q)))
theorem j_icmp_ltN (C : Cx G k cc own nm nL rt hh mc ms post) {a b : Nat} {off : Int} (tgt : Nat) (hd : decode cc pc = .ok (.if_icmp .lt off, 3)) (ht : (pc : Int) + off = (tgt : Int)) (ha : a < 2 ^ 31) (hb : b < 2 ^ 31) (kt : a < b → J G k w lv tgt st ce sl) (kf : ¬ (a < b) → J G k w lv (pc + 3) st ce sl) : J G k w lv pc (.int (nI b) :: .int (nI a) :: st) ce sl := j_icmp_lt C tgt hd ht (fun z => kt ((nI_ltI ha hb).mp z)) (fun z => kf (fun q => z ((nI_ltI ha hb).mpr q)))
theorem j_icmp_geN (C : Cx G k cc own nm nL rt hh mc ms post) {a b : Nat} {off : Int} (tgt : Nat) (hd : decode cc pc = .ok (.if_icmp .ge off, 3)) (ht : (pc : Int) + off = (tgt : Int)) (ha : a < 2 ^ 31) (hb : b < 2 ^ 31) (kt : b ≤ a → J G k w lv tgt st ce sl) (kf : ¬ (b ≤ a) → J G k w lv (pc + 3) st ce sl) : J G k w lv pc (.int (nI b) :: .int (nI a) :: st) ce sl := j_icmp_ge C tgt hd ht (fun z => kt ((nI_leI hb ha).mp z)) (fun z => kf (fun q => z ((nI_leI hb ha).mpr q)))
theorem j_icmp_gtN (C : Cx G k cc own nm nL rt hh mc ms post) {a b : Nat} {off : Int} (tgt : Nat) (hd : decode cc pc = .ok (.if_icmp .gt off, 3)) (ht : (pc : Int) + off = (tgt : Int)) (ha : a < 2 ^ 31) (hb : b < 2 ^ 31) (kt : b < a → J G k w lv tgt st ce sl) (kf : ¬ (b < a) → J G k w lv (pc + 3) st ce sl) : J G k w lv pc (.int (nI b) :: .int (nI a) :: st) ce sl := j_icmp_gt C tgt hd ht (fun z => kt ((nI_ltI hb ha).mp z)) (fun z => kf (fun q => z ((nI_ltI hb ha).mpr q)))
theorem j_icmp_leN (C : Cx G k cc own nm nL rt hh mc ms post) {a b : Nat} {off : Int} (tgt : Nat) (hd : decode cc pc = .ok (.if_icmp .le off, 3)) (ht : (pc : Int) + off = (tgt : Int)) (ha : a < 2 ^ 31) (hb : b < 2 ^ 31) (kt : a ≤ b → J G k w lv tgt st ce sl) (kf : ¬ (a ≤ b) → J G k w lv (pc + 3) st ce sl) : J G k w lv pc (.int (nI b) :: .int (nI a) :: st) ce sl := j_icmp_le C tgt hd ht (fun z => kt ((nI_leI ha hb).mp z)) (fun z => kf (fun q => z ((nI_leI ha hb).mpr q)))
theorem j_if_eqN (C : Cx G k cc own nm nL rt hh mc ms post) {a : Nat} {off : Int} (tgt : Nat) (hd : decode cc pc = .ok (.ifCond .eq off, 3)) (ht : (pc : Int) + off = (tgt : Int)) (ha : a < 2 ^ 31) (kt : a = 0 → J G k w lv tgt st ce sl) (kf : ¬ (a = 0) → J G k w lv (pc + 3) st ce sl) : J G k w lv pc (.int (nI a) :: st) ce sl := by
  have e : nI a = 0 ↔ a = 0 := by
    rw [show (0 : Int32) = nI 0 from nI_zero]
    exact nI_eq ha (by decide)
  exact j_if_eq C tgt hd ht (fun z => kt (e.mp z)) (fun z => kf (fun q => z (e.mpr q)))
theorem j_if_leN (C : Cx G k cc own nm nL rt hh mc ms post) {a : Nat} {off : Int} (tgt : Nat) (hd : decode cc pc = .ok (.ifCond .le off, 3)) (ht : (pc : Int) + off = (tgt : Int)) (ha : a < 2 ^ 31) (kt : a = 0 → J G k w lv tgt st ce sl) (kf : ¬ (a = 0) → J G k w lv (pc + 3) st ce sl) : J G k w lv pc (.int (nI a) :: st) ce sl := by
  have e : nI a ≤ 0 ↔ a = 0 := by
    rw [show (0 : Int32) = nI 0 from nI_zero]
    exact ⟨fun z => Nat.le_zero.mp ((nI_leI ha (by decide)).mp z), fun z => by rw [z]; decide +kernel⟩
  exact j_if_le C tgt hd ht (fun z => kt (e.mp z)) (fun z => kf (fun q => z (e.mpr q)))
theorem j_if_gtN (C : Cx G k cc own nm nL rt hh mc ms post) {a : Nat} {off : Int} (tgt : Nat) (hd : decode cc pc = .ok (.ifCond .gt off, 3)) (ht : (pc : Int) + off = (tgt : Int)) (ha : a < 2 ^ 31) (kt : 0 < a → J G k w lv tgt st ce sl) (kf : ¬ (0 < a) → J G k w lv (pc + 3) st ce sl) : J G k w lv pc (.int (nI a) :: st) ce sl := by
  have e : 0 < nI a ↔ 0 < a := by
    rw [show (0 : Int32) = nI 0 from nI_zero]
    exact nI_ltI (by decide) ha
  exact j_if_gt C tgt hd ht (fun z => kt (e.mp z)) (fun z => kf (fun q => z (e.mpr q)))
theorem j_icmp_neN (C : Cx G k cc own nm nL rt hh mc ms post) {a b : Nat} {off : Int} (tgt : Nat) (hd : decode cc pc = .ok (.if_icmp .ne off, 3)) (ht : (pc : Int) + off = (tgt : Int)) (ha : a < 2 ^ 31) (hb : b < 2 ^ 31) (kt : a ≠ b → J G k w lv tgt st ce sl) (kf : a = b → J G k w lv (pc + 3) st ce sl) : J G k w lv pc (.int (nI b) :: .int (nI a) :: st) ce sl := j_icmp_ne C tgt hd ht (fun z => kt (fun q => z ((nI_eq ha hb).mpr q))) (fun z => kf ((nI_eq ha hb).mp z))
theorem j_if_neN (C : Cx G k cc own nm nL rt hh mc ms post) {a : Nat} {off : Int} (tgt : Nat) (hd : decode cc pc = .ok (.ifCond .ne off, 3)) (ht : (pc : Int) + off = (tgt : Int)) (ha : a < 2 ^ 31) (kt : a ≠ 0 → J G k w lv tgt st ce sl) (kf : a = 0 → J G k w lv (pc + 3) st ce sl) : J G k w lv pc (.int (nI a) :: st) ce sl := j_if_ne C tgt hd ht (fun z => kt (fun q => z (by rw [q]; decide +kernel))) (fun z => kf ((nI_eq ha (by decide)).mp (z.trans nI_zero)))
theorem j_if_ltN (C : Cx G k cc own nm nL rt hh mc ms post) {a : Nat} {off : Int} (hd : decode cc pc = .ok (.ifCond .lt off, 3)) (tgt : Nat) (ht : (pc : Int) + off = (tgt : Int)) (ha : a < 2 ^ 31) (kf : J G k w lv (pc + 3) st ce sl) : J G k w lv pc (.int (nI a) :: st) ce sl := j_if_lt C tgt hd ht (fun z => absurd z (nI_pos ha)) (fun _ => kf)
theorem j_if_geN (C : Cx G k cc own nm nL rt hh mc ms post) {a : Nat} {off : Int} (hd : decode cc pc = .ok (.ifCond .ge off, 3)) (tgt : Nat) (ht : (pc : Int) + off = (tgt : Int)) (ha : a < 2 ^ 31) (kt : J G k w lv tgt st ce sl) : J G k w lv pc (.int (nI a) :: st) ce sl := j_if_ge C tgt hd ht (fun _ => kt) (fun z => absurd (nI_pos' ha) z)
theorem j_if_eqB (C : Cx G k cc own nm nL rt hh mc ms post) {b : Bool} {off : Int} (tgt : Nat) (hd : decode cc pc = .ok (.ifCond .eq off, 3)) (ht : (pc : Int) + off = (tgt : Int)) (kt : b = false → J G k w lv tgt st ce sl) (kf : b = true → J G k w lv (pc + 3) st ce sl) : J G k w lv pc (.int (bZ b) :: st) ce sl := by
  cases b
  · exact j_if_eq C tgt hd ht (fun _ => kt rfl) (fun z => absurd (by decide +kernel) z)
  · exact j_if_eq C tgt hd ht (fun z => absurd z (by decide +kernel)) (fun _ => kf rfl)
theorem j_if_neB (C : Cx G k cc own nm nL rt hh mc ms post) {b : Bool} {off : Int} (tgt : Nat) (hd : decode cc pc = .ok (.ifCond .ne off, 3)) (ht : (pc : Int) + off = (tgt : Int)) (kt : b = true → J G k w lv tgt st ce sl) (kf : b = false → J G k w lv (pc + 3) st ce sl) : J G k w lv pc (.int (bZ b) :: st) ce sl := by
  cases b
  · exact j_if_ne C tgt hd ht (fun z => absurd (by decide +kernel) z) (fun _ => kf rfl)
  · exact j_if_ne C tgt hd ht (fun _ => kt rfl) (fun z => absurd z (by decide +kernel))
theorem j_i2lN (C : Cx G k cc own nm nL rt hh mc ms post) {a : Nat} (hd : decode cc pc = .ok (.i2l, 1)) (ha : a < 2 ^ 31) (h : J G k w lv (pc + 1) (.long (lN a) :: st) ce sl) : J G k w lv pc (.int (nI a) :: st) ce sl := j_i2l C hd (j_asl (nI_l ha) h)
theorem j_l2iN (C : Cx G k cc own nm nL rt hh mc ms post) {a : Nat} (hd : decode cc pc = .ok (.l2i, 1)) (h : J G k w lv (pc + 1) (.int (nI a) :: st) ce sl) : J G k w lv pc (.long (lN a) :: st) ce sl := j_l2i C hd (j_as (lN_i a) h)
theorem j_lmulN (C : Cx G k cc own nm nL rt hh mc ms post) {a b : Nat} (hd : decode cc pc = .ok (.lmul, 1)) (h : J G k w lv (pc + 1) (.long (lN (a * b)) :: st) ce sl) : J G k w lv pc (.long (lN b) :: .long (lN a) :: st) ce sl := j_lmul C hd (j_asl (lN_mul a b) h)
theorem j_laddN (C : Cx G k cc own nm nL rt hh mc ms post) {a b : Nat} (hd : decode cc pc = .ok (.ladd, 1)) (h : J G k w lv (pc + 1) (.long (lN (a + b)) :: st) ce sl) : J G k w lv pc (.long (lN b) :: .long (lN a) :: st) ce sl := j_ladd C hd (j_asl (lN_add a b) h)
theorem j_lremN (C : Cx G k cc own nm nL rt hh mc ms post) {a b : Nat} (hd : decode cc pc = .ok (.lrem, 1)) (ha : a < 2 ^ 63) (h0 : 0 < b) (hb : b < 2 ^ 63) (h : J G k w lv (pc + 1) (.long (lN (a % b)) :: st) ce sl) : J G k w lv pc (.long (lN b) :: .long (lN a) :: st) ce sl := j_lrem C hd (fun z => absurd ((pk_lEQ hb (by decide)).mp (show lN b = lN 0 from z)) (by omega)) (j_asl (pk_lRem ha h0 hb) h)
end JN
