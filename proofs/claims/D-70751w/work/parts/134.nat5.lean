/-! ===== System.arraycopy throws ===== -/
set_option maxRecDepth 100000
section CPW
variable {e : Env} {U : State}
/-- what one of the native's throws is -/
def cpT (e : Env) (U : State) (args : Array Value) (cls : String) (msg : Option String) : Prop := wpRun (Native.java_lang_System.arraycopy.sem args) (fun _ _ _ => False) (fun x s₁ _ => x = .throwNew cls msg ∧ s₁ = U) e U
theorem cp_null1 (v : Value) (sp dp n : Int32) : cpT e U #[.null, .int sp, v, .int dp, .int n] "java/lang/NullPointerException" none := by
  have e1 : Native.java_lang_System.arraycopy.sem #[.null, .int sp, v, .int dp, .int n] = (do mark "nat.java_lang_System.arraycopy/null"; throwNew "java/lang/NullPointerException") := rfl
  unfold cpT
  rw [e1]
  simp only [wpRun, wp_bind', W.mark, W.throwNew]
  first | exact ⟨rfl, rfl⟩ | exact ⟨trivial, rfl⟩ | exact ⟨trivial, trivial⟩ | trivial
theorem cp_null2 (a : Nat) (sp dp n : Int32) : cpT e U #[.ref a, .int sp, .null, .int dp, .int n] "java/lang/NullPointerException" none := by
  have e1 : Native.java_lang_System.arraycopy.sem #[.ref a, .int sp, .null, .int dp, .int n] = (do mark "nat.java_lang_System.arraycopy/null"; throwNew "java/lang/NullPointerException") := rfl
  unfold cpT
  rw [e1]
  simp only [wpRun, wp_bind', W.mark, W.throwNew]
  first | exact ⟨rfl, rfl⟩ | exact ⟨trivial, rfl⟩ | exact ⟨trivial, trivial⟩ | trivial
theorem txt_ok {s : String} {n : Nat} {c : Char} (h1 : s.toList.head? = some c) (hc : c ≠ '\u0000') (h2 : s.toList.length ≤ n) : (s == notModelled) = false ∧ (stringBytes (stringToUtf16 s)).size ≤ 4 * n := by
  constructor
  · rw [beq_eq_false_iff_ne]
    intro h
    have h3 := congrArg (fun s => s.toList.head?) h
    have h4 : notModelled.toList.head? = some '\u0000' := by decide
    exact hc (Option.some.inj (h1.symm.trans (h3.trans h4)))
  · have b1 := stringBytes_size_le (stringToUtf16 s)
    have b2 := utf16_size_le s
    omega
theorem kn_len (ty : FieldType) : (Native.java_lang_System.arraycopy.kindName ty).toList.length ≤ 12 := by
  cases ty <;> first | decide | (show ("object array").toList.length ≤ 12; decide)
variable {src dst : Addr} {sp dp n : Int32} {cs cd : Cell} {ks kd : Class} {sComp dComp : ClassId} {sType dType : FieldType}
theorem cp_kind (hsobj : ∀ k, cs.vm ≠ .statics k) (hdobj : ∀ k, cd.vm ≠ .statics k) (hsk : ks.kind = .array sComp sType) (hdk : kd.kind = .array dComp dType)
    (hty : ((refKind sType != refKind dType) || (!refKind sType && sType != dType)) = true) :
    ∃ text : String, (text == notModelled) = false ∧ (stringBytes (stringToUtf16 text)).size ≤ 800 ∧ ∀ (e : Env) (U : State), U.heap[src]? = some cs → U.heap[dst]? = some cd → U.vm.classes[cs.cls]? = some ks → U.vm.classes[cd.cls]? = some kd → cpT e U #[.ref src, .int sp, .ref dst, .int dp, .int n] "java/lang/ArrayStoreException" (some text) := by
  refine ⟨toString "arraycopy: type mismatch: can not copy " ++ toString (Native.java_lang_System.arraycopy.kindName sType) ++ toString "[] into " ++ toString (Native.java_lang_System.arraycopy.kindName dType) ++ toString "[]", ?_⟩
  have ht := txt_ok (s := toString "arraycopy: type mismatch: can not copy " ++ toString (Native.java_lang_System.arraycopy.kindName sType) ++ toString "[] into " ++ toString (Native.java_lang_System.arraycopy.kindName dType) ++ toString "[]") (n := 200) (c := 'a') (by
      simp only [String.toList_append]
      rfl) (by decide) (by
      have b1 := kn_len sType
      have b2 := kn_len dType
      simp only [String.toList_append, List.length_append]
      have c1 : (toString "arraycopy: type mismatch: can not copy ").toList.length = 39 := by decide
      have c2 : (toString "[] into ").toList.length = 8 := by decide
      have c3 : (toString "[]").toList.length = 2 := by decide
      have b3 : (toString (Native.java_lang_System.arraycopy.kindName sType)).toList.length = (Native.java_lang_System.arraycopy.kindName sType).toList.length := rfl
      have b4 : (toString (Native.java_lang_System.arraycopy.kindName dType)).toList.length = (Native.java_lang_System.arraycopy.kindName dType).toList.length := rfl
      omega)
  refine ⟨ht.1, ht.2, fun e U hs hd hks hkd => ?_⟩
  unfold cpT
  simp only [wpRun]
  rw [Native.java_lang_System.arraycopy.sem_refs]
  unfold Native.java_lang_System.arraycopy.behind
  simp only [wp_bind', W.classOf, W.theClass, hs, hd, hks, hkd, Option.some.injEq, exists_eq_left', hsk, hdk]
  refine ⟨hsobj, hdobj, ?_⟩
  unfold refKind at hty
  simp only [hty, if_true, wp_bind', W.mark, W.throwNew]
  first | exact ⟨rfl, rfl⟩ | exact ⟨trivial, rfl⟩ | exact ⟨trivial, trivial⟩ | trivial
theorem arc_ok {w : String} (h : w.toList.length ≤ 150) : (("arraycopy: " ++ w) == notModelled) = false ∧ (stringBytes (stringToUtf16 ("arraycopy: " ++ w))).size ≤ 800 := by
  have ht := txt_ok (s := "arraycopy: " ++ w) (n := 200) (c := 'a') (by
      simp only [String.toList_append]
      rfl) (by decide) (by
      simp only [String.toList_append, List.length_append]
      have c1 : ("arraycopy: ").toList.length = 11 := by decide
      omega)
  exact ht
theorem arr_len (ty : FieldType) {m : Nat} (h : m < 2 ^ 31) : (toString (Native.java_lang_System.arraycopy.kindName ty) ++ toString "[" ++ toString m ++ toString "]").toList.length ≤ 24 := by
  have b1 := kn_len ty
  have b2 := nat_print (n := m) (by omega)
  simp only [String.toList_append, List.length_append]
  have c2 : (toString "[").toList.length = 1 := by decide
  have c3 : (toString "]").toList.length = 1 := by decide
  have b3 : (toString (Native.java_lang_System.arraycopy.kindName ty)).toList.length = (Native.java_lang_System.arraycopy.kindName ty).toList.length := rfl
  omega
theorem int_len {x : Int} (h0 : 0 ≤ x) (h : x < 10 ^ 10) : (toString x).toList.length ≤ 10 := by
  obtain ⟨m, rfl⟩ := Int.eq_ofNat_of_zero_le h0
  have := nat_print (n := m) (by omega)
  exact this
theorem msg_len {A B : String} {x y : String} {a b c d : Nat} (hA : A.toList.length ≤ a) (hB : B.toList.length ≤ b) (hx : x.toList.length ≤ c) (hy : y.toList.length ≤ d) : (toString A ++ x ++ toString B ++ toString y).toList.length ≤ a + b + c + d := by
  simp only [String.toList_append, List.length_append]
  have e1 : (toString A).toList.length = A.toList.length := rfl
  have e2 : (toString B).toList.length = B.toList.length := rfl
  have e3 : (toString y).toList.length = y.toList.length := rfl
  omega
theorem cp_out (hsobj : ∀ k, cs.vm ≠ .statics k) (hdobj : ∀ k, cd.vm ≠ .statics k) (hsk : ks.kind = .array sComp sType) (hdk : kd.kind = .array dComp dType)
    (hty : ((refKind sType != refKind dType) || (!refKind sType && sType != dType)) = false) (hn1 : cs.slots.size < 2 ^ 31) (hn2 : cd.slots.size < 2 ^ 31)
    (hout : ¬ (¬ sp < 0 ∧ ¬ dp < 0 ∧ ¬ n < 0 ∧ ¬ sp.toInt + n.toInt > cs.slots.size ∧ ¬ dp.toInt + n.toInt > cd.slots.size)) :
    ∃ text : String, (text == notModelled) = false ∧ (stringBytes (stringToUtf16 text)).size ≤ 800 ∧ ∀ (e : Env) (U : State), U.heap[src]? = some cs → U.heap[dst]? = some cd → U.vm.classes[cs.cls]? = some ks → U.vm.classes[cd.cls]? = some kd → cpT e U #[.ref src, .int sp, .ref dst, .int dp, .int n] "java/lang/ArrayIndexOutOfBoundsException" (some text) := by
  have key : ∀ what : String, what.toList.length ≤ 150 → (if sp < 0 then some (toString "source index " ++ toString sp ++ toString " out of bounds for " ++ toString (toString (Native.java_lang_System.arraycopy.kindName sType) ++ toString "[" ++ toString cs.slots.size ++ toString "]")) else if dp < 0 then some (toString "destination index " ++ toString dp ++ toString " out of bounds for " ++ toString (toString (Native.java_lang_System.arraycopy.kindName dType) ++ toString "[" ++ toString cd.slots.size ++ toString "]")) else if n < 0 then some (toString "length " ++ toString n ++ toString " is negative") else if sp.toInt + n.toInt > cs.slots.size then some (toString "last source index " ++ toString (sp.toInt + n.toInt) ++ toString " out of bounds for " ++ toString (toString (Native.java_lang_System.arraycopy.kindName sType) ++ toString "[" ++ toString cs.slots.size ++ toString "]")) else if dp.toInt + n.toInt > cd.slots.size then some (toString "last destination index " ++ toString (dp.toInt + n.toInt) ++ toString " out of bounds for " ++ toString (toString (Native.java_lang_System.arraycopy.kindName dType) ++ toString "[" ++ toString cd.slots.size ++ toString "]")) else none) = some what →
      ∃ text : String, (text == notModelled) = false ∧ (stringBytes (stringToUtf16 text)).size ≤ 800 ∧ ∀ (e : Env) (U : State), U.heap[src]? = some cs → U.heap[dst]? = some cd → U.vm.classes[cs.cls]? = some ks → U.vm.classes[cd.cls]? = some kd → cpT e U #[.ref src, .int sp, .ref dst, .int dp, .int n] "java/lang/ArrayIndexOutOfBoundsException" (some text) := by
    intro what hw he
    refine ⟨"arraycopy: " ++ what, (arc_ok hw).1, (arc_ok hw).2, fun e U hs hd hks hkd => ?_⟩
    unfold cpT
    simp only [wpRun]
    rw [Native.java_lang_System.arraycopy.sem_refs]
    unfold Native.java_lang_System.arraycopy.behind
    simp only [wp_bind', W.classOf, W.theClass, hs, hd, hks, hkd, Option.some.injEq, exists_eq_left', hsk, hdk]
    refine ⟨hsobj, hdobj, ?_⟩
    unfold refKind at hty
    simp only [hty, Bool.false_eq_true, if_false]
    simp only [wp_bind', W.sizeOf, hs, hd, Option.some.injEq, exists_eq_left']
    rw [he]
    simp only [wp_bind', W.mark, W.throwNew]
    first | exact ⟨rfl, rfl⟩ | exact ⟨trivial, rfl⟩ | exact ⟨trivial, trivial⟩ | trivial
  have a1 := arr_len sType hn1
  have a2 := arr_len dType hn2
  have q1 := int32_print sp
  have q2 := int32_print dp
  have q3 := int32_print n
  have m1 : sp.toInt < 2 ^ 31 := Int32.toInt_lt sp
  have m2 : dp.toInt < 2 ^ 31 := Int32.toInt_lt dp
  have m3 : n.toInt < 2 ^ 31 := Int32.toInt_lt n
  have e0 : (0 : Int32).toInt = 0 := by decide +kernel
  have p : ∀ x : Int32, ¬ x < 0 → 0 ≤ x.toInt := fun x hx => Int.not_lt.mp (fun z => hx (Int32.lt_iff_toInt_lt.mpr (by rw [e0]; exact z)))
  by_cases z1 : sp < 0
  · exact key _ (Nat.le_trans (msg_len (a := 13) (b := 19) (c := 11) (d := 24) (by decide) (by decide) q1 a1) (by omega)) (if_pos z1)
  · by_cases z2 : dp < 0
    · exact key _ (Nat.le_trans (msg_len (a := 18) (b := 19) (c := 11) (d := 24) (by decide) (by decide) q2 a2) (by omega)) ((if_neg z1).trans (if_pos z2))
    · by_cases z3 : n < 0
      · refine key _ ?_ ((if_neg z1).trans ((if_neg z2).trans (if_pos z3)))
        simp only [String.toList_append, List.length_append]
        have c2 : (toString "length ").toList.length = 7 := by decide
        have c3 : (toString " is negative").toList.length = 12 := by decide
        omega
      · have p1 := p _ z1
        have p2 := p _ z2
        have p3 := p _ z3
        by_cases z4 : sp.toInt + n.toInt > cs.slots.size
        · exact key _ (Nat.le_trans (msg_len (a := 18) (b := 19) (c := 10) (d := 24) (by decide) (by decide) (int_len (by omega) (by omega)) a1) (by omega)) ((if_neg z1).trans ((if_neg z2).trans ((if_neg z3).trans (if_pos z4))))
        · by_cases z5 : dp.toInt + n.toInt > cd.slots.size
          · exact key _ (Nat.le_trans (msg_len (a := 23) (b := 19) (c := 10) (d := 24) (by decide) (by decide) (int_len (by omega) (by omega)) a2) (by omega)) ((if_neg z1).trans ((if_neg z2).trans ((if_neg z3).trans ((if_neg z4).trans (if_pos z5)))))
          · exact absurd ⟨z1, z2, z3, z4, z5⟩ hout
end CPW
