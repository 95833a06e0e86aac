/-! the classes, by their numbers -/
abbrev jcl : List vw_C := [(RX0, TX0, 14), (RX1, TX1, 1), (RX2, TX2, 11), (RX3, TX3, 2), (RX4, TX4, 32), (RX5, TX5, 7), (RX6, TX6, 8), (RX8, TX8, 2), (RX9, TX9, 2), (RX10, TX10, 2), (RX11, TX11, 2), (RX12, TX12, 2), (RX13, TX13, 3), (RX14, TX14, 3), (RX15, TX15, 3), (RX16, TX16, 2), (RX17, TX17, 2), (RX18, TX18, 3), (RX19, TX19, 2), (RX20, TX20, 2), (RJ2, TJ2, 3), ("java/lang/NullPointerException", TX0, 0), ("java/lang/ArrayIndexOutOfBoundsException", TX0, 0), ("java/lang/NegativeArraySizeException", TX0, 0), ("java/lang/ArrayStoreException", TX0, 0), ("java/lang/ClassCastException", TX0, 0)]
/-! ===== J: a walk of a method over a world that is a MAP of cells (address -> tag and content) ===== -/
set_option maxRecDepth 100000
/-- the world: what lies at an address (an owner's tag, a cell), and how many cells the heap has -/
abbrev wd_T : Type := (Nat → Option (Nat × va_E)) × Nat
/-- what is fixed all through the law's run: the launch, the classes' numbers, their slots, the array classes' numbers, the heap at the law's entry, some addresses of it -/
abbrev gl_T : Type := Launch × (Nat → ClassId) × (Nat → Nat → Nat) × (Nat → ClassId) × Heap × (Nat → Nat) × (State → Prop)
abbrev gl_l (G : gl_T) : Launch := G.1
abbrev gl_D (G : gl_T) : va_G := (G.2.1, G.2.2.1)
abbrev gl_A (G : gl_T) : Nat → ClassId := G.2.2.2.1
abbrev gl_H (G : gl_T) : Heap := G.2.2.2.2.1
abbrev gl_z (G : gl_T) : Nat → Nat := G.2.2.2.2.2.1
/-- what else the tables and the heap at the entry say: any word that stays -/
abbrev gl_X (G : gl_T) : State → Prop := G.2.2.2.2.2.2
abbrev gl_fr (G : gl_T) : Nat → Prop := fun q => (gl_H G).size ≤ q
/-- the array classes that are used -/
abbrev gl_tys (G : gl_T) : List (ClassId × FieldType) := [(gl_A G 0, .int), (gl_A G 1, .byte), (gl_A G 2, .short), (gl_A G 3, .boolean), (gl_A G 4, .object "java/lang/Object"), (gl_A G 5, .object "MoodFare$Town"), (gl_A G 6, .object "MoodFare$Shelf")]
/-- the heap holds the world -/
def hp (G : gl_T) (w : wd_T) (H : Heap) : Prop := H.size = w.2 ∧ (gl_H G).size ≤ H.size ∧ ((∀ q : Nat, q < (gl_H G).size → H[q]? = (gl_H G)[q]?) ∧ ∀ (q : Nat) (cell : Cell), (gl_H G).size ≤ q → H[q]? = some cell → cell.vm.isStatics = false) ∧ ∀ (a τ : Nat) (e : va_E), w.1 a = some (τ, e) → (gl_H G).size ≤ a ∧ va_at (gl_D G) jcl (a, e) H
/-- a cell of the world holds no statics -/
theorem va_at_ns {D : va_G} {cl : List vw_C} {a : Nat} {e : va_E} {H : Heap} {cell : Cell} (h : va_at D cl (a, e) H) (hc : H[a]? = some cell) : cell.vm.isStatics = false := by
  rcases e with ⟨c, n, x⟩ | ⟨ci, fs⟩
  · have h1 : H[a]? = some (vp_cell c (n, x)) := h
    rw [hc] at h1
    cases h1
    rcases x with f | f | f | f | f <;> rfl
  · obtain ⟨r, -, cell', h1, -, h2, -⟩ := h
    have h1' : H[a]? = some cell' := h1
    rw [hc] at h1'
    cases h1'
    rw [h2]
    rfl
/-- one cell of the map is laid anew -/
def mu (f : Nat → Option (Nat × va_E)) (a τ : Nat) (e : va_E) : Nat → Option (Nat × va_E) := fun q => if q = a then some (τ, e) else f q
theorem mu_s {f : Nat → Option (Nat × va_E)} {a τ : Nat} {e : va_E} : mu f a τ e a = some (τ, e) := by simp [mu]
theorem mu_n {f : Nat → Option (Nat × va_E)} {a τ b : Nat} {e : va_E} (h : b ≠ a) : mu f a τ e b = f b := by simp [mu, h]
theorem mu_mu {f : Nat → Option (Nat × va_E)} {a τ σ : Nat} {e e' : va_E} : mu (mu f a τ e) a σ e' = mu f a σ e' := by
  funext q
  by_cases h : q = a <;> simp [mu, h]
theorem mu_c {f : Nat → Option (Nat × va_E)} {a b τ σ : Nat} {e e' : va_E} (h : a ≠ b) : mu (mu f a τ e) b σ e' = mu (mu f b σ e') a τ e := by
  funext q
  by_cases h1 : q = a
  · subst h1
    simp [mu, h]
  · by_cases h2 : q = b
    · subst h2
      simp [mu, h1]
    · simp [mu, h1, h2]
theorem hp.lt {G : gl_T} {w : wd_T} {H : Heap} (h : hp G w H) {a τ : Nat} {e : va_E} (ha : w.1 a = some (τ, e)) : a < w.2 := by
  rw [← h.1]
  exact (h.2.2.2 a τ e ha).2.lt
theorem hp.at' {G : gl_T} {w : wd_T} {H : Heap} (h : hp G w H) {a τ : Nat} {e : va_E} (ha : w.1 a = some (τ, e)) : va_P (gl_D G) jcl [(a, e)] H := by
  intro k q hk
  cases k with
  | zero => cases hk; exact (h.2.2.2 a τ e ha).2
  | succ k => simp at hk
/-- behind a write into a cell of the world -/
theorem hp.set {G : gl_T} {w : wd_T} {H H1 : Heap} (h : hp G w H) {a τ : Nat} {e e1 : va_E} (ha : w.1 a = some (τ, e)) (h1 : va_at (gl_D G) jcl (a, e1) H1) (hs : H1.size = H.size) (ho : ∀ q : Nat, q ≠ a → H1[q]? = H[q]?) : hp G (mu w.1 a τ e1, w.2) H1 := by
  refine ⟨hs.trans h.1, by rw [hs]; exact h.2.1, ⟨fun q hq => ?_, fun q cell hq hc => ?_⟩, fun b σ e2 hb => ?_⟩
  · rw [ho q (fun z => by subst z; have := (h.2.2.2 q τ e ha).1; omega)]
    exact h.2.2.1.1 q hq
  · by_cases z : q = a
    · subst z
      exact va_at_ns h1 hc
    · rw [ho q z] at hc
      exact h.2.2.1.2 q cell hq hc
  · by_cases z : b = a
    · subst z
      have hb2 : mu w.1 b τ e1 b = some (σ, e2) := hb
      rw [mu_s] at hb2
      cases hb2
      exact ⟨(h.2.2.2 b τ e ha).1, h1⟩
    · have hb2 : mu w.1 a τ e1 b = some (σ, e2) := hb
      rw [mu_n z] at hb2
      exact ⟨(h.2.2.2 b σ e2 hb2).1, (h.2.2.2 b σ e2 hb2).2.kept (ho b z)⟩
/-- behind a new cell -/
theorem hp.push {G : gl_T} {w : wd_T} {H H1 : Heap} (h : hp G w H) (τ : Nat) {e1 : va_E} (h1 : va_at (gl_D G) jcl (w.2, e1) H1) (hs : H1.size = H.size + 1) (ho : ∀ q : Nat, q < H.size → H1[q]? = H[q]?) : hp G (mu w.1 w.2 τ e1, w.2 + 1) H1 := by
  refine ⟨by rw [hs, h.1], by have := h.2.1; omega, ⟨fun q hq => ?_, fun q cell hq hc => ?_⟩, fun b σ e2 hb => ?_⟩
  · rw [ho q (by have := h.2.1; omega)]
    exact h.2.2.1.1 q hq
  · by_cases z : q = w.2
    · subst z
      exact va_at_ns h1 hc
    · have hl := (Array.getElem?_eq_some_iff.mp hc).1
      rw [ho q (by rw [h.1]; rw [hs, h.1] at hl; omega)] at hc
      exact h.2.2.1.2 q cell hq hc
  · by_cases z : b = w.2
    · subst z
      have hb2 : mu w.1 w.2 τ e1 w.2 = some (σ, e2) := hb
      rw [mu_s] at hb2
      cases hb2
      exact ⟨by have := h.2.1; rw [h.1] at this; exact this, h1⟩
    · have hb2 : mu w.1 w.2 τ e1 b = some (σ, e2) := hb
      rw [mu_n z] at hb2
      have hlt := h.lt hb2
      exact ⟨(h.2.2.2 b σ e2 hb2).1, (h.2.2.2 b σ e2 hb2).2.kept (ho b (by rw [h.1]; exact hlt))⟩
/-- fewer cells, or the same under other words -/
theorem hp.to {G : gl_T} {w : wd_T} {H : Heap} (h : hp G w H) {f : Nat → Option (Nat × va_E)} (hf : ∀ (a τ : Nat) (e : va_E), f a = some (τ, e) → ∃ (σ : Nat) (e0 : va_E), w.1 a = some (σ, e0) ∧ (va_at (gl_D G) jcl (a, e0) H → va_at (gl_D G) jcl (a, e) H)) : hp G (f, w.2) H := by
  refine ⟨h.1, h.2.1, h.2.2.1, fun a τ e ha => ?_⟩
  obtain ⟨σ, e0, h0, hi⟩ := hf a τ e ha
  exact ⟨(h.2.2.2 a σ e0 h0).1, hi (h.2.2.2 a σ e0 h0).2⟩
/-- what the tables say, at the law's entry and all through -/
def KK (G : gl_T) (U : State) : Prop := va_K (gl_D G) jcl (gl_tys G) U ∧ (∀ u V : State, u.WarmedH V.vm → gl_X G u → gl_X G V) ∧ (∀ u V : State, u.vm = V.vm → gl_X G u → gl_X G V) ∧ gl_X G U
theorem KK.warm {G : gl_T} {s U : State} (hW : s.WarmedH U.vm) (h : KK G s) : KK G U := ⟨va_K.moved hW.alike h.1, h.2.1, h.2.2.1, h.2.1 s U hW h.2.2.2⟩
theorem KK.call {G : gl_T} {U : State} {g : JFrame} {mk : MethodId} {a : Array Value} (h : KK G U) : KK G (U.calling g mk a) := ⟨va_K.moved (u := U) (U := U.calling g mk a) (Vm.Alike.refl U.vm) h.1, h.2.1, h.2.2.1, h.2.2.1 U _ rfl h.2.2.2⟩
theorem KK.X {G : gl_T} {U : State} (h : KK G U) : gl_X G U := h.2.2.2
/-- a method's walk: the machine, its room, its start, its code; what is to hold at its end, the cells and slots that it may make -/
abbrev KX : Type := Program × Env × Room × State × MethodId × Array Value × List Frame × Method × Code × (Outcome → wd_T → Prop) × Nat × Nat × Nat
abbrev k_p (k : KX) : Program := k.1
abbrev k_e (k : KX) : Env := k.2.1
abbrev k_R (k : KX) : Room := k.2.2.1
abbrev k_s (k : KX) : State := k.2.2.2.1
abbrev k_m (k : KX) : MethodId := k.2.2.2.2.1
abbrev k_a (k : KX) : Array Value := k.2.2.2.2.2.1
abbrev k_b (k : KX) : List Frame := k.2.2.2.2.2.2.1
abbrev k_me (k : KX) : Method := k.2.2.2.2.2.2.2.1
abbrev k_c (k : KX) : Code := k.2.2.2.2.2.2.2.2.1
abbrev k_po (k : KX) : Outcome → wd_T → Prop := k.2.2.2.2.2.2.2.2.2.1
abbrev k_mc (k : KX) : Nat := k.2.2.2.2.2.2.2.2.2.2.1
abbrev k_ms (k : KX) : Nat := k.2.2.2.2.2.2.2.2.2.2.2.1
abbrev k_n (k : KX) : Nat := k.2.2.2.2.2.2.2.2.2.2.2.2
def FrE (first t : State) (L : List Loc) (k n : Nat) : Prop := first.WarmedH t.vm ∧ first.sameButNew ({ t with vm := first.vm } : State) L k n
/-- a method's end: it returned, or threw -/
def MX (G : gl_T) (k : KX) : State → Prop := fun t => ∃ o, t.status = .running ∧ Ended t (k_b k) o ∧ (∃ w, k_po k o w ∧ hp G w t.heap) ∧ ∃ L, FrE (k_s k) t L (k_mc k) (k_ms k) ∧ ∀ q ∈ L, gl_fr G q.base
/-- one room for every method, by its height over the leaves -/
abbrev rmh (h mc ms : Nat) : Room := { frames := h + 12, cells := mc, slots := ms, locals := 60 * h + 10500 }
/-- **a method's contract**: from the world w, with the values av: it ends, 'post' holds of how it ended and of the world behind it; at most mc cells of ms slots are new -/
def Mt (G : gl_T) (y : MethodName) (bytes : ByteArray) (maxL : Nat) (ret : Option FieldType) (h : Nat) (av : List Value) (w : wd_T) (post : Outcome → wd_T → Prop) (mc ms : Nat) : Prop :=
  MetFree (gl_l G) y (headSpec (ws_ y bytes maxL ret) (rmh h mc ms)) (fun v U => v = av.toArray ∧ hp G w U.heap ∧ KK G U) (fun _ _ _ _ _ => True) (fun _ st o t => (∃ w', post o w' ∧ hp G w' t.heap) ∧ ∃ L, FrE st t L mc ms ∧ ∀ q ∈ L, gl_fr G q.base)
/-- the same of a method with handlers -/
def MtW (G : gl_T) (y : MethodName) (bytes : ByteArray) (maxL : Nat) (ret : Option FieldType) (hh : List (Nat × Nat × Nat × Nat)) (h : Nat) (av : List Value) (w : wd_T) (post : Outcome → wd_T → Prop) (mc ms : Nat) : Prop :=
  MetFree (gl_l G) y (headSpec (wsW_ y bytes maxL ret hh) (rmh h mc ms)) (fun v U => v = av.toArray ∧ hp G w U.heap ∧ KK G U) (fun _ _ _ _ _ => True) (fun _ st o t => (∃ w', post o w' ∧ hp G w' t.heap) ∧ ∃ L, FrE st t L mc ms ∧ ∀ q ∈ L, gl_fr G q.base)
/-- **the judgement**: from the world w, the locals lv, at pc with the stack st, ce cells and sl slots made: the method comes to its end -/
def J (G : gl_T) (k : KX) (w : wd_T) (lv : List (Nat × Value)) (pc : Nat) (st : List Value) (ce sl : Nat) : Prop :=
  ∀ (ls : Array Slot) (H : Heap) (locs : List Loc), lv_has ls (k_n k) lv → hp G w H → (∀ q ∈ locs, gl_fr G q.base) → W (k_p k) (gl_l G) (k_e k) (k_R k) (k_s k) (k_m k) (k_a k) (k_b k) (k_me k) (k_c k) H locs ce sl (MX G k) (F0 (k_m k) pc ls st)
/-- what is known of a walk -/
def Cx (G : gl_T) (k : KX) (cc : ByteArray) (own name : String) (nL : Nat) (ret : Option FieldType) (h mc ms : Nat) (post : Outcome → wd_T → Prop) : Prop :=
  (k_p k).tables.exec = Jvm.exec ∧ (k_c k).code = cc ∧ (k_me k).sig.returnType = ret ∧ (k_c k).maxLocals = nL ∧ k_n k = nL ∧ (k_s k).vm.findClass own = some (k_m k).cls ∧ (∀ w ∈ lw_all, w.before (k_a k) (k_s k) = true) ∧ KK G (k_s k) ∧ (k_me k).locks = false ∧ (k_me k).name = name ∧ k_R k = rmh h mc ms ∧ k_mc k = mc ∧ k_ms k = ms ∧ (∃ w0, hp G w0 (k_s k).heap) ∧ k_po k = post
section JX
variable {G : gl_T} {k : KX} {cc : ByteArray} {own nm : String} {nL hh mc ms : Nat} {rt : Option FieldType} {post : Outcome → wd_T → Prop}
theorem Cx.hx (C : Cx G k cc own nm nL rt hh mc ms post) : (k_p k).tables.exec = Jvm.exec := C.1
theorem Cx.hb (C : Cx G k cc own nm nL rt hh mc ms post) : (k_c k).code = cc := C.2.1
theorem Cx.hr (C : Cx G k cc own nm nL rt hh mc ms post) : (k_me k).sig.returnType = rt := C.2.2.1
theorem Cx.hml (C : Cx G k cc own nm nL rt hh mc ms post) : (k_c k).maxLocals = nL := C.2.2.2.1
theorem Cx.hn (C : Cx G k cc own nm nL rt hh mc ms post) : k_n k = nL := C.2.2.2.2.1
theorem Cx.hown (C : Cx G k cc own nm nL rt hh mc ms post) : (k_s k).vm.findClass own = some (k_m k).cls := C.2.2.2.2.2.1
theorem Cx.hts (C : Cx G k cc own nm nL rt hh mc ms post) : ∀ w ∈ lw_all, w.before (k_a k) (k_s k) = true := C.2.2.2.2.2.2.1
theorem Cx.hK (C : Cx G k cc own nm nL rt hh mc ms post) : KK G (k_s k) := C.2.2.2.2.2.2.2.1
theorem Cx.hlocks (C : Cx G k cc own nm nL rt hh mc ms post) : (k_me k).locks = false := C.2.2.2.2.2.2.2.2.1
theorem Cx.hname (C : Cx G k cc own nm nL rt hh mc ms post) : (k_me k).name = nm := C.2.2.2.2.2.2.2.2.2.1
theorem Cx.hR (C : Cx G k cc own nm nL rt hh mc ms post) : k_R k = rmh hh mc ms := C.2.2.2.2.2.2.2.2.2.2.1
theorem Cx.hmc (C : Cx G k cc own nm nL rt hh mc ms post) : k_mc k = mc := C.2.2.2.2.2.2.2.2.2.2.2.1
theorem Cx.hms (C : Cx G k cc own nm nL rt hh mc ms post) : k_ms k = ms := C.2.2.2.2.2.2.2.2.2.2.2.2.1
theorem Cx.hh0 (C : Cx G k cc own nm nL rt hh mc ms post) : ∃ w0, hp G w0 (k_s k).heap := C.2.2.2.2.2.2.2.2.2.2.2.2.2.1
theorem Cx.hpo (C : Cx G k cc own nm nL rt hh mc ms post) : k_po k = post := C.2.2.2.2.2.2.2.2.2.2.2.2.2.2
variable {w : wd_T} {lv : List (Nat × Value)} {pc ce sl : Nat} {st : List Value}

theorem j_iconst (C : Cx G k cc own nm nL rt hh mc ms post) {n : Int} {v : Int32} (hd : decode cc pc = .ok (.iconst n, 1)) (hv : Int32.ofInt n = v) (h : J G k w lv (pc + 1) (.int v :: st) ce sl) : J G k w lv pc (st) ce sl := fun ls H locs hl hp hf => lv_iconst C.hx C.hb hd hv (h ls H locs hl hp hf)
theorem j_bipush (C : Cx G k cc own nm nL rt hh mc ms post) {n : Int} {v : Int32} (hd : decode cc pc = .ok (.bipush n, 2)) (hv : (Int8.ofInt n).toInt32 = v) (h : J G k w lv (pc + 2) (.int v :: st) ce sl) : J G k w lv pc (st) ce sl := fun ls H locs hl hp hf => lv_bipush C.hx C.hb hd hv (h ls H locs hl hp hf)
theorem j_sipush (C : Cx G k cc own nm nL rt hh mc ms post) {n : Int} {v : Int32} (hd : decode cc pc = .ok (.sipush n, 3)) (hv : (Int16.ofInt n).toInt32 = v) (h : J G k w lv (pc + 3) (.int v :: st) ce sl) : J G k w lv pc (st) ce sl := fun ls H locs hl hp hf => lv_sipush C.hx C.hb hd hv (h ls H locs hl hp hf)
theorem j_lconst (C : Cx G k cc own nm nL rt hh mc ms post) {n : Fin 2} {v : Int64} (hd : decode cc pc = .ok (.lconst n, 1)) (hv : Int64.ofNat (n : Nat) = v) (h : J G k w lv (pc + 1) (.long v :: st) ce sl) : J G k w lv pc (st) ce sl := fun ls H locs hl hp hf => lv_lconst C.hx C.hb hd hv (h ls H locs hl hp hf)
theorem j_ldc (C : Cx G k cc own nm nL rt hh mc ms post) {i : Nat} {v : Int32} (hc : Cond.constant own i v ∈ lw_all) (hd : decode cc pc = .ok (.ldc i, 2)) (h : J G k w lv (pc + 2) (.int v :: st) ce sl) : J G k w lv pc (st) ce sl := fun ls H locs hl hp hf => lv_ldc C.hx C.hb C.hown (C.hts _ hc) hd (h ls H locs hl hp hf)
theorem j_ldcw (C : Cx G k cc own nm nL rt hh mc ms post) {i : Nat} {v : Int32} (hc : Cond.constant own i v ∈ lw_all) (hd : decode cc pc = .ok (.ldc_w i, 3)) (h : J G k w lv (pc + 3) (.int v :: st) ce sl) : J G k w lv pc (st) ce sl := fun ls H locs hl hp hf => lv_ldcw C.hx C.hb C.hown (C.hts _ hc) hd (h ls H locs hl hp hf)
theorem j_ldc2 (C : Cx G k cc own nm nL rt hh mc ms post) {i : Nat} {v : Int64} (hc : Cond.constantLong own i v ∈ lw_all) (hd : decode cc pc = .ok (.ldc2_w i, 3)) (h : J G k w lv (pc + 3) (.long v :: st) ce sl) : J G k w lv pc (st) ce sl := fun ls H locs hl hp hf => lv_ldc2 C.hx C.hb C.hown (C.hts _ hc) hd (h ls H locs hl hp hf)
theorem j_null (C : Cx G k cc own nm nL rt hh mc ms post) (hd : decode cc pc = .ok (.aconst_null, 1)) (h : J G k w lv (pc + 1) (.null :: st) ce sl) : J G k w lv pc (st) ce sl := fun ls H locs hl hp hf => lv_null C.hx C.hb hd (h ls H locs hl hp hf)
theorem j_iload_n (C : Cx G k cc own nm nL rt hh mc ms post) {j : Fin 4} {i : Nat} {x : Int32} (hd : decode cc pc = .ok (.iload_n j, 1)) (hi : (j : Nat) = i) (q : Nat) (hq : lv[q]? = some (i, .int x)) (h : J G k w lv (pc + 1) (.int x :: st) ce sl) : J G k w lv pc (st) ce sl := fun ls H locs hl hp hf => lv_iload_n C.hx C.hb hd hi (lv_at hl q hq) (h ls H locs hl hp hf)
theorem j_iload (C : Cx G k cc own nm nL rt hh mc ms post) {i : Nat} {x : Int32} (hd : decode cc pc = .ok (.iload i, 2)) (q : Nat) (hq : lv[q]? = some (i, .int x)) (h : J G k w lv (pc + 2) (.int x :: st) ce sl) : J G k w lv pc (st) ce sl := fun ls H locs hl hp hf => lv_iload C.hx C.hb hd (lv_at hl q hq) (h ls H locs hl hp hf)
theorem j_lload_n (C : Cx G k cc own nm nL rt hh mc ms post) {j : Fin 4} {i : Nat} {x : Int64} (hd : decode cc pc = .ok (.lload_n j, 1)) (hi : (j : Nat) = i) (q : Nat) (hq : lv[q]? = some (i, .long x)) (h : J G k w lv (pc + 1) (.long x :: st) ce sl) : J G k w lv pc (st) ce sl := fun ls H locs hl hp hf => lv_lload_n C.hx C.hb hd hi (lv_at hl q hq) (h ls H locs hl hp hf)
theorem j_lload (C : Cx G k cc own nm nL rt hh mc ms post) {i : Nat} {x : Int64} (hd : decode cc pc = .ok (.lload i, 2)) (q : Nat) (hq : lv[q]? = some (i, .long x)) (h : J G k w lv (pc + 2) (.long x :: st) ce sl) : J G k w lv pc (st) ce sl := fun ls H locs hl hp hf => lv_lload C.hx C.hb hd (lv_at hl q hq) (h ls H locs hl hp hf)
theorem j_aload_n (C : Cx G k cc own nm nL rt hh mc ms post) {j : Fin 4} {i : Nat} {x : Nat} (hd : decode cc pc = .ok (.aload_n j, 1)) (hi : (j : Nat) = i) (q : Nat) (hq : lv[q]? = some (i, .ref x)) (h : J G k w lv (pc + 1) (.ref x :: st) ce sl) : J G k w lv pc (st) ce sl := fun ls H locs hl hp hf => lv_aload_n C.hx C.hb hd hi (lv_at hl q hq) (h ls H locs hl hp hf)
theorem j_aload (C : Cx G k cc own nm nL rt hh mc ms post) {i : Nat} {x : Nat} (hd : decode cc pc = .ok (.aload i, 2)) (q : Nat) (hq : lv[q]? = some (i, .ref x)) (h : J G k w lv (pc + 2) (.ref x :: st) ce sl) : J G k w lv pc (st) ce sl := fun ls H locs hl hp hf => lv_aload C.hx C.hb hd (lv_at hl q hq) (h ls H locs hl hp hf)
theorem j_aload_nN (C : Cx G k cc own nm nL rt hh mc ms post) {j : Fin 4} {i : Nat} (hd : decode cc pc = .ok (.aload_n j, 1)) (hi : (j : Nat) = i) (q : Nat) (hq : lv[q]? = some (i, .null)) (h : J G k w lv (pc + 1) (.null :: st) ce sl) : J G k w lv pc (st) ce sl := fun ls H locs hl hp hf => lv_aload_nN C.hx C.hb hd hi (lv_at hl q hq) (h ls H locs hl hp hf)
theorem j_aloadN (C : Cx G k cc own nm nL rt hh mc ms post) {i : Nat} (hd : decode cc pc = .ok (.aload i, 2)) (q : Nat) (hq : lv[q]? = some (i, .null)) (h : J G k w lv (pc + 2) (.null :: st) ce sl) : J G k w lv pc (st) ce sl := fun ls H locs hl hp hf => lv_aloadN C.hx C.hb hd (lv_at hl q hq) (h ls H locs hl hp hf)
theorem j_istore_n (C : Cx G k cc own nm nL rt hh mc ms post) {j : Fin 4} {i : Nat} {x : Int32} {lv' : List (Nat × Value)} (hd : decode cc pc = .ok (.istore_n j, 1)) (hi : (j : Nat) = i) (hn : i < nL) (he : (i, Value.int x) :: lv.filter (fun q => !(q.1 == i) && !(q.1 + 1 == i && q.2.category == 2)) = lv') (h : J G k w lv' (pc + 1) st ce sl) : J G k w lv pc (Value.int x :: st) ce sl := fun ls H locs hl hp hf => lv_istore_n C.hx C.hb hd hi hl (by rw [C.hn]; exact hn) he (fun ls' hl' => h ls' H locs hl' hp hf)
theorem j_istore (C : Cx G k cc own nm nL rt hh mc ms post) {i : Nat} {x : Int32} {lv' : List (Nat × Value)} (hd : decode cc pc = .ok (.istore i, 2)) (hn : i < nL) (he : (i, Value.int x) :: lv.filter (fun q => !(q.1 == i) && !(q.1 + 1 == i && q.2.category == 2)) = lv') (h : J G k w lv' (pc + 2) st ce sl) : J G k w lv pc (Value.int x :: st) ce sl := fun ls H locs hl hp hf => lv_istore C.hx C.hb hd hl (by rw [C.hn]; exact hn) he (fun ls' hl' => h ls' H locs hl' hp hf)
theorem j_astore_n (C : Cx G k cc own nm nL rt hh mc ms post) {j : Fin 4} {i : Nat} {x : Nat} {lv' : List (Nat × Value)} (hd : decode cc pc = .ok (.astore_n j, 1)) (hi : (j : Nat) = i) (hn : i < nL) (he : (i, Value.ref x) :: lv.filter (fun q => !(q.1 == i) && !(q.1 + 1 == i && q.2.category == 2)) = lv') (h : J G k w lv' (pc + 1) st ce sl) : J G k w lv pc (Value.ref x :: st) ce sl := fun ls H locs hl hp hf => lv_astore_n C.hx C.hb hd hi hl (by rw [C.hn]; exact hn) he (fun ls' hl' => h ls' H locs hl' hp hf)
theorem j_astore (C : Cx G k cc own nm nL rt hh mc ms post) {i : Nat} {x : Nat} {lv' : List (Nat × Value)} (hd : decode cc pc = .ok (.astore i, 2)) (hn : i < nL) (he : (i, Value.ref x) :: lv.filter (fun q => !(q.1 == i) && !(q.1 + 1 == i && q.2.category == 2)) = lv') (h : J G k w lv' (pc + 2) st ce sl) : J G k w lv pc (Value.ref x :: st) ce sl := fun ls H locs hl hp hf => lv_astore C.hx C.hb hd hl (by rw [C.hn]; exact hn) he (fun ls' hl' => h ls' H locs hl' hp hf)
theorem j_lstore_n (C : Cx G k cc own nm nL rt hh mc ms post) {j : Fin 4} {i : Nat} {x : Int64} {lv' : List (Nat × Value)} (hd : decode cc pc = .ok (.lstore_n j, 1)) (hi : (j : Nat) = i) (hn : i + 1 < nL) (he : (i, Value.long x) :: lv.filter (fun q => !(q.1 == i) && (!(q.1 == i + 1) && !(q.1 + 1 == i && q.2.category == 2))) = lv') (h : J G k w lv' (pc + 1) st ce sl) : J G k w lv pc (Value.long x :: st) ce sl := fun ls H locs hl hp hf => lv_lstore_n C.hx C.hb hd hi hl (by rw [C.hn]; exact hn) he (fun ls' hl' => h ls' H locs hl' hp hf)
theorem j_lstore (C : Cx G k cc own nm nL rt hh mc ms post) {i : Nat} {x : Int64} {lv' : List (Nat × Value)} (hd : decode cc pc = .ok (.lstore i, 2)) (hn : i + 1 < nL) (he : (i, Value.long x) :: lv.filter (fun q => !(q.1 == i) && (!(q.1 == i + 1) && !(q.1 + 1 == i && q.2.category == 2))) = lv') (h : J G k w lv' (pc + 2) st ce sl) : J G k w lv pc (Value.long x :: st) ce sl := fun ls H locs hl hp hf => lv_lstore C.hx C.hb hd hl (by rw [C.hn]; exact hn) he (fun ls' hl' => h ls' H locs hl' hp hf)
theorem j_astore_nN (C : Cx G k cc own nm nL rt hh mc ms post) {j : Fin 4} {i : Nat} {lv' : List (Nat × Value)} (hd : decode cc pc = .ok (.astore_n j, 1)) (hi : (j : Nat) = i) (hn : i < nL) (he : (i, Value.null) :: lv.filter (fun q => !(q.1 == i) && !(q.1 + 1 == i && q.2.category == 2)) = lv') (h : J G k w lv' (pc + 1) st ce sl) : J G k w lv pc (Value.null :: st) ce sl := fun ls H locs hl hp hf => lv_astore_nN C.hx C.hb hd hi hl (by rw [C.hn]; exact hn) he (fun ls' hl' => h ls' H locs hl' hp hf)
theorem j_astoreN (C : Cx G k cc own nm nL rt hh mc ms post) {i : Nat} {lv' : List (Nat × Value)} (hd : decode cc pc = .ok (.astore i, 2)) (hn : i < nL) (he : (i, Value.null) :: lv.filter (fun q => !(q.1 == i) && !(q.1 + 1 == i && q.2.category == 2)) = lv') (h : J G k w lv' (pc + 2) st ce sl) : J G k w lv pc (Value.null :: st) ce sl := fun ls H locs hl hp hf => lv_astoreN C.hx C.hb hd hl (by rw [C.hn]; exact hn) he (fun ls' hl' => h ls' H locs hl' hp hf)
theorem j_iinc (C : Cx G k cc own nm nL rt hh mc ms post) {i : Nat} {n : Int} {x v : Int32} {lv' : List (Nat × Value)} (hd : decode cc pc = .ok (.iinc i n, 3)) (q : Nat) (hq : lv[q]? = some (i, .int x)) (hv : x + Int32.ofInt n = v) (hn : i < nL) (he : (i, Value.int v) :: lv.filter (fun q => !(q.1 == i) && !(q.1 + 1 == i && q.2.category == 2)) = lv') (h : J G k w lv' (pc + 3) st ce sl) : J G k w lv pc st ce sl := fun ls H locs hl hp hf => lv_iinc C.hx C.hb hd hl hq hv (by rw [C.hn]; exact hn) he (fun ls' hl' => h ls' H locs hl' hp hf)
theorem j_iadd (C : Cx G k cc own nm nL rt hh mc ms post) {x y : Int32} (hd : decode cc pc = .ok (.iadd, 1)) (h : J G k w lv (pc + 1) (.int (x + y) :: st) ce sl) : J G k w lv pc (.int y :: .int x :: st) ce sl := fun ls H locs hl hp hf => lv_iadd C.hx C.hb hd (h ls H locs hl hp hf)
theorem j_isub (C : Cx G k cc own nm nL rt hh mc ms post) {x y : Int32} (hd : decode cc pc = .ok (.isub, 1)) (h : J G k w lv (pc + 1) (.int (x - y) :: st) ce sl) : J G k w lv pc (.int y :: .int x :: st) ce sl := fun ls H locs hl hp hf => lv_isub C.hx C.hb hd (h ls H locs hl hp hf)
theorem j_imul (C : Cx G k cc own nm nL rt hh mc ms post) {x y : Int32} (hd : decode cc pc = .ok (.imul, 1)) (h : J G k w lv (pc + 1) (.int (x * y) :: st) ce sl) : J G k w lv pc (.int y :: .int x :: st) ce sl := fun ls H locs hl hp hf => lv_imul C.hx C.hb hd (h ls H locs hl hp hf)
theorem j_iand (C : Cx G k cc own nm nL rt hh mc ms post) {x y : Int32} (hd : decode cc pc = .ok (.iand, 1)) (h : J G k w lv (pc + 1) (.int (x &&& y) :: st) ce sl) : J G k w lv pc (.int y :: .int x :: st) ce sl := fun ls H locs hl hp hf => lv_iand C.hx C.hb hd (h ls H locs hl hp hf)
theorem j_ior (C : Cx G k cc own nm nL rt hh mc ms post) {x y : Int32} (hd : decode cc pc = .ok (.ior, 1)) (h : J G k w lv (pc + 1) (.int (x ||| y) :: st) ce sl) : J G k w lv pc (.int y :: .int x :: st) ce sl := fun ls H locs hl hp hf => lv_ior C.hx C.hb hd (h ls H locs hl hp hf)
theorem j_ixor (C : Cx G k cc own nm nL rt hh mc ms post) {x y : Int32} (hd : decode cc pc = .ok (.ixor, 1)) (h : J G k w lv (pc + 1) (.int (x ^^^ y) :: st) ce sl) : J G k w lv pc (.int y :: .int x :: st) ce sl := fun ls H locs hl hp hf => lv_ixor C.hx C.hb hd (h ls H locs hl hp hf)
theorem j_ishl (C : Cx G k cc own nm nL rt hh mc ms post) {x y : Int32} (hd : decode cc pc = .ok (.ishl, 1)) (h : J G k w lv (pc + 1) (.int (x <<< (y &&& 31)) :: st) ce sl) : J G k w lv pc (.int y :: .int x :: st) ce sl := fun ls H locs hl hp hf => lv_ishl C.hx C.hb hd (h ls H locs hl hp hf)
theorem j_ishr (C : Cx G k cc own nm nL rt hh mc ms post) {x y : Int32} (hd : decode cc pc = .ok (.ishr, 1)) (h : J G k w lv (pc + 1) (.int (x >>> (y &&& 31)) :: st) ce sl) : J G k w lv pc (.int y :: .int x :: st) ce sl := fun ls H locs hl hp hf => lv_ishr C.hx C.hb hd (h ls H locs hl hp hf)
theorem j_iushr (C : Cx G k cc own nm nL rt hh mc ms post) {x y : Int32} (hd : decode cc pc = .ok (.iushr, 1)) (h : J G k w lv (pc + 1) (.int (x.toUInt32 >>> (y.toUInt32 &&& Int32.toUInt32 31)).toInt32 :: st) ce sl) : J G k w lv pc (.int y :: .int x :: st) ce sl := fun ls H locs hl hp hf => lv_iushr C.hx C.hb hd rfl (h ls H locs hl hp hf)
theorem j_idiv (C : Cx G k cc own nm nL rt hh mc ms post) {x y : Int32} (hd : decode cc pc = .ok (.idiv, 1)) (hz : ¬ y = 0) (h : J G k w lv (pc + 1) (.int (x / y) :: st) ce sl) : J G k w lv pc (.int y :: .int x :: st) ce sl := fun ls H locs hl hp hf => lv_idiv C.hx C.hb hd hz (h ls H locs hl hp hf)
theorem j_irem (C : Cx G k cc own nm nL rt hh mc ms post) {x y : Int32} (hd : decode cc pc = .ok (.irem, 1)) (hz : ¬ y = 0) (h : J G k w lv (pc + 1) (.int (x - x / y * y) :: st) ce sl) : J G k w lv pc (.int y :: .int x :: st) ce sl := fun ls H locs hl hp hf => lv_irem C.hx C.hb hd hz (h ls H locs hl hp hf)
theorem j_ineg (C : Cx G k cc own nm nL rt hh mc ms post) {x : Int32} (hd : decode cc pc = .ok (.ineg, 1)) (h : J G k w lv (pc + 1) (.int (-x) :: st) ce sl) : J G k w lv pc (.int x :: st) ce sl := fun ls H locs hl hp hf => lv_ineg C.hx C.hb hd (h ls H locs hl hp hf)
theorem j_ladd (C : Cx G k cc own nm nL rt hh mc ms post) {x y : Int64} (hd : decode cc pc = .ok (.ladd, 1)) (h : J G k w lv (pc + 1) (.long (x + y) :: st) ce sl) : J G k w lv pc (.long y :: .long x :: st) ce sl := fun ls H locs hl hp hf => lv_ladd C.hx C.hb hd (h ls H locs hl hp hf)
theorem j_lsub (C : Cx G k cc own nm nL rt hh mc ms post) {x y : Int64} (hd : decode cc pc = .ok (.lsub, 1)) (h : J G k w lv (pc + 1) (.long (x - y) :: st) ce sl) : J G k w lv pc (.long y :: .long x :: st) ce sl := fun ls H locs hl hp hf => lv_lsub C.hx C.hb hd (h ls H locs hl hp hf)
theorem j_lmul (C : Cx G k cc own nm nL rt hh mc ms post) {x y : Int64} (hd : decode cc pc = .ok (.lmul, 1)) (h : J G k w lv (pc + 1) (.long (x * y) :: st) ce sl) : J G k w lv pc (.long y :: .long x :: st) ce sl := fun ls H locs hl hp hf => lv_lmul C.hx C.hb hd (h ls H locs hl hp hf)
theorem j_lrem (C : Cx G k cc own nm nL rt hh mc ms post) {x y : Int64} (hd : decode cc pc = .ok (.lrem, 1)) (hz : ¬ y = 0) (h : J G k w lv (pc + 1) (.long (x - x / y * y) :: st) ce sl) : J G k w lv pc (.long y :: .long x :: st) ce sl := fun ls H locs hl hp hf => lv_lrem C.hx C.hb hd hz (h ls H locs hl hp hf)
theorem j_lcmp (C : Cx G k cc own nm nL rt hh mc ms post) {x y : Int64} (hd : decode cc pc = .ok (.lcmp, 1)) (h : J G k w lv (pc + 1) (.int (lg_cmp x y) :: st) ce sl) : J G k w lv pc (.long y :: .long x :: st) ce sl := fun ls H locs hl hp hf => W.lcmp C.hx C.hb hd (h ls H locs hl hp hf)
theorem j_i2l (C : Cx G k cc own nm nL rt hh mc ms post) {x : Int32} (hd : decode cc pc = .ok (.i2l, 1)) (h : J G k w lv (pc + 1) (.long x.toInt64 :: st) ce sl) : J G k w lv pc (.int x :: st) ce sl := fun ls H locs hl hp hf => lv_i2l C.hx C.hb hd rfl (h ls H locs hl hp hf)
theorem j_l2i (C : Cx G k cc own nm nL rt hh mc ms post) {x : Int64} (hd : decode cc pc = .ok (.l2i, 1)) (h : J G k w lv (pc + 1) (.int x.toInt32 :: st) ce sl) : J G k w lv pc (.long x :: st) ce sl := fun ls H locs hl hp hf => lv_l2i C.hx C.hb hd rfl (h ls H locs hl hp hf)
theorem j_i2b (C : Cx G k cc own nm nL rt hh mc ms post) {x : Int32} (hd : decode cc pc = .ok (.i2b, 1)) (h : J G k w lv (pc + 1) (.int x.toInt8.toInt32 :: st) ce sl) : J G k w lv pc (.int x :: st) ce sl := fun ls H locs hl hp hf => lv_i2b C.hx C.hb hd rfl (h ls H locs hl hp hf)
theorem j_i2s (C : Cx G k cc own nm nL rt hh mc ms post) {x : Int32} (hd : decode cc pc = .ok (.i2s, 1)) (h : J G k w lv (pc + 1) (.int x.toInt16.toInt32 :: st) ce sl) : J G k w lv pc (.int x :: st) ce sl := fun ls H locs hl hp hf => lv_i2s C.hx C.hb hd rfl (h ls H locs hl hp hf)
theorem j_i2c (C : Cx G k cc own nm nL rt hh mc ms post) {x : Int32} (hd : decode cc pc = .ok (.i2c, 1)) (h : J G k w lv (pc + 1) (.int (x.toUInt32 % 65536).toInt32 :: st) ce sl) : J G k w lv pc (.int x :: st) ce sl := fun ls H locs hl hp hf => lv_i2c C.hx C.hb hd rfl (h ls H locs hl hp hf)
theorem j_dup (C : Cx G k cc own nm nL rt hh mc ms post) {a : Value} (hd : decode cc pc = .ok (.dup, 1)) (h1 : a.category = 1) (h : J G k w lv (pc + 1) (a :: a :: st) ce sl) : J G k w lv pc (a :: st) ce sl := fun ls H locs hl hp hf => lv_dup C.hx C.hb hd h1 (h ls H locs hl hp hf)
theorem j_pop (C : Cx G k cc own nm nL rt hh mc ms post) {a : Value} (hd : decode cc pc = .ok (.pop, 1)) (h1 : a.category = 1) (h : J G k w lv (pc + 1) (st) ce sl) : J G k w lv pc (a :: st) ce sl := fun ls H locs hl hp hf => lv_pop C.hx C.hb hd h1 (h ls H locs hl hp hf)
theorem j_dup_x1 (C : Cx G k cc own nm nL rt hh mc ms post) {a b : Value} (hd : decode cc pc = .ok (.dup_x1, 1)) (h1 : a.category = 1) (h2 : b.category = 1) (h : J G k w lv (pc + 1) (a :: b :: a :: st) ce sl) : J G k w lv pc (a :: b :: st) ce sl := fun ls H locs hl hp hf => lv_dup_x1 C.hx C.hb hd h1 h2 (h ls H locs hl hp hf)
theorem j_dup2 (C : Cx G k cc own nm nL rt hh mc ms post) {a b : Value} (hd : decode cc pc = .ok (.dup2, 1)) (h1 : a.category = 1) (h2 : b.category = 1) (h : J G k w lv (pc + 1) (a :: b :: a :: b :: st) ce sl) : J G k w lv pc (a :: b :: st) ce sl := fun ls H locs hl hp hf => lv_dup2_11 C.hx C.hb hd h1 h2 (h ls H locs hl hp hf)
theorem j_if_eq (C : Cx G k cc own nm nL rt hh mc ms post) {x : Int32} {off : Int} (tgt : Nat) (hd : decode cc pc = .ok (.ifCond .eq off, 3)) (ht : (pc : Int) + off = (tgt : Int)) (kt : x = 0 → J G k w lv tgt st ce sl) (kf : ¬ (x = 0) → J G k w lv (pc + 3) st ce sl) : J G k w lv pc (.int x :: st) ce sl := fun ls H locs hl hp hf => lv_if_eq C.hx C.hb hd ht (fun z => kt z ls H locs hl hp hf) (fun z => kf z ls H locs hl hp hf)
theorem j_icmp_eq (C : Cx G k cc own nm nL rt hh mc ms post) {x y : Int32} {off : Int} (tgt : Nat) (hd : decode cc pc = .ok (.if_icmp .eq off, 3)) (ht : (pc : Int) + off = (tgt : Int)) (kt : x = y → J G k w lv tgt st ce sl) (kf : ¬ (x = y) → J G k w lv (pc + 3) st ce sl) : J G k w lv pc (.int y :: .int x :: st) ce sl := fun ls H locs hl hp hf => lv_icmp_eq C.hx C.hb hd ht (fun z => kt z ls H locs hl hp hf) (fun z => kf z ls H locs hl hp hf)
theorem j_if_lt (C : Cx G k cc own nm nL rt hh mc ms post) {x : Int32} {off : Int} (tgt : Nat) (hd : decode cc pc = .ok (.ifCond .lt off, 3)) (ht : (pc : Int) + off = (tgt : Int)) (kt : x < 0 → J G k w lv tgt st ce sl) (kf : ¬ (x < 0) → J G k w lv (pc + 3) st ce sl) : J G k w lv pc (.int x :: st) ce sl := fun ls H locs hl hp hf => lv_if_lt C.hx C.hb hd ht (fun z => kt z ls H locs hl hp hf) (fun z => kf z ls H locs hl hp hf)
theorem j_icmp_lt (C : Cx G k cc own nm nL rt hh mc ms post) {x y : Int32} {off : Int} (tgt : Nat) (hd : decode cc pc = .ok (.if_icmp .lt off, 3)) (ht : (pc : Int) + off = (tgt : Int)) (kt : x < y → J G k w lv tgt st ce sl) (kf : ¬ (x < y) → J G k w lv (pc + 3) st ce sl) : J G k w lv pc (.int y :: .int x :: st) ce sl := fun ls H locs hl hp hf => lv_icmp_lt C.hx C.hb hd ht (fun z => kt z ls H locs hl hp hf) (fun z => kf z ls H locs hl hp hf)
theorem j_if_ge (C : Cx G k cc own nm nL rt hh mc ms post) {x : Int32} {off : Int} (tgt : Nat) (hd : decode cc pc = .ok (.ifCond .ge off, 3)) (ht : (pc : Int) + off = (tgt : Int)) (kt : 0 ≤ x → J G k w lv tgt st ce sl) (kf : ¬ (0 ≤ x) → J G k w lv (pc + 3) st ce sl) : J G k w lv pc (.int x :: st) ce sl := fun ls H locs hl hp hf => lv_if_ge C.hx C.hb hd ht (fun z => kt z ls H locs hl hp hf) (fun z => kf z ls H locs hl hp hf)
theorem j_icmp_ge (C : Cx G k cc own nm nL rt hh mc ms post) {x y : Int32} {off : Int} (tgt : Nat) (hd : decode cc pc = .ok (.if_icmp .ge off, 3)) (ht : (pc : Int) + off = (tgt : Int)) (kt : y ≤ x → J G k w lv tgt st ce sl) (kf : ¬ (y ≤ x) → J G k w lv (pc + 3) st ce sl) : J G k w lv pc (.int y :: .int x :: st) ce sl := fun ls H locs hl hp hf => lv_icmp_ge C.hx C.hb hd ht (fun z => kt z ls H locs hl hp hf) (fun z => kf z ls H locs hl hp hf)
theorem j_if_gt (C : Cx G k cc own nm nL rt hh mc ms post) {x : Int32} {off : Int} (tgt : Nat) (hd : decode cc pc = .ok (.ifCond .gt off, 3)) (ht : (pc : Int) + off = (tgt : Int)) (kt : 0 < x → J G k w lv tgt st ce sl) (kf : ¬ (0 < x) → J G k w lv (pc + 3) st ce sl) : J G k w lv pc (.int x :: st) ce sl := fun ls H locs hl hp hf => lv_if_gt C.hx C.hb hd ht (fun z => kt z ls H locs hl hp hf) (fun z => kf z ls H locs hl hp hf)
theorem j_icmp_gt (C : Cx G k cc own nm nL rt hh mc ms post) {x y : Int32} {off : Int} (tgt : Nat) (hd : decode cc pc = .ok (.if_icmp .gt off, 3)) (ht : (pc : Int) + off = (tgt : Int)) (kt : y < x → J G k w lv tgt st ce sl) (kf : ¬ (y < x) → J G k w lv (pc + 3) st ce sl) : J G k w lv pc (.int y :: .int x :: st) ce sl := fun ls H locs hl hp hf => lv_icmp_gt C.hx C.hb hd ht (fun z => kt z ls H locs hl hp hf) (fun z => kf z ls H locs hl hp hf)
theorem j_if_le (C : Cx G k cc own nm nL rt hh mc ms post) {x : Int32} {off : Int} (tgt : Nat) (hd : decode cc pc = .ok (.ifCond .le off, 3)) (ht : (pc : Int) + off = (tgt : Int)) (kt : x ≤ 0 → J G k w lv tgt st ce sl) (kf : ¬ (x ≤ 0) → J G k w lv (pc + 3) st ce sl) : J G k w lv pc (.int x :: st) ce sl := fun ls H locs hl hp hf => lv_if_le C.hx C.hb hd ht (fun z => kt z ls H locs hl hp hf) (fun z => kf z ls H locs hl hp hf)
theorem j_icmp_le (C : Cx G k cc own nm nL rt hh mc ms post) {x y : Int32} {off : Int} (tgt : Nat) (hd : decode cc pc = .ok (.if_icmp .le off, 3)) (ht : (pc : Int) + off = (tgt : Int)) (kt : x ≤ y → J G k w lv tgt st ce sl) (kf : ¬ (x ≤ y) → J G k w lv (pc + 3) st ce sl) : J G k w lv pc (.int y :: .int x :: st) ce sl := fun ls H locs hl hp hf => lv_icmp_le C.hx C.hb hd ht (fun z => kt z ls H locs hl hp hf) (fun z => kf z ls H locs hl hp hf)
theorem j_if_ne (C : Cx G k cc own nm nL rt hh mc ms post) {x : Int32} {off : Int} (tgt : Nat) (hd : decode cc pc = .ok (.ifCond .ne off, 3)) (ht : (pc : Int) + off = (tgt : Int)) (kt : ¬ x = 0 → J G k w lv tgt st ce sl) (kf : x = 0 → J G k w lv (pc + 3) st ce sl) : J G k w lv pc (.int x :: st) ce sl := fun ls H locs hl hp hf => lv_if_ne C.hx C.hb hd ht (fun z => kt z ls H locs hl hp hf) (fun z => kf z ls H locs hl hp hf)
theorem j_icmp_ne (C : Cx G k cc own nm nL rt hh mc ms post) {x y : Int32} {off : Int} (tgt : Nat) (hd : decode cc pc = .ok (.if_icmp .ne off, 3)) (ht : (pc : Int) + off = (tgt : Int)) (kt : ¬ x = y → J G k w lv tgt st ce sl) (kf : x = y → J G k w lv (pc + 3) st ce sl) : J G k w lv pc (.int y :: .int x :: st) ce sl := fun ls H locs hl hp hf => lv_icmp_ne C.hx C.hb hd ht (fun z => kt z ls H locs hl hp hf) (fun z => kf z ls H locs hl hp hf)
theorem j_goto (C : Cx G k cc own nm nL rt hh mc ms post) {off : Int} (tgt : Nat) (hd : decode cc pc = .ok (.goto off, 3)) (ht : (pc : Int) + off = (tgt : Int)) (h : J G k w lv tgt (st) ce sl) : J G k w lv pc (st) ce sl := fun ls H locs hl hp hf => lv_goto C.hx C.hb hd ht (h ls H locs hl hp hf)
theorem j_ifnonnull (C : Cx G k cc own nm nL rt hh mc ms post) {x : Nat} {off : Int} (tgt : Nat) (hd : decode cc pc = .ok (.ifnonnull off, 3)) (ht : (pc : Int) + off = (tgt : Int)) (h : J G k w lv tgt (st) ce sl) : J G k w lv pc (.ref x :: st) ce sl := fun ls H locs hl hp hf => lv_ifnonnull C.hx C.hb hd ht (h ls H locs hl hp hf)
theorem j_ifnull (C : Cx G k cc own nm nL rt hh mc ms post) {x : Nat} {off : Int} (hd : decode cc pc = .ok (.ifnull off, 3)) (h : J G k w lv (pc + 3) (st) ce sl) : J G k w lv pc (.ref x :: st) ce sl := fun ls H locs hl hp hf => lv_ifnull C.hx C.hb hd (h ls H locs hl hp hf)
theorem j_ifnullN (C : Cx G k cc own nm nL rt hh mc ms post) {off : Int} (tgt : Nat) (hd : decode cc pc = .ok (.ifnull off, 3)) (ht : (pc : Int) + off = (tgt : Int)) (h : J G k w lv tgt (st) ce sl) : J G k w lv pc (.null :: st) ce sl := fun ls H locs hl hp hf => lv_ifnullN C.hx C.hb hd ht (h ls H locs hl hp hf)
theorem j_ifnonnullN (C : Cx G k cc own nm nL rt hh mc ms post) {off : Int} (hd : decode cc pc = .ok (.ifnonnull off, 3)) (h : J G k w lv (pc + 3) (st) ce sl) : J G k w lv pc (.null :: st) ce sl := fun ls H locs hl hp hf => lv_ifnonnullN C.hx C.hb hd (h ls H locs hl hp hf)
theorem j_lookup (C : Cx G k cc own nm nL rt hh mc ms post) {d : Int} {ps : Array (Int × Int)} {len : Nat} {x : Int32} {off : Int} (tgt : Nat) (hd : decode cc pc = .ok (.lookupswitch d ps, len)) (hp0 : (ps.toList.zip (ps.toList.drop 1)).all (fun (a, next) => a.1 < next.1) = true) (ho : Op.lookupswitch.offset ps.toList d x.toInt = off) (ht : (pc : Int) + off = (tgt : Int)) (h : J G k w lv tgt (st) ce sl) : J G k w lv pc (.int x :: st) ce sl := fun ls H locs hl hp hf => lv_lookup C.hx C.hb hd hp0 ho ht (h ls H locs hl hp hf)
theorem j_tableOut (C : Cx G k cc own nm nL rt hh mc ms post) {d lo hi : Int} {os : Array Int} {len : Nat} {x : Int32} (tgt : Nat) (hd : decode cc pc = .ok (.tableswitch d lo hi os, len)) (h0 : x.toInt < lo ∨ hi < x.toInt) (ht : (pc : Int) + d = (tgt : Int)) (h : J G k w lv tgt (st) ce sl) : J G k w lv pc (.int x :: st) ce sl := fun ls H locs hl hp hf => lv_tableOut C.hx C.hb hd h0 ht (h ls H locs hl hp hf)
theorem j_tableIn (C : Cx G k cc own nm nL rt hh mc ms post) {d lo hi : Int} {os : Array Int} {len : Nat} {x : Int32} {off : Int} (tgt : Nat) (hd : decode cc pc = .ok (.tableswitch d lo hi os, len)) (h1 : ¬ x.toInt < lo) (h2 : ¬ hi < x.toInt) (ho : os[(x.toInt - lo).toNat]? = some off) (ht : (pc : Int) + off = (tgt : Int)) (h : J G k w lv tgt (st) ce sl) : J G k w lv pc (.int x :: st) ce sl := fun ls H locs hl hp hf => lv_tableIn C.hx C.hb hd h1 h2 ho ht (h ls H locs hl hp hf)
/-- the same state under other words -/
theorem J.eq {w' : wd_T} {lv' : List (Nat × Value)} {st' : List Value} (h : J G k w' lv' pc st' ce sl) (hw : w = w') (hl : lv = lv') (hs : st = st') : J G k w lv pc st ce sl := by
  subst hw
  subst hl
  subst hs
  exact h
/-- a number under a name -/
theorem j_top {x : Int32} (h : ∀ y : Int32, y = x → J G k w lv pc (.int y :: st) ce sl) : J G k w lv pc (.int x :: st) ce sl := h x rfl
theorem j_topl {x : Int64} (h : ∀ y : Int64, y = x → J G k w lv pc (.long y :: st) ce sl) : J G k w lv pc (.long x :: st) ce sl := h x rfl
theorem j_as {x y : Int32} (e : x = y) (h : J G k w lv pc (.int y :: st) ce sl) : J G k w lv pc (.int x :: st) ce sl := e ▸ h
theorem j_asl {x y : Int64} (e : x = y) (h : J G k w lv pc (.long y :: st) ce sl) : J G k w lv pc (.long x :: st) ce sl := e ▸ h
theorem j_asv {x y : Value} (e : x = y) (h : J G k w lv pc (y :: st) ce sl) : J G k w lv pc (x :: st) ce sl := e ▸ h
/-- fewer locals, by their places -/
theorem j_lv (ks : List Nat) {lv' : List (Nat × Value)} (he : lv_pick lv ks = lv') (h : J G k w lv' pc st ce sl) : J G k w lv pc st ce sl := fun ls H locs hl hp hf => h ls H locs (lv_sub hl ks he) hp hf
/-- more cells and slots -/
theorem j_wide {ce' sl' : Nat} (h1 : ce ≤ ce') (h2 : sl ≤ sl') (h : J G k w lv pc st ce' sl') : J G k w lv pc st ce sl := fun ls H locs hl hp hf => W.widen h1 h2 (h ls H locs hl hp hf)
/-- another map for the same heap -/
theorem j_map {f : Nat → Option (Nat × va_E)} (hf : ∀ (H : Heap) (a τ : Nat) (e : va_E), f a = some (τ, e) → ∃ (σ : Nat) (e0 : va_E), w.1 a = some (σ, e0) ∧ (va_at (gl_D G) jcl (a, e0) H → va_at (gl_D G) jcl (a, e) H)) (h : J G k (f, w.2) lv pc st ce sl) : J G k w lv pc st ce sl := fun ls H locs hl hp hq => h ls H locs hl (hp.to (hf H)) hq
/-- what the world says of its addresses -/
theorem j_lt {a τ : Nat} {e : va_E} (ha : w.1 a = some (τ, e)) (h : (gl_H G).size ≤ a → a < w.2 → J G k w lv pc st ce sl) : J G k w lv pc st ce sl := fun ls H locs hl hp hf => h (hp.2.2.2 a τ e ha).1 (hp.lt ha) ls H locs hl hp hf
theorem j_sz (h : (gl_H G).size ≤ w.2 → (∀ (a τ : Nat) (e : va_E), w.1 a = some (τ, e) → a < w.2) → J G k w lv pc st ce sl) : J G k w lv pc st ce sl := fun ls H locs hl hp hf => h (by have := hp.2.1; rw [hp.1] at this; exact this) (fun _ _ _ ha => hp.lt ha) ls H locs hl hp hf
end JX
