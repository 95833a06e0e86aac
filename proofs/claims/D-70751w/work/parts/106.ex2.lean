/-! ===== exceptions: handlers, and what the machine throws ===== -/
set_option maxRecDepth 100000
theorem go_cold {Q : Handler → Pre} {E : CtlPost} {e : Env} {d : Bool} {acts : List Action} {s : State} {f : JFrame} {a : Addr} {x : ExceptionTableEntry} {t : List ExceptionTableEntry} {c : ClassId} {vm' : Vm} {cell : Cell} (hx : covers x f.pc = true) (h0 : x.catchType ≠ 0)
    (hg : (Jvm.resolveClass f.method.cls x.catchType).Gives e.toSetting s.vm (.ok c) vm') (hsz : vm'.classes.size ≤ s.vm.classes.size) (hcell : s.heap[a]? = some cell) (hobj : ∀ k, cell.vm ≠ .statics k)
    (hk : ∃ k, vm'.classes[cell.cls]? = some k) (hc : ∃ k, vm'.classes[c]? = some k) :
    wp (findHandler.go f a (x :: t)) Q E e d acts s ↔ if vm'.assignable cell.cls c = true then Q (.found x.handlerPc) d acts (s.setVm vm') else wp (findHandler.go f a t) Q E e d acts (s.setVm vm') := by
  simp only [covers] at hx
  obtain ⟨ha, ht⟩ := hg.op (op := VmOp.resolveClass f.method.cls x.catchType) rfl
  cases hfit : vm'.assignable cell.cls c <;>
    simp [findHandler.go, hx, h0, ha, ht, hsz, hcell, hobj, hk, hc, hfit, VmOp.dirties, VmOp.acts]
theorem step_catchC {e : Env} {s : State} {a : Addr} {f : JFrame} {r : List Frame} {pc : Nat} {vm' : Vm} (hfind : ∀ (Q : Handler → Pre) (E : CtlPost) (d : Bool) (acts : List Action), wp (findHandler f a) Q E e d acts s ↔ Q (.found pc) d acts (s.setVm vm')) :
    (stepThrowing e s a (.java f :: r)).1 = (s.setVm vm').setFrames (.java { f with pc := pc, stack := [.ref a] } :: r) := by
  simp only [stepThrowing, searchFrame, vmDo]
  generalize hr : Sem.go _ e false [] s = res
  obtain ⟨as, rfl, ha⟩ := Sem.eq_ok_of hr (a := Handler.found pc) (s' := s.setVm vm') (acts' := []) (by simp [hfind _ _ _ _])
  rfl
/-- one class can be assigned to another, or can't -/
def CA (D B : String) (s : State) : Prop := ∃ a b, s.vm.findClass D = some a ∧ s.vm.findClass B = some b ∧ s.vm.assignable a b = true
def NC (D B : String) (s : State) : Prop := ∃ a b, s.vm.findClass D = some a ∧ s.vm.findClass B = some b ∧ s.vm.assignable a b = false
theorem CA.of {D B : String} {s : State} (h : va_Nw (.castable D B) s) : CA D B s := Cond.castable_spec h
theorem NC.warm {D B : String} {s U : State} (hW : s.WarmedH U.vm) (h : NC D B s) : NC D B U := by
  obtain ⟨a, b, h1, h2, h3⟩ := h
  exact ⟨a, b, by rw [hW.alike.findClass]; exact h1, by rw [hW.alike.findClass]; exact h2, by rw [hW.alike.assignable]; exact h3⟩
/-- what the search for a handler finds -/
def Sr (s : State) (own D : String) (pc hpc : Nat) : List (Nat × Nat × Nat × Nat) → Prop
  | [] => False
  | x :: r => (¬ (x.1 ≤ pc ∧ pc < x.2.1) ∧ Sr s own D pc hpc r) ∨
    ((x.1 ≤ pc ∧ pc < x.2.1) ∧ x.2.2.1 = hpc ∧ (x.2.2.2 = 0 ∨ (x.2.2.2 ≠ 0 ∧ ∃ B, Cond.classLink own x.2.2.2 B ∈ lw_all ∧ CA D B s))) ∨
    ((x.1 ≤ pc ∧ pc < x.2.1) ∧ x.2.2.2 ≠ 0 ∧ (∃ B, Cond.classLink own x.2.2.2 B ∈ lw_all ∧ NC D B s) ∧ Sr s own D pc hpc r)
section EY
variable {G : gl_T} {k : KX} {cc : ByteArray} {own nm : String} {nL hh mc ms : Nat} {rt : Option FieldType} {post : Outcome → wd_T → Prop}
variable {w : wd_T} {lv : List (Nat × Value)} {pc ce sl : Nat} {rest st st0 : List Value} {hd : List (Nat × Nat × Nat × Nat)} {a : Nat}
theorem sr_go (C : Cx G k cc own nm nL rt hh mc ms post) {ci N hpc : Nat} {D : String} {Tt : u_T} (hcl : jcl[ci]? = some (D, Tt, N)) {S0 : State} {cell : Cell} (hcell : S0.heap[a]? = some cell) (hcc : cell.cls = (gl_D G).1 ci) (hvm : cell.vm = .none)
    (hpl : (k_e k).platform.magicAccessors = ({} : Platform).magicAccessors) (f : JFrame) (hf : f.method = k_m k) (hp0 : f.pc = pc) :
    ∀ (t : List ExceptionTableEntry), Sr (k_s k) own D pc hpc (t.map (fun h => (h.startPc, h.endPc, h.handlerPc, h.catchType))) → ∀ vm1 : Vm, (k_s k).WarmedH vm1 →
      ∃ vm', (k_s k).WarmedH vm' ∧ ∀ (Q : Handler → Pre) (E : CtlPost) (d : Bool) (acts : List Action), wp (findHandler.go f a t) Q E (k_e k) d acts (S0.setVm vm1) ↔ Q (.found hpc) d acts (S0.setVm vm') := by
  have hKc := (C.hK.1.1 ci _ hcl).2
  have hobj : ∀ k, cell.vm ≠ .statics k := fun k h => by rw [hvm] at h; cases h
  have key : ∀ (x : ExceptionTableEntry) (B : String) (vm1 : Vm), Cond.classLink own x.catchType B ∈ lw_all → (k_s k).WarmedH vm1 → ∃ (c : ClassId) (vm' : Vm), (k_s k).vm.findClass B = some c ∧ (k_s k).WarmedH vm' ∧ (Jvm.resolveClass f.method.cls x.catchType).Gives (k_e k).toSetting vm1 (.ok c) vm' ∧ vm'.classes.size ≤ vm1.classes.size ∧ (∃ k, vm'.classes[cell.cls]? = some k) ∧ (∃ k, vm'.classes[c]? = some k) := by
    intro x B vm1 hB hW
    obtain ⟨c, hc, hcl'⟩ := Cond.classLink_spec C.hown (C.hts _ hB) (k_e k).platform hpl
    obtain ⟨dk, _, _, kt, hd, _, _, _, _, hkt, _, hopen⟩ := hcl'.here
    have hcl₀ := hW.classLinks hcl'
    have hW' : (k_s k).WarmedH (vm1.noted (k_m k).cls x.catchType (.cls c)) := hW.noted hd hopen (State.rightAt_cls hcl')
    obtain ⟨kC, hkC, -⟩ := hKc.2
    obtain ⟨ks', hks', -⟩ := hW'.alike.2.2 _ _ hkC
    obtain ⟨kt', hkt', -⟩ := hW'.alike.2.2 _ _ hkt
    exact ⟨c, _, hc, hW', by rw [hf]; exact resolveClass_links (k_e k).toSetting hcl₀, by simp [Vm.noted], ⟨ks', by rw [hcc]; exact hks'⟩, ⟨kt', hkt'⟩⟩
  intro t
  induction t with
  | nil => intro h; exact absurd h id
  | cons x r ih =>
    intro h vm1 hW
    rcases h with ⟨h1, h2⟩ | ⟨h1, h2, h3⟩ | ⟨h1, h2, ⟨B, hB, hNC⟩, h4⟩
    · have hcv : covers x f.pc = false := by
        have h3 : ¬ (x.startPc ≤ pc ∧ pc < x.endPc) := h1
        rw [hp0]
        simp only [covers, Bool.and_eq_false_iff, decide_eq_false_iff_not]
        omega
      obtain ⟨vm', hW', hq⟩ := ih h2 vm1 hW
      exact ⟨vm', hW', fun Q E d acts => (W.findHandler_go_skip hcv).trans (hq Q E d acts)⟩
    · have hcv : covers x f.pc = true := by
        have h3 : x.startPc ≤ pc ∧ pc < x.endPc := h1
        rw [hp0]
        simp only [covers, Bool.and_eq_true, decide_eq_true_eq]
        exact h3
      have h2' : x.handlerPc = hpc := h2
      subst h2'
      rcases h3 with h0 | ⟨h0, B, hB, hCA⟩
      · exact ⟨vm1, hW, fun Q E d acts => W.findHandler_go_any hcv h0⟩
      · obtain ⟨c, vm', hc, hW', hg, hsz, hk1, hk2⟩ := key x B vm1 hB hW
        obtain ⟨a1, b1, e1, e2, e3⟩ := hCA
        cases hc.symm.trans e2
        cases hKc.1.symm.trans e1
        refine ⟨vm', hW', fun Q E d acts => ?_⟩
        rw [go_cold (s := S0.setVm vm1) (vm' := vm') hcv h0 hg hsz hcell hobj hk1 hk2, if_pos (by rw [hcc, hW'.alike.assignable]; exact e3)]
        exact Iff.rfl
    · have hcv : covers x f.pc = true := by
        have h3 : x.startPc ≤ pc ∧ pc < x.endPc := h1
        rw [hp0]
        simp only [covers, Bool.and_eq_true, decide_eq_true_eq]
        exact h3
      obtain ⟨c, vm', hc, hW', hg, hsz, hk1, hk2⟩ := key x B vm1 hB hW
      obtain ⟨a1, b1, e1, e2, e3⟩ := hNC
      cases hc.symm.trans e2
      cases hKc.1.symm.trans e1
      obtain ⟨vm2, hW2, hq⟩ := ih h4 vm' hW'
      refine ⟨vm2, hW2, fun Q E d acts => ?_⟩
      rw [go_cold (s := S0.setVm vm1) (vm' := vm') hcv h2 hg hsz hcell hobj hk1 hk2, if_neg (by rw [hcc, hW'.alike.assignable, e3]; decide)]
      exact hq Q E d acts
/-- into a handler -/
theorem jt_catch (C : Cx G k cc own nm nL rt hh mc ms post) {ci τ N : Nat} {fs : List Value} {D : String} {Tt : u_T} (hx : xtab (k_c k) = hd) (ha : w.1 a = some (τ, .inr (ci, fs))) (hcl : jcl[ci]? = some (D, Tt, N)) (hpc : Nat) (hs : Sr (k_s k) own D pc hpc hd) (h : J G k w lv hpc [.ref a] ce sl) : JT G k w a lv pc st ce sl := by
  intro ls H locs hl hpp hf T hT X
  obtain ⟨-, r', hr', cell, g1, g2, g3, -⟩ := hpp.2.2.2 a τ _ ha
  have hpl : (k_e k).platform.magicAccessors = ({} : Platform).magicAccessors := by rw [X.admits.platform]
  obtain ⟨vm', hW', hfind⟩ := sr_go (a := a) C hcl (S0 := (T.setTop (F0 (k_m k) pc ls st)).pushFrame (.throwing a)) (by rw [Stand.throwing_heap, hT]; exact g1) g2 g3 hpl (F0 (k_m k) pc ls st) rfl rfl (k_c k).exceptionTable.toList (by rw [← hx] at hs; exact hs) T.vm X.warmed
  have hself : ((T.setTop (F0 (k_m k) pc ls st)).pushFrame (.throwing a)).setVm T.vm = (T.setTop (F0 (k_m k) pc ls st)).pushFrame (.throwing a) := by
    conv => lhs; rw [← Stand.throwing_vm T (F0 (k_m k) pc ls st) a]
    rfl
  rw [hself] at hfind
  have hfind' : ∀ (Q : Handler → Pre) (E : CtlPost) (d : Bool) (acts : List Action), wp (findHandler (F0 (k_m k) pc ls st) a) Q E (k_e k) d acts ((T.setTop (F0 (k_m k) pc ls st)).pushFrame (.throwing a)) ↔ Q (.found hpc) d acts (((T.setTop (F0 (k_m k) pc ls st)).pushFrame (.throwing a)).setVm vm') := fun Q E d acts =>
    (W.findHandler_eq (meth := k_me k) (by rw [Stand.throwing_vm]; exact X.method') X.code).trans (hfind Q E d acts)
  obtain ⟨t, c1, c2⟩ := h ls H locs hl hpp hf (T.setVm vm') hT (X.noted hW')
  obtain ⟨hgo, hwi⟩ := At.throwing (g := F0 (k_m k) pc ls st) X.here a
  refine ⟨t, Steps.head hgo hwi ?_, c2⟩
  rw [stepThread_throwing (frames_entered X.here.top _), step_catchC hfind']
  obtain ⟨g₀, hr⟩ := X.frames_eq
  have hr2 : (T.setVm vm').frames = .java g₀ :: k_b k := hr
  rw [State.setTop_of_frames _ hr2] at c1
  rw [State.pushFrame, State.setTop_of_frames _ hr, State.setFrames_setFrames, X.tail]
  have e : ∀ A B, ((T.setFrames A).setVm vm').setFrames B = (T.setVm vm').setFrames B := fun A B => by
    show ((T.setFrames A).setFrames B).setVm vm' = _
    rw [State.setFrames_setFrames]
    rfl
  rw [e]
  exact c1
end EY
/-- a static that is there, with a reference in it -/
def SL (O f d : String) (U : State) (H : Heap) : Prop := ∃ (c : ClassId) (k : Class) (i : Nat) (fd : Field) (a : Nat) (cell : Cell), U.vm.findClass O = some c ∧ U.fieldFound? O f d = some (c, k, i, fd) ∧ fd.isStatic = true ∧ k.statics = some a ∧ H[a]? = some cell ∧ cell.vm.isStatics = true ∧ cell.cls = c ∧ fd.slot < cell.slots.size ∧ k.staticTypes[fd.slot]? = some fd.type ∧ (cell.slots[fd.slot]? = some .null ∨ ∃ x, cell.slots[fd.slot]? = some (.ref x))
theorem SL.of {args : Array Value} {s : State} {O f d : String} (h1 : (Cond.laysStatic O f d).before args s = true) (h2 : (Cond.isRef (.static O f d)).before args s = true) : SL O f d s s.heap := by
  obtain ⟨c, k, i, fd, a, cell, hc, hf, hst, hsta, hcell, hiss, hcls, hlt, hty⟩ := Cond.laysStatic_spec h1
  obtain ⟨⟨u, hu⟩, hv⟩ := Cond.staticRefV hf hst hsta hcell hiss h2
  refine ⟨c, k, i, fd, a, cell, hc, hf, hst, hsta, hcell, hiss, hcls, hlt, hty, ?_⟩
  cases u with
  | null => exact Or.inl hv
  | ref x => exact Or.inr ⟨x, hv⟩
  | _ => cases hu
theorem SL.moved {u U : State} {H : Heap} {O f d : String} (hvm : u.vm.Alike U.vm) (h : SL O f d u H) : SL O f d U H := by
  obtain ⟨c, k, i, fd, a, cell, hc, hf, hst, hsta, hcell, hiss, hcls, hlt, hty, hv⟩ := h
  obtain ⟨k', hf', he⟩ := State.fieldFound?_setVm hvm hf
  exact ⟨c, k', i, fd, a, cell, by rw [hvm.findClass]; exact hc, hf', hst, by rw [he]; exact hsta, hcell, hiss, hcls, hlt, by rw [he]; exact hty, hv⟩
theorem SL.use {U : State} {H : Heap} {O f d : String} (h : SL O f d U H) (hh : ∀ q : Nat, q < H.size → U.heap[q]? = H[q]?) (args : Array Value) : (Cond.laysStatic O f d).before args U = true ∧ (Cond.isRef (.static O f d)).before args U = true := by
  obtain ⟨c, k, i, fd, a, cell, hc, hf, hst, hsta, hcell, hiss, hcls, hlt, hty, hv⟩ := h
  have hcell' : U.heap[a]? = some cell := by
    rw [hh a (Array.getElem?_eq_some_iff.mp hcell).1]
    exact hcell
  refine ⟨by simp [Cond.before, Cond.holds, Cond.value, hc, hf, hst, hsta, hcell', hiss, hcls, hlt, hty], ?_⟩
  rcases hv with hv | ⟨x, hv⟩
  · have he : (Term.static O f d).eval args U none [] U = some .null := by
      simp [Term.eval, State.fieldNamed?, hf, hst, hsta, hcell', hiss, hv]
    simp only [Cond.before, Cond.holds, Cond.value, he]
    simp
  · have he : (Term.static O f d).eval args U none [] U = some (.ref x) := by
      simp [Term.eval, State.fieldNamed?, hf, hst, hsta, hcell', hiss, hv]
    simp only [Cond.before, Cond.holds, Cond.value, he]
    simp
/-- classes of which the one can't be assigned to the other -/
def ncL : List (String × String) := [("java/lang/ArrayIndexOutOfBoundsException", "java/lang/NullPointerException"), ("java/lang/ArrayStoreException", "java/lang/NullPointerException"), ("java/lang/ArrayIndexOutOfBoundsException", "java/lang/ArrayStoreException"), ("[B", "[S"), ("[S", "[B"), ("[I", "[B"), ("[I", "[S"), ("MoodFare$Joy", "MoodFare$Love"), ("MoodFare$Joy", "MoodFare$Haste"), ("MoodFare$Joy", "MoodFare$Grief"), ("MoodFare$Joy", "MoodFare$Ruin"), ("MoodFare$Love", "MoodFare$Haste"), ("MoodFare$Love", "MoodFare$Grief"), ("MoodFare$Love", "MoodFare$Ruin"), ("MoodFare$Haste", "MoodFare$Love"), ("MoodFare$Haste", "MoodFare$Grief"), ("MoodFare$Haste", "MoodFare$Ruin"), ("MoodFare$Grief", "MoodFare$Joy"), ("MoodFare$Grief", "MoodFare$Love"), ("MoodFare$Grief", "MoodFare$Haste"), ("MoodFare$Grief", "MoodFare$Ruin"), ("MoodFare$Ruin", "MoodFare$Joy"), ("MoodFare$Ruin", "MoodFare$Love"), ("MoodFare$Ruin", "MoodFare$Haste")]
/-- what exceptions ask of the tables and of the heap at the law's entry -/
def XE (G : gl_T) (U : State) : Prop := SL Bundle.tN "UNASSIGNED_STACK" Bundle.steD U (gl_H G) ∧ SL Bundle.tN "SUPPRESSED_SENTINEL" Bundle.listD U (gl_H G) ∧ ∀ q ∈ ncL, NC q.1 q.2 U
theorem XE.warm {G : gl_T} {s U : State} (hW : s.WarmedH U.vm) (h : XE G s) : XE G U := ⟨h.1.moved hW.alike, h.2.1.moved hW.alike, fun q hq => (h.2.2 q hq).warm hW⟩
theorem XE.nc {G : gl_T} {U : State} (h : XE G U) {A B : String} (i : Nat) (hi : ncL[i]? = some (A, B)) : NC A B U := h.2.2 (A, B) (List.mem_of_getElem? hi)
/-- what the class's side asks of G, exceptions too -/
def GE (G : gl_T) : Prop := GH G ∧ (∀ U, gl_X G U → XE G U) ∧ ∀ e : Env, (gl_l G).admits e → e.platform.stackTraces = false

theorem at_throwable {G : gl_T} {s U : State} {A : Array Value} (hts : ∀ w ∈ lw_all, w.before A s = true) (hX : XT G s) (hE : XE G s) (hW : s.WarmedH U.vm) (hh : ∀ q : Nat, q < (gl_H G).size → U.heap[q]? = (gl_H G)[q]?) (A' : Array Value) : ∀ a ∈ Bundle.throwableAtoms, a.before A' U = true := by
  have g : ∀ {c : Cond}, c ∈ lw_all → c.before A' U = true := fun h => pay_in hts lw_self _ h _ _ hW
  have n : ∀ {c : Cond}, c ∈ lw_tbl → nwk c = true → c.onTables = true → c.before A' U = true := fun h hk ho => va_Nw.use ho ((hX.warm hW).1 _ h hk)
  have hU := (hE.1.moved hW.alike).use hh A'
  have hS := (hE.2.1.moved hW.alike).use hh A'
  exact List.forall_mem_cons.mpr ⟨g q74, List.forall_mem_cons.mpr ⟨g q375, List.forall_mem_cons.mpr ⟨g q316, List.forall_mem_cons.mpr ⟨g q337, List.forall_mem_cons.mpr ⟨g q340, List.forall_mem_cons.mpr ⟨g q342, List.forall_mem_cons.mpr ⟨g q376, List.forall_mem_cons.mpr ⟨g q377, List.forall_mem_cons.mpr ⟨g q115, List.forall_mem_cons.mpr ⟨g q116, List.forall_mem_cons.mpr ⟨g q310, List.forall_mem_cons.mpr ⟨g q315, List.forall_mem_cons.mpr ⟨g q338, List.forall_mem_cons.mpr ⟨g q345, List.forall_mem_cons.mpr ⟨g q369, List.forall_mem_cons.mpr ⟨g q346, List.forall_mem_cons.mpr ⟨g q370, List.forall_mem_cons.mpr ⟨g q347, List.forall_mem_cons.mpr ⟨g q371, List.forall_mem_cons.mpr ⟨g q311, List.forall_mem_cons.mpr ⟨hU.1, List.forall_mem_cons.mpr ⟨g q313, List.forall_mem_cons.mpr ⟨hS.1, List.forall_mem_cons.mpr ⟨g q372, fun _ h => absurd h List.not_mem_nil⟩⟩⟩⟩⟩⟩⟩⟩⟩⟩⟩⟩⟩⟩⟩⟩⟩⟩⟩⟩⟩⟩⟩⟩
theorem at_npe {G : gl_T} {s U : State} {A : Array Value} (hts : ∀ w ∈ lw_all, w.before A s = true) (hX : XT G s) (hE : XE G s) (hW : s.WarmedH U.vm) (hh : ∀ q : Nat, q < (gl_H G).size → U.heap[q]? = (gl_H G)[q]?) (A' : Array Value) : ∀ a ∈ Bundle.npeArmAtoms 8, a.before A' U = true := by
  have g : ∀ {c : Cond}, c ∈ lw_all → c.before A' U = true := fun h => pay_in hts lw_self _ h _ _ hW
  have n : ∀ {c : Cond}, c ∈ lw_tbl → nwk c = true → c.onTables = true → c.before A' U = true := fun h hk ho => va_Nw.use ho ((hX.warm hW).1 _ h hk)
  have hU := (hE.1.moved hW.alike).use hh A'
  have hS := (hE.2.1.moved hW.alike).use hh A'
  exact List.forall_mem_append.mpr ⟨List.forall_mem_append.mpr ⟨List.forall_mem_append.mpr ⟨List.forall_mem_append.mpr ⟨List.forall_mem_append.mpr ⟨at_throwable hts hX hE hW hh A', List.forall_mem_cons.mpr ⟨g q334, List.forall_mem_cons.mpr ⟨g q324, List.forall_mem_cons.mpr ⟨g q325, List.forall_mem_cons.mpr ⟨g q419, List.forall_mem_cons.mpr ⟨g q421, List.forall_mem_cons.mpr ⟨g q331, List.forall_mem_cons.mpr ⟨g q332, List.forall_mem_cons.mpr ⟨n q433 rfl rfl, fun _ h => absurd h List.not_mem_nil⟩⟩⟩⟩⟩⟩⟩⟩⟩, List.forall_mem_cons.mpr ⟨g q410, List.forall_mem_cons.mpr ⟨g q411, List.forall_mem_cons.mpr ⟨g q412, List.forall_mem_cons.mpr ⟨g q413, List.forall_mem_cons.mpr ⟨n q362 rfl rfl, fun _ h => absurd h List.not_mem_nil⟩⟩⟩⟩⟩⟩, List.forall_mem_cons.mpr ⟨g q413, List.forall_mem_cons.mpr ⟨g q414, List.forall_mem_cons.mpr ⟨g q415, List.forall_mem_cons.mpr ⟨g q416, List.forall_mem_cons.mpr ⟨n q364 rfl rfl, fun _ h => absurd h List.not_mem_nil⟩⟩⟩⟩⟩⟩, List.forall_mem_cons.mpr ⟨g q416, List.forall_mem_cons.mpr ⟨g q417, List.forall_mem_cons.mpr ⟨g q418, List.forall_mem_cons.mpr ⟨g q376, List.forall_mem_cons.mpr ⟨n q366 rfl rfl, fun _ h => absurd h List.not_mem_nil⟩⟩⟩⟩⟩⟩, List.forall_mem_cons.mpr ⟨g q79, List.forall_mem_cons.mpr ⟨g q329, List.forall_mem_cons.mpr ⟨n q431 rfl rfl, List.forall_mem_cons.mpr ⟨g q432, List.forall_mem_cons.mpr ⟨g q323, List.forall_mem_cons.mpr ⟨g q427, List.forall_mem_cons.mpr ⟨g q428, List.forall_mem_cons.mpr ⟨g q430, List.forall_mem_cons.mpr ⟨hU.2, List.forall_mem_cons.mpr ⟨hS.2, List.forall_mem_cons.mpr ⟨g q374, List.forall_mem_cons.mpr ⟨g q373, List.forall_mem_cons.mpr ⟨g q425, fun _ h => absurd h List.not_mem_nil⟩⟩⟩⟩⟩⟩⟩⟩⟩⟩⟩⟩⟩⟩
theorem at_neg {G : gl_T} {s U : State} {A : Array Value} (hts : ∀ w ∈ lw_all, w.before A s = true) (hX : XT G s) (hE : XE G s) (hW : s.WarmedH U.vm) (hh : ∀ q : Nat, q < (gl_H G).size → U.heap[q]? = (gl_H G)[q]?) (A' : Array Value) : ∀ a ∈ Bundle.messageArmAtoms "java/lang/NegativeArraySizeException" ["java/lang/RuntimeException", "java/lang/Exception"], a.before A' U = true := by
  have g : ∀ {c : Cond}, c ∈ lw_all → c.before A' U = true := fun h => pay_in hts lw_self _ h _ _ hW
  have n : ∀ {c : Cond}, c ∈ lw_tbl → nwk c = true → c.onTables = true → c.before A' U = true := fun h hk ho => va_Nw.use ho ((hX.warm hW).1 _ h hk)
  have hU := (hE.1.moved hW.alike).use hh A'
  have hS := (hE.2.1.moved hW.alike).use hh A'
  exact List.forall_mem_append.mpr ⟨List.forall_mem_append.mpr ⟨List.forall_mem_append.mpr ⟨List.forall_mem_append.mpr ⟨at_throwable hts hX hE hW hh A', List.forall_mem_cons.mpr ⟨g q308, List.forall_mem_cons.mpr ⟨g q309, List.forall_mem_cons.mpr ⟨g q344, List.forall_mem_cons.mpr ⟨g q372, fun _ h => absurd h List.not_mem_nil⟩⟩⟩⟩⟩, List.forall_mem_append.mpr ⟨List.forall_mem_cons.mpr ⟨g q299, List.forall_mem_cons.mpr ⟨g q300, List.forall_mem_cons.mpr ⟨g q301, List.forall_mem_cons.mpr ⟨g q302, List.forall_mem_cons.mpr ⟨n q363 rfl rfl, fun _ h => absurd h List.not_mem_nil⟩⟩⟩⟩⟩, List.forall_mem_append.mpr ⟨List.forall_mem_cons.mpr ⟨g q302, List.forall_mem_cons.mpr ⟨g q303, List.forall_mem_cons.mpr ⟨g q304, List.forall_mem_cons.mpr ⟨g q305, List.forall_mem_cons.mpr ⟨n q365 rfl rfl, fun _ h => absurd h List.not_mem_nil⟩⟩⟩⟩⟩, List.forall_mem_cons.mpr ⟨g q305, List.forall_mem_cons.mpr ⟨g q306, List.forall_mem_cons.mpr ⟨g q307, List.forall_mem_cons.mpr ⟨g q308, List.forall_mem_cons.mpr ⟨n q367 rfl rfl, fun _ h => absurd h List.not_mem_nil⟩⟩⟩⟩⟩⟩⟩⟩, List.forall_mem_cons.mpr ⟨g q78, List.forall_mem_cons.mpr ⟨g q378, List.forall_mem_cons.mpr ⟨g q164, List.forall_mem_cons.mpr ⟨g q379, List.forall_mem_cons.mpr ⟨g q381, List.forall_mem_cons.mpr ⟨g q380, List.forall_mem_cons.mpr ⟨g q382, fun _ h => absurd h List.not_mem_nil⟩⟩⟩⟩⟩⟩⟩⟩, List.forall_mem_cons.mpr ⟨g q77, List.forall_mem_cons.mpr ⟨g q298, List.forall_mem_cons.mpr ⟨n q361 rfl rfl, List.forall_mem_cons.mpr ⟨g q368, List.forall_mem_cons.mpr ⟨g q322, List.forall_mem_cons.mpr ⟨g q352, List.forall_mem_cons.mpr ⟨g q354, List.forall_mem_cons.mpr ⟨g q358, List.forall_mem_cons.mpr ⟨g q350, List.forall_mem_cons.mpr ⟨hU.2, List.forall_mem_cons.mpr ⟨hS.2, List.forall_mem_cons.mpr ⟨g q374, List.forall_mem_cons.mpr ⟨g q373, List.forall_mem_cons.mpr ⟨g q348, fun _ h => absurd h List.not_mem_nil⟩⟩⟩⟩⟩⟩⟩⟩⟩⟩⟩⟩⟩⟩⟩
theorem at_idx {G : gl_T} {s U : State} {A : Array Value} (hts : ∀ w ∈ lw_all, w.before A s = true) (hX : XT G s) (hE : XE G s) (hW : s.WarmedH U.vm) (hh : ∀ q : Nat, q < (gl_H G).size → U.heap[q]? = (gl_H G)[q]?) (A' : Array Value) : ∀ a ∈ Bundle.messageArmAtoms "java/lang/ArrayIndexOutOfBoundsException" ["java/lang/IndexOutOfBoundsException", "java/lang/RuntimeException", "java/lang/Exception"], a.before A' U = true := by
  have g : ∀ {c : Cond}, c ∈ lw_all → c.before A' U = true := fun h => pay_in hts lw_self _ h _ _ hW
  have n : ∀ {c : Cond}, c ∈ lw_tbl → nwk c = true → c.onTables = true → c.before A' U = true := fun h hk ho => va_Nw.use ho ((hX.warm hW).1 _ h hk)
  have hU := (hE.1.moved hW.alike).use hh A'
  have hS := (hE.2.1.moved hW.alike).use hh A'
  exact List.forall_mem_append.mpr ⟨List.forall_mem_append.mpr ⟨List.forall_mem_append.mpr ⟨List.forall_mem_append.mpr ⟨at_throwable hts hX hE hW hh A', List.forall_mem_cons.mpr ⟨g q308, List.forall_mem_cons.mpr ⟨g q309, List.forall_mem_cons.mpr ⟨g q344, List.forall_mem_cons.mpr ⟨g q372, fun _ h => absurd h List.not_mem_nil⟩⟩⟩⟩⟩, List.forall_mem_append.mpr ⟨List.forall_mem_cons.mpr ⟨g q436, List.forall_mem_cons.mpr ⟨g q437, List.forall_mem_cons.mpr ⟨g q438, List.forall_mem_cons.mpr ⟨g q439, List.forall_mem_cons.mpr ⟨n q451 rfl rfl, fun _ h => absurd h List.not_mem_nil⟩⟩⟩⟩⟩, List.forall_mem_append.mpr ⟨List.forall_mem_cons.mpr ⟨g q439, List.forall_mem_cons.mpr ⟨g q440, List.forall_mem_cons.mpr ⟨g q441, List.forall_mem_cons.mpr ⟨g q302, List.forall_mem_cons.mpr ⟨n q363 rfl rfl, fun _ h => absurd h List.not_mem_nil⟩⟩⟩⟩⟩, List.forall_mem_append.mpr ⟨List.forall_mem_cons.mpr ⟨g q302, List.forall_mem_cons.mpr ⟨g q303, List.forall_mem_cons.mpr ⟨g q304, List.forall_mem_cons.mpr ⟨g q305, List.forall_mem_cons.mpr ⟨n q365 rfl rfl, fun _ h => absurd h List.not_mem_nil⟩⟩⟩⟩⟩, List.forall_mem_cons.mpr ⟨g q305, List.forall_mem_cons.mpr ⟨g q306, List.forall_mem_cons.mpr ⟨g q307, List.forall_mem_cons.mpr ⟨g q308, List.forall_mem_cons.mpr ⟨n q367 rfl rfl, fun _ h => absurd h List.not_mem_nil⟩⟩⟩⟩⟩⟩⟩⟩⟩, List.forall_mem_cons.mpr ⟨g q78, List.forall_mem_cons.mpr ⟨g q378, List.forall_mem_cons.mpr ⟨g q164, List.forall_mem_cons.mpr ⟨g q379, List.forall_mem_cons.mpr ⟨g q381, List.forall_mem_cons.mpr ⟨g q380, List.forall_mem_cons.mpr ⟨g q382, fun _ h => absurd h List.not_mem_nil⟩⟩⟩⟩⟩⟩⟩⟩, List.forall_mem_cons.mpr ⟨g q81, List.forall_mem_cons.mpr ⟨g q435, List.forall_mem_cons.mpr ⟨n q449 rfl rfl, List.forall_mem_cons.mpr ⟨g q452, List.forall_mem_cons.mpr ⟨g q319, List.forall_mem_cons.mpr ⟨g q444, List.forall_mem_cons.mpr ⟨g q445, List.forall_mem_cons.mpr ⟨g q447, List.forall_mem_cons.mpr ⟨g q443, List.forall_mem_cons.mpr ⟨hU.2, List.forall_mem_cons.mpr ⟨hS.2, List.forall_mem_cons.mpr ⟨g q374, List.forall_mem_cons.mpr ⟨g q373, List.forall_mem_cons.mpr ⟨g q442, fun _ h => absurd h List.not_mem_nil⟩⟩⟩⟩⟩⟩⟩⟩⟩⟩⟩⟩⟩⟩⟩
theorem at_ase {G : gl_T} {s U : State} {A : Array Value} (hts : ∀ w ∈ lw_all, w.before A s = true) (hX : XT G s) (hE : XE G s) (hW : s.WarmedH U.vm) (hh : ∀ q : Nat, q < (gl_H G).size → U.heap[q]? = (gl_H G)[q]?) (A' : Array Value) : ∀ a ∈ Bundle.messageArmAtoms "java/lang/ArrayStoreException" ["java/lang/RuntimeException", "java/lang/Exception"], a.before A' U = true := by
  have g : ∀ {c : Cond}, c ∈ lw_all → c.before A' U = true := fun h => pay_in hts lw_self _ h _ _ hW
  have n : ∀ {c : Cond}, c ∈ lw_tbl → nwk c = true → c.onTables = true → c.before A' U = true := fun h hk ho => va_Nw.use ho ((hX.warm hW).1 _ h hk)
  have hU := (hE.1.moved hW.alike).use hh A'
  have hS := (hE.2.1.moved hW.alike).use hh A'
  exact List.forall_mem_append.mpr ⟨List.forall_mem_append.mpr ⟨List.forall_mem_append.mpr ⟨List.forall_mem_append.mpr ⟨at_throwable hts hX hE hW hh A', List.forall_mem_cons.mpr ⟨g q308, List.forall_mem_cons.mpr ⟨g q309, List.forall_mem_cons.mpr ⟨g q344, List.forall_mem_cons.mpr ⟨g q372, fun _ h => absurd h List.not_mem_nil⟩⟩⟩⟩⟩, List.forall_mem_append.mpr ⟨List.forall_mem_cons.mpr ⟨g q470, List.forall_mem_cons.mpr ⟨g q471, List.forall_mem_cons.mpr ⟨g q472, List.forall_mem_cons.mpr ⟨g q302, List.forall_mem_cons.mpr ⟨n q363 rfl rfl, fun _ h => absurd h List.not_mem_nil⟩⟩⟩⟩⟩, List.forall_mem_append.mpr ⟨List.forall_mem_cons.mpr ⟨g q302, List.forall_mem_cons.mpr ⟨g q303, List.forall_mem_cons.mpr ⟨g q304, List.forall_mem_cons.mpr ⟨g q305, List.forall_mem_cons.mpr ⟨n q365 rfl rfl, fun _ h => absurd h List.not_mem_nil⟩⟩⟩⟩⟩, List.forall_mem_cons.mpr ⟨g q305, List.forall_mem_cons.mpr ⟨g q306, List.forall_mem_cons.mpr ⟨g q307, List.forall_mem_cons.mpr ⟨g q308, List.forall_mem_cons.mpr ⟨n q367 rfl rfl, fun _ h => absurd h List.not_mem_nil⟩⟩⟩⟩⟩⟩⟩⟩, List.forall_mem_cons.mpr ⟨g q78, List.forall_mem_cons.mpr ⟨g q378, List.forall_mem_cons.mpr ⟨g q164, List.forall_mem_cons.mpr ⟨g q379, List.forall_mem_cons.mpr ⟨g q381, List.forall_mem_cons.mpr ⟨g q380, List.forall_mem_cons.mpr ⟨g q382, fun _ h => absurd h List.not_mem_nil⟩⟩⟩⟩⟩⟩⟩⟩, List.forall_mem_cons.mpr ⟨g q82, List.forall_mem_cons.mpr ⟨g q469, List.forall_mem_cons.mpr ⟨n q480 rfl rfl, List.forall_mem_cons.mpr ⟨g q481, List.forall_mem_cons.mpr ⟨g q320, List.forall_mem_cons.mpr ⟨g q475, List.forall_mem_cons.mpr ⟨g q476, List.forall_mem_cons.mpr ⟨g q478, List.forall_mem_cons.mpr ⟨g q474, List.forall_mem_cons.mpr ⟨hU.2, List.forall_mem_cons.mpr ⟨hS.2, List.forall_mem_cons.mpr ⟨g q374, List.forall_mem_cons.mpr ⟨g q373, List.forall_mem_cons.mpr ⟨g q473, fun _ h => absurd h List.not_mem_nil⟩⟩⟩⟩⟩⟩⟩⟩⟩⟩⟩⟩⟩⟩⟩
theorem at_cce {G : gl_T} {s U : State} {A : Array Value} (hts : ∀ w ∈ lw_all, w.before A s = true) (hX : XT G s) (hE : XE G s) (hW : s.WarmedH U.vm) (hh : ∀ q : Nat, q < (gl_H G).size → U.heap[q]? = (gl_H G)[q]?) (A' : Array Value) : ∀ a ∈ Bundle.messageArmAtoms "java/lang/ClassCastException" ["java/lang/RuntimeException", "java/lang/Exception"], a.before A' U = true := by
  have g : ∀ {c : Cond}, c ∈ lw_all → c.before A' U = true := fun h => pay_in hts lw_self _ h _ _ hW
  have n : ∀ {c : Cond}, c ∈ lw_tbl → nwk c = true → c.onTables = true → c.before A' U = true := fun h hk ho => va_Nw.use ho ((hX.warm hW).1 _ h hk)
  have hU := (hE.1.moved hW.alike).use hh A'
  have hS := (hE.2.1.moved hW.alike).use hh A'
  exact List.forall_mem_append.mpr ⟨List.forall_mem_append.mpr ⟨List.forall_mem_append.mpr ⟨List.forall_mem_append.mpr ⟨at_throwable hts hX hE hW hh A', List.forall_mem_cons.mpr ⟨g q308, List.forall_mem_cons.mpr ⟨g q309, List.forall_mem_cons.mpr ⟨g q344, List.forall_mem_cons.mpr ⟨g q372, fun _ h => absurd h List.not_mem_nil⟩⟩⟩⟩⟩, List.forall_mem_append.mpr ⟨List.forall_mem_cons.mpr ⟨g q1316, List.forall_mem_cons.mpr ⟨g q1317, List.forall_mem_cons.mpr ⟨g q1318, List.forall_mem_cons.mpr ⟨g q302, List.forall_mem_cons.mpr ⟨n q363 rfl rfl, fun _ h => absurd h List.not_mem_nil⟩⟩⟩⟩⟩, List.forall_mem_append.mpr ⟨List.forall_mem_cons.mpr ⟨g q302, List.forall_mem_cons.mpr ⟨g q303, List.forall_mem_cons.mpr ⟨g q304, List.forall_mem_cons.mpr ⟨g q305, List.forall_mem_cons.mpr ⟨n q365 rfl rfl, fun _ h => absurd h List.not_mem_nil⟩⟩⟩⟩⟩, List.forall_mem_cons.mpr ⟨g q305, List.forall_mem_cons.mpr ⟨g q306, List.forall_mem_cons.mpr ⟨g q307, List.forall_mem_cons.mpr ⟨g q308, List.forall_mem_cons.mpr ⟨n q367 rfl rfl, fun _ h => absurd h List.not_mem_nil⟩⟩⟩⟩⟩⟩⟩⟩, List.forall_mem_cons.mpr ⟨g q78, List.forall_mem_cons.mpr ⟨g q378, List.forall_mem_cons.mpr ⟨g q164, List.forall_mem_cons.mpr ⟨g q379, List.forall_mem_cons.mpr ⟨g q381, List.forall_mem_cons.mpr ⟨g q380, List.forall_mem_cons.mpr ⟨g q382, fun _ h => absurd h List.not_mem_nil⟩⟩⟩⟩⟩⟩⟩⟩, List.forall_mem_cons.mpr ⟨g q107, List.forall_mem_cons.mpr ⟨g q1315, List.forall_mem_cons.mpr ⟨n q1326 rfl rfl, List.forall_mem_cons.mpr ⟨g q1327, List.forall_mem_cons.mpr ⟨g q321, List.forall_mem_cons.mpr ⟨g q1321, List.forall_mem_cons.mpr ⟨g q1322, List.forall_mem_cons.mpr ⟨g q1324, List.forall_mem_cons.mpr ⟨g q1320, List.forall_mem_cons.mpr ⟨hU.2, List.forall_mem_cons.mpr ⟨hS.2, List.forall_mem_cons.mpr ⟨g q374, List.forall_mem_cons.mpr ⟨g q373, List.forall_mem_cons.mpr ⟨g q1319, fun _ h => absurd h List.not_mem_nil⟩⟩⟩⟩⟩⟩⟩⟩⟩⟩⟩⟩⟩⟩⟩
