/-! ===== NullPointerException thrown by a native method ===== -/
set_option maxRecDepth 100000
section NATS
variable {p : Program} {l : Launch} {e : Env} {R : Room} {s : State} {m : MethodId} {args : Array Value} {below : List Frame} {meth : Method} {c : Code} {T' : State} {locs : List Loc} {cells slots : Nat}
theorem nat_ov (X : Stand p l e R s m args below meth c T' locs cells slots) (g : JFrame) (nf : NFrame) : Ov T' (.native nf :: .java g :: below) below := by
  obtain ⟨g₀, hfr⟩ := X.frames_eq
  exact ⟨⟨X.here.running, X.here.runnable, X.here.alone⟩, State.cur_lt_of_frames hfr, ⟨[.native nf, .java g], rfl⟩⟩
theorem nat_use (X : Stand p l e R s m args below meth c T' locs cells slots) {g : JFrame} (hsize : g.locals.size = c.maxLocals) {nf : NFrame} (hnf : nf.words = 0) {K : Nat} (hK : 2 * g.monitorRoom + (g.stack.map fun v => v.category).sum + K ≤ R.locals) : (stackUse (.native nf :: .java g :: below)).2 + K ≤ (e.platform.stackLimits T'.me).2 := by
  have h := X.stackAbove hsize hK
  rw [X.tail] at h
  rw [stackUse_light (.native nf) _ (fun f hf => by cases hf) hnf]
  exact h
theorem nat_len (X : Stand p l e R s m args below meth c T' locs cells slots) (g : JFrame) (nf : NFrame) {n : Nat} (hn : n + 1 < R.frames) : (Frame.native nf :: .java g :: below).length + n < (e.platform.stackLimits T'.me).1 := by
  have h := X.framesAbove hn
  obtain ⟨g₀, hfr⟩ := X.frames_eq
  rw [hfr] at h
  simp only [List.length_cons] at h ⊢
  omega
/-- the machine's two questions -/
theorem nat_may (X : Stand p l e R s m args below meth c T' locs cells slots) {g : JFrame} (hsize : g.locals.size = c.maxLocals) {nf : NFrame} (hnf : nf.words = 0) (cls : String) (msg : Option String)
    (hK : 2 * g.monitorRoom + (g.stack.map fun v => v.category).sum + 10240 ≤ R.locals) :
    e.platform.stackBeyond ((((T'.setFrames (.throwNew cls msg none :: .native nf :: .java g :: below)).threads[T'.cur]?).map (·.stackBytes)).getD 0) (.throwNew cls msg none :: .native nf :: .java g :: below) = false ∧
      e.platform.vmThrowRoom ≤ e.platform.stackFree ((((T'.setFrames (.throwNew cls msg none :: .native nf :: .java g :: below)).threads[T'.cur]?).map (·.stackBytes)).getD 0) (.throwNew cls msg none :: .native nf :: .java g :: below) := by
  have hb : ((((T'.setFrames (.throwNew cls msg none :: .native nf :: .java g :: below)).threads[T'.cur]?).map (·.stackBytes)).getD 0) = T'.me.stackBytes := by
    rw [← State.stackBytes_setFrames T' (.throwNew cls msg none :: .native nf :: .java g :: below)]
    exact State.stackBytes_me _
  have hA := nat_use X hsize hnf hK
  have hlimit : (e.platform.stackLimits T'.me).2 = (e.platform.limitsFor T'.me.stackBytes).2 := rfl
  rw [hb, Launch.admits_vmThrowRoom X.admits]
  unfold Platform.stackBeyond Platform.stackFree
  rw [stackUse_light (.throwNew cls msg none) _ (fun f hf => by cases hf) rfl]
  exact ⟨decide_eq_false (by omega), by omega⟩
theorem nat_npe (X : Stand p l e R s m args below meth c T' locs cells slots) (hexec : p.tables.exec = Jvm.exec) (htr : e.platform.stackTraces = false) {n : Nat} (h : ∀ a ∈ Bundle.npeArmAtoms n, a.before args s = true)
    (hlocs : ∀ x ∈ locs, ∀ cell, s.heap[x.base]? = some cell → cell.vm.isStatics = false) {g : JFrame} (hsize : g.locals.size = c.maxLocals) {nf : NFrame} (hnf : nf.words = 0)
    (hRframes : 9 < R.frames) (hRlocals : 2 * g.monitorRoom + (g.stack.map fun v => v.category).sum + 10240 ≤ R.locals) (hRcells : cells + 1 ≤ R.cells) (hRslots : slots + n ≤ R.slots) :
    ∃ (U : State) (L : List Loc) (cell : Cell), Stand p l e R s m args below meth c U (locs ++ L) (cells + 1) (slots + n) ∧ (∀ q ∈ L, q.base = T'.heap.size) ∧ U.heap.size = T'.heap.size + 1 ∧ (∀ q : Nat, q < T'.heap.size → U.heap[q]? = T'.heap[q]?) ∧ U.heap[T'.heap.size]? = some cell ∧
      s.vm.findClass "java/lang/NullPointerException" = some cell.cls ∧ cell.vm = .none ∧
      ∀ target, Steps p.tables e below (U.setFrames (.throwing T'.heap.size :: .native nf :: .java g :: below)) target → Steps p.tables e below (T'.setFrames (.throwNew "java/lang/NullPointerException" none none :: .native nf :: .java g :: below)) target := by
  have howns : e.platform.frameOwnsMonitors = true := by rw [X.admits.platform]
  have hfin : e.platform.finalization = false := by rw [X.admits.platform]
  have hpl : e.platform.magicAccessors = ({} : Platform).magicAccessors := by rw [X.admits.platform]
  have hpl2 : e.platform.arrayCloneIsPublic = true := by rw [X.admits.platform]
  have a : ∀ x, x ∈ Bundle.npeArmAtoms n → x.holds args s none s [] = true := fun x hx => h x hx
  obtain ⟨T, Z, L, LZ, Y⟩ := ThrowableC.of_atoms (args := args) howns hfin hpl (fun x hx => h x (by simp [Bundle.npeArmAtoms, hx]))
  obtain ⟨N, LN, hcN, hnNF, hordN, hffS⟩ := NpeC.of_atoms (args := args) hpl hpl2 L Y (fun x hx => h x (by simp [Bundle.npeArmAtoms, hx]))
  obtain ⟨P1, L1, hP1m, hP1s⟩ := PassC.of_atoms (args := args) (s := s) hpl (X := Bundle.nN) (Y := Bundle.rN) (by decide) (by decide) LibCode.NullPointerException.Init0.at_0 LibCode.NullPointerException.Init0.at_1 LibCode.NullPointerException.Init0.at_4 (fun x hx => h x (by simp [Bundle.npeArmAtoms, hx]))
  obtain ⟨PR, LR, hPRm, hPRs⟩ := PassC.of_atoms (args := args) (s := s) hpl (X := Bundle.rN) (Y := Bundle.eN) (by decide) (by decide) LibCode.RuntimeException.Init0.at_0 LibCode.RuntimeException.Init0.at_1 LibCode.RuntimeException.Init0.at_4 (fun x hx => h x (by simp [Bundle.npeArmAtoms, hx]))
  obtain ⟨PE, LEx, hPEm, hPEs⟩ := PassC.of_atoms (args := args) (s := s) hpl (X := Bundle.eN) (Y := Bundle.tN) (by decide) (by decide) LibCode.Exception.Init0.at_0 LibCode.Exception.Init0.at_1 LibCode.Exception.Init0.at_4 (fun x hx => h x (by simp [Bundle.npeArmAtoms, hx]))
  have hfound : s.vm.findClass Bundle.nN = some P1.m.cls := findClass_of_methodNamed hP1m
  have ecls : N.cN = P1.m.cls := Option.some.inj (hcN.symm.trans hfound)
  have hk : s.vm.classes[P1.m.cls]? = some N.kN := by rw [← ecls]; exact LN.cls
  have hinit := Cond.initialized_spec hfound hk (a (.initialized Bundle.nN) (by simp [Bundle.npeArmAtoms]))
  have hctor : N.kN.findMethod "<init>" "()V" = some P1.m.idx := findMethod_of_methodNamed hP1m hk
  obtain ⟨c1, k1, hc1, hk1, -, -, -, hn⟩ := Cond.instantiable_spec (a (.instantiable Bundle.nN n) (by simp [Bundle.npeArmAtoms]))
  cases Option.some.inj (hc1.symm.trans hfound)
  cases Option.some.inj (hk1.symm.trans hk)
  have hlink1 : P1.sup = PR.m := Option.some.inj (hP1s.symm.trans hPRm)
  have hlinkR : PR.sup = PE.m := Option.some.inj (hPRs.symm.trans hPEm)
  have hlinkE : PE.sup = Z.m T.toThrowableT := Option.some.inj (hPEs.symm.trans Y.init0)
  have hsel0 : selectMethod e.platform s.vm P1.m.cls T.fill0 = .method T.fill0 := by
    obtain ⟨c2, r2, m2, q1, q2, q3, q4, -⟩ := Cond.selects_spec (a (.selects Bundle.nN Bundle.tFill0 Bundle.tFill0) (by simp [Bundle.npeArmAtoms]))
    cases Option.some.inj (q1.symm.trans hfound)
    cases Option.some.inj (q2.symm.trans (State.methodFound?_of_named Y.fill0 (by decide)))
    cases Option.some.inj (q3.symm.trans Y.fill0)
    rw [Launch.admits_selectMethod X.admits]; exact q4
  have hselF : selectMethod e.platform s.vm P1.m.cls T.fill = .method N.fill := by
    obtain ⟨c2, r2, m2, q1, q2, q3, q4, -⟩ := Cond.selects_spec (a (.selects Bundle.nN Bundle.tFill Bundle.nFill) (by simp [Bundle.npeArmAtoms]))
    cases Option.some.inj (q1.symm.trans hfound)
    cases Option.some.inj (q2.symm.trans (State.methodFound?_of_named Y.fill (by decide)))
    cases Option.some.inj (q3.symm.trans hnNF)
    rw [Launch.admits_selectMethod X.admits]; exact q4
  obtain ⟨cellS0, hcS0, hiss⟩ := Y.statics
  obtain ⟨u0, hu0⟩ := Cond.staticRefV Y.unassigned L.unassignedStatic L.statics hcS0 hiss (a (.isRef (.static Bundle.tN "UNASSIGNED_STACK" Bundle.steD)) (by simp [Bundle.npeArmAtoms]))
  obtain ⟨sen, hsen⟩ := Cond.staticRefV Y.sentinel L.sentinelStatic L.statics hcS0 hiss (a (.isRef (.static Bundle.tN "SUPPRESSED_SENTINEL" Bundle.listD)) (by simp [Bundle.npeArmAtoms]))
  obtain ⟨ci198, i198, fB, hk198, hg198, ha198, hsB, -, hnB, htB, hffB⟩ := Cond.ownField (t := .object "java/lang/Object") Y.found L.cls (by decide +kernel) (a (.fieldLink Bundle.tN 198 Bundle.tN "backtrace" Bundle.objD) (by simp [Bundle.npeArmAtoms])) (a (.lays Bundle.tN Bundle.tN "backtrace" Bundle.objD) (by simp [Bundle.npeArmAtoms])) e.platform hpl
  obtain ⟨cellS, hcS', heS, -, hkeep⟩ := X.same.2.2.2.2.2 T.aS cellS0 hcS0
  have hcellS : T'.heap[T.aS]? = some cellS := hcS'
  have hout' : ∀ i, (⟨T.aS, i⟩ : Loc) ∉ locs := fun i hmem => by
    have := hlocs _ hmem cellS0 hcS0
    rw [hiss] at this; cases this
  have hknownS : cellS.vm ≠ .unknown := by
    rw [heS]; intro hu
    rw [show cellS0.vm = .unknown from hu] at hiss
    cases hiss
  obtain ⟨tyC, dC, hdC, hdnC⟩ := Cond.laysAt hfound hk Y.cause (a (.lays Bundle.nN Bundle.tN "cause" "Ljava/lang/Throwable;") (by simp [Bundle.npeArmAtoms]))
  obtain ⟨tyS, dS, hdS, hdnS⟩ := Cond.laysAt hfound hk Y.stack (a (.lays Bundle.nN Bundle.tN "stackTrace" Bundle.steD) (by simp [Bundle.npeArmAtoms]))
  obtain ⟨tyP, dP, hdP, hdnP⟩ := Cond.laysAt hfound hk Y.supp (a (.lays Bundle.nN Bundle.tN "suppressedExceptions" Bundle.listD) (by simp [Bundle.npeArmAtoms]))
  obtain ⟨tyX, dX, hdX, hdnX⟩ := Cond.laysAt hfound hk hffS (a (.lays Bundle.nN Bundle.nN "extendedMessageState" "I") (by simp [Bundle.npeArmAtoms, Bundle.npeAtoms]))
  have hnX : N.fState.name = "extendedMessageState" := (State.fieldFound?_type hffS (t := .int) (by decide +kernel)).1
  obtain ⟨tyB, dB, hdB, hdnB⟩ := Cond.laysAt hfound hk hffB (a (.lays Bundle.nN Bundle.tN "backtrace" Bundle.objD) (by simp [Bundle.npeArmAtoms]))
  have bC := Cond.laysApart hdB hdC hdnB hdnC (by rw [hnB, Y.causeName]; decide)
  have bS := Cond.laysApart hdB hdS hdnB hdnS (by rw [hnB, Y.stackName]; decide)
  have bP := Cond.laysApart hdB hdP hdnB hdnP (by rw [hnB, Y.suppName]; decide)
  have bX := Cond.laysApart hdB hdX hdnB hdnX (by rw [hnB, hnX]; decide)
  have hskip : SkipFacts T e.platform s (fun u => u) u0 ((npeCell N.toNpeT (preparedCellV T.toThrowableT (freshCell P1.m.cls N.kN) T'.heap.size u0 sen) T'.cur).withEntry T'.cur) :=
    ⟨{ ci198 := ci198, i198 := i198, fBack := fB }, ⟨hk198, hg198, ha198, hsB⟩, by
      have := fresh_default (c := P1.m.cls) tyB
      rw [htB] at this
      simpa [npeCell, preparedCellV, Cell.setSlot, Cell.withEntry, Array.getElem?_setIfInBounds, bC, bS, bP, bX, bC.symm, bS.symm, bP.symm, bX.symm, defaultValue] using this, fun _ _ => rfl⟩
  -- the throw itself
  have hW := X.warmed
  have hov := nat_ov X g nf
  obtain ⟨hbeyond, hfreeW⟩ := nat_may X hsize hnf "java/lang/NullPointerException" none hRlocals
  have hlen := nat_len X g nf (n := 7) (by omega)
  have huse := nat_use X hsize hnf (K := 94) (by omega)
  have hltS : T.aS < T'.heap.size := (Array.getElem?_eq_some_iff.mp hcellS).1
  obtain ⟨kX', hk', he'⟩ := hW.alike.2.2 _ _ hk
  have hty : kX'.instanceTypes = N.kN.instanceTypes := by rw [he']
  have hfresh : freshCell P1.m.cls kX' = freshCell P1.m.cls N.kN := by
    show ({ cls := P1.m.cls, slots := kX'.instanceTypes.map defaultValue, vm := .none } : Cell) = _
    rw [hty]
  have hovW : Ov (T'.pushCell (freshCell P1.m.cls N.kN)) (.native nf :: .java g :: below) below := ⟨⟨hov.1.1, hov.1.2.1, hov.1.2.2⟩, hov.2.1, hov.2.2⟩
  have w5 : (T'.pushCell (freshCell P1.m.cls N.kN)).heap[T.aS]? = some cellS := by
    rw [← hcellS]
    simp [State.pushCell, Array.getElem?_push, Nat.ne_of_lt hltS]
  have hself : (T'.pushCell (freshCell P1.m.cls N.kN)).heap[T'.heap.size]? = some (freshCell P1.m.cls N.kN) := State.heap_pushCell_size T' _
  have hlimN : e.platform.stackLimits ((T'.pushCell (freshCell P1.m.cls N.kN)).setFrames (.thenThrow T'.heap.size :: .native nf :: .java g :: below)).me = e.platform.stackLimits T'.me := by
    rw [State.stackLimits_setFrames]
    rfl
  have hroom := roomAbove (pl := e.platform) (u := (T'.pushCell (freshCell P1.m.cls N.kN)).setFrames (.thenThrow T'.heap.size :: .native nf :: .java g :: below)) (vars := 1) (pushed := [.thenThrow T'.heap.size]) (base := .native nf :: .java g :: below) (free := 94) (lim := e.platform.stackLimits T'.me) (hovW.fr _) hlimN
    (by simp only [List.length_cons, List.length_nil] at hlen ⊢; omega) huse (by rw [stackUse_light _ _ (fun f hf => by cases hf) rfl, stackUse_nil]; show 0 + 1 + 11 ≤ _; omega)
  obtain ⟨vm', hW', st⟩ := ov_ctor0 (tb := p.tables) hovW hexec (H := fun u => u.setCell T'.heap.size (((((npeCell N.toNpeT (preparedCellV T.toThrowableT (freshCell P1.m.cls N.kN) T'.heap.size u0 sen) T'.cur).withEntry T'.cur).setSlot T.fStack.slot u0.v).left).left)) (heapOnly_id.thenSetCell T'.heap.size _) P1 L1 hW T'.heap.size hroom (fun vm1 hW1 hI1 => by
    obtain ⟨-, hfI⟩ := (hovW.vm (hW.alike.symm.trans hW1.alike)).inside T'.heap.size (pass0J P1.m T'.heap.size 0 []) (hW1.methodAt L1.method) L1.code (hW1.plainAt (U := (T'.pushCell (freshCell P1.m.cls N.kN)).setVm vm1) L1.plain)
    have hXvm : ∀ w, ((((T'.pushCell (freshCell P1.m.cls N.kN)).setVm vm1).setFrames (.thenThrow T'.heap.size :: .native nf :: .java g :: below)).pushFrame (.java (pass0J P1.m T'.heap.size 0 []))).setVm w = ((((T'.pushCell (freshCell P1.m.cls N.kN)).setVm w).setFrames (.thenThrow T'.heap.size :: .native nf :: .java g :: below)).pushFrame (.java (pass0J P1.m T'.heap.size 0 []))) := fun w => by
      rw [State.pushFrame_setVm, State.setFrames_setVm, State.setVm_twice]
    have hXlim : e.platform.stackLimits ((((T'.pushCell (freshCell P1.m.cls N.kN)).setVm vm1).setFrames (.thenThrow T'.heap.size :: .native nf :: .java g :: below)).pushFrame (.java (pass0J P1.m T'.heap.size 0 []))).me = e.platform.stackLimits T'.me := by
      rw [State.stackLimits_pushFrame, State.stackLimits_setFrames]
      rfl
    have key := Steps.initNpe0ColdByV p (V := (((T'.pushCell (freshCell P1.m.cls N.kN)).setVm vm1).setFrames (.thenThrow T'.heap.size :: .native nf :: .java g :: below)).pushFrame (.java (pass0J P1.m T'.heap.size 0 []))) (g := pass0J P1.m T'.heap.size 1 []) (c := P1.code) (self := T'.heap.size) hI1 hexec T L Z LZ N LN (t := T'.cur) hW1 rfl
      (Nn := fun u => u) heapOnly_id (fun _ _ => rfl) (fun _ => rfl) (fun u x y => setCell_twice _ _ _ _) (fun _ => Nat.le_refl _) (cell := freshCell P1.m.cls N.kN) (cellS := cellS) (cN := ((npeCell N.toNpeT (preparedCellV T.toThrowableT (freshCell P1.m.cls N.kN) T'.heap.size u0 sen) T'.cur).withEntry T'.cur)) hself
      (by intro k hk'; cases hk') (by intro hk'; cases hk') rfl hk hsel0 w5 (Nat.ne_of_lt hltS) hknownS (by rw [hkeep _ (hout' _)]; exact hu0)
      (by rw [fresh_default tyX, LN.stateInt]; rfl)
      (Cond.laysApart hdC hdX hdnC hdnX (by rw [Y.causeName, hnX]; decide)) (Cond.laysApart hdS hdX hdnS hdnX (by rw [Y.stackName, hnX]; decide)) (Cond.laysApart hdP hdX hdnP hdnX (by rw [Y.suppName, hnX]; decide))
      (Takes.of_laid hk hordN tyS (by rw [Y.stackType]; exact fits_refV_array _ u0)) (Takes.of_laid hk hordN tyX (by rw [LN.stateInt]; rfl)) (fun _ hu => hu) (fun _ hu => hu) rfl rfl rfl (by simp [npeCell, preparedCellV, Cell.setSlot, Cell.withEntry]) hskip
      (fun _ _ hA hW2 _ hroom2 _ hrest => L.nativeOff p htr hA hW2 hroom2 hrest) hselF (by rw [hkeep _ (hout' _)]; exact hsen) (Takes.of_laid hk hordN tyC (by rw [Y.causeType]; rfl)) (Takes.of_laid hk hordN tyP (by rw [Y.suppType]; exact fits_refV_object _ sen)) Y.objLocals [PR, PE]
      (fun P hP => by
        simp only [List.mem_cons, List.not_mem_nil, or_false] at hP
        rcases hP with rfl | rfl
        · exact LR
        · exact LEx) ⟨hlinkR, hlinkE, trivial⟩ (ig := .invokespecial P1.index) (len := 3) [] hXlim
      (by rw [hfI]; simp only [List.length_cons, List.length_nil] at hlen ⊢; omega)
      (by rw [hfI, List.tail_cons, stackUse_java, stackUse_light _ _ (fun f hf => by cases hf) rfl]
          show (stackUse (.native nf :: .java g :: below)).2 + (1 + 11 + 2 * 0 + operandWords []) + 13 * 2 + 55 ≤ _
          simp only [operandWords, List.foldl_nil]
          omega) L1.at1
    obtain ⟨vm2, hW2, st2⟩ := key
    refine ⟨vm2, hW2, fun t' h' => ?_⟩
    rw [hlink1]
    exact st2 t' (by rw [hXvm]; exact h'))
  rw [npeBareV_eq T.toThrowableT N.toNpeT T'.heap.size u0 sen T'.cur rfl rfl] at st
  have X2 := (X.pushed (freshCell P1.m.cls N.kN)).noted hW'
  have hsz : ((T'.pushCell (freshCell P1.m.cls N.kN)).setVm vm').heap.size = T'.heap.size + 1 := State.heap_size_pushCell _ _
  have ha : T'.heap.size < ((T'.pushCell (freshCell P1.m.cls N.kN)).setVm vm').heap.size := by rw [hsz]; omega
  have hcell : ((T'.pushCell (freshCell P1.m.cls N.kN)).setVm vm').heap[T'.heap.size]? = some (freshCell P1.m.cls N.kN) := hself
  have X3 := ((((X2.stored hcell T.fCause.slot (.ref T'.heap.size)).storedAgain ha T.fStack.slot u0.v).storedAgain ha T.fSupp.slot sen.v).storedAgain ha N.fState.slot (.int 1)).storedAgain ha T.fStack.slot u0.v
  have hszn : (freshCell P1.m.cls N.kN).slots.size = n := by simp [hn]
  rw [hszn] at X3
  simp only [List.append_assoc] at X3
  refine ⟨_, _, _, X3, fun q hq => ?_, ?_, fun q hq => ?_, heapAt_setCell_self (s := (T'.pushCell (freshCell P1.m.cls N.kN)).setVm vm') _ ha, hfound, rfl, fun target hrest => ?_⟩
  · simp only [List.cons_append, List.nil_append, List.mem_cons, List.not_mem_nil, or_false] at hq
    rcases hq with rfl | rfl | rfl | rfl | rfl <;> rfl
  · rw [← hsz]
    simp [State.setCell]
  · rw [State.heap_setCell_other (Nat.ne_of_gt hq)]
    show (T'.pushCell (freshCell P1.m.cls N.kN)).heap[q]? = _
    simp [State.pushCell, Array.getElem?_push, Nat.ne_of_lt hq]
  · refine ov_note hov (cX := P1.m.cls) (kX := kX') (i := P1.m.idx) (by decide) (by decide) (by rw [hW.alike.findClass]; exact hfound) hk' (by rw [he']; exact hinit) (by rw [he']; exact hordN) (Launch.admits_hotImplicitExceptions X.admits) hbeyond hfreeW (by rw [he']; exact hctor) (X.cellsAbove hRcells) (by rw [hty]; exact X.slotsAbove (by rw [hn]; exact hRslots)) ?_
    rw [hfresh]
    exact st target hrest
end NATS
