/-! ===== an exception with a message thrown by a native method ===== -/
set_option maxRecDepth 100000
section NATM
variable {p : Program} {l : Launch} {e : Env} {R : Room} {s : State} {m : MethodId} {args : Array Value} {below : List Frame} {meth : Method} {c : Code} {T' : State} {locs : List Loc} {cells slots : Nat}
theorem nat_msg (X : Stand p l e R s m args below meth c T' locs cells slots) (hexec : p.tables.exec = Jvm.exec) (htr : e.platform.stackTraces = false) {cls : String} {names : List String} {text : String}
    (hcls : Bundle.fit cls = true) (hnames : ∀ n ∈ names, Bundle.fit n = true) (hsoe : (cls == "java/lang/StackOverflowError") = false) (hoom : (cls == "java/lang/OutOfMemoryError") = false) (h : ∀ a ∈ Bundle.messageArmAtoms cls names, a.before args s = true)
    (hlocs : ∀ x ∈ locs, ∀ cell, s.heap[x.base]? = some cell → cell.vm.isStatics = false) (htext : (text == notModelled) = false) (hlimit : ¬ (stringBytes (stringToUtf16 text)).size > e.platform.arrayLengthLimit) (hheap : ¬ (stringBytes (stringToUtf16 text)).size * componentBytes .byte > e.platform.maxHeapBytes)
    {g : JFrame} (hsize : g.locals.size = c.maxLocals) {nf : NFrame} (hnf : nf.words = 0) (hRframes : names.length + 6 < R.frames) (hRlocals : 2 * g.monitorRoom + (g.stack.map fun v => v.category).sum + 10240 ≤ R.locals) (hshort : 13 * names.length + 68 ≤ 10240)
    (hRcells : cells + 3 ≤ R.cells) (hRslots : slots + ((stringBytes (stringToUtf16 text)).size + 4 + 6) ≤ R.slots) :
    ∃ (U : State) (L : List Loc) (cell : Cell), Stand p l e R s m args below meth c U (locs ++ L) (cells + 3) (slots + ((stringBytes (stringToUtf16 text)).size + 4 + 6)) ∧ (∀ q ∈ L, q.base = T'.heap.size + 2) ∧ U.heap.size = T'.heap.size + 3 ∧ (∀ q : Nat, q < T'.heap.size → U.heap[q]? = T'.heap[q]?) ∧ U.heap[T'.heap.size + 2]? = some cell ∧
      s.vm.findClass cls = some cell.cls ∧ cell.vm = .none ∧ (∀ (q : Nat) (cl : Cell), T'.heap.size ≤ q → U.heap[q]? = some cl → cl.vm.isStatics = false) ∧
      ∀ target, Steps p.tables e below (U.setFrames (.throwing (T'.heap.size + 2) :: .native nf :: .java g :: below)) target → Steps p.tables e below (T'.setFrames (.throwNew cls (some text) none :: .native nf :: .java g :: below)) target := by
  have howns : e.platform.frameOwnsMonitors = true := by rw [X.admits.platform]
  have hfin : e.platform.finalization = false := by rw [X.admits.platform]
  have hpl : e.platform.magicAccessors = ({} : Platform).magicAccessors := by rw [X.admits.platform]
  have a : ∀ x, x ∈ Bundle.messageArmAtoms cls names → x.holds args s none s [] = true := fun x hx => h x hx
  obtain ⟨T, Z0, L, -, Y⟩ := ThrowableC.of_atoms (args := args) howns hfin hpl (fun x hx => h x (by simp [Bundle.messageArmAtoms, hx]))
  obtain ⟨Z, M, LZ, LM, hnZ⟩ := Init0T.ofS_atoms (args := args) hpl L Y (fun x hx => h x (by simp [Bundle.messageArmAtoms, hx]))
  obtain ⟨P1, Ps, hlen, L1, hL, hP1m, hlink1, hlink⟩ := Bundle.chainS (args := args) hpl hnZ names cls hcls hnames (fun x hx => h x (by simp [Bundle.messageArmAtoms, hx]))
  obtain ⟨Zs, LZs, hn4, hfitv, hfitc⟩ := StringT.of_atoms (args := args) (fun x hx => h x (by simp [Bundle.messageArmAtoms, hx]))
  have hfound : s.vm.findClass cls = some P1.m.cls := findClass_of_methodNamed hP1m
  obtain ⟨c1, kX, hc1, hk, hord, -, -, hn6⟩ := Cond.instantiable_spec (a (.instantiable cls 6) (by simp [Bundle.messageArmAtoms]))
  cases Option.some.inj (hc1.symm.trans hfound)
  have hinit := Cond.initialized_spec hfound hk (a (.initialized cls) (by simp [Bundle.messageArmAtoms]))
  have hctor : kX.findMethod "<init>" "(Ljava/lang/String;)V" = some P1.m.idx := findMethod_of_methodNamed hP1m hk
  have hsel0 : selectMethod e.platform s.vm P1.m.cls T.fill0 = .method T.fill0 := by
    obtain ⟨c2, r2, m2, q1, q2, q3, q4, -⟩ := Cond.selects_spec (a (.selects cls Bundle.tFill0 Bundle.tFill0) (by simp [Bundle.messageArmAtoms]))
    cases Option.some.inj (q1.symm.trans hfound)
    cases Option.some.inj (q2.symm.trans (State.methodFound?_of_named Y.fill0 (by decide)))
    cases Option.some.inj (q3.symm.trans Y.fill0)
    rw [Launch.admits_selectMethod X.admits]; exact q4
  have hselF : selectMethod e.platform s.vm P1.m.cls T.fill = .method T.fill := by
    obtain ⟨c2, r2, m2, q1, q2, q3, q4, -⟩ := Cond.selects_spec (a (.selects cls Bundle.tFill Bundle.tFill) (by simp [Bundle.messageArmAtoms]))
    cases Option.some.inj (q1.symm.trans hfound)
    cases Option.some.inj (q2.symm.trans (State.methodFound?_of_named Y.fill (by decide)))
    cases Option.some.inj (q3.symm.trans Y.fill)
    rw [Launch.admits_selectMethod X.admits]; exact q4
  obtain ⟨cellS0, hcS0, hiss⟩ := Y.statics
  obtain ⟨u0, hu0⟩ := Cond.staticRefV Y.unassigned L.unassignedStatic L.statics hcS0 hiss (a (.isRef (.static Bundle.tN "UNASSIGNED_STACK" Bundle.steD)) (by simp [Bundle.messageArmAtoms]))
  obtain ⟨sen, hsen⟩ := Cond.staticRefV Y.sentinel L.sentinelStatic L.statics hcS0 hiss (a (.isRef (.static Bundle.tN "SUPPRESSED_SENTINEL" Bundle.listD)) (by simp [Bundle.messageArmAtoms]))
  obtain ⟨ci198, i198, fB, hk198, hg198, ha198, hsB, -, hnB, htB, hffB⟩ := Cond.ownField (t := .object "java/lang/Object") Y.found L.cls (by decide +kernel) (a (.fieldLink Bundle.tN 198 Bundle.tN "backtrace" "Ljava/lang/Object;") (by simp [Bundle.messageArmAtoms])) (a (.lays Bundle.tN Bundle.tN "backtrace" "Ljava/lang/Object;") (by simp [Bundle.messageArmAtoms])) e.platform hpl
  obtain ⟨cellS, hcS', heS, -, hkeep⟩ := X.same.2.2.2.2.2 T.aS cellS0 hcS0
  have hcellS : T'.heap[T.aS]? = some cellS := hcS'
  have hout' : ∀ i, (⟨T.aS, i⟩ : Loc) ∉ locs := fun i hmem => by
    have := hlocs _ hmem cellS0 hcS0
    rw [hiss] at this; cases this
  have hknownS : cellS.vm ≠ .unknown := by
    rw [heS]; intro hu
    rw [show cellS0.vm = .unknown from hu] at hiss
    cases hiss
  obtain ⟨iM, hffM⟩ := Y.msg
  obtain ⟨tyC, dC, hdC, hdnC⟩ := Cond.laysAt hfound hk Y.cause (a (.lays cls Bundle.tN "cause" "Ljava/lang/Throwable;") (by simp [Bundle.messageArmAtoms]))
  obtain ⟨tyS, dS, hdS, hdnS⟩ := Cond.laysAt hfound hk Y.stack (a (.lays cls Bundle.tN "stackTrace" Bundle.steD) (by simp [Bundle.messageArmAtoms]))
  obtain ⟨tyP, dP, hdP, hdnP⟩ := Cond.laysAt hfound hk Y.supp (a (.lays cls Bundle.tN "suppressedExceptions" Bundle.listD) (by simp [Bundle.messageArmAtoms]))
  obtain ⟨tyM, dM, hdM, hdnM⟩ := Cond.laysAt hfound hk hffM (a (.lays cls Bundle.tN "detailMessage" "Ljava/lang/String;") (by simp [Bundle.messageArmAtoms]))
  obtain ⟨tyB, dB, hdB, hdnB⟩ := Cond.laysAt hfound hk hffB (a (.lays cls Bundle.tN "backtrace" "Ljava/lang/Object;") (by simp [Bundle.messageArmAtoms]))
  have bC := Cond.laysApart hdB hdC hdnB hdnC (by rw [hnB, Y.causeName]; decide)
  have bS := Cond.laysApart hdB hdS hdnB hdnS (by rw [hnB, Y.stackName]; decide)
  have bP := Cond.laysApart hdB hdP hdnB hdnP (by rw [hnB, Y.suppName]; decide)
  have hskip : SkipFacts T e.platform s (fun u => u) u0 ((preparedCellV T.toThrowableT (freshCell P1.m.cls kX) (T'.heap.size + 2) u0 sen).withEntry T'.cur) :=
    ⟨{ ci198 := ci198, i198 := i198, fBack := fB }, ⟨hk198, hg198, ha198, hsB⟩, by
      have := fresh_default (c := P1.m.cls) tyB
      rw [htB] at this
      simpa [preparedCellV, Cell.setSlot, Cell.withEntry, Array.getElem?_setIfInBounds, bC, bS, bP, bC.symm, bS.symm, bP.symm, defaultValue] using this, fun _ _ => rfl⟩
  have hW := X.warmed
  have hov := nat_ov X g nf
  obtain ⟨hbeyond, hfreeW⟩ := nat_may X hsize hnf cls (some text) hRlocals
  have hlenB := nat_len X g nf (n := names.length + 5) (by omega)
  have huse := nat_use X hsize hnf (K := 13 * names.length + 68) (by omega)
  have hltS : T.aS < T'.heap.size := (Array.getElem?_eq_some_iff.mp hcellS).1
  obtain ⟨kX', hk', he'⟩ := hW.alike.2.2 _ _ hk
  have hty : kX'.instanceTypes = kX.instanceTypes := by rw [he']
  have hfresh : freshCell P1.m.cls kX' = freshCell P1.m.cls kX := by
    show ({ cls := P1.m.cls, slots := kX'.instanceTypes.map defaultValue, vm := .none } : Cell) = _
    rw [hty]
  obtain ⟨kS', kB', LZ', htyS⟩ := LZs.warmer hW.alike
  have hsame : withThrown T' { Zs with kS := kS', kB := kB' } text P1.m.cls kX' = withThrown T' Zs text P1.m.cls kX := by
    rw [← withThrown_warmer T' Zs (kB' := kB') htyS text P1.m.cls kX]
    show (withString T' _ _ _ _ _ _).pushCell (freshCell P1.m.cls kX') = (withString T' _ _ _ _ _ _).pushCell (freshCell P1.m.cls kX)
    rw [hfresh]
  have hfs : T'.fitsSlot = s.fitsSlot := (show T'.fitsSlot = (s.setVm T'.vm).fitsSlot from rfl).trans (State.fitsSlot_setVm hW.alike)
  obtain ⟨w1, w2, w3, w4, w5, w6, w7⟩ := withThrown_facts e.platform T' Zs text P1.m.cls kX
  have hWcur : (withThrown T' Zs text P1.m.cls kX).cur = T'.cur := by simp [withThrown, withString]
  have hovW : Ov (withThrown T' Zs text P1.m.cls kX) (.native nf :: .java g :: below) below := by
    refine ⟨⟨?_, ?_, ?_⟩, ?_, hov.2.2⟩
    · exact hov.1.1
    · simpa [withThrown, withString] using hov.1.2.1
    · simpa [withThrown, withString] using hov.1.2.2
    · exact hov.2.1
  have hWW : s.WarmedH (withThrown T' Zs text P1.m.cls kX).vm := by rw [w1]; exact hW
  have hlimN : e.platform.stackLimits ((withThrown T' Zs text P1.m.cls kX).setFrames (.thenThrow (T'.heap.size + 2) :: .native nf :: .java g :: below)).me = e.platform.stackLimits T'.me := by
    rw [State.stackLimits_setFrames]
    exact w7
  have hroom := roomAbove (pl := e.platform) (u := (withThrown T' Zs text P1.m.cls kX).setFrames (.thenThrow (T'.heap.size + 2) :: .native nf :: .java g :: below)) (vars := 2) (pushed := [.thenThrow (T'.heap.size + 2)]) (base := .native nf :: .java g :: below) (free := 13 * names.length + 68) (lim := e.platform.stackLimits T'.me) (hovW.fr _) hlimN
    (by simp only [List.length_cons, List.length_nil] at hlenB ⊢; omega) huse (by rw [stackUse_light _ _ (fun f hf => by cases hf) rfl, stackUse_nil]; show 0 + 2 + 11 ≤ _; omega)
  obtain ⟨vm', hW', st⟩ := ov_ctorS (tb := p.tables) hovW hexec (H := fun u => u.setCell (T'.heap.size + 2) (((((preparedCellV T.toThrowableT (freshCell P1.m.cls kX) (T'.heap.size + 2) u0 sen).withEntry T'.cur).setSlot T.fStack.slot u0.v).left).setSlot T.fMsg.slot (.ref (T'.heap.size + 1)))) (heapOnly_id.thenSetCell (T'.heap.size + 2) _) P1 L1 hWW (T'.heap.size + 2) (T'.heap.size + 1) hroom (fun vm1 hW1 hI1 => by
    obtain ⟨-, hfI⟩ := (hovW.vm (hWW.alike.symm.trans hW1.alike)).inside (T'.heap.size + 2) (passJ P1.m (T'.heap.size + 2) (.ref (T'.heap.size + 1)) 0 []) (hW1.methodAt L1.method) L1.code (hW1.plainAt (U := (withThrown T' Zs text P1.m.cls kX).setVm vm1) L1.plain)
    have hXvm : ∀ w, ((((withThrown T' Zs text P1.m.cls kX).setVm vm1).setFrames (.thenThrow (T'.heap.size + 2) :: .native nf :: .java g :: below)).pushFrame (.java (passJ P1.m (T'.heap.size + 2) (.ref (T'.heap.size + 1)) 0 []))).setVm w = ((((withThrown T' Zs text P1.m.cls kX).setVm w).setFrames (.thenThrow (T'.heap.size + 2) :: .native nf :: .java g :: below)).pushFrame (.java (passJ P1.m (T'.heap.size + 2) (.ref (T'.heap.size + 1)) 0 []))) := fun w => by
      rw [State.pushFrame_setVm, State.setFrames_setVm, State.setVm_twice]
    have hXlim : e.platform.stackLimits ((((withThrown T' Zs text P1.m.cls kX).setVm vm1).setFrames (.thenThrow (T'.heap.size + 2) :: .native nf :: .java g :: below)).pushFrame (.java (passJ P1.m (T'.heap.size + 2) (.ref (T'.heap.size + 1)) 0 []))).me = e.platform.stackLimits T'.me := by
      rw [State.stackLimits_pushFrame, State.stackLimits_setFrames]
      exact w7
    have key := Steps.initThrowableSColdByV p (V := (((withThrown T' Zs text P1.m.cls kX).setVm vm1).setFrames (.thenThrow (T'.heap.size + 2) :: .native nf :: .java g :: below)).pushFrame (.java (passJ P1.m (T'.heap.size + 2) (.ref (T'.heap.size + 1)) 0 []))) (g := passJ P1.m (T'.heap.size + 2) (.ref (T'.heap.size + 1)) 2 []) (c := P1.code) (self := T'.heap.size + 2) hI1 hexec T L Z LZ M LM (t := T'.cur) hW1 hWcur
      (Nn := fun u => u) heapOnly_id (fun _ _ => rfl) (fun _ => rfl) (fun u x y => setCell_twice _ _ _ _) (fun _ => Nat.le_refl _) (cell := freshCell P1.m.cls kX) (cellS := cellS) (cN := ((preparedCellV T.toThrowableT (freshCell P1.m.cls kX) (T'.heap.size + 2) u0 sen).withEntry T'.cur)) (msg := .ref (T'.heap.size + 1)) rfl w4
      (by intro k hk'; cases hk') (by intro hk'; cases hk') rfl hsel0 ((w5 _ hltS).trans hcellS) (Nat.ne_of_lt (Nat.lt_of_lt_of_le hltS (Nat.le_add_right _ 2))) hknownS (by rw [hkeep _ (hout' _)]; exact hu0)
      (Takes.of_laid hk hord tyS (by rw [Y.stackType]; exact fits_refV_array _ u0)) (fun _ hu => hu) (fun _ hu => hu) rfl rfl rfl (by simp [preparedCellV, Cell.setSlot, Cell.withEntry]) hskip
      (fun _ _ hA hW2 _ hroom2 _ hrest => L.nativeOff p htr hA hW2 hroom2 hrest) hselF (by rw [hkeep _ (hout' _)]; exact hsen) (Takes.of_laid hk hord tyC (by rw [Y.causeType]; rfl)) (Takes.of_laid hk hord tyP (by rw [Y.suppType]; exact fits_refV_object _ sen)) (Takes.of_laid hk hord tyM (by rw [Y.msgType]; rfl)) Y.objLocals Ps hL hlink (ig := .invokespecial P1.index) (len := 3) [] hXlim
      (by rw [hfI]; simp only [List.length_cons, List.length_nil] at hlenB ⊢; omega)
      (by rw [hfI, List.tail_cons, stackUse_java, stackUse_light _ _ (fun f hf => by cases hf) rfl]
          show (stackUse (.native nf :: .java g :: below)).2 + (2 + 11 + 2 * 0 + operandWords []) + 13 * Ps.length + 42 ≤ _
          simp only [operandWords, List.foldl_nil]
          omega) L1.at2
    obtain ⟨vm2, hW2, st2⟩ := key
    refine ⟨vm2, hW2, fun t' h' => ?_⟩
    rw [hlink1]
    exact st2 t' (by rw [hXvm]; exact h'))
  rw [plainBareV_eq T.toThrowableT (T'.heap.size + 2) u0 sen (.ref (T'.heap.size + 1)) T'.cur rfl rfl] at st
  have X3 := ((X.pushed (bytesOf Zs.cB (stringToUtf16 text))).pushed (stringAt Zs.cS Zs.kS Zs.fv Zs.fc (stringToUtf16 text) T'.heap.size)).pushed (freshCell P1.m.cls kX)
  rw [← withString_eq] at X3
  have X4 := X3.noted hW'
  have ha : T'.heap.size + 2 < ((withThrown T' Zs text P1.m.cls kX).setVm vm').heap.size := by show _ < (withThrown T' Zs text P1.m.cls kX).heap.size; rw [w3]; omega
  have hcell : ((withThrown T' Zs text P1.m.cls kX).setVm vm').heap[T'.heap.size + 2]? = some (freshCell P1.m.cls kX) := w4
  have X5 := ((((X4.stored hcell T.fCause.slot (.ref (T'.heap.size + 2))).storedAgain ha T.fStack.slot u0.v).storedAgain ha T.fSupp.slot sen.v).storedAgain ha T.fStack.slot u0.v).storedAgain ha T.fMsg.slot (.ref (T'.heap.size + 1))
  have b1 : (bytesOf Zs.cB (stringToUtf16 text)).slots.size = (stringBytes (stringToUtf16 text)).size := by
    rw [(Cell.writeAll_facts _ _).2.2]; simp [bytes0]
  have b2 : (stringAt Zs.cS Zs.kS Zs.fv Zs.fc (stringToUtf16 text) T'.heap.size).slots.size = 4 := by simp [string0, Cell.setSlot, hn4]
  have b3 : (freshCell P1.m.cls kX).slots.size = 6 := by simp [hn6]
  rw [b1, b2, b3] at X5
  simp only [List.append_assoc] at X5
  obtain ⟨wa, wb⟩ := withThrown_two T' Zs text P1.m.cls kX
  have hslots : T'.slotsUsed + (stringBytes (stringToUtf16 text)).size + Zs.kS.instanceTypes.size + kX.instanceTypes.size ≤ e.platform.maxSlots := by
    have := X.slotsAbove hRslots
    rw [hn4, hn6]
    omega
  refine ⟨((withThrown T' Zs text P1.m.cls kX).setVm vm').setCell (T'.heap.size + 2) (plainBareV T.toThrowableT (freshCell P1.m.cls kX) (T'.heap.size + 2) u0 sen (.ref (T'.heap.size + 1))), [⟨T'.heap.size + 2, T.fCause.slot⟩, ⟨T'.heap.size + 2, T.fStack.slot⟩, ⟨T'.heap.size + 2, T.fSupp.slot⟩, ⟨T'.heap.size + 2, T.fStack.slot⟩, ⟨T'.heap.size + 2, T.fMsg.slot⟩], plainBareV T.toThrowableT (freshCell P1.m.cls kX) (T'.heap.size + 2) u0 sen (.ref (T'.heap.size + 1)), ?_, fun q hq => ?_, ?_, fun q hq => ?_, heapAt_setCell_self (s := (withThrown T' Zs text P1.m.cls kX).setVm vm') _ ha, hfound, rfl, fun q cl hq hcl => ?_, fun target hrest => ?_⟩
  · have X6 := X5
    have e3 : cells + 1 + 1 + 1 = cells + 3 := by omega
    have e4 : slots + (stringBytes (stringToUtf16 text)).size + 4 + 6 = slots + ((stringBytes (stringToUtf16 text)).size + 4 + 6) := by omega
    rw [e3, e4] at X6
    exact X6
  · simp only [List.mem_cons, List.not_mem_nil, or_false] at hq
    rcases hq with rfl | rfl | rfl | rfl | rfl <;> rfl
  · rw [← w3]
    simp [State.setCell]
  · rw [State.heap_setCell_other (show T'.heap.size + 2 ≠ q from fun z => by omega)]
    exact w5 q hq
  · by_cases z : q = T'.heap.size + 2
    · subst z
      rw [heapAt_setCell_self (s := (withThrown T' Zs text P1.m.cls kX).setVm vm') _ ha] at hcl
      cases hcl
      rfl
    · rw [State.heap_setCell_other (Ne.symm z)] at hcl
      have hcl' : (withThrown T' Zs text P1.m.cls kX).heap[q]? = some cl := hcl
      have hlt := (Array.getElem?_eq_some_iff.mp hcl').1
      rw [w3] at hlt
      rcases (show q = T'.heap.size ∨ q = T'.heap.size + 1 by omega) with z1 | z1
      · rw [z1, wa] at hcl'
        cases hcl'
        rw [(bytesOf_plain Zs.cB (stringToUtf16 text)).2.1]
        rfl
      · rw [z1, wb] at hcl'
        cases hcl'
        rfl
  · refine ov_noteS hov { Zs with kS := kS', kB := kB' } LZ' (cX := P1.m.cls) (kX := kX') (i := P1.m.idx) hsoe hoom (by rw [hW.alike.findClass]; exact hfound) hk' (by rw [he']; exact hinit) (by rw [he']; exact hord) (Launch.admits_hotImplicitExceptions X.admits) hbeyond hfreeW htext (by rw [he']; exact hctor) hlimit hheap (X.cellsAbove hRcells) (by show T'.slotsUsed + _ + kS'.instanceTypes.size + kX'.instanceTypes.size ≤ _; rw [htyS, hty]; exact hslots) (by rw [hfs]; exact hfitv _) (by rw [hfs]; exact hfitc _) ?_
    rw [hsame]
    exact st target hrest
end NATM
