/-! ===== the machine's own exceptions over any frames ===== -/
set_option maxRecDepth 100000
/-- a thread that goes on, whatever lies on its stack above 'below' -/
def Ov (s : State) (B below : List Frame) : Prop := s.goesOn ∧ s.cur < s.threads.size ∧ ∃ mid, B = mid ++ below
section OV
variable {s W : State} {B below : List Frame}
theorem Ov.fr (h : Ov s B below) (F : List Frame) : (s.setFrames F).frames = F := State.frames_setFrames _ h.2.1
theorem Ov.go (h : Ov s B below) (F : List Frame) : (s.setFrames F).goesOn := ⟨h.1.1, by simpa using h.1.2.1, by simpa using h.1.2.2⟩
theorem Ov.in' (h : Ov s B below) (x : Frame) (hx : ∀ a, x ≠ .throwing a) : Within (s.setFrames (x :: B)) below := by
  obtain ⟨mid, hm⟩ := h.2.2
  refine ⟨x :: mid, by rw [h.fr, hm]; rfl, by simp, ?_⟩
  intro hz hy
  simp at hy
  exact hx _ hy.1
theorem Ov.inside (h : Ov W B below) (a : Addr) (x : JFrame) {m : MethodId} {meth : Method} {code : Code} (hm : W.vm.method? m = some meth) (hc : meth.code = some code) (hplain : W.plainMethod m) :
    At ((W.setFrames (.thenThrow a :: B)).pushFrame (.java x)) m code below ∧ ((W.setFrames (.thenThrow a :: B)).pushFrame (.java x)).frames = .java x :: .thenThrow a :: B := by
  obtain ⟨mid, hmid⟩ := h.2.2
  have hfN := h.fr (.thenThrow a :: B)
  have hcurN := State.cur_lt_of_frames hfN
  refine ⟨At.pushOn _ (h.go _) hcurN ⟨.thenThrow a :: mid, by rw [hfN, hmid]; rfl⟩ hm hc hplain, ?_⟩
  rw [show ((W.setFrames (.thenThrow a :: B)).pushFrame (.java x)).frames = .java x :: (W.setFrames (.thenThrow a :: B)).frames from State.frames_setFrames _ hcurN, hfN]
theorem Ov.vm (h : Ov s B below) {vm' : Vm} (ha : s.vm.Alike vm') : Ov (s.setVm vm') B below := ⟨⟨h.1.1, h.1.2.1, h.1.2.2⟩, h.2.1, h.2.2⟩
end OV
theorem ov_note {tb : Tables} {e : Env} {below B : List Frame} {s target : State} {cls : String} {cX : ClassId} {kX : Class} {i : Nat} (h : Ov s B below) (hsoe : (cls == "java/lang/StackOverflowError") = false) (hoom : (cls == "java/lang/OutOfMemoryError") = false)
    (hfound : s.vm.findClass cls = some cX) (hk : s.vm.classes[cX]? = some kX) (hinit : kX.init = .initialized) (hord : kX.kind = .ordinary) (hhot : e.platform.hotImplicitExceptions = false)
    (hbeyond : e.platform.stackBeyond (((((s.setFrames (.throwNew cls none none :: B)).threads[s.cur]?).map (·.stackBytes)).getD 0)) (.throwNew cls none none :: B) = false)
    (hfree : e.platform.vmThrowRoom ≤ e.platform.stackFree (((((s.setFrames (.throwNew cls none none :: B)).threads[s.cur]?).map (·.stackBytes)).getD 0)) (.throwNew cls none none :: B))
    (hctor : kX.findMethod "<init>" "()V" = some i) (hcells : s.heap.size + 1 ≤ e.platform.maxCells) (hslots : s.slotsUsed + kX.instanceTypes.size ≤ e.platform.maxSlots)
    (hrest : Steps tb e below (doInvoke e ((s.pushCell (freshCell cX kX)).setFrames (.thenThrow s.heap.size :: B)) [] ⟨cX, i⟩ #[.ref s.heap.size]).1 target) : Steps tb e below (s.setFrames (.throwNew cls none none :: B)) target := by
  have hf0 := h.fr (.throwNew cls none none :: B)
  refine Steps.head (h.go _) (h.in' _ (fun a h => by cases h)) ?_
  rw [stepThread_throwNew hf0, stepThrowNew_plain (s := s.setFrames (.throwNew cls none none :: B)) (c := cX) (k := kX) (i := i) hsoe hoom hfound hk hinit hord hhot (by rw [hf0]; exact hbeyond) (by rw [hf0]; exact hfree) hctor hcells hslots]
  have hN : ((s.setFrames (.throwNew cls none none :: B)).pushCell (freshCell cX kX)).setFrames (.thenThrow ((s.setFrames (.throwNew cls none none :: B)).heap.size) :: B) = ((s.pushCell (freshCell cX kX)).setFrames (.thenThrow s.heap.size :: B)) := by
    rw [State.pushCell_setFrames, State.setFrames_setFrames]
    rfl
  rw [hN]
  exact hrest
theorem ov_noteS {tb : Tables} {e : Env} {below B : List Frame} {s target : State} {cls m : String} {cX : ClassId} {kX : Class} {i : Nat} (h : Ov s B below) (Z : StringT) (LZ : Z.Laid s.vm) (hsoe : (cls == "java/lang/StackOverflowError") = false) (hoom : (cls == "java/lang/OutOfMemoryError") = false)
    (hfound : s.vm.findClass cls = some cX) (hk : s.vm.classes[cX]? = some kX) (hinit : kX.init = .initialized) (hord : kX.kind = .ordinary) (hhot : e.platform.hotImplicitExceptions = false)
    (hbeyond : e.platform.stackBeyond (((((s.setFrames (.throwNew cls (some m) none :: B)).threads[s.cur]?).map (·.stackBytes)).getD 0)) (.throwNew cls (some m) none :: B) = false)
    (hfree : e.platform.vmThrowRoom ≤ e.platform.stackFree (((((s.setFrames (.throwNew cls (some m) none :: B)).threads[s.cur]?).map (·.stackBytes)).getD 0)) (.throwNew cls (some m) none :: B))
    (hm : (m == notModelled) = false) (hctor : kX.findMethod "<init>" "(Ljava/lang/String;)V" = some i)
    (hlimit : ¬ (stringBytes (stringToUtf16 m)).size > e.platform.arrayLengthLimit) (hheap : ¬ (stringBytes (stringToUtf16 m)).size * componentBytes .byte > e.platform.maxHeapBytes)
    (hcells : s.heap.size + 3 ≤ e.platform.maxCells) (hslots : s.slotsUsed + (stringBytes (stringToUtf16 m)).size + Z.kS.instanceTypes.size + kX.instanceTypes.size ≤ e.platform.maxSlots)
    (hfitv : s.fitsSlot Z.cS .none Z.fv.slot (.ref s.heap.size) = true) (hfitc : s.fitsSlot Z.cS .none Z.fc.slot (.int (stringCoder (stringToUtf16 m))) = true)
    (hrest : Steps tb e below (doInvoke e ((withThrown s Z m cX kX).setFrames (.thenThrow (s.heap.size + 2) :: B)) [] ⟨cX, i⟩ #[.ref (s.heap.size + 2), .ref (s.heap.size + 1)]).1 target) : Steps tb e below (s.setFrames (.throwNew cls (some m) none :: B)) target := by
  have hf0 := h.fr (.throwNew cls (some m) none :: B)
  refine Steps.head (h.go _) (h.in' _ (fun a h => by cases h)) ?_
  rw [stepThread_throwNew hf0, stepThrowNew_message (s := s.setFrames (.throwNew cls (some m) none :: B)) (c := cX) (k := kX) (i := i) Z LZ hsoe hoom hfound hk hinit hord hhot (by rw [hf0]; exact hbeyond) (by rw [hf0]; exact hfree) hm hctor hlimit hheap hcells hslots hfitv hfitc]
  have hN : (withThrown (s.setFrames (.throwNew cls (some m) none :: B)) Z m cX kX).setFrames (.thenThrow ((s.setFrames (.throwNew cls (some m) none :: B)).heap.size + 2) :: B) = ((withThrown s Z m cX kX).setFrames (.thenThrow (s.heap.size + 2) :: B)) := by
    rw [withThrown_setFrames, State.setFrames_setFrames]
    rfl
  rw [hN]
  exact hrest
theorem ov_ret0 {tb : Tables} [Ours tb] {e : Env} {below B : List Frame} {W target : State} (h : Ov W B below) (hexec : tb.exec = Jvm.exec) {H : State → State} (hH : HeapOnly H) (a : Addr) {m : MethodId} {meth : Method} {code : Code}
    (hm : W.vm.method? m = some meth) (hc : meth.code = some code) (hplain : W.plainMethod m) (hl : meth.locks = false) (h5 : decode code.code 4 = .ok (.return_, 1))
    (hrest : Steps tb e below ((H W).setFrames (.throwing a :: B)) target) : Steps tb e below ((H ((W.setFrames (.thenThrow a :: B)).pushFrame (.java (pass0J m a 0 [])))).setTop (pass0J m a 4 [])) target := by
  obtain ⟨hI, hfI⟩ := h.inside a (pass0J m a 0 []) hm hc hplain
  have hB : At (H ((W.setFrames (.thenThrow a :: B)).pushFrame (.java (pass0J m a 0 [])))) m code below := hH.at_ hI
  jvm_step hB [hexec, h5, Op.return_.wp_sem]
  intro acts2
  have hfH : (H ((W.setFrames (.thenThrow a :: B)).pushFrame (.java (pass0J m a 0 [])))).frames = .java (pass0J m a 0 []) :: .thenThrow a :: B := by rw [hH.frames]; exact hfI
  rw [ret_to (t := H ((W.setFrames (.thenThrow a :: B)).pushFrame (.java (pass0J m a 0 [])))) (f := (pass0J m a 4 [])) (f₀ := (pass0J m a 0 [])) (below := .thenThrow a :: B) (fs := .thenThrow a :: B) (meth := meth) hfH (by rw [hH.vm]; exact hm) hl rfl rfl rfl acts2]
  have hcurH := State.cur_lt_of_frames hfH
  have hf1 : ((H ((W.setFrames (.thenThrow a :: B)).pushFrame (.java (pass0J m a 0 [])))).setFrames (.thenThrow a :: B)).frames = .thenThrow a :: B := State.frames_setFrames _ hcurH
  obtain ⟨mid, hmid⟩ := h.2.2
  refine Steps.head ⟨hB.running, by simpa using hB.runnable, by simpa using hB.alone⟩ ⟨.thenThrow a :: mid, by rw [hf1, hmid]; rfl, by simp, by intro hz hy; simp at hy⟩ ?_
  rw [stepThread_thenThrow hf1]
  show Steps tb e below (((H ((W.setFrames (.thenThrow a :: B)).pushFrame (.java (pass0J m a 0 [])))).setFrames (.thenThrow a :: B)).setFrames (.throwing a :: B)) target
  have hHI : ∀ F, (H ((W.setFrames (.thenThrow a :: B)).pushFrame (.java (pass0J m a 0 [])))).setFrames F = (H W).setFrames F := by
    intro F
    rw [State.pushFrame, hH.setFrames, hH.setFrames, State.setFrames_setFrames, State.setFrames_setFrames]
  rw [State.setFrames_setFrames, hHI]
  exact hrest
theorem ov_ctor0 {tb : Tables} [Ours tb] {e : Env} {below B : List Frame} {s₀ W : State} (h : Ov W B below) (hexec : tb.exec = Jvm.exec) {H : State → State} (hH : HeapOnly H) (P1 : PassC) (L1 : P1.Links0 e.platform s₀) (hW : s₀.WarmedH W.vm) (a : Addr) 
    (hroom : e.platform.stackFull (((W.setFrames (.thenThrow a :: B)).threads[(W.setFrames (.thenThrow a :: B)).cur]?).getD { frames := [] }) (W.setFrames (.thenThrow a :: B)).frames 1 = false)
    (hsup : ∀ vm1, s₀.WarmedH vm1 → At (((W.setVm vm1).setFrames (.thenThrow a :: B)).pushFrame (.java (pass0J P1.m a 0 []))) P1.m P1.code below → ∃ vm2, s₀.WarmedH vm2 ∧ ∀ t' : State,
      Steps tb e below ((H (((W.setVm vm2).setFrames (.thenThrow a :: B)).pushFrame (.java (pass0J P1.m a 0 [])))).setTop (pass0J P1.m a 4 [])) t' → Steps tb e below (doInvoke e ((((W.setVm vm1).setFrames (.thenThrow a :: B)).pushFrame (.java (pass0J P1.m a 0 []))).setTop (pass0J P1.m a 1 [])) [] P1.sup #[.ref a]).1 t') :
    ∃ vm', s₀.WarmedH vm' ∧ ∀ target, Steps tb e below ((H (W.setVm vm')).setFrames (.throwing a :: B)) target → Steps tb e below (doInvoke e (W.setFrames (.thenThrow a :: B)) [] P1.m #[.ref a]).1 target := by
  have hmW := hW.methodAt L1.method
  obtain ⟨hI, hfI⟩ := h.inside a (pass0J P1.m a 0 []) hmW L1.code (hW.plainAt L1.plain)
  obtain ⟨vm1, hW1, st1⟩ := Steps.invokeInitCold (tb := tb) (s₀ := s₀) (U := ((W.setFrames (.thenThrow a :: B)).pushFrame (.java (pass0J P1.m a 0 [])))) (f := (pass0J P1.m a 1 [.ref a])) (args := []) (rest := []) (a := a) hI hexec L1.at1 hW L1.links L1.right L1.notHandle L1.cls L1.file L1.pool
    L1.supClass L1.supMethod L1.supName L1.supStatic L1.supAbstract L1.supFound L1.supParams.symm rfl
  obtain ⟨vm2, hW2, st2⟩ := hsup vm1 hW1 (hI.setVm (hW.alike.symm.trans hW1.alike))
  refine ⟨vm2, hW2, fun target hrest => ?_⟩
  rw [(doInvoke_java (s := (W.setFrames (.thenThrow a :: B))) (e := e) (acts := []) (args := #[.ref a]) (meth := P1.meth) (code := P1.code) hmW L1.code L1.locks (by rw [L1.locals]; exact hroom)).1, L1.locals]
  show Steps tb e below ((W.setFrames (.thenThrow a :: B)).pushFrame (.java (pass0J P1.m a 0 []))) target
  rw [← State.setTop_self (s := ((W.setFrames (.thenThrow a :: B)).pushFrame (.java (pass0J P1.m a 0 [])))) (State.topJava?_of_frames hfI)]
  jvm_step hI [hexec, L1.at0, Value.isRef]
  refine st1 target (st2 target ?_)
  exact ov_ret0 (W := W.setVm vm2) (h.vm (hW.alike.symm.trans hW2.alike)) hexec hH a (hW2.methodAt L1.method) L1.code (hW2.plainAt (U := W.setVm vm2) L1.plain) L1.locks L1.at4 hrest
theorem ov_retS {tb : Tables} [Ours tb] {e : Env} {below B : List Frame} {W target : State} (h : Ov W B below) (hexec : tb.exec = Jvm.exec) {H : State → State} (hH : HeapOnly H) (a : Addr) (str : Addr) {m : MethodId} {meth : Method} {code : Code}
    (hm : W.vm.method? m = some meth) (hc : meth.code = some code) (hplain : W.plainMethod m) (hl : meth.locks = false) (h5 : decode code.code 5 = .ok (.return_, 1))
    (hrest : Steps tb e below ((H W).setFrames (.throwing a :: B)) target) : Steps tb e below ((H ((W.setFrames (.thenThrow a :: B)).pushFrame (.java (passJ m a (.ref str) 0 [])))).setTop (passJ m a (.ref str) 5 [])) target := by
  obtain ⟨hI, hfI⟩ := h.inside a (passJ m a (.ref str) 0 []) hm hc hplain
  have hB : At (H ((W.setFrames (.thenThrow a :: B)).pushFrame (.java (passJ m a (.ref str) 0 [])))) m code below := hH.at_ hI
  jvm_step hB [hexec, h5, Op.return_.wp_sem]
  intro acts2
  have hfH : (H ((W.setFrames (.thenThrow a :: B)).pushFrame (.java (passJ m a (.ref str) 0 [])))).frames = .java (passJ m a (.ref str) 0 []) :: .thenThrow a :: B := by rw [hH.frames]; exact hfI
  rw [ret_to (t := H ((W.setFrames (.thenThrow a :: B)).pushFrame (.java (passJ m a (.ref str) 0 [])))) (f := (passJ m a (.ref str) 5 [])) (f₀ := (passJ m a (.ref str) 0 [])) (below := .thenThrow a :: B) (fs := .thenThrow a :: B) (meth := meth) hfH (by rw [hH.vm]; exact hm) hl rfl rfl rfl acts2]
  have hcurH := State.cur_lt_of_frames hfH
  have hf1 : ((H ((W.setFrames (.thenThrow a :: B)).pushFrame (.java (passJ m a (.ref str) 0 [])))).setFrames (.thenThrow a :: B)).frames = .thenThrow a :: B := State.frames_setFrames _ hcurH
  obtain ⟨mid, hmid⟩ := h.2.2
  refine Steps.head ⟨hB.running, by simpa using hB.runnable, by simpa using hB.alone⟩ ⟨.thenThrow a :: mid, by rw [hf1, hmid]; rfl, by simp, by intro hz hy; simp at hy⟩ ?_
  rw [stepThread_thenThrow hf1]
  show Steps tb e below (((H ((W.setFrames (.thenThrow a :: B)).pushFrame (.java (passJ m a (.ref str) 0 [])))).setFrames (.thenThrow a :: B)).setFrames (.throwing a :: B)) target
  have hHI : ∀ F, (H ((W.setFrames (.thenThrow a :: B)).pushFrame (.java (passJ m a (.ref str) 0 [])))).setFrames F = (H W).setFrames F := by
    intro F
    rw [State.pushFrame, hH.setFrames, hH.setFrames, State.setFrames_setFrames, State.setFrames_setFrames]
  rw [State.setFrames_setFrames, hHI]
  exact hrest
theorem ov_ctorS {tb : Tables} [Ours tb] {e : Env} {below B : List Frame} {s₀ W : State} (h : Ov W B below) (hexec : tb.exec = Jvm.exec) {H : State → State} (hH : HeapOnly H) (P1 : PassC) (L1 : P1.LinksS e.platform s₀) (hW : s₀.WarmedH W.vm) (a : Addr) (str : Addr) 
    (hroom : e.platform.stackFull (((W.setFrames (.thenThrow a :: B)).threads[(W.setFrames (.thenThrow a :: B)).cur]?).getD { frames := [] }) (W.setFrames (.thenThrow a :: B)).frames 2 = false)
    (hsup : ∀ vm1, s₀.WarmedH vm1 → At (((W.setVm vm1).setFrames (.thenThrow a :: B)).pushFrame (.java (passJ P1.m a (.ref str) 0 []))) P1.m P1.code below → ∃ vm2, s₀.WarmedH vm2 ∧ ∀ t' : State,
      Steps tb e below ((H (((W.setVm vm2).setFrames (.thenThrow a :: B)).pushFrame (.java (passJ P1.m a (.ref str) 0 [])))).setTop (passJ P1.m a (.ref str) 5 [])) t' → Steps tb e below (doInvoke e ((((W.setVm vm1).setFrames (.thenThrow a :: B)).pushFrame (.java (passJ P1.m a (.ref str) 0 []))).setTop (passJ P1.m a (.ref str) 2 [])) [] P1.sup #[.ref a, .ref str]).1 t') :
    ∃ vm', s₀.WarmedH vm' ∧ ∀ target, Steps tb e below ((H (W.setVm vm')).setFrames (.throwing a :: B)) target → Steps tb e below (doInvoke e (W.setFrames (.thenThrow a :: B)) [] P1.m #[.ref a, .ref str]).1 target := by
  have hmW := hW.methodAt L1.method
  obtain ⟨hI, hfI⟩ := h.inside a (passJ P1.m a (.ref str) 0 []) hmW L1.code (hW.plainAt L1.plain)
  obtain ⟨vm1, hW1, st1⟩ := Steps.invokeInitCold (tb := tb) (s₀ := s₀) (U := ((W.setFrames (.thenThrow a :: B)).pushFrame (.java (passJ P1.m a (.ref str) 0 [])))) (f := (passJ P1.m a (.ref str) 2 [.ref str, .ref a])) (args := [.ref str]) (rest := []) (a := a) hI hexec L1.at2 hW L1.links L1.right L1.notHandle L1.cls L1.file L1.pool
    L1.supClass L1.supMethod L1.supName L1.supStatic L1.supAbstract L1.supFound L1.supParams.symm rfl
  obtain ⟨vm2, hW2, st2⟩ := hsup vm1 hW1 (hI.setVm (hW.alike.symm.trans hW1.alike))
  refine ⟨vm2, hW2, fun target hrest => ?_⟩
  rw [(doInvoke_java (s := (W.setFrames (.thenThrow a :: B))) (e := e) (acts := []) (args := #[.ref a, .ref str]) (meth := P1.meth) (code := P1.code) hmW L1.code L1.locks (by rw [L1.locals]; exact hroom)).1, L1.locals]
  show Steps tb e below ((W.setFrames (.thenThrow a :: B)).pushFrame (.java (passJ P1.m a (.ref str) 0 []))) target
  rw [← State.setTop_self (s := ((W.setFrames (.thenThrow a :: B)).pushFrame (.java (passJ P1.m a (.ref str) 0 [])))) (State.topJava?_of_frames hfI)]
  jvm_step hI [hexec, L1.at0, Value.isRef]
  jvm_step hI [hexec, L1.at1, Value.isRef]
  refine st1 target (st2 target ?_)
  exact ov_retS (W := W.setVm vm2) (h.vm (hW.alike.symm.trans hW2.alike)) hexec hH a str (hW2.methodAt L1.method) L1.code (hW2.plainAt (U := W.setVm vm2) L1.plain) L1.locks L1.at5 hrest
