/-! ===== a native method throws: its call, its frame's end ===== -/
set_option maxRecDepth 100000
section NATC
variable {tb : Tables} {e : Env} {below : List Frame} {s target : State} {g : JFrame} {c : Code}
theorem nat_call (h : At s g.method c below) {m : MethodId} {meth : Method} {k : Class} {row : NativeRow} {args : Array Value} (acts : List Action) (hk : s.vm.classes[m.cls]? = some k) (hx : k.methods[m.idx]? = some meth) (hboot : k.loader = none)
    (hnat : meth.isNative = true) (hc : meth.code = none) (hl : meth.locks = false) (hrow : NativeRow.find? tb.natives k.name meth.name meth.desc = some row)
    (hroom : e.platform.stackFull (((s.setTop g).threads[(s.setTop g).cur]?).getD { frames := [] }) (s.setTop g).frames (nativeFrameWords k.name meth.name (operandWords args.toList)) = false) {cls : String} {msg : Option String}
    (hw : wpRun (row.sem (seenByNative meth args)) (fun _ _ _ => False) (fun x s₁ _ => x = .throwNew cls msg ∧ s₁ = (s.setTop g).pushFrame (.native { method := m, args := seenByNative meth args, locked := none })) e ((s.setTop g).pushFrame (.native { method := m, args := seenByNative meth args, locked := none })))
    (hrest : Steps tb e below (((s.setTop g).pushFrame (.native { method := m, args := seenByNative meth args, locked := none })).pushFrame (.throwNew cls msg none)) target) : Steps tb e below (doInvoke e (s.setTop g) acts m args).1 target := by
  have hm : (s.setTop g).vm.method? m = some meth := by
    show s.vm.method? m = some meth
    simp [Vm.method?, hk, hx]
  have hroom' : e.platform.stackFull (((s.setTop g).threads[(s.setTop g).cur]?).getD { frames := [] }) (s.setTop g).frames (nativeFrameWords ((((s.setTop g).vm.classes[m.cls]?).map (·.name)).getD "") meth.name (operandWords args.toList)) = false := by
    have : (((s.setTop g).vm.classes[m.cls]?).map (·.name)).getD "" = k.name := by
      show ((s.vm.classes[m.cls]?).map (·.name)).getD "" = k.name
      simp [hk]
    rw [this]; exact hroom
  rw [(Fast.doInvoke_native (s := s.setTop g) (e := e) (acts := acts) (args := args) hm hnat hc hl hroom').1]
  have hfe := frames_entered (g := g) h.top (.native { method := m, args := seenByNative meth args, locked := none })
  obtain ⟨mid, hmid⟩ := h.above
  refine Steps.head ⟨h.running, by simpa using h.runnable, by simpa using h.alone⟩
    ⟨.native { method := m, args := seenByNative meth args, locked := none } :: .java g :: mid, by rw [hfe, hmid]; rfl, by simp, by simp⟩ ?_
  rw [stepThread_native (f := { method := m, args := seenByNative meth args, locked := none }) (k := k) (x := meth) (row := row) hfe hk hx hboot hrow rfl]
  have hw := (wpRun_iff_run _ _ _ _ _).mp hw
  cases hr : (row.sem (seenByNative meth args)).run e ((s.setTop g).pushFrame (.native { method := m, args := seenByNative meth args, locked := none })) with
  | ok v s₁ acts₁ => rw [hr] at hw; exact hw.elim
  | ctl x s₁ acts₁ =>
    rw [hr] at hw
    cases x <;> first | exact hw.elim | (obtain ⟨h1, h2⟩ := hw; cases h1; done) | (obtain ⟨h1, h2⟩ := hw; cases h1; subst h2; exact hrest)
/-- the frame of the native method ends -/
theorem nat_pop {B : List Frame} {U : State} {a : Addr} {nf : NFrame} (h : Ov U (.native nf :: B) below) (hB : ∃ mid, B = mid ++ below) (hl : nf.locked = none) (hw : nf.awaiting = false) (hrest : Steps tb e below (U.setFrames (.throwing a :: B)) target) : Steps tb e below (U.setFrames (.throwing a :: .native nf :: B)) target := by
  have hf := h.fr (.throwing a :: .native nf :: B)
  obtain ⟨mid, hmid⟩ := hB
  refine Steps.head (h.go _) ⟨.throwing a :: .native nf :: mid, by rw [hf, hmid]; rfl, by simp, by intro z hz; simp at hz⟩ ?_
  have e1 : (stepThread tb e (U.setFrames (.throwing a :: .native nf :: B))).1 = U.setFrames (.throwing a :: B) := by
    unfold stepThread
    simp only [hf, stepThrowing, hw]
    unfold vmDo
    generalize hr : Sem.go _ e false _ _ = res
    obtain ⟨as, rfl, -⟩ := Sem.eq_ok_of hr (a := true) (s' := U.setFrames (.throwing a :: .native nf :: B)) (acts' := []) (by simp [hl, leaveIfLocked, unmarked, Action.isMark])
    show (U.setFrames (.throwing a :: .native nf :: B)).setFrames (.throwing a :: B) = _
    rw [State.setFrames_setFrames]
  rw [e1]
  exact hrest
end NATC
