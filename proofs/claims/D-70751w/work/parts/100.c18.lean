/-! ===== the class: how much one does by now ===== -/
set_option maxRecDepth 100000
set_option maxHeartbeats 400000 in
theorem kX20_much (G : gl_T) (hG : GH G) (w0 w : wd_T) (x : Nat) (O : Nat → Prop) (V : fv_T) (Z : fz_T) (hF : FX G w0 w x O V Z) (tb c : Nat) (hc6 : c < 6) (ht0 : w.1 tb = some (tb, .inr (19, [.int (nI c), .ref x]))) : Mt G yX20_much cX20_much 1 (some .int) 0 [.ref tb] w (qI (nI (V.2.1 (7 + 3 * c + 1))) w) 0 0 := by
  refine Mt.start (by decide) (Nat.le_of_ble_eq_true rfl) (fun k C => ?_)
  have C : Cx G k cX20_much "MoodFare$Has" "much" 1 (some .int) 0 0 0 _ := C
  obtain ⟨W, hA, hv⟩ := id hF
  refine j_aload_n C dX20_much_0 rfl 0 rfl ?_
  refine j_get (w := w) C in_X20 (ci := 19) (T := TX20) rfl ht0 1 (by decide) q1352 (fun _ z => z) (v := .ref x) rfl dX20_much_1 ?_
  refine j_getN (w := w) C in_X0 (ci := 0) (T := TX0) rfl (hA.d0 hv) 4 (by decide) (C.nw hG q249 rfl) (fun _ z => z) (v := .ref (x + 11)) rfl dX20_much_4 ?_
  refine j_get (w := w) C in_X2 (ci := 2) (T := TX2) rfl (hA.s0 (V := V) hv).1 6 (by decide) q189 (fun _ z => z) (v := .ref (x + 11 + 2)) rfl dX20_much_7 ?_
  refine j_aload_n C dX20_much_10 rfl 0 rfl ?_
  refine j_get (w := w) C in_X20 (ci := 19) (T := TX20) rfl ht0 0 (by decide) q1351 (fun _ z => z) (v := .int (nI c)) rfl dX20_much_11 ?_
  obtain ⟨o0_0h0, ⟨o0_0e, o0_0md, o0_0h1, o0_0h2⟩, ⟨o0_0fm, o0_0hm, o0_0vm⟩, ⟨o0_0ff, o0_0hf, o0_0vf⟩, ⟨o0_0ft, o0_0ho, o0_0vo⟩, o0_0h6, o0_0hk⟩ := id (hA.s0 (V := V) hv)
  refine j_ialdN (w := w) C o0_0hm (c) rfl (by omega) (by decide) dX20_much_14 ?_
  refine j_as (y := nI (V.2.1 (7 + 3 * c + 1))) (o0_0vm c (by omega)) ?_
  exact j_iret C (by omega) (by omega) (pI.mk ⟨rfl, rfl⟩) dX20_much_15
