/-! ===== the one String constant ===== -/
set_option maxRecDepth 100000
def jlB : List Int32 := [106, 108, 104, 103, 114]
/-- the constant: where it lies, its bytes; at the law's entry -/
def XS (G : gl_T) (U : State) : Prop := vk_R "MoodFare$Reader" 82 "jlhgr" (gl_z G 1) U ∧ va_O "java/lang/String" (gl_z G 1) (gl_fr G) U (gl_H G) ∧ va_OF "java/lang/String" "coder" "B" (.int 0) (gl_z G 1) (gl_fr G) U (gl_H G) ∧ va_OF "java/lang/String" "value" "[B" (.ref (gl_z G 2)) (gl_z G 1) (gl_fr G) U (gl_H G) ∧ va_T .byte (gl_z G 2) 5 (fun j => .int (jlB.getD j 0)) (gl_fr G) U (gl_H G) ∧ va_Z "java/lang/String" "COMPACT_STRINGS" "Z" (.int 1) (gl_fr G) U (gl_H G)
theorem XS.warm {G : gl_T} {s U : State} (hW : s.WarmedH U.vm) (h : XS G s) : XS G U := ⟨h.1.warm hW, h.2.1.moved hW.alike, h.2.2.1.moved hW.alike, h.2.2.2.1.moved hW.alike, h.2.2.2.2.1.moved hW.alike, h.2.2.2.2.2.moved hW.alike⟩
def GS (G : gl_T) : Prop := ∀ U, gl_X G U → XS G U
section SCN
variable {G : gl_T} {k : KX} {cc : ByteArray} {own nm : String} {nL hh mc ms : Nat} {rt : Option FieldType} {post : Outcome → wd_T → Prop}
variable {w : wd_T} {lv : List (Nat × Value)} {pc ce sl : Nat} {rest st st0 : List Value} {index a : Nat}
variable {y : MethodName} {bytes : ByteArray} {maxL h' mc' ms' : Nat} {ret' : Option FieldType} {As : List Value} {post' : Outcome → wd_T → Prop}
theorem Cx.xs (C : Cx G k cc own nm nL rt hh mc ms post) (hS : GS G) : XS G (k_s k) := hS _ C.hK.X
theorem hp.old {H : Heap} (h : hp G w H) : ∀ a : Nat, a < (gl_H G).size → ¬ gl_fr G a → H[a]? = (gl_H G)[a]? := fun a ha _ => h.2.2.1.1 a ha
theorem j_ldcS (C : Cx G k cc "MoodFare$Reader" nm nL rt hh mc ms post) (hS : GS G) (hd : decode cc pc = .ok (.ldc 82, 2)) (h : J G k w lv (pc + 2) (.ref (gl_z G 1) :: st) ce sl) : J G k w lv pc st ce sl :=
  fun ls H locs hl2 hpp hf => va_ldcS C.hx C.hb C.hown (C.xs hS).1 hd (h ls H locs hl2 hpp hf)
theorem j_getC (C : Cx G k cc own nm nL rt hh mc ms post) (hS : GS G) (q1 : Cond.fieldLink own index "java/lang/String" "coder" "B" ∈ lw_all) (hd : decode cc pc = .ok (.getfield index, 3)) (h : J G k w lv (pc + 3) (.int (nI 0) :: st) ce sl) : J G k w lv pc (.ref (gl_z G 1) :: st) ce sl := by
  intro ls H locs hl2 hpp hf
  obtain ⟨cf, kk, fi, f, cell, h1, h2, h3, h4, h5, h6⟩ := (C.xs hS).2.2.1.kept hpp.old
  exact W.getf C.hx C.hb C.hown (C.hts _ q1) h1 h2 h3 h4 (v := .int 0) h5 rfl rfl hd (h ls H locs hl2 hpp hf)
theorem j_getV (C : Cx G k cc own nm nL rt hh mc ms post) (hS : GS G) (q1 : Cond.fieldLink own index "java/lang/String" "value" "[B" ∈ lw_all) (hd : decode cc pc = .ok (.getfield index, 3)) (h : J G k w lv (pc + 3) (.ref (gl_z G 2) :: st) ce sl) : J G k w lv pc (.ref (gl_z G 1) :: st) ce sl := by
  intro ls H locs hl2 hpp hf
  obtain ⟨cf, kk, fi, f, cell, h1, h2, h3, h4, h5, h6⟩ := (C.xs hS).2.2.2.1.kept hpp.old
  exact W.getf C.hx C.hb C.hown (C.hts _ q1) h1 h2 h3 h4 (v := .ref (gl_z G 2)) h5 rfl rfl hd (h ls H locs hl2 hpp hf)
theorem j_lenV (C : Cx G k cc own nm nL rt hh mc ms post) (hS : GS G) (hd : decode cc pc = .ok (.arraylength, 1)) (h : J G k w lv (pc + 1) (.int (nI 5) :: st) ce sl) : J G k w lv pc (.ref (gl_z G 2) :: st) ce sl := by
  intro ls H locs hl2 hpp hf
  obtain ⟨cell, h1, h2, h3, h4, h5, h6, h7⟩ := (C.xs hS).2.2.2.2.1.kept hpp.old
  exact W.alen (n := Int32.ofNat 5) C.hx C.hb h1 h2 h5 rfl rfl hd (h ls H locs hl2 hpp hf)
theorem j_baldV (C : Cx G k cc own nm nL rt hh mc ms post) (hS : GS G) (j : Nat) (hj : j < 5) (hd : decode cc pc = .ok (.baload, 1)) (h : J G k w lv (pc + 1) (.int (jlB.getD j 0) :: st) ce sl) : J G k w lv pc (.int (nI j) :: .ref (gl_z G 2) :: st) ce sl := by
  intro ls H locs hl2 hpp hf
  obtain ⟨cell, h1, h2, h3, h4, h5, h6, h7⟩ := (C.xs hS).2.2.2.2.1.kept hpp.old
  have e : (nI j).toNatClampNeg = j := nI_clamp (by omega)
  have hin : ¬ (nI j < 0 ∨ cell.slots.size ≤ (nI j).toNatClampNeg) := by
    rw [e]
    rintro (q | q)
    · exact nI_pos (by omega) q
    · omega
  exact W.bald (v := .int (jlB.getD j 0)) C.hx C.hb h1 h2 h3 hin (by rw [e, h6 _ hj]) rfl rfl hd (h ls H locs hl2 hpp hf)
theorem j_getsC (C : Cx G k cc own nm nL rt hh mc ms post) (hS : GS G) (q1 : Cond.fieldLink own index "java/lang/String" "COMPACT_STRINGS" "Z" ∈ lw_all) (hd : decode cc pc = .ok (.getstatic index, 3)) (h : J G k w lv (pc + 3) (.int (nI 1) :: st) ce sl) : J G k w lv pc st ce sl := by
  intro ls H locs hl2 hpp hf
  obtain ⟨cf, kf, fi, f, a, cell, h1, h2, h3, h4, h5, h6, h7, h8⟩ := (C.xs hS).2.2.2.2.2
  have hlt : a < (gl_H G).size := (Array.getElem?_eq_some_iff.mp h5).1
  exact W.gets C.hx C.hb C.hown (C.hts _ q1) h1 h2 h3 h4 (by rw [hpp.2.2.1.1 a hlt]; exact h5) (fun e => by rw [e] at h6; cases h6) h7 rfl hd (h ls H locs hl2 hpp hf)
theorem j_callVS (C : Cx G k cc own nm nL rt hh mc ms post) (hS : GS G) (hM : Mt G y bytes maxL ret' h' (.ref (gl_z G 1) :: As) w post' mc' ms') (hret : ∀ o w', post' o w' → ∃ v, o = .returned v) (n : Nat)
    (q1 : Cond.methodLink own index y ∈ lw_all) (q2 : Cond.instanceMethod y ∈ lw_all) (q3 : Cond.selects "java/lang/String" y y ∈ lw_all) (q4 : Cond.initialized "java/lang/String" ∈ lw_all) (q5 : Cond.code y bytes maxL ret' ∈ lw_all) (hd0 : y.cls = "java/lang/String" ∧ y.cls ≠ "java/lang/invoke/MethodHandle" ∧ y.cls ≠ "java/lang/invoke/VarHandle" ∧ (parseMethodDescriptor y.desc).map (fun d => d.parameters.length) = some n) (hn : As.length = n)
    (hh1 : h' + 1 ≤ hh) (hh2 : maxL + 19 + 60 * h' ≤ 60 * hh) (hst : (rest.map fun v => v.category).sum ≤ 8) (hs : st0 = As.reverse ++ .ref (gl_z G 1) :: rest) (hd : decode cc pc = .ok (.invokevirtual index, 3)) (h1 : ce + mc' ≤ mc) (h2 : sl + ms' ≤ ms)
    (kk : ∀ (v : Option Value) (w' : wd_T), post' (.returned v) w' → J G k w' lv (pc + 3) (v.toList ++ rest) (ce + mc') (sl + ms')) : J G k w lv pc st0 ce sl := by
  subst hs
  refine j_run (post' := post') (fun ls H locs hl2 hpp => ?_) kk
  obtain ⟨cell, g1, g2, g3, -⟩ := (C.xs hS).2.1.kept hpp.old
  exact va_runV (C := "java/lang/String") ⟨C.hx, C.hb, C.hml.trans C.hn.symm, C.hown, C.hts⟩ (hM.met hret) (cwV n C.hts (lw_V q1 q2 q3 q4 q5) rfl rfl rfl hd0 ⟨by rw [C.hR]; show h' + 12 + 1 ≤ hh + 12; omega, by rw [C.hR]; show 8 + (maxL + 11) + (60 * h' + 10500) ≤ 60 * hh + 10500; omega⟩)
    ⟨Mt.blind, ⟨cell, g1, g2, g3⟩, fun U hU hW => ⟨rfl, by rw [hU]; exact hpp, C.hK.warm hW⟩⟩ rfl hn hl2.1 rfl (lv_room hst) hd ⟨by rw [C.hR]; exact h1, by rw [C.hR]; exact h2⟩
theorem j_bret (C : Cx G k cc own nm nL (some .byte) hh mc ms post) {x : Int32} (hn : narrow .byte (.int x) = .int x) (h1 : ce ≤ mc) (h2 : sl ≤ ms) (hq : post (.returned (some (.int x))) w) (hd : decode cc pc = .ok (.ireturn, 1)) : J G k w lv pc [.int x] ce sl := by
  intro ls H locs hl2 hpp hf T hT X
  have hlocks : (k_me k).locks = false := C.hlocks
  obtain ⟨fs, hret, hrun, hended, hW, hframe⟩ := X.leave (v := some (.int x)) (fun h => by rw [C.hr] at h; cases h)
  have hmeth' : T.vm.method? (k_m k) = some (k_me k) := X.method'
  refine ⟨T.setFrames fs, ?_, MX.of C.hpo C.hmc C.hms h1 h2 hrun hended hT hq hpp hf hW hframe⟩
  jvm_step X.here [X.here.top, C.hx, C.hb, hd, hmeth', C.hr, hn]
  (try refine ⟨rfl, ?_⟩); (try refine ⟨rfl, ?_⟩)
  first | (intro acts; rw [hret _ acts rfl rfl rfl]) | rw [hret _ _ rfl rfl rfl]
  exact Steps.refl _
end SCN
/-- the place of a letter in the constant -/
def ixN (v : Nat) : Int32 := if v = 106 then nI 0 else if v = 108 then nI 1 else if v = 104 then nI 2 else if v = 103 then nI 3 else if v = 114 then nI 4 else -1
/-! ===== the class: the constant asked ===== -/
set_option maxRecDepth 100000
set_option maxHeartbeats 400000 in
theorem kJ7_isLatin1 (G : gl_T) (w : wd_T) (hS : GS G) : Mt G yJ7_isLatin1 cJ7_isLatin1 1 (some .boolean) 0 [.ref (gl_z G 1)] w (qI (nI 1) w) 0 0 := by
  refine Mt.start (by decide) (Nat.le_of_ble_eq_true rfl) (fun k C => ?_)
  have C : Cx G k cJ7_isLatin1 "java/lang/String" "isLatin1" 1 (some .boolean) 0 0 0 _ := C
  refine j_getsC C hS q611 dJ7_isLatin1_0 ?_
  refine j_if_eqN C 17 dJ7_isLatin1_3 (by decide) (by omega) (fun c3 => ?_) (fun c3 => ?_)
  · exfalso; omega
  · refine j_aload_n C dJ7_isLatin1_6 rfl 0 rfl ?_
    refine j_getC C hS q1936 dJ7_isLatin1_7 ?_
    refine j_if_neN C 17 dJ7_isLatin1_10 (by decide) (by omega) (fun c10 => ?_) (fun c10 => ?_)
    · exfalso; omega
    · refine j_iconst (v := nI 1) C dJ7_isLatin1_13 rfl ?_
      refine j_goto C 18 dJ7_isLatin1_14 (by decide) ?_
      exact j_zret C (by decide +kernel) (by omega) (by omega) (pI.mk ⟨rfl, rfl⟩) dJ7_isLatin1_18
set_option maxHeartbeats 400000 in
theorem kJ7_coder (G : gl_T) (w : wd_T) (hS : GS G) : Mt G yJ7_coder cJ7_coder 1 (some .byte) 0 [.ref (gl_z G 1)] w (qI (nI 0) w) 0 0 := by
  refine Mt.start (by decide) (Nat.le_of_ble_eq_true rfl) (fun k C => ?_)
  have C : Cx G k cJ7_coder "java/lang/String" "coder" 1 (some .byte) 0 0 0 _ := C
  refine j_getsC C hS q611 dJ7_coder_0 ?_
  refine j_if_eqN C 13 dJ7_coder_3 (by decide) (by omega) (fun c3 => ?_) (fun c3 => ?_)
  · exfalso; omega
  · refine j_aload_n C dJ7_coder_6 rfl 0 rfl ?_
    refine j_getC C hS q1936 dJ7_coder_7 ?_
    refine j_goto C 14 dJ7_coder_10 (by decide) ?_
    exact j_bret C (by decide +kernel) (by omega) (by omega) (pI.mk ⟨rfl, rfl⟩) dJ7_coder_14
set_option maxHeartbeats 400000 in
theorem kJ7_length (G : gl_T) (w : wd_T) (hS : GS G) : Mt G yJ7_length cJ7_length 1 (some .int) 1 [.ref (gl_z G 1)] w (qI (nI 5) w) 0 0 := by
  refine Mt.start (by decide) (Nat.le_of_ble_eq_true rfl) (fun k C => ?_)
  have C : Cx G k cJ7_length "java/lang/String" "length" 1 (some .int) 1 0 0 _ := C
  refine j_aload_n C dJ7_length_0 rfl 0 rfl ?_
  refine j_getV C hS q1937 dJ7_length_1 ?_
  refine j_lenV C hS dJ7_length_4 ?_
  refine j_aload_n C dJ7_length_5 rfl 0 rfl ?_
  refine j_callVS (w := w) C hS (kJ7_coder G w hS) pI.ret 0 q617 q618 q619 q78 q620 (by decide +kernel) rfl (by decide) (by decide) (Nat.le_of_ble_eq_true rfl) rfl dJ7_length_6 (by omega) (by omega) (qI.k ?_)
  refine j_ishrN C dJ7_length_9 (by omega) (by omega) ?_
  exact j_iret C (by omega) (by omega) (pI.mk ⟨rfl, rfl⟩) dJ7_length_10
set_option maxHeartbeats 400000 in
theorem kJ12_canEncode (G : gl_T) (w : wd_T) (v : Nat) (hv : v ≤ 127) : Mt G yJ12_canEncode cJ12_canEncode 1 (some .boolean) 0 [.int (nI v)] w (qI (nI 1) w) 0 0 := by
  refine Mt.start (by decide) (Nat.le_of_ble_eq_true rfl) (fun k C => ?_)
  have C : Cx G k cJ12_canEncode "java/lang/StringLatin1" "canEncode" 1 (some .boolean) 0 0 0 _ := C
  refine j_iload_n C dJ12_canEncode_0 rfl 0 rfl ?_
  refine j_if_ltN C dJ12_canEncode_1 15 (by decide) (by omega) ?_
  refine j_iload_n C dJ12_canEncode_4 rfl 0 rfl ?_
  refine j_sipush (v := nI 255) C dJ12_canEncode_5 rfl ?_
  refine j_icmp_gtN C 15 dJ12_canEncode_8 (by decide) (by omega) (by omega) (fun c8 => ?_) (fun c8 => ?_)
  · exfalso; omega
  · refine j_iconst (v := nI 1) C dJ12_canEncode_11 rfl ?_
    refine j_goto C 16 dJ12_canEncode_12 (by decide) ?_
    exact j_zret C (by decide +kernel) (by omega) (by omega) (pI.mk ⟨rfl, rfl⟩) dJ12_canEncode_16
theorem nI_i2b {v : Nat} (h : v ≤ 127) : (nI v).toInt8.toInt32 = nI v := by
  have : ∀ u : Nat, u ≤ 127 → (nI u).toInt8.toInt32 = nI u := by
    intro u hu
    have hb : ∀ i : Fin 128, (nI i.val).toInt8.toInt32 = nI i.val := by decide +kernel
    exact hb ⟨u, by omega⟩
  exact this v h
theorem kJ12_indexOfChar (G : gl_T) (w : wd_T) (hS : GS G) (v : Nat) (hv : v ≤ 127) : Mt G yJ12_indexOfChar cJ12_indexOfChar 6 (some .int) 0 [.ref (gl_z G 2), .int (nI v), .int (nI 0), .int (nI 5)] w (qI (ixN v) w) 0 0 := by
  refine Mt.start (by decide) (Nat.le_of_ble_eq_true rfl) (fun k C => ?_)
  have C : Cx G k cJ12_indexOfChar "java/lang/StringLatin1" "indexOfChar" 6 (some .int) 0 0 0 _ := C
  have lp : ∀ (m i : Nat), i + m = 5 → ixN v = (if i = 0 then ixN v else if i = 1 then (if v = 108 then nI 1 else if v = 104 then nI 2 else if v = 103 then nI 3 else if v = 114 then nI 4 else -1) else if i = 2 then (if v = 104 then nI 2 else if v = 103 then nI 3 else if v = 114 then nI 4 else -1) else if i = 3 then (if v = 103 then nI 3 else if v = 114 then nI 4 else -1) else if i = 4 then (if v = 114 then nI 4 else -1) else -1) → J G k w [(5, .int (nI i)), (4, .int (nI v)), (0, .ref (gl_z G 2)), (1, .int (nI v)), (2, .int (nI 0)), (3, .int (nI 5))] 7 [] 0 0 := by
    intro m
    induction m with
    | zero =>
      intro i hi hx
      have e : i = 5 := by omega
      subst e
      refine j_iload C dJ12_indexOfChar_7 0 rfl ?_
      refine j_iload_n C dJ12_indexOfChar_9 rfl 5 rfl ?_
      refine j_icmp_geN C 31 dJ12_indexOfChar_10 (by decide) (by omega) (by omega) (fun c10 => ?_) (fun c10 => ?_)
      · refine j_iconst (v := -1) C dJ12_indexOfChar_31 rfl ?_
        exact j_iret C (by omega) (by omega) (pI.mk ⟨by rw [hx]; rfl, rfl⟩) dJ12_indexOfChar_32
      · exfalso; omega
    | succ m ih =>
      intro i hi hx
      refine j_iload C dJ12_indexOfChar_7 0 rfl ?_
      refine j_iload_n C dJ12_indexOfChar_9 rfl 5 rfl ?_
      refine j_icmp_geN C 31 dJ12_indexOfChar_10 (by decide) (by omega) (by omega) (fun c10 => ?_) (fun c10 => ?_)
      · exfalso; omega
      · refine j_aload_n C dJ12_indexOfChar_13 rfl 2 rfl ?_
        refine j_iload C dJ12_indexOfChar_14 0 rfl ?_
        refine j_baldV C hS i (by omega) dJ12_indexOfChar_16 ?_
        refine j_iload C dJ12_indexOfChar_17 1 rfl ?_
        refine j_icmp_ne C 25 dJ12_indexOfChar_19 (by decide) (fun c19 => ?_) (fun c19 => ?_)
        · refine j_iincN (lv' := [(5, .int (nI (i + 1))), (4, .int (nI v)), (0, .ref (gl_z G 2)), (1, .int (nI v)), (2, .int (nI 0)), (3, .int (nI 5))]) C dJ12_indexOfChar_25 0 rfl (by decide) rfl ?_
          refine j_goto C 7 dJ12_indexOfChar_28 (by decide) ?_
          refine ih (i + 1) (by omega) (hx.trans ?_)
          rcases (show i = 0 ∨ i = 1 ∨ i = 2 ∨ i = 3 ∨ i = 4 by omega) with rfl | rfl | rfl | rfl | rfl
          · have hn : ¬ v = 106 := fun z => c19 (by rw [z]; rfl)
            simp [ixN, hn]
          · have hn : ¬ v = 108 := fun z => c19 (by rw [z]; rfl)
            simp [ixN, hn]
          · have hn : ¬ v = 104 := fun z => c19 (by rw [z]; rfl)
            simp [ixN, hn]
          · have hn : ¬ v = 103 := fun z => c19 (by rw [z]; rfl)
            simp [ixN, hn]
          · have hn : ¬ v = 114 := fun z => c19 (by rw [z]; rfl)
            simp [ixN, hn]
        · refine j_iload C dJ12_indexOfChar_22 0 rfl ?_
          refine j_iret C (by omega) (by omega) (pI.mk ⟨?_, rfl⟩) dJ12_indexOfChar_24
          rw [hx]
          rcases (show i = 0 ∨ i = 1 ∨ i = 2 ∨ i = 3 ∨ i = 4 by omega) with rfl | rfl | rfl | rfl | rfl
          · have hn : v = 106 := (nI_eq (a := v) (b := 106) (by omega) (by decide)).mp c19.symm
            simp [ixN, hn]
          · have hn : v = 108 := (nI_eq (a := v) (b := 108) (by omega) (by decide)).mp c19.symm
            simp [ixN, hn]
          · have hn : v = 104 := (nI_eq (a := v) (b := 104) (by omega) (by decide)).mp c19.symm
            simp [ixN, hn]
          · have hn : v = 103 := (nI_eq (a := v) (b := 103) (by omega) (by decide)).mp c19.symm
            simp [ixN, hn]
          · have hn : v = 114 := (nI_eq (a := v) (b := 114) (by omega) (by decide)).mp c19.symm
            simp [ixN, hn]
  refine j_iload_n C dJ12_indexOfChar_0 rfl 1 rfl ?_
  refine j_i2b C dJ12_indexOfChar_1 ?_
  refine j_as (y := nI v) (nI_i2b hv) ?_
  refine j_istore (lv' := [(4, .int (nI v)), (0, .ref (gl_z G 2)), (1, .int (nI v)), (2, .int (nI 0)), (3, .int (nI 5))]) C dJ12_indexOfChar_2 (by decide) rfl ?_
  refine j_iload_n C dJ12_indexOfChar_4 rfl 3 rfl ?_
  refine j_istore (lv' := [(5, .int (nI 0)), (4, .int (nI v)), (0, .ref (gl_z G 2)), (1, .int (nI v)), (2, .int (nI 0)), (3, .int (nI 5))]) C dJ12_indexOfChar_5 (by decide) rfl ?_
  exact lp 5 0 rfl rfl
set_option maxHeartbeats 400000 in
theorem kJ12_indexOf (G : gl_T) (w : wd_T) (hS : GS G) (v : Nat) (hv : v ≤ 127) : Mt G yJ12_indexOf cJ12_indexOf 4 (some .int) 1 [.ref (gl_z G 2), .int (nI v), .int (nI 0), .int (nI 5)] w (qI (ixN v) w) 0 0 := by
  refine Mt.start (by decide) (Nat.le_of_ble_eq_true rfl) (fun k C => ?_)
  have C : Cx G k cJ12_indexOf "java/lang/StringLatin1" "indexOf" 4 (some .int) 1 0 0 _ := C
  refine j_iload_n C dJ12_indexOf_0 rfl 1 rfl ?_
  refine j_callS (w := w) C (kJ12_canEncode G w v hv) pI.ret 1 q624 q625 q86 q626 (by decide +kernel) rfl (by decide) (by decide) (Nat.le_of_ble_eq_true rfl) rfl dJ12_indexOf_1 (by omega) (by omega) (qI.k ?_)
  refine j_if_neN C 9 dJ12_indexOf_4 (by decide) (by omega) (fun c4 => ?_) (fun c4 => ?_)
  · refine j_iload_n C dJ12_indexOf_9 rfl 2 rfl ?_
    refine j_iconst (v := nI 0) C dJ12_indexOf_10 rfl ?_
    refine j_mmax C q627 q628 q87 q629 (Nat.le_of_ble_eq_true rfl) (by omega) (by omega) dJ12_indexOf_11 ?_
    refine j_as (y := nI (max 0 0)) (nI_max (by omega) (by omega)) ?_
    refine j_istore_n (lv' := [(2, .int (nI (max 0 0))), (0, .ref (gl_z G 2)), (1, .int (nI v)), (3, .int (nI 5))]) C dJ12_indexOf_14 rfl (by decide) rfl ?_
    refine j_iload_n C dJ12_indexOf_15 rfl 3 rfl ?_
    refine j_aload_n C dJ12_indexOf_16 rfl 1 rfl ?_
    refine j_lenV C hS dJ12_indexOf_17 ?_
    refine j_mmin C q630 q631 q87 q632 (Nat.le_of_ble_eq_true rfl) (by omega) (by omega) dJ12_indexOf_18 ?_
    refine j_as (y := nI (min 5 5)) (nI_min (by omega) (by omega)) ?_
    refine j_istore_n (lv' := [(3, .int (nI (min 5 5))), (2, .int (nI (max 0 0))), (0, .ref (gl_z G 2)), (1, .int (nI v))]) C dJ12_indexOf_21 rfl (by decide) rfl ?_
    refine j_iload_n C dJ12_indexOf_22 rfl 1 rfl ?_
    refine j_iload_n C dJ12_indexOf_23 rfl 0 rfl ?_
    refine j_icmp_ltN C 29 dJ12_indexOf_24 (by decide) (by omega) (by omega) (fun c24 => ?_) (fun c24 => ?_)
    · refine j_aload_n C dJ12_indexOf_29 rfl 2 rfl ?_
      refine j_iload_n C dJ12_indexOf_30 rfl 3 rfl ?_
      refine j_iload_n C dJ12_indexOf_31 rfl 1 rfl ?_
      refine j_iload_n C dJ12_indexOf_32 rfl 0 rfl ?_
      refine j_callS (w := w) C (kJ12_indexOfChar G w hS v hv) pI.ret 4 q633 q634 q86 q635 (by decide +kernel) rfl (by decide) (by decide) (Nat.le_of_ble_eq_true rfl) rfl dJ12_indexOf_33 (by omega) (by omega) (qI.k ?_)
      exact j_iret C (by omega) (by omega) (pI.mk ⟨rfl, rfl⟩) dJ12_indexOf_36
    · exfalso; omega
  · exfalso; omega
set_option maxHeartbeats 400000 in
theorem kJ7_indexOf_2 (G : gl_T) (w : wd_T) (hS : GS G) (v : Nat) (hv : v ≤ 127) : Mt G yJ7_indexOf_2 cJ7_indexOf_2 3 (some .int) 2 [.ref (gl_z G 1), .int (nI v), .int (nI 0)] w (qI (ixN v) w) 0 0 := by
  refine Mt.start (by decide) (Nat.le_of_ble_eq_true rfl) (fun k C => ?_)
  have C : Cx G k cJ7_indexOf_2 "java/lang/String" "indexOf" 3 (some .int) 2 0 0 _ := C
  refine j_aload_n C dJ7_indexOf_2_0 rfl 0 rfl ?_
  refine j_callVS (w := w) C hS (kJ7_isLatin1 G w hS) pI.ret 0 q607 q608 q609 q78 q610 (by decide +kernel) rfl (by decide) (by decide) (Nat.le_of_ble_eq_true rfl) rfl dJ7_indexOf_2_1 (by omega) (by omega) (qI.k ?_)
  refine j_if_eqN C 23 dJ7_indexOf_2_4 (by decide) (by omega) (fun c4 => ?_) (fun c4 => ?_)
  · exfalso; omega
  · refine j_aload_n C dJ7_indexOf_2_7 rfl 0 rfl ?_
    refine j_getV C hS q1937 dJ7_indexOf_2_8 ?_
    refine j_iload_n C dJ7_indexOf_2_11 rfl 1 rfl ?_
    refine j_iload_n C dJ7_indexOf_2_12 rfl 2 rfl ?_
    refine j_aload_n C dJ7_indexOf_2_13 rfl 0 rfl ?_
    refine j_callVS (w := w) C hS (kJ7_length G w hS) pI.ret 0 q613 q614 q615 q78 q616 (by decide +kernel) rfl (by decide) (by decide) (Nat.le_of_ble_eq_true rfl) rfl dJ7_indexOf_2_14 (by omega) (by omega) (qI.k ?_)
    refine j_callS (w := w) C (kJ12_indexOf G w hS v hv) pI.ret 4 q621 q622 q86 q623 (by decide +kernel) rfl (by decide) (by decide) (Nat.le_of_ble_eq_true rfl) rfl dJ7_indexOf_2_17 (by omega) (by omega) (qI.k ?_)
    refine j_goto C 36 dJ7_indexOf_2_20 (by decide) ?_
    exact j_iret C (by omega) (by omega) (pI.mk ⟨rfl, rfl⟩) dJ7_indexOf_2_36
set_option maxHeartbeats 400000 in
theorem kJ7_indexOf (G : gl_T) (w : wd_T) (hS : GS G) (v : Nat) (hv : v ≤ 127) : Mt G yJ7_indexOf cJ7_indexOf 2 (some .int) 3 [.ref (gl_z G 1), .int (nI v)] w (qI (ixN v) w) 0 0 := by
  refine Mt.start (by decide) (Nat.le_of_ble_eq_true rfl) (fun k C => ?_)
  have C : Cx G k cJ7_indexOf "java/lang/String" "indexOf" 2 (some .int) 3 0 0 _ := C
  refine j_aload_n C dJ7_indexOf_0 rfl 0 rfl ?_
  refine j_iload_n C dJ7_indexOf_1 rfl 1 rfl ?_
  refine j_iconst (v := nI 0) C dJ7_indexOf_2 rfl ?_
  refine j_callVS (w := w) C hS (kJ7_indexOf_2 G w hS v hv) pI.ret 2 q603 q604 q605 q78 q606 (by decide +kernel) rfl (by decide) (by decide) (Nat.le_of_ble_eq_true rfl) rfl dJ7_indexOf_3 (by omega) (by omega) (qI.k ?_)
  exact j_iret C (by omega) (by omega) (pI.mk ⟨rfl, rfl⟩) dJ7_indexOf_6
