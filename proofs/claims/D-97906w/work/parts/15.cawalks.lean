/-! the component: statics: walks -/
set_option maxRecDepth 100000
section
variable {p : Program} {l : Launch} {e : Env} {R : Room} {s : State} {m : MethodId} {args : Array Value} {below : List Frame} {meth : Method} {c : Code} {H : Heap} {locs : List Loc} {cells slots d : Nat} {Q : State → Prop} {cc : ByteArray} {pc nL : Nat} {ls : Array Slot} {rest : List Value} {D : va_G} {cA : Nat → ClassId} {ks : List Nat} {ad : Nat → Nat} {A : Nat → Prop} {st : CS} {H0 : Heap} {own : String} {index : Nat} {st0 : List Value}
theorem cc_callRN {r : Int32} {a : Array Value} (hr : va_Run p l e R s m args below meth c H locs cells slots 0 0 (F0 m pc ls st0) rest (QcRead r a) (fun _ => False)) (kk : W p l e R s m args below meth c H locs cells slots Q (F0 m (pc + 3) ls (.int r :: rest))) : W p l e R s m args below meth c H locs cells slots Q (F0 m pc ls st0) := by
  refine W.callR (a := a) (fun T hT X => ?_) kk
  obtain ⟨v, s0, t, T', L, h0, X', hL, e1, e2, hq, st⟩ := hr T hT X
  exact ⟨v, s0, t, T', L, h0, X', hL, e1, hq, st⟩
theorem cc_nm {x y : Int32} (e0 : x = y) (k : W p l e R s m args below meth c H locs cells slots Q (F0 m pc ls (.int y :: rest))) : W p l e R s m args below meth c H locs cells slots Q (F0 m pc ls (.int x :: rest)) := e0 ▸ k
theorem Met_ofWF {y : MethodName} {ws ws' : List Cond} {rm : Room} {Pc : Array Value → State → Prop} {Qc : Array Value → State → Outcome → State → Prop} {mc ms : Nat} {free : Addr → Prop} {cc : ByteArray} {maxL : Nat} {ret : Option FieldType}
    (hy : plainFor y = true) (hw : ws = Cond.code y cc maxL ret :: ws')
    (body : ∀ p e s m args below meth c s₁, BodyLoose p l y (headSpec ws rm) cc maxL ret e s m args below meth c s₁ → c.maxLocals = maxL → Pc args s →
      W p l e (headSpec ws rm).room s m args below meth c s.heap [] 0 0 (MQ below Qc args s mc ms free) (entryFrame m args maxL)) : Met l y ws rm Pc Qc mc ms free := by
  refine MetFree.of_bodySF (code := cc) (maxLocals := maxL) (ret := ret) hy ?_ ?_
  · intro args s m h hn
    obtain ⟨meth, c, h1, h2, h3, h4, h5, h6, -, -⟩ := Cond.code_spec hn (atoms_spec (ws := ws) h _ (by rw [hw]; exact List.mem_cons_self))
    exact ⟨meth, c, h1, h2, h3, h4, h5, h6⟩
  · intro p e s m args below meth c s₁ B hml hP _
    have hh0 : s₁.heap = s.heap := by rw [B.state]; rfl
    obtain ⟨t, a1, o, b1, b2, b3⟩ := body p e s m args below meth c s₁ B hml hP s₁ hh0 (Stand.of_body B)
    exact ⟨t, o, a1, b1, b2, ⟨b3.1, b3.2⟩⟩
theorem mm_ofSF {y : MethodName} {bytes : ByteArray} {maxL : Nat} {ret : Option FieldType} {As : List Value} {r : Int32} (hy : plainFor y = true) (hnl : (lg_sl As).length ≤ maxL)
    (body : ∀ (p : Program) (e : Env) (s : State) (m : MethodId) (below : List Frame) (meth : Method) (c : Code) (R : Room) (args : Array Value) (ls : Array Slot), sC p R d s m args c bytes maxL y.cls → meth.sig.returnType = ret → meth.locks = false → lv_has ls maxL (lv_args 0 As) → (0 ≤ R.cells ∧ 0 ≤ R.slots) →
      W p l e R s m args below meth c s.heap [] 0 0 (MQ below (QcRead r) args s 0 0 (fun _ => False)) (F0 m 0 ls [])) : mS l y bytes maxL ret d As r := by
  refine Met_ofWF (cc := bytes) (maxL := maxL) (ret := ret) hy rfl ?_
  intro p e s m args below meth c s₁ B hml hv
  have hts := atoms_spec (ws := ws_ y bytes maxL ret) B.pre
  have hts : ∀ w ∈ lw_all, w.before _ s = true := fun w h => hts w (List.mem_cons_of_mem _ h)
  have hown : s.vm.findClass y.cls = some m.cls := findClass_of_methodNamed B.named
  cases hv
  rw [lg_entry_eq]
  exact body p e s m below meth c _ _ _ ⟨B.exec, B.bytes, hml, hown, hts, Nat.le_refl _, Nat.le_refl _⟩ B.returns B.notSynchronized (lv_entry _ hnl) ⟨Nat.zero_le _, Nat.zero_le _⟩
theorem zr_nar {v r : Int32} (h : zr v = some r) : vp_nar .boolean v = v := by
  unfold zr at h
  split at h
  · rename_i hq
    rcases hq with rfl | rfl <;> rfl
  · cases h
abbrev cJ4_max : ByteArray := prog_34_method_65_code
def yJ4_max : MethodName := ⟨RJ4, "max", "(II)I"⟩
theorem dJ4_max_0 : decode cJ4_max 0 = .ok (.iload_n 0, 1) := by decide +kernel
theorem dJ4_max_1 : decode cJ4_max 1 = .ok (.iload_n 1, 1) := by decide +kernel
theorem dJ4_max_2 : decode cJ4_max 2 = .ok (.if_icmp .lt 7, 3) := by decide +kernel
theorem dJ4_max_5 : decode cJ4_max 5 = .ok (.iload_n 0, 1) := by decide +kernel
theorem dJ4_max_6 : decode cJ4_max 6 = .ok (.goto 4, 3) := by decide +kernel
theorem dJ4_max_9 : decode cJ4_max 9 = .ok (.iload_n 1, 1) := by decide +kernel
theorem dJ4_max_10 : decode cJ4_max 10 = .ok (.ireturn, 1) := by decide +kernel
theorem w_J_max {l : Launch} {x0 : Int32} {x1 : Int32} {r : Int32} (h : J_max x0 x1 = some r) : mS l yJ4_max cJ4_max 2 (some .int) 0 [.int x0, .int x1] r := by
  refine mm_ofSF (by decide +kernel) (Nat.le_of_ble_eq_true rfl) (fun p e s m below meth c R args ls C hr hlk hl hcs => ?_)
  have hx := C.1
  have hb := C.2.1
  have hown : s.vm.findClass RJ4 = some m.cls := C.2.2.2.1
  have hl : lv_has ls 2 [(0, .int x0), (1, .int x1)] := hl
  rw [J_max] at h
  refine lv_iload_n hx hb dJ4_max_0 rfl (lv_at hl 0 rfl) ?_
  refine lv_iload_n hx hb dJ4_max_1 rfl (lv_at hl 1 rfl) ?_
  refine lv_icmp_lt (tgt := 9) hx hb dJ4_max_2 rfl (fun c1 => ?_) (fun c1 => ?_)
  · have h := if_some_t h c1
    refine lv_iload_n hx hb dJ4_max_9 rfl (lv_at hl 1 rfl) ?_
    exact mm_iret hx hb hr hlk h dJ4_max_10
  · have h := if_some_f h c1
    refine lv_iload_n hx hb dJ4_max_5 rfl (lv_at hl 0 rfl) ?_
    refine lv_goto (tgt := 10) hx hb dJ4_max_6 rfl ?_
    exact mm_iret hx hb hr hlk h dJ4_max_10
theorem q699 : (Jvm.Cond.code ({ cls := "java/lang/Math", name := "max", desc := "(II)I" } : Jvm.MethodName) prog_34_method_65_code (2 : Nat) (Option.some Jvm.ClassFile.FieldType.int)) ∈ lw_all := lw_g (lw_at lw_m3 135 rfl) rfl
theorem q698 : (Jvm.Cond.static ({ cls := "java/lang/Math", name := "max", desc := "(II)I" } : Jvm.MethodName)) ∈ lw_all := lw_g (lw_at lw_m3 134 rfl) rfl
theorem q105 : (Jvm.Cond.initialized "java/lang/Math") ∈ lw_all := lw_g (lw_at lw_m1 21 rfl) rfl
theorem k_J_max {a0 : Int32} {a1 : Int32} {v : Int32} (hx : p.tables.exec = Jvm.exec) (hb : c.code = cc) (hml : c.maxLocals = nL) (hown : s.vm.findClass own = some m.cls) (hts : ∀ w ∈ lw_all, w.before args s = true) (hR : d ≤ R.frames ∧ 40 * d ≤ R.locals) (hl : Cond.methodLink own index yJ4_max ∈ lw_all) (h : J_max a0 a1 = some v) (hd : 0 + 1 ≤ d) (hsz : ls.size = nL) (hW : (rest.map fun v => v.category).sum ≤ 8) (hcs : cells ≤ R.cells ∧ slots ≤ R.slots) (hdg : decode cc pc = .ok (.invokestatic index, 3)) (kk : W p l e R s m args below meth c H locs cells slots Q (F0 m (pc + 3) ls (.int v :: rest))) : W p l e R s m args below meth c H locs cells slots Q (F0 m pc ls (.int a1 :: .int a0 :: rest)) :=
  W.callR (W.runS (As := [.int a0, .int a1]) (rest := rest) ⟨hx, hb, hml, hown, hts⟩ (w_J_max h) (va_cwS 2 hts (lw_S hl q698 q105 q699) rfl rfl rfl (by decide +kernel) (mr_ hR hd (by decide))) preEq rfl rfl hsz rfl (lv_room hW) hdg hcs) kk
abbrev cJ4_min : ByteArray := prog_34_method_69_code
def yJ4_min : MethodName := ⟨RJ4, "min", "(II)I"⟩
theorem dJ4_min_0 : decode cJ4_min 0 = .ok (.iload_n 0, 1) := by decide +kernel
theorem dJ4_min_1 : decode cJ4_min 1 = .ok (.iload_n 1, 1) := by decide +kernel
theorem dJ4_min_2 : decode cJ4_min 2 = .ok (.if_icmp .gt 7, 3) := by decide +kernel
theorem dJ4_min_5 : decode cJ4_min 5 = .ok (.iload_n 0, 1) := by decide +kernel
theorem dJ4_min_6 : decode cJ4_min 6 = .ok (.goto 4, 3) := by decide +kernel
theorem dJ4_min_9 : decode cJ4_min 9 = .ok (.iload_n 1, 1) := by decide +kernel
theorem dJ4_min_10 : decode cJ4_min 10 = .ok (.ireturn, 1) := by decide +kernel
theorem w_J_min {l : Launch} {x0 : Int32} {x1 : Int32} {r : Int32} (h : J_min x0 x1 = some r) : mS l yJ4_min cJ4_min 2 (some .int) 0 [.int x0, .int x1] r := by
  refine mm_ofSF (by decide +kernel) (Nat.le_of_ble_eq_true rfl) (fun p e s m below meth c R args ls C hr hlk hl hcs => ?_)
  have hx := C.1
  have hb := C.2.1
  have hown : s.vm.findClass RJ4 = some m.cls := C.2.2.2.1
  have hl : lv_has ls 2 [(0, .int x0), (1, .int x1)] := hl
  rw [J_min] at h
  refine lv_iload_n hx hb dJ4_min_0 rfl (lv_at hl 0 rfl) ?_
  refine lv_iload_n hx hb dJ4_min_1 rfl (lv_at hl 1 rfl) ?_
  refine lv_icmp_gt (tgt := 9) hx hb dJ4_min_2 rfl (fun c1 => ?_) (fun c1 => ?_)
  · have h := if_some_t h c1
    refine lv_iload_n hx hb dJ4_min_9 rfl (lv_at hl 1 rfl) ?_
    exact mm_iret hx hb hr hlk h dJ4_min_10
  · have h := if_some_f h c1
    refine lv_iload_n hx hb dJ4_min_5 rfl (lv_at hl 0 rfl) ?_
    refine lv_goto (tgt := 10) hx hb dJ4_min_6 rfl ?_
    exact mm_iret hx hb hr hlk h dJ4_min_10
theorem q696 : (Jvm.Cond.code ({ cls := "java/lang/Math", name := "min", desc := "(II)I" } : Jvm.MethodName) prog_34_method_69_code (2 : Nat) (Option.some Jvm.ClassFile.FieldType.int)) ∈ lw_all := lw_g (lw_at lw_m3 132 rfl) rfl
theorem q695 : (Jvm.Cond.static ({ cls := "java/lang/Math", name := "min", desc := "(II)I" } : Jvm.MethodName)) ∈ lw_all := lw_g (lw_at lw_m3 131 rfl) rfl
theorem k_J_min {a0 : Int32} {a1 : Int32} {v : Int32} (hx : p.tables.exec = Jvm.exec) (hb : c.code = cc) (hml : c.maxLocals = nL) (hown : s.vm.findClass own = some m.cls) (hts : ∀ w ∈ lw_all, w.before args s = true) (hR : d ≤ R.frames ∧ 40 * d ≤ R.locals) (hl : Cond.methodLink own index yJ4_min ∈ lw_all) (h : J_min a0 a1 = some v) (hd : 0 + 1 ≤ d) (hsz : ls.size = nL) (hW : (rest.map fun v => v.category).sum ≤ 8) (hcs : cells ≤ R.cells ∧ slots ≤ R.slots) (hdg : decode cc pc = .ok (.invokestatic index, 3)) (kk : W p l e R s m args below meth c H locs cells slots Q (F0 m (pc + 3) ls (.int v :: rest))) : W p l e R s m args below meth c H locs cells slots Q (F0 m pc ls (.int a1 :: .int a0 :: rest)) :=
  W.callR (W.runS (As := [.int a0, .int a1]) (rest := rest) ⟨hx, hb, hml, hown, hts⟩ (w_J_min h) (va_cwS 2 hts (lw_S hl q695 q105 q696) rfl rfl rfl (by decide +kernel) (mr_ hR hd (by decide))) preEq rfl rfl hsz rfl (lv_room hW) hdg hcs) kk
abbrev cJ3_bitCount : ByteArray := prog_33_method_49_code
def yJ3_bitCount : MethodName := ⟨RJ3, "bitCount", "(I)I"⟩
theorem dJ3_bitCount_0 : decode cJ3_bitCount 0 = .ok (.iload_n 0, 1) := by decide +kernel
theorem dJ3_bitCount_1 : decode cJ3_bitCount 1 = .ok (.iload_n 0, 1) := by decide +kernel
theorem dJ3_bitCount_2 : decode cJ3_bitCount 2 = .ok (.iconst 1, 1) := by decide +kernel
theorem dJ3_bitCount_3 : decode cJ3_bitCount 3 = .ok (.iushr, 1) := by decide +kernel
theorem dJ3_bitCount_4 : decode cJ3_bitCount 4 = .ok (.ldc_w 265, 3) := by decide +kernel
theorem dJ3_bitCount_7 : decode cJ3_bitCount 7 = .ok (.iand, 1) := by decide +kernel
theorem dJ3_bitCount_8 : decode cJ3_bitCount 8 = .ok (.isub, 1) := by decide +kernel
theorem dJ3_bitCount_9 : decode cJ3_bitCount 9 = .ok (.istore_n 0, 1) := by decide +kernel
theorem dJ3_bitCount_10 : decode cJ3_bitCount 10 = .ok (.iload_n 0, 1) := by decide +kernel
theorem dJ3_bitCount_11 : decode cJ3_bitCount 11 = .ok (.ldc_w 266, 3) := by decide +kernel
theorem dJ3_bitCount_14 : decode cJ3_bitCount 14 = .ok (.iand, 1) := by decide +kernel
theorem dJ3_bitCount_15 : decode cJ3_bitCount 15 = .ok (.iload_n 0, 1) := by decide +kernel
theorem dJ3_bitCount_16 : decode cJ3_bitCount 16 = .ok (.iconst 2, 1) := by decide +kernel
theorem dJ3_bitCount_17 : decode cJ3_bitCount 17 = .ok (.iushr, 1) := by decide +kernel
theorem dJ3_bitCount_18 : decode cJ3_bitCount 18 = .ok (.ldc_w 266, 3) := by decide +kernel
theorem dJ3_bitCount_21 : decode cJ3_bitCount 21 = .ok (.iand, 1) := by decide +kernel
theorem dJ3_bitCount_22 : decode cJ3_bitCount 22 = .ok (.iadd, 1) := by decide +kernel
theorem dJ3_bitCount_23 : decode cJ3_bitCount 23 = .ok (.istore_n 0, 1) := by decide +kernel
theorem dJ3_bitCount_24 : decode cJ3_bitCount 24 = .ok (.iload_n 0, 1) := by decide +kernel
theorem dJ3_bitCount_25 : decode cJ3_bitCount 25 = .ok (.iload_n 0, 1) := by decide +kernel
theorem dJ3_bitCount_26 : decode cJ3_bitCount 26 = .ok (.iconst 4, 1) := by decide +kernel
theorem dJ3_bitCount_27 : decode cJ3_bitCount 27 = .ok (.iushr, 1) := by decide +kernel
theorem dJ3_bitCount_28 : decode cJ3_bitCount 28 = .ok (.iadd, 1) := by decide +kernel
theorem dJ3_bitCount_29 : decode cJ3_bitCount 29 = .ok (.ldc_w 267, 3) := by decide +kernel
theorem dJ3_bitCount_32 : decode cJ3_bitCount 32 = .ok (.iand, 1) := by decide +kernel
theorem dJ3_bitCount_33 : decode cJ3_bitCount 33 = .ok (.istore_n 0, 1) := by decide +kernel
theorem dJ3_bitCount_34 : decode cJ3_bitCount 34 = .ok (.iload_n 0, 1) := by decide +kernel
theorem dJ3_bitCount_35 : decode cJ3_bitCount 35 = .ok (.iload_n 0, 1) := by decide +kernel
theorem dJ3_bitCount_36 : decode cJ3_bitCount 36 = .ok (.bipush 8, 2) := by decide +kernel
theorem dJ3_bitCount_38 : decode cJ3_bitCount 38 = .ok (.iushr, 1) := by decide +kernel
theorem dJ3_bitCount_39 : decode cJ3_bitCount 39 = .ok (.iadd, 1) := by decide +kernel
theorem dJ3_bitCount_40 : decode cJ3_bitCount 40 = .ok (.istore_n 0, 1) := by decide +kernel
theorem dJ3_bitCount_41 : decode cJ3_bitCount 41 = .ok (.iload_n 0, 1) := by decide +kernel
theorem dJ3_bitCount_42 : decode cJ3_bitCount 42 = .ok (.iload_n 0, 1) := by decide +kernel
theorem dJ3_bitCount_43 : decode cJ3_bitCount 43 = .ok (.bipush 16, 2) := by decide +kernel
theorem dJ3_bitCount_45 : decode cJ3_bitCount 45 = .ok (.iushr, 1) := by decide +kernel
theorem dJ3_bitCount_46 : decode cJ3_bitCount 46 = .ok (.iadd, 1) := by decide +kernel
theorem dJ3_bitCount_47 : decode cJ3_bitCount 47 = .ok (.istore_n 0, 1) := by decide +kernel
theorem dJ3_bitCount_48 : decode cJ3_bitCount 48 = .ok (.iload_n 0, 1) := by decide +kernel
theorem dJ3_bitCount_49 : decode cJ3_bitCount 49 = .ok (.bipush 63, 2) := by decide +kernel
theorem dJ3_bitCount_51 : decode cJ3_bitCount 51 = .ok (.iand, 1) := by decide +kernel
theorem dJ3_bitCount_52 : decode cJ3_bitCount 52 = .ok (.ireturn, 1) := by decide +kernel
theorem q619 : (Jvm.Cond.constant "java/lang/Integer" (265 : Nat) (1431655765 : Int32)) ∈ lw_all := lw_g (lw_at lw_m3 55 rfl) rfl
theorem q620 : (Jvm.Cond.constant "java/lang/Integer" (266 : Nat) (858993459 : Int32)) ∈ lw_all := lw_g (lw_at lw_m3 56 rfl) rfl
theorem q621 : (Jvm.Cond.constant "java/lang/Integer" (267 : Nat) (252645135 : Int32)) ∈ lw_all := lw_g (lw_at lw_m3 57 rfl) rfl
theorem w_J_bitCount {l : Launch} {x0 : Int32} {r : Int32} (h : J_bitCount x0 = some r) : mS l yJ3_bitCount cJ3_bitCount 1 (some .int) 0 [.int x0] r := by
  refine mm_ofS (by decide) (Nat.le_of_ble_eq_true rfl) (fun p e s m below meth c R args ls C hr hlk hl hcs => ?_)
  have hx := C.1
  have hb := C.2.1
  have hown : s.vm.findClass RJ3 = some m.cls := C.2.2.2.1
  have hl : lv_has ls 1 [(0, .int x0)] := hl
  rw [J_bitCount] at h
  refine lv_iload_n hx hb dJ3_bitCount_0 rfl (lv_at hl 0 rfl) ?_
  refine lv_iload_n hx hb dJ3_bitCount_1 rfl (lv_at hl 0 rfl) ?_
  refine lv_iconst (v := 1) hx hb dJ3_bitCount_2 (by decide) ?_
  refine lv_iushr (v := (x0.toUInt32 >>> ((1 : Int32).toUInt32 &&& Int32.toUInt32 31)).toInt32) hx hb dJ3_bitCount_3 rfl ?_
  refine lv_ldcw hx hb hown (C.2.2.2.2.1 _ q619) dJ3_bitCount_4 ?_
  refine lv_iand hx hb dJ3_bitCount_7 ?_
  refine lv_isub hx hb dJ3_bitCount_8 ?_
  obtain ⟨e1, he1, h⟩ := bd1_some h
  refine cc_nm (Option.some.inj he1) ?_
  refine lv_istore_n (lv' := [(0, .int e1)]) hx hb dJ3_bitCount_9 rfl hl (by decide) rfl (fun ls hl => ?_)
  refine lv_iload_n hx hb dJ3_bitCount_10 rfl (lv_at hl 0 rfl) ?_
  refine lv_ldcw hx hb hown (C.2.2.2.2.1 _ q620) dJ3_bitCount_11 ?_
  refine lv_iand hx hb dJ3_bitCount_14 ?_
  refine lv_iload_n hx hb dJ3_bitCount_15 rfl (lv_at hl 0 rfl) ?_
  refine lv_iconst (v := 2) hx hb dJ3_bitCount_16 (by decide) ?_
  refine lv_iushr (v := (e1.toUInt32 >>> ((2 : Int32).toUInt32 &&& Int32.toUInt32 31)).toInt32) hx hb dJ3_bitCount_17 rfl ?_
  refine lv_ldcw hx hb hown (C.2.2.2.2.1 _ q620) dJ3_bitCount_18 ?_
  refine lv_iand hx hb dJ3_bitCount_21 ?_
  refine lv_iadd hx hb dJ3_bitCount_22 ?_
  obtain ⟨e2, he2, h⟩ := bd1_some h
  refine cc_nm (Option.some.inj he2) ?_
  refine lv_istore_n (lv' := [(0, .int e2)]) hx hb dJ3_bitCount_23 rfl hl (by decide) rfl (fun ls hl => ?_)
  refine lv_iload_n hx hb dJ3_bitCount_24 rfl (lv_at hl 0 rfl) ?_
  refine lv_iload_n hx hb dJ3_bitCount_25 rfl (lv_at hl 0 rfl) ?_
  refine lv_iconst (v := 4) hx hb dJ3_bitCount_26 (by decide) ?_
  refine lv_iushr (v := (e2.toUInt32 >>> ((4 : Int32).toUInt32 &&& Int32.toUInt32 31)).toInt32) hx hb dJ3_bitCount_27 rfl ?_
  refine lv_iadd hx hb dJ3_bitCount_28 ?_
  refine lv_ldcw hx hb hown (C.2.2.2.2.1 _ q621) dJ3_bitCount_29 ?_
  refine lv_iand hx hb dJ3_bitCount_32 ?_
  obtain ⟨e3, he3, h⟩ := bd1_some h
  refine cc_nm (Option.some.inj he3) ?_
  refine lv_istore_n (lv' := [(0, .int e3)]) hx hb dJ3_bitCount_33 rfl hl (by decide) rfl (fun ls hl => ?_)
  refine lv_iload_n hx hb dJ3_bitCount_34 rfl (lv_at hl 0 rfl) ?_
  refine lv_iload_n hx hb dJ3_bitCount_35 rfl (lv_at hl 0 rfl) ?_
  refine lv_bipush (v := 8) hx hb dJ3_bitCount_36 (by decide) ?_
  refine lv_iushr (v := (e3.toUInt32 >>> ((8 : Int32).toUInt32 &&& Int32.toUInt32 31)).toInt32) hx hb dJ3_bitCount_38 rfl ?_
  refine lv_iadd hx hb dJ3_bitCount_39 ?_
  obtain ⟨e4, he4, h⟩ := bd1_some h
  refine cc_nm (Option.some.inj he4) ?_
  refine lv_istore_n (lv' := [(0, .int e4)]) hx hb dJ3_bitCount_40 rfl hl (by decide) rfl (fun ls hl => ?_)
  refine lv_iload_n hx hb dJ3_bitCount_41 rfl (lv_at hl 0 rfl) ?_
  refine lv_iload_n hx hb dJ3_bitCount_42 rfl (lv_at hl 0 rfl) ?_
  refine lv_bipush (v := 16) hx hb dJ3_bitCount_43 (by decide) ?_
  refine lv_iushr (v := (e4.toUInt32 >>> ((16 : Int32).toUInt32 &&& Int32.toUInt32 31)).toInt32) hx hb dJ3_bitCount_45 rfl ?_
  refine lv_iadd hx hb dJ3_bitCount_46 ?_
  obtain ⟨e5, he5, h⟩ := bd1_some h
  refine cc_nm (Option.some.inj he5) ?_
  refine lv_istore_n (lv' := [(0, .int e5)]) hx hb dJ3_bitCount_47 rfl hl (by decide) rfl (fun ls hl => ?_)
  refine lv_iload_n hx hb dJ3_bitCount_48 rfl (lv_at hl 0 rfl) ?_
  refine lv_bipush (v := 63) hx hb dJ3_bitCount_49 (by decide) ?_
  refine lv_iand hx hb dJ3_bitCount_51 ?_
  exact mm_iret hx hb hr hlk h dJ3_bitCount_52
theorem q618 : (Jvm.Cond.code ({ cls := "java/lang/Integer", name := "bitCount", desc := "(I)I" } : Jvm.MethodName) prog_33_method_49_code (1 : Nat) (Option.some Jvm.ClassFile.FieldType.int)) ∈ lw_all := lw_g (lw_at lw_m3 54 rfl) rfl
theorem q617 : (Jvm.Cond.static ({ cls := "java/lang/Integer", name := "bitCount", desc := "(I)I" } : Jvm.MethodName)) ∈ lw_all := lw_g (lw_at lw_m3 53 rfl) rfl
theorem q102 : (Jvm.Cond.initialized "java/lang/Integer") ∈ lw_all := lw_g (lw_at lw_m1 18 rfl) rfl
theorem k_J_bitCount {a0 : Int32} {v : Int32} (hx : p.tables.exec = Jvm.exec) (hb : c.code = cc) (hml : c.maxLocals = nL) (hown : s.vm.findClass own = some m.cls) (hts : ∀ w ∈ lw_all, w.before args s = true) (hR : d ≤ R.frames ∧ 40 * d ≤ R.locals) (hl : Cond.methodLink own index yJ3_bitCount ∈ lw_all) (h : J_bitCount a0 = some v) (hd : 0 + 1 ≤ d) (hsz : ls.size = nL) (hW : (rest.map fun v => v.category).sum ≤ 8) (hcs : cells ≤ R.cells ∧ slots ≤ R.slots) (hdg : decode cc pc = .ok (.invokestatic index, 3)) (kk : W p l e R s m args below meth c H locs cells slots Q (F0 m (pc + 3) ls (.int v :: rest))) : W p l e R s m args below meth c H locs cells slots Q (F0 m pc ls (.int a0 :: rest)) :=
  W.callR (W.runS (As := [.int a0]) (rest := rest) ⟨hx, hb, hml, hown, hts⟩ (w_J_bitCount h) (va_cwS 1 hts (lw_S hl q617 q102 q618) rfl rfl rfl (by decide +kernel) (mr_ hR hd (by decide))) preEq rfl rfl hsz rfl (lv_room hW) hdg hcs) kk
abbrev cJ3_numberOfTrailingZeros : ByteArray := prog_33_method_48_code
def yJ3_numberOfTrailingZeros : MethodName := ⟨RJ3, "numberOfTrailingZeros", "(I)I"⟩
theorem dJ3_numberOfTrailingZeros_0 : decode cJ3_numberOfTrailingZeros 0 = .ok (.iload_n 0, 1) := by decide +kernel
theorem dJ3_numberOfTrailingZeros_1 : decode cJ3_numberOfTrailingZeros 1 = .ok (.iconst (-1), 1) := by decide +kernel
theorem dJ3_numberOfTrailingZeros_2 : decode cJ3_numberOfTrailingZeros 2 = .ok (.ixor, 1) := by decide +kernel
theorem dJ3_numberOfTrailingZeros_3 : decode cJ3_numberOfTrailingZeros 3 = .ok (.iload_n 0, 1) := by decide +kernel
theorem dJ3_numberOfTrailingZeros_4 : decode cJ3_numberOfTrailingZeros 4 = .ok (.iconst 1, 1) := by decide +kernel
theorem dJ3_numberOfTrailingZeros_5 : decode cJ3_numberOfTrailingZeros 5 = .ok (.isub, 1) := by decide +kernel
theorem dJ3_numberOfTrailingZeros_6 : decode cJ3_numberOfTrailingZeros 6 = .ok (.iand, 1) := by decide +kernel
theorem dJ3_numberOfTrailingZeros_7 : decode cJ3_numberOfTrailingZeros 7 = .ok (.istore_n 0, 1) := by decide +kernel
theorem dJ3_numberOfTrailingZeros_8 : decode cJ3_numberOfTrailingZeros 8 = .ok (.iload_n 0, 1) := by decide +kernel
theorem dJ3_numberOfTrailingZeros_9 : decode cJ3_numberOfTrailingZeros 9 = .ok (.ifCond .gt 8, 3) := by decide +kernel
theorem dJ3_numberOfTrailingZeros_12 : decode cJ3_numberOfTrailingZeros 12 = .ok (.iload_n 0, 1) := by decide +kernel
theorem dJ3_numberOfTrailingZeros_13 : decode cJ3_numberOfTrailingZeros 13 = .ok (.bipush 32, 2) := by decide +kernel
theorem dJ3_numberOfTrailingZeros_15 : decode cJ3_numberOfTrailingZeros 15 = .ok (.iand, 1) := by decide +kernel
theorem dJ3_numberOfTrailingZeros_16 : decode cJ3_numberOfTrailingZeros 16 = .ok (.ireturn, 1) := by decide +kernel
theorem dJ3_numberOfTrailingZeros_17 : decode cJ3_numberOfTrailingZeros 17 = .ok (.iconst 1, 1) := by decide +kernel
theorem dJ3_numberOfTrailingZeros_18 : decode cJ3_numberOfTrailingZeros 18 = .ok (.istore_n 1, 1) := by decide +kernel
theorem dJ3_numberOfTrailingZeros_19 : decode cJ3_numberOfTrailingZeros 19 = .ok (.iload_n 0, 1) := by decide +kernel
theorem dJ3_numberOfTrailingZeros_20 : decode cJ3_numberOfTrailingZeros 20 = .ok (.ldc_w 264, 3) := by decide +kernel
theorem dJ3_numberOfTrailingZeros_23 : decode cJ3_numberOfTrailingZeros 23 = .ok (.if_icmp .le 11, 3) := by decide +kernel
theorem dJ3_numberOfTrailingZeros_26 : decode cJ3_numberOfTrailingZeros 26 = .ok (.iinc 1 16, 3) := by decide +kernel
theorem dJ3_numberOfTrailingZeros_29 : decode cJ3_numberOfTrailingZeros 29 = .ok (.iload_n 0, 1) := by decide +kernel
theorem dJ3_numberOfTrailingZeros_30 : decode cJ3_numberOfTrailingZeros 30 = .ok (.bipush 16, 2) := by decide +kernel
theorem dJ3_numberOfTrailingZeros_32 : decode cJ3_numberOfTrailingZeros 32 = .ok (.iushr, 1) := by decide +kernel
theorem dJ3_numberOfTrailingZeros_33 : decode cJ3_numberOfTrailingZeros 33 = .ok (.istore_n 0, 1) := by decide +kernel
theorem dJ3_numberOfTrailingZeros_34 : decode cJ3_numberOfTrailingZeros 34 = .ok (.iload_n 0, 1) := by decide +kernel
theorem dJ3_numberOfTrailingZeros_35 : decode cJ3_numberOfTrailingZeros 35 = .ok (.sipush 256, 3) := by decide +kernel
theorem dJ3_numberOfTrailingZeros_38 : decode cJ3_numberOfTrailingZeros 38 = .ok (.if_icmp .le 11, 3) := by decide +kernel
theorem dJ3_numberOfTrailingZeros_41 : decode cJ3_numberOfTrailingZeros 41 = .ok (.iinc 1 8, 3) := by decide +kernel
theorem dJ3_numberOfTrailingZeros_44 : decode cJ3_numberOfTrailingZeros 44 = .ok (.iload_n 0, 1) := by decide +kernel
theorem dJ3_numberOfTrailingZeros_45 : decode cJ3_numberOfTrailingZeros 45 = .ok (.bipush 8, 2) := by decide +kernel
theorem dJ3_numberOfTrailingZeros_47 : decode cJ3_numberOfTrailingZeros 47 = .ok (.iushr, 1) := by decide +kernel
theorem dJ3_numberOfTrailingZeros_48 : decode cJ3_numberOfTrailingZeros 48 = .ok (.istore_n 0, 1) := by decide +kernel
theorem dJ3_numberOfTrailingZeros_49 : decode cJ3_numberOfTrailingZeros 49 = .ok (.iload_n 0, 1) := by decide +kernel
theorem dJ3_numberOfTrailingZeros_50 : decode cJ3_numberOfTrailingZeros 50 = .ok (.bipush 16, 2) := by decide +kernel
theorem dJ3_numberOfTrailingZeros_52 : decode cJ3_numberOfTrailingZeros 52 = .ok (.if_icmp .le 10, 3) := by decide +kernel
theorem dJ3_numberOfTrailingZeros_55 : decode cJ3_numberOfTrailingZeros 55 = .ok (.iinc 1 4, 3) := by decide +kernel
theorem dJ3_numberOfTrailingZeros_58 : decode cJ3_numberOfTrailingZeros 58 = .ok (.iload_n 0, 1) := by decide +kernel
theorem dJ3_numberOfTrailingZeros_59 : decode cJ3_numberOfTrailingZeros 59 = .ok (.iconst 4, 1) := by decide +kernel
theorem dJ3_numberOfTrailingZeros_60 : decode cJ3_numberOfTrailingZeros 60 = .ok (.iushr, 1) := by decide +kernel
theorem dJ3_numberOfTrailingZeros_61 : decode cJ3_numberOfTrailingZeros 61 = .ok (.istore_n 0, 1) := by decide +kernel
theorem dJ3_numberOfTrailingZeros_62 : decode cJ3_numberOfTrailingZeros 62 = .ok (.iload_n 0, 1) := by decide +kernel
theorem dJ3_numberOfTrailingZeros_63 : decode cJ3_numberOfTrailingZeros 63 = .ok (.iconst 4, 1) := by decide +kernel
theorem dJ3_numberOfTrailingZeros_64 : decode cJ3_numberOfTrailingZeros 64 = .ok (.if_icmp .le 10, 3) := by decide +kernel
theorem dJ3_numberOfTrailingZeros_67 : decode cJ3_numberOfTrailingZeros 67 = .ok (.iinc 1 2, 3) := by decide +kernel
theorem dJ3_numberOfTrailingZeros_70 : decode cJ3_numberOfTrailingZeros 70 = .ok (.iload_n 0, 1) := by decide +kernel
theorem dJ3_numberOfTrailingZeros_71 : decode cJ3_numberOfTrailingZeros 71 = .ok (.iconst 2, 1) := by decide +kernel
theorem dJ3_numberOfTrailingZeros_72 : decode cJ3_numberOfTrailingZeros 72 = .ok (.iushr, 1) := by decide +kernel
theorem dJ3_numberOfTrailingZeros_73 : decode cJ3_numberOfTrailingZeros 73 = .ok (.istore_n 0, 1) := by decide +kernel
theorem dJ3_numberOfTrailingZeros_74 : decode cJ3_numberOfTrailingZeros 74 = .ok (.iload_n 1, 1) := by decide +kernel
theorem dJ3_numberOfTrailingZeros_75 : decode cJ3_numberOfTrailingZeros 75 = .ok (.iload_n 0, 1) := by decide +kernel
theorem dJ3_numberOfTrailingZeros_76 : decode cJ3_numberOfTrailingZeros 76 = .ok (.iconst 1, 1) := by decide +kernel
theorem dJ3_numberOfTrailingZeros_77 : decode cJ3_numberOfTrailingZeros 77 = .ok (.iushr, 1) := by decide +kernel
theorem dJ3_numberOfTrailingZeros_78 : decode cJ3_numberOfTrailingZeros 78 = .ok (.iadd, 1) := by decide +kernel
theorem dJ3_numberOfTrailingZeros_79 : decode cJ3_numberOfTrailingZeros 79 = .ok (.ireturn, 1) := by decide +kernel
theorem q823 : (Jvm.Cond.constant "java/lang/Integer" (264 : Nat) (65536 : Int32)) ∈ lw_all := lw_g (lw_at lw_m4 19 rfl) rfl
theorem w_J_ntz {l : Launch} {x0 : Int32} {r : Int32} (h : J_ntz x0 = some r) : mS l yJ3_numberOfTrailingZeros cJ3_numberOfTrailingZeros 2 (some .int) 0 [.int x0] r := by
  refine mm_ofS (by decide) (Nat.le_of_ble_eq_true rfl) (fun p e s m below meth c R args ls C hr hlk hl hcs => ?_)
  have hx := C.1
  have hb := C.2.1
  have hown : s.vm.findClass RJ3 = some m.cls := C.2.2.2.1
  have hl : lv_has ls 2 [(0, .int x0)] := hl
  rw [J_ntz] at h
  refine lv_iload_n hx hb dJ3_numberOfTrailingZeros_0 rfl (lv_at hl 0 rfl) ?_
  refine lv_iconst (v := (-1)) hx hb dJ3_numberOfTrailingZeros_1 (by decide) ?_
  refine lv_ixor hx hb dJ3_numberOfTrailingZeros_2 ?_
  refine lv_iload_n hx hb dJ3_numberOfTrailingZeros_3 rfl (lv_at hl 0 rfl) ?_
  refine lv_iconst (v := 1) hx hb dJ3_numberOfTrailingZeros_4 (by decide) ?_
  refine lv_isub hx hb dJ3_numberOfTrailingZeros_5 ?_
  refine lv_iand hx hb dJ3_numberOfTrailingZeros_6 ?_
  refine lv_istore_n (lv' := [(0, .int ((x0 ^^^ (-1)) &&& (x0 - 1)))]) hx hb dJ3_numberOfTrailingZeros_7 rfl hl (by decide) rfl (fun ls hl => ?_)
  refine lv_iload_n hx hb dJ3_numberOfTrailingZeros_8 rfl (lv_at hl 0 rfl) ?_
  refine lv_if_gt (tgt := 17) hx hb dJ3_numberOfTrailingZeros_9 rfl (fun c1 => ?_) (fun c1 => ?_)
  · have h := if_some_t h c1
    refine lv_iconst (v := 1) hx hb dJ3_numberOfTrailingZeros_17 (by decide) ?_
    refine lv_istore_n (lv' := [(1, .int 1), (0, .int ((x0 ^^^ (-1)) &&& (x0 - 1)))]) hx hb dJ3_numberOfTrailingZeros_18 rfl hl (by decide) rfl (fun ls hl => ?_)
    refine lv_iload_n hx hb dJ3_numberOfTrailingZeros_19 rfl (lv_at hl 1 rfl) ?_
    refine lv_ldcw hx hb hown (C.2.2.2.2.1 _ q823) dJ3_numberOfTrailingZeros_20 ?_
    refine lv_icmp_le (tgt := 34) hx hb dJ3_numberOfTrailingZeros_23 rfl (fun c2 => ?_) (fun c2 => ?_)
    · have h := if_some_t h c2
      refine lv_iload_n hx hb dJ3_numberOfTrailingZeros_34 rfl (lv_at hl 1 rfl) ?_
      refine lv_sipush (v := 256) hx hb dJ3_numberOfTrailingZeros_35 (by decide) ?_
      refine lv_icmp_le (tgt := 49) hx hb dJ3_numberOfTrailingZeros_38 rfl (fun c3 => ?_) (fun c3 => ?_)
      · have h := if_some_t h c3
        refine lv_iload_n hx hb dJ3_numberOfTrailingZeros_49 rfl (lv_at hl 1 rfl) ?_
        refine lv_bipush (v := 16) hx hb dJ3_numberOfTrailingZeros_50 (by decide) ?_
        refine lv_icmp_le (tgt := 62) hx hb dJ3_numberOfTrailingZeros_52 rfl (fun c4 => ?_) (fun c4 => ?_)
        · have h := if_some_t h c4
          refine lv_iload_n hx hb dJ3_numberOfTrailingZeros_62 rfl (lv_at hl 1 rfl) ?_
          refine lv_iconst (v := 4) hx hb dJ3_numberOfTrailingZeros_63 (by decide) ?_
          refine lv_icmp_le (tgt := 74) hx hb dJ3_numberOfTrailingZeros_64 rfl (fun c5 => ?_) (fun c5 => ?_)
          · have h := if_some_t h c5
            refine lv_iload_n hx hb dJ3_numberOfTrailingZeros_74 rfl (lv_at hl 0 rfl) ?_
            refine lv_iload_n hx hb dJ3_numberOfTrailingZeros_75 rfl (lv_at hl 1 rfl) ?_
            refine lv_iconst (v := 1) hx hb dJ3_numberOfTrailingZeros_76 (by decide) ?_
            refine lv_iushr (v := (((x0 ^^^ (-1)) &&& (x0 - 1)).toUInt32 >>> ((1 : Int32).toUInt32 &&& Int32.toUInt32 31)).toInt32) hx hb dJ3_numberOfTrailingZeros_77 rfl ?_
            refine lv_iadd hx hb dJ3_numberOfTrailingZeros_78 ?_
            exact mm_iret hx hb hr hlk h dJ3_numberOfTrailingZeros_79
          · have h := if_some_f h c5
            refine lv_iinc (v := 3) (lv' := [(1, .int 3), (0, .int ((x0 ^^^ (-1)) &&& (x0 - 1)))]) hx hb dJ3_numberOfTrailingZeros_67 hl (k := 0) rfl (by decide) (by decide) rfl (fun ls hl => ?_)
            refine lv_iload_n hx hb dJ3_numberOfTrailingZeros_70 rfl (lv_at hl 1 rfl) ?_
            refine lv_iconst (v := 2) hx hb dJ3_numberOfTrailingZeros_71 (by decide) ?_
            refine lv_iushr (v := (((x0 ^^^ (-1)) &&& (x0 - 1)).toUInt32 >>> ((2 : Int32).toUInt32 &&& Int32.toUInt32 31)).toInt32) hx hb dJ3_numberOfTrailingZeros_72 rfl ?_
            obtain ⟨e6, he6, h⟩ := bd1_some h
            refine cc_nm (Option.some.inj he6) ?_
            refine lv_istore_n (lv' := [(0, .int e6), (1, .int 3)]) hx hb dJ3_numberOfTrailingZeros_73 rfl hl (by decide) rfl (fun ls hl => ?_)
            refine lv_iload_n hx hb dJ3_numberOfTrailingZeros_74 rfl (lv_at hl 1 rfl) ?_
            refine lv_iload_n hx hb dJ3_numberOfTrailingZeros_75 rfl (lv_at hl 0 rfl) ?_
            refine lv_iconst (v := 1) hx hb dJ3_numberOfTrailingZeros_76 (by decide) ?_
            refine lv_iushr (v := (e6.toUInt32 >>> ((1 : Int32).toUInt32 &&& Int32.toUInt32 31)).toInt32) hx hb dJ3_numberOfTrailingZeros_77 rfl ?_
            refine lv_iadd hx hb dJ3_numberOfTrailingZeros_78 ?_
            exact mm_iret hx hb hr hlk h dJ3_numberOfTrailingZeros_79
        · have h := if_some_f h c4
          refine lv_iinc (v := 5) (lv' := [(1, .int 5), (0, .int ((x0 ^^^ (-1)) &&& (x0 - 1)))]) hx hb dJ3_numberOfTrailingZeros_55 hl (k := 0) rfl (by decide) (by decide) rfl (fun ls hl => ?_)
          refine lv_iload_n hx hb dJ3_numberOfTrailingZeros_58 rfl (lv_at hl 1 rfl) ?_
          refine lv_iconst (v := 4) hx hb dJ3_numberOfTrailingZeros_59 (by decide) ?_
          refine lv_iushr (v := (((x0 ^^^ (-1)) &&& (x0 - 1)).toUInt32 >>> ((4 : Int32).toUInt32 &&& Int32.toUInt32 31)).toInt32) hx hb dJ3_numberOfTrailingZeros_60 rfl ?_
          obtain ⟨e7, he7, h⟩ := bd1_some h
          refine cc_nm (Option.some.inj he7) ?_
          refine lv_istore_n (lv' := [(0, .int e7), (1, .int 5)]) hx hb dJ3_numberOfTrailingZeros_61 rfl hl (by decide) rfl (fun ls hl => ?_)
          refine lv_iload_n hx hb dJ3_numberOfTrailingZeros_62 rfl (lv_at hl 0 rfl) ?_
          refine lv_iconst (v := 4) hx hb dJ3_numberOfTrailingZeros_63 (by decide) ?_
          refine lv_icmp_le (tgt := 74) hx hb dJ3_numberOfTrailingZeros_64 rfl (fun c8 => ?_) (fun c8 => ?_)
          · have h := if_some_t h c8
            refine lv_iload_n hx hb dJ3_numberOfTrailingZeros_74 rfl (lv_at hl 1 rfl) ?_
            refine lv_iload_n hx hb dJ3_numberOfTrailingZeros_75 rfl (lv_at hl 0 rfl) ?_
            refine lv_iconst (v := 1) hx hb dJ3_numberOfTrailingZeros_76 (by decide) ?_
            refine lv_iushr (v := (e7.toUInt32 >>> ((1 : Int32).toUInt32 &&& Int32.toUInt32 31)).toInt32) hx hb dJ3_numberOfTrailingZeros_77 rfl ?_
            refine lv_iadd hx hb dJ3_numberOfTrailingZeros_78 ?_
            exact mm_iret hx hb hr hlk h dJ3_numberOfTrailingZeros_79
          · have h := if_some_f h c8
            refine lv_iinc (v := 7) (lv' := [(1, .int 7), (0, .int e7)]) hx hb dJ3_numberOfTrailingZeros_67 hl (k := 1) rfl (by decide) (by decide) rfl (fun ls hl => ?_)
            refine lv_iload_n hx hb dJ3_numberOfTrailingZeros_70 rfl (lv_at hl 1 rfl) ?_
            refine lv_iconst (v := 2) hx hb dJ3_numberOfTrailingZeros_71 (by decide) ?_
            refine lv_iushr (v := (e7.toUInt32 >>> ((2 : Int32).toUInt32 &&& Int32.toUInt32 31)).toInt32) hx hb dJ3_numberOfTrailingZeros_72 rfl ?_
            obtain ⟨e9, he9, h⟩ := bd1_some h
            refine cc_nm (Option.some.inj he9) ?_
            refine lv_istore_n (lv' := [(0, .int e9), (1, .int 7)]) hx hb dJ3_numberOfTrailingZeros_73 rfl hl (by decide) rfl (fun ls hl => ?_)
            refine lv_iload_n hx hb dJ3_numberOfTrailingZeros_74 rfl (lv_at hl 1 rfl) ?_
            refine lv_iload_n hx hb dJ3_numberOfTrailingZeros_75 rfl (lv_at hl 0 rfl) ?_
            refine lv_iconst (v := 1) hx hb dJ3_numberOfTrailingZeros_76 (by decide) ?_
            refine lv_iushr (v := (e9.toUInt32 >>> ((1 : Int32).toUInt32 &&& Int32.toUInt32 31)).toInt32) hx hb dJ3_numberOfTrailingZeros_77 rfl ?_
            refine lv_iadd hx hb dJ3_numberOfTrailingZeros_78 ?_
            exact mm_iret hx hb hr hlk h dJ3_numberOfTrailingZeros_79
      · have h := if_some_f h c3
        refine lv_iinc (v := 9) (lv' := [(1, .int 9), (0, .int ((x0 ^^^ (-1)) &&& (x0 - 1)))]) hx hb dJ3_numberOfTrailingZeros_41 hl (k := 0) rfl (by decide) (by decide) rfl (fun ls hl => ?_)
        refine lv_iload_n hx hb dJ3_numberOfTrailingZeros_44 rfl (lv_at hl 1 rfl) ?_
        refine lv_bipush (v := 8) hx hb dJ3_numberOfTrailingZeros_45 (by decide) ?_
        refine lv_iushr (v := (((x0 ^^^ (-1)) &&& (x0 - 1)).toUInt32 >>> ((8 : Int32).toUInt32 &&& Int32.toUInt32 31)).toInt32) hx hb dJ3_numberOfTrailingZeros_47 rfl ?_
        obtain ⟨e10, he10, h⟩ := bd1_some h
        refine cc_nm (Option.some.inj he10) ?_
        refine lv_istore_n (lv' := [(0, .int e10), (1, .int 9)]) hx hb dJ3_numberOfTrailingZeros_48 rfl hl (by decide) rfl (fun ls hl => ?_)
        refine lv_iload_n hx hb dJ3_numberOfTrailingZeros_49 rfl (lv_at hl 0 rfl) ?_
        refine lv_bipush (v := 16) hx hb dJ3_numberOfTrailingZeros_50 (by decide) ?_
        refine lv_icmp_le (tgt := 62) hx hb dJ3_numberOfTrailingZeros_52 rfl (fun c11 => ?_) (fun c11 => ?_)
        · have h := if_some_t h c11
          refine lv_iload_n hx hb dJ3_numberOfTrailingZeros_62 rfl (lv_at hl 0 rfl) ?_
          refine lv_iconst (v := 4) hx hb dJ3_numberOfTrailingZeros_63 (by decide) ?_
          refine lv_icmp_le (tgt := 74) hx hb dJ3_numberOfTrailingZeros_64 rfl (fun c12 => ?_) (fun c12 => ?_)
          · have h := if_some_t h c12
            refine lv_iload_n hx hb dJ3_numberOfTrailingZeros_74 rfl (lv_at hl 1 rfl) ?_
            refine lv_iload_n hx hb dJ3_numberOfTrailingZeros_75 rfl (lv_at hl 0 rfl) ?_
            refine lv_iconst (v := 1) hx hb dJ3_numberOfTrailingZeros_76 (by decide) ?_
            refine lv_iushr (v := (e10.toUInt32 >>> ((1 : Int32).toUInt32 &&& Int32.toUInt32 31)).toInt32) hx hb dJ3_numberOfTrailingZeros_77 rfl ?_
            refine lv_iadd hx hb dJ3_numberOfTrailingZeros_78 ?_
            exact mm_iret hx hb hr hlk h dJ3_numberOfTrailingZeros_79
          · have h := if_some_f h c12
            refine lv_iinc (v := 11) (lv' := [(1, .int 11), (0, .int e10)]) hx hb dJ3_numberOfTrailingZeros_67 hl (k := 1) rfl (by decide) (by decide) rfl (fun ls hl => ?_)
            refine lv_iload_n hx hb dJ3_numberOfTrailingZeros_70 rfl (lv_at hl 1 rfl) ?_
            refine lv_iconst (v := 2) hx hb dJ3_numberOfTrailingZeros_71 (by decide) ?_
            refine lv_iushr (v := (e10.toUInt32 >>> ((2 : Int32).toUInt32 &&& Int32.toUInt32 31)).toInt32) hx hb dJ3_numberOfTrailingZeros_72 rfl ?_
            obtain ⟨e13, he13, h⟩ := bd1_some h
            refine cc_nm (Option.some.inj he13) ?_
            refine lv_istore_n (lv' := [(0, .int e13), (1, .int 11)]) hx hb dJ3_numberOfTrailingZeros_73 rfl hl (by decide) rfl (fun ls hl => ?_)
            refine lv_iload_n hx hb dJ3_numberOfTrailingZeros_74 rfl (lv_at hl 1 rfl) ?_
            refine lv_iload_n hx hb dJ3_numberOfTrailingZeros_75 rfl (lv_at hl 0 rfl) ?_
            refine lv_iconst (v := 1) hx hb dJ3_numberOfTrailingZeros_76 (by decide) ?_
            refine lv_iushr (v := (e13.toUInt32 >>> ((1 : Int32).toUInt32 &&& Int32.toUInt32 31)).toInt32) hx hb dJ3_numberOfTrailingZeros_77 rfl ?_
            refine lv_iadd hx hb dJ3_numberOfTrailingZeros_78 ?_
            exact mm_iret hx hb hr hlk h dJ3_numberOfTrailingZeros_79
        · have h := if_some_f h c11
          refine lv_iinc (v := 13) (lv' := [(1, .int 13), (0, .int e10)]) hx hb dJ3_numberOfTrailingZeros_55 hl (k := 1) rfl (by decide) (by decide) rfl (fun ls hl => ?_)
          refine lv_iload_n hx hb dJ3_numberOfTrailingZeros_58 rfl (lv_at hl 1 rfl) ?_
          refine lv_iconst (v := 4) hx hb dJ3_numberOfTrailingZeros_59 (by decide) ?_
          refine lv_iushr (v := (e10.toUInt32 >>> ((4 : Int32).toUInt32 &&& Int32.toUInt32 31)).toInt32) hx hb dJ3_numberOfTrailingZeros_60 rfl ?_
          obtain ⟨e14, he14, h⟩ := bd1_some h
          refine cc_nm (Option.some.inj he14) ?_
          refine lv_istore_n (lv' := [(0, .int e14), (1, .int 13)]) hx hb dJ3_numberOfTrailingZeros_61 rfl hl (by decide) rfl (fun ls hl => ?_)
          refine lv_iload_n hx hb dJ3_numberOfTrailingZeros_62 rfl (lv_at hl 0 rfl) ?_
          refine lv_iconst (v := 4) hx hb dJ3_numberOfTrailingZeros_63 (by decide) ?_
          refine lv_icmp_le (tgt := 74) hx hb dJ3_numberOfTrailingZeros_64 rfl (fun c15 => ?_) (fun c15 => ?_)
          · have h := if_some_t h c15
            refine lv_iload_n hx hb dJ3_numberOfTrailingZeros_74 rfl (lv_at hl 1 rfl) ?_
            refine lv_iload_n hx hb dJ3_numberOfTrailingZeros_75 rfl (lv_at hl 0 rfl) ?_
            refine lv_iconst (v := 1) hx hb dJ3_numberOfTrailingZeros_76 (by decide) ?_
            refine lv_iushr (v := (e14.toUInt32 >>> ((1 : Int32).toUInt32 &&& Int32.toUInt32 31)).toInt32) hx hb dJ3_numberOfTrailingZeros_77 rfl ?_
            refine lv_iadd hx hb dJ3_numberOfTrailingZeros_78 ?_
            exact mm_iret hx hb hr hlk h dJ3_numberOfTrailingZeros_79
          · have h := if_some_f h c15
            refine lv_iinc (v := 15) (lv' := [(1, .int 15), (0, .int e14)]) hx hb dJ3_numberOfTrailingZeros_67 hl (k := 1) rfl (by decide) (by decide) rfl (fun ls hl => ?_)
            refine lv_iload_n hx hb dJ3_numberOfTrailingZeros_70 rfl (lv_at hl 1 rfl) ?_
            refine lv_iconst (v := 2) hx hb dJ3_numberOfTrailingZeros_71 (by decide) ?_
            refine lv_iushr (v := (e14.toUInt32 >>> ((2 : Int32).toUInt32 &&& Int32.toUInt32 31)).toInt32) hx hb dJ3_numberOfTrailingZeros_72 rfl ?_
            obtain ⟨e16, he16, h⟩ := bd1_some h
            refine cc_nm (Option.some.inj he16) ?_
            refine lv_istore_n (lv' := [(0, .int e16), (1, .int 15)]) hx hb dJ3_numberOfTrailingZeros_73 rfl hl (by decide) rfl (fun ls hl => ?_)
            refine lv_iload_n hx hb dJ3_numberOfTrailingZeros_74 rfl (lv_at hl 1 rfl) ?_
            refine lv_iload_n hx hb dJ3_numberOfTrailingZeros_75 rfl (lv_at hl 0 rfl) ?_
            refine lv_iconst (v := 1) hx hb dJ3_numberOfTrailingZeros_76 (by decide) ?_
            refine lv_iushr (v := (e16.toUInt32 >>> ((1 : Int32).toUInt32 &&& Int32.toUInt32 31)).toInt32) hx hb dJ3_numberOfTrailingZeros_77 rfl ?_
            refine lv_iadd hx hb dJ3_numberOfTrailingZeros_78 ?_
            exact mm_iret hx hb hr hlk h dJ3_numberOfTrailingZeros_79
    · have h := if_some_f h c2
      refine lv_iinc (v := 17) (lv' := [(1, .int 17), (0, .int ((x0 ^^^ (-1)) &&& (x0 - 1)))]) hx hb dJ3_numberOfTrailingZeros_26 hl (k := 0) rfl (by decide) (by decide) rfl (fun ls hl => ?_)
      refine lv_iload_n hx hb dJ3_numberOfTrailingZeros_29 rfl (lv_at hl 1 rfl) ?_
      refine lv_bipush (v := 16) hx hb dJ3_numberOfTrailingZeros_30 (by decide) ?_
      refine lv_iushr (v := (((x0 ^^^ (-1)) &&& (x0 - 1)).toUInt32 >>> ((16 : Int32).toUInt32 &&& Int32.toUInt32 31)).toInt32) hx hb dJ3_numberOfTrailingZeros_32 rfl ?_
      obtain ⟨e17, he17, h⟩ := bd1_some h
      refine cc_nm (Option.some.inj he17) ?_
      refine lv_istore_n (lv' := [(0, .int e17), (1, .int 17)]) hx hb dJ3_numberOfTrailingZeros_33 rfl hl (by decide) rfl (fun ls hl => ?_)
      refine lv_iload_n hx hb dJ3_numberOfTrailingZeros_34 rfl (lv_at hl 0 rfl) ?_
      refine lv_sipush (v := 256) hx hb dJ3_numberOfTrailingZeros_35 (by decide) ?_
      refine lv_icmp_le (tgt := 49) hx hb dJ3_numberOfTrailingZeros_38 rfl (fun c18 => ?_) (fun c18 => ?_)
      · have h := if_some_t h c18
        refine lv_iload_n hx hb dJ3_numberOfTrailingZeros_49 rfl (lv_at hl 0 rfl) ?_
        refine lv_bipush (v := 16) hx hb dJ3_numberOfTrailingZeros_50 (by decide) ?_
        refine lv_icmp_le (tgt := 62) hx hb dJ3_numberOfTrailingZeros_52 rfl (fun c19 => ?_) (fun c19 => ?_)
        · have h := if_some_t h c19
          refine lv_iload_n hx hb dJ3_numberOfTrailingZeros_62 rfl (lv_at hl 0 rfl) ?_
          refine lv_iconst (v := 4) hx hb dJ3_numberOfTrailingZeros_63 (by decide) ?_
          refine lv_icmp_le (tgt := 74) hx hb dJ3_numberOfTrailingZeros_64 rfl (fun c20 => ?_) (fun c20 => ?_)
          · have h := if_some_t h c20
            refine lv_iload_n hx hb dJ3_numberOfTrailingZeros_74 rfl (lv_at hl 1 rfl) ?_
            refine lv_iload_n hx hb dJ3_numberOfTrailingZeros_75 rfl (lv_at hl 0 rfl) ?_
            refine lv_iconst (v := 1) hx hb dJ3_numberOfTrailingZeros_76 (by decide) ?_
            refine lv_iushr (v := (e17.toUInt32 >>> ((1 : Int32).toUInt32 &&& Int32.toUInt32 31)).toInt32) hx hb dJ3_numberOfTrailingZeros_77 rfl ?_
            refine lv_iadd hx hb dJ3_numberOfTrailingZeros_78 ?_
            exact mm_iret hx hb hr hlk h dJ3_numberOfTrailingZeros_79
          · have h := if_some_f h c20
            refine lv_iinc (v := 19) (lv' := [(1, .int 19), (0, .int e17)]) hx hb dJ3_numberOfTrailingZeros_67 hl (k := 1) rfl (by decide) (by decide) rfl (fun ls hl => ?_)
            refine lv_iload_n hx hb dJ3_numberOfTrailingZeros_70 rfl (lv_at hl 1 rfl) ?_
            refine lv_iconst (v := 2) hx hb dJ3_numberOfTrailingZeros_71 (by decide) ?_
            refine lv_iushr (v := (e17.toUInt32 >>> ((2 : Int32).toUInt32 &&& Int32.toUInt32 31)).toInt32) hx hb dJ3_numberOfTrailingZeros_72 rfl ?_
            obtain ⟨e21, he21, h⟩ := bd1_some h
            refine cc_nm (Option.some.inj he21) ?_
            refine lv_istore_n (lv' := [(0, .int e21), (1, .int 19)]) hx hb dJ3_numberOfTrailingZeros_73 rfl hl (by decide) rfl (fun ls hl => ?_)
            refine lv_iload_n hx hb dJ3_numberOfTrailingZeros_74 rfl (lv_at hl 1 rfl) ?_
            refine lv_iload_n hx hb dJ3_numberOfTrailingZeros_75 rfl (lv_at hl 0 rfl) ?_
            refine lv_iconst (v := 1) hx hb dJ3_numberOfTrailingZeros_76 (by decide) ?_
            refine lv_iushr (v := (e21.toUInt32 >>> ((1 : Int32).toUInt32 &&& Int32.toUInt32 31)).toInt32) hx hb dJ3_numberOfTrailingZeros_77 rfl ?_
            refine lv_iadd hx hb dJ3_numberOfTrailingZeros_78 ?_
            exact mm_iret hx hb hr hlk h dJ3_numberOfTrailingZeros_79
        · have h := if_some_f h c19
          refine lv_iinc (v := 21) (lv' := [(1, .int 21), (0, .int e17)]) hx hb dJ3_numberOfTrailingZeros_55 hl (k := 1) rfl (by decide) (by decide) rfl (fun ls hl => ?_)
          refine lv_iload_n hx hb dJ3_numberOfTrailingZeros_58 rfl (lv_at hl 1 rfl) ?_
          refine lv_iconst (v := 4) hx hb dJ3_numberOfTrailingZeros_59 (by decide) ?_
          refine lv_iushr (v := (e17.toUInt32 >>> ((4 : Int32).toUInt32 &&& Int32.toUInt32 31)).toInt32) hx hb dJ3_numberOfTrailingZeros_60 rfl ?_
          obtain ⟨e22, he22, h⟩ := bd1_some h
          refine cc_nm (Option.some.inj he22) ?_
          refine lv_istore_n (lv' := [(0, .int e22), (1, .int 21)]) hx hb dJ3_numberOfTrailingZeros_61 rfl hl (by decide) rfl (fun ls hl => ?_)
          refine lv_iload_n hx hb dJ3_numberOfTrailingZeros_62 rfl (lv_at hl 0 rfl) ?_
          refine lv_iconst (v := 4) hx hb dJ3_numberOfTrailingZeros_63 (by decide) ?_
          refine lv_icmp_le (tgt := 74) hx hb dJ3_numberOfTrailingZeros_64 rfl (fun c23 => ?_) (fun c23 => ?_)
          · have h := if_some_t h c23
            refine lv_iload_n hx hb dJ3_numberOfTrailingZeros_74 rfl (lv_at hl 1 rfl) ?_
            refine lv_iload_n hx hb dJ3_numberOfTrailingZeros_75 rfl (lv_at hl 0 rfl) ?_
            refine lv_iconst (v := 1) hx hb dJ3_numberOfTrailingZeros_76 (by decide) ?_
            refine lv_iushr (v := (e22.toUInt32 >>> ((1 : Int32).toUInt32 &&& Int32.toUInt32 31)).toInt32) hx hb dJ3_numberOfTrailingZeros_77 rfl ?_
            refine lv_iadd hx hb dJ3_numberOfTrailingZeros_78 ?_
            exact mm_iret hx hb hr hlk h dJ3_numberOfTrailingZeros_79
          · have h := if_some_f h c23
            refine lv_iinc (v := 23) (lv' := [(1, .int 23), (0, .int e22)]) hx hb dJ3_numberOfTrailingZeros_67 hl (k := 1) rfl (by decide) (by decide) rfl (fun ls hl => ?_)
            refine lv_iload_n hx hb dJ3_numberOfTrailingZeros_70 rfl (lv_at hl 1 rfl) ?_
            refine lv_iconst (v := 2) hx hb dJ3_numberOfTrailingZeros_71 (by decide) ?_
            refine lv_iushr (v := (e22.toUInt32 >>> ((2 : Int32).toUInt32 &&& Int32.toUInt32 31)).toInt32) hx hb dJ3_numberOfTrailingZeros_72 rfl ?_
            obtain ⟨e24, he24, h⟩ := bd1_some h
            refine cc_nm (Option.some.inj he24) ?_
            refine lv_istore_n (lv' := [(0, .int e24), (1, .int 23)]) hx hb dJ3_numberOfTrailingZeros_73 rfl hl (by decide) rfl (fun ls hl => ?_)
            refine lv_iload_n hx hb dJ3_numberOfTrailingZeros_74 rfl (lv_at hl 1 rfl) ?_
            refine lv_iload_n hx hb dJ3_numberOfTrailingZeros_75 rfl (lv_at hl 0 rfl) ?_
            refine lv_iconst (v := 1) hx hb dJ3_numberOfTrailingZeros_76 (by decide) ?_
            refine lv_iushr (v := (e24.toUInt32 >>> ((1 : Int32).toUInt32 &&& Int32.toUInt32 31)).toInt32) hx hb dJ3_numberOfTrailingZeros_77 rfl ?_
            refine lv_iadd hx hb dJ3_numberOfTrailingZeros_78 ?_
            exact mm_iret hx hb hr hlk h dJ3_numberOfTrailingZeros_79
      · have h := if_some_f h c18
        refine lv_iinc (v := 25) (lv' := [(1, .int 25), (0, .int e17)]) hx hb dJ3_numberOfTrailingZeros_41 hl (k := 1) rfl (by decide) (by decide) rfl (fun ls hl => ?_)
        refine lv_iload_n hx hb dJ3_numberOfTrailingZeros_44 rfl (lv_at hl 1 rfl) ?_
        refine lv_bipush (v := 8) hx hb dJ3_numberOfTrailingZeros_45 (by decide) ?_
        refine lv_iushr (v := (e17.toUInt32 >>> ((8 : Int32).toUInt32 &&& Int32.toUInt32 31)).toInt32) hx hb dJ3_numberOfTrailingZeros_47 rfl ?_
        obtain ⟨e25, he25, h⟩ := bd1_some h
        refine cc_nm (Option.some.inj he25) ?_
        refine lv_istore_n (lv' := [(0, .int e25), (1, .int 25)]) hx hb dJ3_numberOfTrailingZeros_48 rfl hl (by decide) rfl (fun ls hl => ?_)
        refine lv_iload_n hx hb dJ3_numberOfTrailingZeros_49 rfl (lv_at hl 0 rfl) ?_
        refine lv_bipush (v := 16) hx hb dJ3_numberOfTrailingZeros_50 (by decide) ?_
        refine lv_icmp_le (tgt := 62) hx hb dJ3_numberOfTrailingZeros_52 rfl (fun c26 => ?_) (fun c26 => ?_)
        · have h := if_some_t h c26
          refine lv_iload_n hx hb dJ3_numberOfTrailingZeros_62 rfl (lv_at hl 0 rfl) ?_
          refine lv_iconst (v := 4) hx hb dJ3_numberOfTrailingZeros_63 (by decide) ?_
          refine lv_icmp_le (tgt := 74) hx hb dJ3_numberOfTrailingZeros_64 rfl (fun c27 => ?_) (fun c27 => ?_)
          · have h := if_some_t h c27
            refine lv_iload_n hx hb dJ3_numberOfTrailingZeros_74 rfl (lv_at hl 1 rfl) ?_
            refine lv_iload_n hx hb dJ3_numberOfTrailingZeros_75 rfl (lv_at hl 0 rfl) ?_
            refine lv_iconst (v := 1) hx hb dJ3_numberOfTrailingZeros_76 (by decide) ?_
            refine lv_iushr (v := (e25.toUInt32 >>> ((1 : Int32).toUInt32 &&& Int32.toUInt32 31)).toInt32) hx hb dJ3_numberOfTrailingZeros_77 rfl ?_
            refine lv_iadd hx hb dJ3_numberOfTrailingZeros_78 ?_
            exact mm_iret hx hb hr hlk h dJ3_numberOfTrailingZeros_79
          · have h := if_some_f h c27
            refine lv_iinc (v := 27) (lv' := [(1, .int 27), (0, .int e25)]) hx hb dJ3_numberOfTrailingZeros_67 hl (k := 1) rfl (by decide) (by decide) rfl (fun ls hl => ?_)
            refine lv_iload_n hx hb dJ3_numberOfTrailingZeros_70 rfl (lv_at hl 1 rfl) ?_
            refine lv_iconst (v := 2) hx hb dJ3_numberOfTrailingZeros_71 (by decide) ?_
            refine lv_iushr (v := (e25.toUInt32 >>> ((2 : Int32).toUInt32 &&& Int32.toUInt32 31)).toInt32) hx hb dJ3_numberOfTrailingZeros_72 rfl ?_
            obtain ⟨e28, he28, h⟩ := bd1_some h
            refine cc_nm (Option.some.inj he28) ?_
            refine lv_istore_n (lv' := [(0, .int e28), (1, .int 27)]) hx hb dJ3_numberOfTrailingZeros_73 rfl hl (by decide) rfl (fun ls hl => ?_)
            refine lv_iload_n hx hb dJ3_numberOfTrailingZeros_74 rfl (lv_at hl 1 rfl) ?_
            refine lv_iload_n hx hb dJ3_numberOfTrailingZeros_75 rfl (lv_at hl 0 rfl) ?_
            refine lv_iconst (v := 1) hx hb dJ3_numberOfTrailingZeros_76 (by decide) ?_
            refine lv_iushr (v := (e28.toUInt32 >>> ((1 : Int32).toUInt32 &&& Int32.toUInt32 31)).toInt32) hx hb dJ3_numberOfTrailingZeros_77 rfl ?_
            refine lv_iadd hx hb dJ3_numberOfTrailingZeros_78 ?_
            exact mm_iret hx hb hr hlk h dJ3_numberOfTrailingZeros_79
        · have h := if_some_f h c26
          refine lv_iinc (v := 29) (lv' := [(1, .int 29), (0, .int e25)]) hx hb dJ3_numberOfTrailingZeros_55 hl (k := 1) rfl (by decide) (by decide) rfl (fun ls hl => ?_)
          refine lv_iload_n hx hb dJ3_numberOfTrailingZeros_58 rfl (lv_at hl 1 rfl) ?_
          refine lv_iconst (v := 4) hx hb dJ3_numberOfTrailingZeros_59 (by decide) ?_
          refine lv_iushr (v := (e25.toUInt32 >>> ((4 : Int32).toUInt32 &&& Int32.toUInt32 31)).toInt32) hx hb dJ3_numberOfTrailingZeros_60 rfl ?_
          obtain ⟨e29, he29, h⟩ := bd1_some h
          refine cc_nm (Option.some.inj he29) ?_
          refine lv_istore_n (lv' := [(0, .int e29), (1, .int 29)]) hx hb dJ3_numberOfTrailingZeros_61 rfl hl (by decide) rfl (fun ls hl => ?_)
          refine lv_iload_n hx hb dJ3_numberOfTrailingZeros_62 rfl (lv_at hl 0 rfl) ?_
          refine lv_iconst (v := 4) hx hb dJ3_numberOfTrailingZeros_63 (by decide) ?_
          refine lv_icmp_le (tgt := 74) hx hb dJ3_numberOfTrailingZeros_64 rfl (fun c30 => ?_) (fun c30 => ?_)
          · have h := if_some_t h c30
            refine lv_iload_n hx hb dJ3_numberOfTrailingZeros_74 rfl (lv_at hl 1 rfl) ?_
            refine lv_iload_n hx hb dJ3_numberOfTrailingZeros_75 rfl (lv_at hl 0 rfl) ?_
            refine lv_iconst (v := 1) hx hb dJ3_numberOfTrailingZeros_76 (by decide) ?_
            refine lv_iushr (v := (e29.toUInt32 >>> ((1 : Int32).toUInt32 &&& Int32.toUInt32 31)).toInt32) hx hb dJ3_numberOfTrailingZeros_77 rfl ?_
            refine lv_iadd hx hb dJ3_numberOfTrailingZeros_78 ?_
            exact mm_iret hx hb hr hlk h dJ3_numberOfTrailingZeros_79
          · have h := if_some_f h c30
            refine lv_iinc (v := 31) (lv' := [(1, .int 31), (0, .int e29)]) hx hb dJ3_numberOfTrailingZeros_67 hl (k := 1) rfl (by decide) (by decide) rfl (fun ls hl => ?_)
            refine lv_iload_n hx hb dJ3_numberOfTrailingZeros_70 rfl (lv_at hl 1 rfl) ?_
            refine lv_iconst (v := 2) hx hb dJ3_numberOfTrailingZeros_71 (by decide) ?_
            refine lv_iushr (v := (e29.toUInt32 >>> ((2 : Int32).toUInt32 &&& Int32.toUInt32 31)).toInt32) hx hb dJ3_numberOfTrailingZeros_72 rfl ?_
            obtain ⟨e31, he31, h⟩ := bd1_some h
            refine cc_nm (Option.some.inj he31) ?_
            refine lv_istore_n (lv' := [(0, .int e31), (1, .int 31)]) hx hb dJ3_numberOfTrailingZeros_73 rfl hl (by decide) rfl (fun ls hl => ?_)
            refine lv_iload_n hx hb dJ3_numberOfTrailingZeros_74 rfl (lv_at hl 1 rfl) ?_
            refine lv_iload_n hx hb dJ3_numberOfTrailingZeros_75 rfl (lv_at hl 0 rfl) ?_
            refine lv_iconst (v := 1) hx hb dJ3_numberOfTrailingZeros_76 (by decide) ?_
            refine lv_iushr (v := (e31.toUInt32 >>> ((1 : Int32).toUInt32 &&& Int32.toUInt32 31)).toInt32) hx hb dJ3_numberOfTrailingZeros_77 rfl ?_
            refine lv_iadd hx hb dJ3_numberOfTrailingZeros_78 ?_
            exact mm_iret hx hb hr hlk h dJ3_numberOfTrailingZeros_79
  · have h := if_some_f h c1
    refine lv_iload_n hx hb dJ3_numberOfTrailingZeros_12 rfl (lv_at hl 0 rfl) ?_
    refine lv_bipush (v := 32) hx hb dJ3_numberOfTrailingZeros_13 (by decide) ?_
    refine lv_iand hx hb dJ3_numberOfTrailingZeros_15 ?_
    exact mm_iret hx hb hr hlk h dJ3_numberOfTrailingZeros_16
theorem q822 : (Jvm.Cond.code ({ cls := "java/lang/Integer", name := "numberOfTrailingZeros", desc := "(I)I" } : Jvm.MethodName) prog_33_method_48_code (2 : Nat) (Option.some Jvm.ClassFile.FieldType.int)) ∈ lw_all := lw_g (lw_at lw_m4 18 rfl) rfl
theorem q821 : (Jvm.Cond.static ({ cls := "java/lang/Integer", name := "numberOfTrailingZeros", desc := "(I)I" } : Jvm.MethodName)) ∈ lw_all := lw_g (lw_at lw_m4 17 rfl) rfl
theorem k_J_ntz {a0 : Int32} {v : Int32} (hx : p.tables.exec = Jvm.exec) (hb : c.code = cc) (hml : c.maxLocals = nL) (hown : s.vm.findClass own = some m.cls) (hts : ∀ w ∈ lw_all, w.before args s = true) (hR : d ≤ R.frames ∧ 40 * d ≤ R.locals) (hl : Cond.methodLink own index yJ3_numberOfTrailingZeros ∈ lw_all) (h : J_ntz a0 = some v) (hd : 0 + 1 ≤ d) (hsz : ls.size = nL) (hW : (rest.map fun v => v.category).sum ≤ 8) (hcs : cells ≤ R.cells ∧ slots ≤ R.slots) (hdg : decode cc pc = .ok (.invokestatic index, 3)) (kk : W p l e R s m args below meth c H locs cells slots Q (F0 m (pc + 3) ls (.int v :: rest))) : W p l e R s m args below meth c H locs cells slots Q (F0 m pc ls (.int a0 :: rest)) :=
  W.callR (W.runS (As := [.int a0]) (rest := rest) ⟨hx, hb, hml, hown, hts⟩ (w_J_ntz h) (va_cwS 1 hts (lw_S hl q821 q102 q822) rfl rfl rfl (by decide +kernel) (mr_ hR hd (by decide))) preEq rfl rfl hsz rfl (lv_room hW) hdg hcs) kk
abbrev cX0_in : ByteArray := prog_1_method_1_code
def yX0_in : MethodName := ⟨RX0, "in", "(III)Z"⟩
theorem dX0_in_0 : decode cX0_in 0 = .ok (.iload_n 0, 1) := by decide +kernel
theorem dX0_in_1 : decode cX0_in 1 = .ok (.iload_n 1, 1) := by decide +kernel
theorem dX0_in_2 : decode cX0_in 2 = .ok (.if_icmp .lt 12, 3) := by decide +kernel
theorem dX0_in_5 : decode cX0_in 5 = .ok (.iload_n 0, 1) := by decide +kernel
theorem dX0_in_6 : decode cX0_in 6 = .ok (.iload_n 2, 1) := by decide +kernel
theorem dX0_in_7 : decode cX0_in 7 = .ok (.if_icmp .gt 7, 3) := by decide +kernel
theorem dX0_in_10 : decode cX0_in 10 = .ok (.iconst 1, 1) := by decide +kernel
theorem dX0_in_11 : decode cX0_in 11 = .ok (.goto 4, 3) := by decide +kernel
theorem dX0_in_14 : decode cX0_in 14 = .ok (.iconst 0, 1) := by decide +kernel
theorem dX0_in_15 : decode cX0_in 15 = .ok (.ireturn, 1) := by decide +kernel
theorem w_L_in {l : Launch} {x0 : Int32} {x1 : Int32} {x2 : Int32} {r : Int32} (h : L_in x0 x1 x2 = some r) : mS l yX0_in cX0_in 3 (some .boolean) 0 [.int x0, .int x1, .int x2] r := by
  refine mm_ofS (by decide) (Nat.le_of_ble_eq_true rfl) (fun p e s m below meth c R args ls C hr hlk hl hcs => ?_)
  have hx := C.1
  have hb := C.2.1
  have hown : s.vm.findClass RX0 = some m.cls := C.2.2.2.1
  have hl : lv_has ls 3 [(0, .int x0), (1, .int x1), (2, .int x2)] := hl
  rw [L_in] at h
  refine lv_iload_n hx hb dX0_in_0 rfl (lv_at hl 0 rfl) ?_
  refine lv_iload_n hx hb dX0_in_1 rfl (lv_at hl 1 rfl) ?_
  refine lv_icmp_lt (tgt := 14) hx hb dX0_in_2 rfl (fun c1 => ?_) (fun c1 => ?_)
  · have h := if_some_t h c1
    refine lv_iconst (v := 0) hx hb dX0_in_14 (by decide) ?_
    exact mm_zret hx hb hr hlk rfl h dX0_in_15
  · have h := if_some_f h c1
    refine lv_iload_n hx hb dX0_in_5 rfl (lv_at hl 0 rfl) ?_
    refine lv_iload_n hx hb dX0_in_6 rfl (lv_at hl 2 rfl) ?_
    refine lv_icmp_gt (tgt := 14) hx hb dX0_in_7 rfl (fun c2 => ?_) (fun c2 => ?_)
    · have h := if_some_t h c2
      refine lv_iconst (v := 0) hx hb dX0_in_14 (by decide) ?_
      exact mm_zret hx hb hr hlk rfl h dX0_in_15
    · have h := if_some_f h c2
      refine lv_iconst (v := 1) hx hb dX0_in_10 (by decide) ?_
      refine lv_goto (tgt := 15) hx hb dX0_in_11 rfl ?_
      exact mm_zret hx hb hr hlk rfl h dX0_in_15
theorem q401 : (Jvm.Cond.code ({ cls := "ChapterLoan", name := "in", desc := "(III)Z" } : Jvm.MethodName) prog_1_method_1_code (3 : Nat) (Option.some Jvm.ClassFile.FieldType.boolean)) ∈ lw_all := lw_g (lw_at lw_m2 77 rfl) rfl
theorem q400 : (Jvm.Cond.static ({ cls := "ChapterLoan", name := "in", desc := "(III)Z" } : Jvm.MethodName)) ∈ lw_all := lw_g (lw_at lw_m2 76 rfl) rfl
theorem q85 : (Jvm.Cond.initialized "ChapterLoan") ∈ lw_all := lw_g (lw_at lw_m1 1 rfl) rfl
theorem k_L_in {a0 : Int32} {a1 : Int32} {a2 : Int32} {v : Int32} (hx : p.tables.exec = Jvm.exec) (hb : c.code = cc) (hml : c.maxLocals = nL) (hown : s.vm.findClass own = some m.cls) (hts : ∀ w ∈ lw_all, w.before args s = true) (hR : d ≤ R.frames ∧ 40 * d ≤ R.locals) (hl : Cond.methodLink own index yX0_in ∈ lw_all) (h : L_in a0 a1 a2 = some v) (hd : 0 + 1 ≤ d) (hsz : ls.size = nL) (hW : (rest.map fun v => v.category).sum ≤ 8) (hcs : cells ≤ R.cells ∧ slots ≤ R.slots) (hdg : decode cc pc = .ok (.invokestatic index, 3)) (kk : W p l e R s m args below meth c H locs cells slots Q (F0 m (pc + 3) ls (.int v :: rest))) : W p l e R s m args below meth c H locs cells slots Q (F0 m pc ls (.int a2 :: .int a1 :: .int a0 :: rest)) :=
  W.callR (W.runS (As := [.int a0, .int a1, .int a2]) (rest := rest) ⟨hx, hb, hml, hown, hts⟩ (w_L_in h) (va_cwS 3 hts (lw_S hl q400 q85 q401) rfl rfl rfl (by decide +kernel) (mr_ hR hd (by decide))) preEq rfl rfl hsz rfl (lv_room hW) hdg hcs) kk
theorem k_L_inN {a0 : Int32} {a1 : Int32} {a2 : Int32} {v : Int32} {host : String} (hx : p.tables.exec = Jvm.exec) (hb : c.code = cc) (hml : c.maxLocals = nL) (hown : s.vm.findClass own = some m.cls) (hts : ∀ w ∈ lw_all, w.before args s = true) (hR : d ≤ R.frames ∧ 40 * d ≤ R.locals) (hN : cN s) (hl : Cond.methodLinkNest own index yX0_in host ∈ lw_nest) (h : L_in a0 a1 a2 = some v) (hd : 0 + 1 ≤ d) (hsz : ls.size = nL) (hW : (rest.map fun v => v.category).sum ≤ 8) (hcs : cells ≤ R.cells ∧ slots ≤ R.slots) (hdg : decode cc pc = .ok (.invokestatic index, 3)) (kk : W p l e R s m args below meth c H locs cells slots Q (F0 m (pc + 3) ls (.int v :: rest))) : W p l e R s m args below meth c H locs cells slots Q (F0 m pc ls (.int a2 :: .int a1 :: .int a0 :: rest)) :=
  cc_callRN (va_runSN (As := [.int a0, .int a1, .int a2]) (rest := rest) ⟨hx, hb, hml, hown, hts⟩ (w_L_in h) ⟨va_cnB 3 hts (lw_meth q401) rfl rfl rfl (hN _ hl) (hts _ q85) (by decide +kernel) (mr_ hR hd (by decide)), hts _ q400, trivial⟩ preEq rfl rfl hsz rfl (lv_room hW) hdg hcs) kk
abbrev cX0_isIn : ByteArray := prog_1_method_5_code
def yX0_isIn : MethodName := ⟨RX0, "isIn", "(II)Z"⟩
theorem dX0_isIn_0 : decode cX0_isIn 0 = .ok (.iload_n 0, 1) := by decide +kernel
theorem dX0_isIn_1 : decode cX0_isIn 1 = .ok (.iload_n 1, 1) := by decide +kernel
theorem dX0_isIn_2 : decode cX0_isIn 2 = .ok (.ishr, 1) := by decide +kernel
theorem dX0_isIn_3 : decode cX0_isIn 3 = .ok (.iconst 1, 1) := by decide +kernel
theorem dX0_isIn_4 : decode cX0_isIn 4 = .ok (.iand, 1) := by decide +kernel
theorem dX0_isIn_5 : decode cX0_isIn 5 = .ok (.iconst 1, 1) := by decide +kernel
theorem dX0_isIn_6 : decode cX0_isIn 6 = .ok (.if_icmp .ne 7, 3) := by decide +kernel
theorem dX0_isIn_9 : decode cX0_isIn 9 = .ok (.iconst 1, 1) := by decide +kernel
theorem dX0_isIn_10 : decode cX0_isIn 10 = .ok (.goto 4, 3) := by decide +kernel
theorem dX0_isIn_13 : decode cX0_isIn 13 = .ok (.iconst 0, 1) := by decide +kernel
theorem dX0_isIn_14 : decode cX0_isIn 14 = .ok (.ireturn, 1) := by decide +kernel
theorem w_L_isIn {l : Launch} {x0 : Int32} {x1 : Int32} {r : Int32} (h : L_isIn x0 x1 = some r) : mS l yX0_isIn cX0_isIn 2 (some .boolean) 0 [.int x0, .int x1] r := by
  refine mm_ofS (by decide) (Nat.le_of_ble_eq_true rfl) (fun p e s m below meth c R args ls C hr hlk hl hcs => ?_)
  have hx := C.1
  have hb := C.2.1
  have hown : s.vm.findClass RX0 = some m.cls := C.2.2.2.1
  have hl : lv_has ls 2 [(0, .int x0), (1, .int x1)] := hl
  rw [L_isIn] at h
  refine lv_iload_n hx hb dX0_isIn_0 rfl (lv_at hl 0 rfl) ?_
  refine lv_iload_n hx hb dX0_isIn_1 rfl (lv_at hl 1 rfl) ?_
  refine lv_ishr hx hb dX0_isIn_2 ?_
  refine lv_iconst (v := 1) hx hb dX0_isIn_3 (by decide) ?_
  refine lv_iand hx hb dX0_isIn_4 ?_
  refine lv_iconst (v := 1) hx hb dX0_isIn_5 (by decide) ?_
  refine lv_icmp_ne (tgt := 13) hx hb dX0_isIn_6 rfl (fun c1 => ?_) (fun c1 => ?_)
  · have h := if_some_f h c1
    refine lv_iconst (v := 0) hx hb dX0_isIn_13 (by decide) ?_
    exact mm_zret hx hb hr hlk rfl h dX0_isIn_14
  · have h := if_some_t h c1
    refine lv_iconst (v := 1) hx hb dX0_isIn_9 (by decide) ?_
    refine lv_goto (tgt := 14) hx hb dX0_isIn_10 rfl ?_
    exact mm_zret hx hb hr hlk rfl h dX0_isIn_14
theorem q441 : (Jvm.Cond.code ({ cls := "ChapterLoan", name := "isIn", desc := "(II)Z" } : Jvm.MethodName) prog_1_method_5_code (2 : Nat) (Option.some Jvm.ClassFile.FieldType.boolean)) ∈ lw_all := lw_g (lw_at lw_m2 117 rfl) rfl
theorem q440 : (Jvm.Cond.static ({ cls := "ChapterLoan", name := "isIn", desc := "(II)Z" } : Jvm.MethodName)) ∈ lw_all := lw_g (lw_at lw_m2 116 rfl) rfl
theorem k_L_isIn {a0 : Int32} {a1 : Int32} {v : Int32} (hx : p.tables.exec = Jvm.exec) (hb : c.code = cc) (hml : c.maxLocals = nL) (hown : s.vm.findClass own = some m.cls) (hts : ∀ w ∈ lw_all, w.before args s = true) (hR : d ≤ R.frames ∧ 40 * d ≤ R.locals) (hl : Cond.methodLink own index yX0_isIn ∈ lw_all) (h : L_isIn a0 a1 = some v) (hd : 0 + 1 ≤ d) (hsz : ls.size = nL) (hW : (rest.map fun v => v.category).sum ≤ 8) (hcs : cells ≤ R.cells ∧ slots ≤ R.slots) (hdg : decode cc pc = .ok (.invokestatic index, 3)) (kk : W p l e R s m args below meth c H locs cells slots Q (F0 m (pc + 3) ls (.int v :: rest))) : W p l e R s m args below meth c H locs cells slots Q (F0 m pc ls (.int a1 :: .int a0 :: rest)) :=
  W.callR (W.runS (As := [.int a0, .int a1]) (rest := rest) ⟨hx, hb, hml, hown, hts⟩ (w_L_isIn h) (va_cwS 2 hts (lw_S hl q440 q85 q441) rfl rfl rfl (by decide +kernel) (mr_ hR hd (by decide))) preEq rfl rfl hsz rfl (lv_room hW) hdg hcs) kk
theorem k_L_isInN {a0 : Int32} {a1 : Int32} {v : Int32} {host : String} (hx : p.tables.exec = Jvm.exec) (hb : c.code = cc) (hml : c.maxLocals = nL) (hown : s.vm.findClass own = some m.cls) (hts : ∀ w ∈ lw_all, w.before args s = true) (hR : d ≤ R.frames ∧ 40 * d ≤ R.locals) (hN : cN s) (hl : Cond.methodLinkNest own index yX0_isIn host ∈ lw_nest) (h : L_isIn a0 a1 = some v) (hd : 0 + 1 ≤ d) (hsz : ls.size = nL) (hW : (rest.map fun v => v.category).sum ≤ 8) (hcs : cells ≤ R.cells ∧ slots ≤ R.slots) (hdg : decode cc pc = .ok (.invokestatic index, 3)) (kk : W p l e R s m args below meth c H locs cells slots Q (F0 m (pc + 3) ls (.int v :: rest))) : W p l e R s m args below meth c H locs cells slots Q (F0 m pc ls (.int a1 :: .int a0 :: rest)) :=
  cc_callRN (va_runSN (As := [.int a0, .int a1]) (rest := rest) ⟨hx, hb, hml, hown, hts⟩ (w_L_isIn h) ⟨va_cnB 2 hts (lw_meth q441) rfl rfl rfl (hN _ hl) (hts _ q85) (by decide +kernel) (mr_ hR hd (by decide)), hts _ q440, trivial⟩ preEq rfl rfl hsz rfl (lv_room hW) hdg hcs) kk
abbrev cX0_isFigure : ByteArray := prog_1_method_10_code
def yX0_isFigure : MethodName := ⟨RX0, "isFigure", "(I)Z"⟩
theorem dX0_isFigure_0 : decode cX0_isFigure 0 = .ok (.iload_n 0, 1) := by decide +kernel
theorem dX0_isFigure_1 : decode cX0_isFigure 1 = .ok (.iconst 0, 1) := by decide +kernel
theorem dX0_isFigure_2 : decode cX0_isFigure 2 = .ok (.iconst 4, 1) := by decide +kernel
theorem dX0_isFigure_3 : decode cX0_isFigure 3 = .ok (.invokestatic 91, 3) := by decide +kernel
theorem dX0_isFigure_6 : decode cX0_isFigure 6 = .ok (.ireturn, 1) := by decide +kernel
theorem q399 : (Jvm.Cond.methodLink "ChapterLoan" (91 : Nat) ({ cls := "ChapterLoan", name := "in", desc := "(III)Z" } : Jvm.MethodName)) ∈ lw_all := lw_g (lw_at lw_m2 75 rfl) rfl
theorem w_L_isFigure {l : Launch} {x0 : Int32} {r : Int32} (h : L_isFigure x0 = some r) : mS l yX0_isFigure cX0_isFigure 1 (some .boolean) 1 [.int x0] r := by
  refine mm_ofS (by decide) (Nat.le_of_ble_eq_true rfl) (fun p e s m below meth c R args ls C hr hlk hl hcs => ?_)
  have hx := C.1
  have hb := C.2.1
  have hown : s.vm.findClass RX0 = some m.cls := C.2.2.2.1
  have hl : lv_has ls 1 [(0, .int x0)] := hl
  rw [L_isFigure] at h
  refine lv_iload_n hx hb dX0_isFigure_0 rfl (lv_at hl 0 rfl) ?_
  refine lv_iconst (v := 0) hx hb dX0_isFigure_1 (by decide) ?_
  refine lv_iconst (v := 4) hx hb dX0_isFigure_2 (by decide) ?_
  obtain ⟨v1, hv1, h⟩ := bd1_some h
  refine k_L_in hx hb C.2.2.1 hown C.2.2.2.2.1 C.2.2.2.2.2 q399 hv1 (Nat.le_of_ble_eq_true rfl) hl.1 (Nat.le_of_ble_eq_true rfl) hcs dX0_isFigure_3 ?_
  exact mm_zretV hx hb hr hlk h dX0_isFigure_6
theorem q1188 : (Jvm.Cond.code ({ cls := "ChapterLoan", name := "isFigure", desc := "(I)Z" } : Jvm.MethodName) prog_1_method_10_code (1 : Nat) (Option.some Jvm.ClassFile.FieldType.boolean)) ∈ lw_all := lw_g (lw_at lw_m5 144 rfl) rfl
theorem q1187 : (Jvm.Cond.static ({ cls := "ChapterLoan", name := "isFigure", desc := "(I)Z" } : Jvm.MethodName)) ∈ lw_all := lw_g (lw_at lw_m5 143 rfl) rfl
theorem k_L_isFigure {a0 : Int32} {v : Int32} (hx : p.tables.exec = Jvm.exec) (hb : c.code = cc) (hml : c.maxLocals = nL) (hown : s.vm.findClass own = some m.cls) (hts : ∀ w ∈ lw_all, w.before args s = true) (hR : d ≤ R.frames ∧ 40 * d ≤ R.locals) (hl : Cond.methodLink own index yX0_isFigure ∈ lw_all) (h : L_isFigure a0 = some v) (hd : 1 + 1 ≤ d) (hsz : ls.size = nL) (hW : (rest.map fun v => v.category).sum ≤ 8) (hcs : cells ≤ R.cells ∧ slots ≤ R.slots) (hdg : decode cc pc = .ok (.invokestatic index, 3)) (kk : W p l e R s m args below meth c H locs cells slots Q (F0 m (pc + 3) ls (.int v :: rest))) : W p l e R s m args below meth c H locs cells slots Q (F0 m pc ls (.int a0 :: rest)) :=
  W.callR (W.runS (As := [.int a0]) (rest := rest) ⟨hx, hb, hml, hown, hts⟩ (w_L_isFigure h) (va_cwS 1 hts (lw_S hl q1187 q85 q1188) rfl rfl rfl (by decide +kernel) (mr_ hR hd (by decide))) preEq rfl rfl hsz rfl (lv_room hW) hdg hcs) kk
abbrev cX0_isWeek : ByteArray := prog_1_method_11_code
def yX0_isWeek : MethodName := ⟨RX0, "isWeek", "(I)Z"⟩
theorem dX0_isWeek_0 : decode cX0_isWeek 0 = .ok (.iload_n 0, 1) := by decide +kernel
theorem dX0_isWeek_1 : decode cX0_isWeek 1 = .ok (.iconst 0, 1) := by decide +kernel
theorem dX0_isWeek_2 : decode cX0_isWeek 2 = .ok (.sipush 999, 3) := by decide +kernel
theorem dX0_isWeek_5 : decode cX0_isWeek 5 = .ok (.invokestatic 91, 3) := by decide +kernel
theorem dX0_isWeek_8 : decode cX0_isWeek 8 = .ok (.ireturn, 1) := by decide +kernel
theorem w_L_isWeek {l : Launch} {x0 : Int32} {r : Int32} (h : L_isWeek x0 = some r) : mS l yX0_isWeek cX0_isWeek 1 (some .boolean) 1 [.int x0] r := by
  refine mm_ofS (by decide) (Nat.le_of_ble_eq_true rfl) (fun p e s m below meth c R args ls C hr hlk hl hcs => ?_)
  have hx := C.1
  have hb := C.2.1
  have hown : s.vm.findClass RX0 = some m.cls := C.2.2.2.1
  have hl : lv_has ls 1 [(0, .int x0)] := hl
  rw [L_isWeek] at h
  refine lv_iload_n hx hb dX0_isWeek_0 rfl (lv_at hl 0 rfl) ?_
  refine lv_iconst (v := 0) hx hb dX0_isWeek_1 (by decide) ?_
  refine lv_sipush (v := 999) hx hb dX0_isWeek_2 (by decide) ?_
  obtain ⟨v1, hv1, h⟩ := bd1_some h
  refine k_L_in hx hb C.2.2.1 hown C.2.2.2.2.1 C.2.2.2.2.2 q399 hv1 (Nat.le_of_ble_eq_true rfl) hl.1 (Nat.le_of_ble_eq_true rfl) hcs dX0_isWeek_5 ?_
  exact mm_zretV hx hb hr hlk h dX0_isWeek_8
theorem q1185 : (Jvm.Cond.code ({ cls := "ChapterLoan", name := "isWeek", desc := "(I)Z" } : Jvm.MethodName) prog_1_method_11_code (1 : Nat) (Option.some Jvm.ClassFile.FieldType.boolean)) ∈ lw_all := lw_g (lw_at lw_m5 141 rfl) rfl
theorem q1184 : (Jvm.Cond.static ({ cls := "ChapterLoan", name := "isWeek", desc := "(I)Z" } : Jvm.MethodName)) ∈ lw_all := lw_g (lw_at lw_m5 140 rfl) rfl
theorem k_L_isWeek {a0 : Int32} {v : Int32} (hx : p.tables.exec = Jvm.exec) (hb : c.code = cc) (hml : c.maxLocals = nL) (hown : s.vm.findClass own = some m.cls) (hts : ∀ w ∈ lw_all, w.before args s = true) (hR : d ≤ R.frames ∧ 40 * d ≤ R.locals) (hl : Cond.methodLink own index yX0_isWeek ∈ lw_all) (h : L_isWeek a0 = some v) (hd : 1 + 1 ≤ d) (hsz : ls.size = nL) (hW : (rest.map fun v => v.category).sum ≤ 8) (hcs : cells ≤ R.cells ∧ slots ≤ R.slots) (hdg : decode cc pc = .ok (.invokestatic index, 3)) (kk : W p l e R s m args below meth c H locs cells slots Q (F0 m (pc + 3) ls (.int v :: rest))) : W p l e R s m args below meth c H locs cells slots Q (F0 m pc ls (.int a0 :: rest)) :=
  W.callR (W.runS (As := [.int a0]) (rest := rest) ⟨hx, hb, hml, hown, hts⟩ (w_L_isWeek h) (va_cwS 1 hts (lw_S hl q1184 q85 q1185) rfl rfl rfl (by decide +kernel) (mr_ hR hd (by decide))) preEq rfl rfl hsz rfl (lv_room hW) hdg hcs) kk
abbrev cX0_isKind : ByteArray := prog_1_method_12_code
def yX0_isKind : MethodName := ⟨RX0, "isKind", "(I)Z"⟩
theorem dX0_isKind_0 : decode cX0_isKind 0 = .ok (.iload_n 0, 1) := by decide +kernel
theorem dX0_isKind_1 : decode cX0_isKind 1 = .ok (.iconst 0, 1) := by decide +kernel
theorem dX0_isKind_2 : decode cX0_isKind 2 = .ok (.bipush 69, 2) := by decide +kernel
theorem dX0_isKind_4 : decode cX0_isKind 4 = .ok (.invokestatic 91, 3) := by decide +kernel
theorem dX0_isKind_7 : decode cX0_isKind 7 = .ok (.ireturn, 1) := by decide +kernel
theorem w_L_isKind {l : Launch} {x0 : Int32} {r : Int32} (h : L_isKind x0 = some r) : mS l yX0_isKind cX0_isKind 1 (some .boolean) 1 [.int x0] r := by
  refine mm_ofS (by decide) (Nat.le_of_ble_eq_true rfl) (fun p e s m below meth c R args ls C hr hlk hl hcs => ?_)
  have hx := C.1
  have hb := C.2.1
  have hown : s.vm.findClass RX0 = some m.cls := C.2.2.2.1
  have hl : lv_has ls 1 [(0, .int x0)] := hl
  rw [L_isKind] at h
  refine lv_iload_n hx hb dX0_isKind_0 rfl (lv_at hl 0 rfl) ?_
  refine lv_iconst (v := 0) hx hb dX0_isKind_1 (by decide) ?_
  refine lv_bipush (v := 69) hx hb dX0_isKind_2 (by decide) ?_
  obtain ⟨v1, hv1, h⟩ := bd1_some h
  refine k_L_in hx hb C.2.2.1 hown C.2.2.2.2.1 C.2.2.2.2.2 q399 hv1 (Nat.le_of_ble_eq_true rfl) hl.1 (Nat.le_of_ble_eq_true rfl) hcs dX0_isKind_4 ?_
  exact mm_zretV hx hb hr hlk h dX0_isKind_7
theorem q448 : (Jvm.Cond.code ({ cls := "ChapterLoan", name := "isKind", desc := "(I)Z" } : Jvm.MethodName) prog_1_method_12_code (1 : Nat) (Option.some Jvm.ClassFile.FieldType.boolean)) ∈ lw_all := lw_g (lw_at lw_m2 124 rfl) rfl
theorem q447 : (Jvm.Cond.static ({ cls := "ChapterLoan", name := "isKind", desc := "(I)Z" } : Jvm.MethodName)) ∈ lw_all := lw_g (lw_at lw_m2 123 rfl) rfl
theorem k_L_isKind {a0 : Int32} {v : Int32} (hx : p.tables.exec = Jvm.exec) (hb : c.code = cc) (hml : c.maxLocals = nL) (hown : s.vm.findClass own = some m.cls) (hts : ∀ w ∈ lw_all, w.before args s = true) (hR : d ≤ R.frames ∧ 40 * d ≤ R.locals) (hl : Cond.methodLink own index yX0_isKind ∈ lw_all) (h : L_isKind a0 = some v) (hd : 1 + 1 ≤ d) (hsz : ls.size = nL) (hW : (rest.map fun v => v.category).sum ≤ 8) (hcs : cells ≤ R.cells ∧ slots ≤ R.slots) (hdg : decode cc pc = .ok (.invokestatic index, 3)) (kk : W p l e R s m args below meth c H locs cells slots Q (F0 m (pc + 3) ls (.int v :: rest))) : W p l e R s m args below meth c H locs cells slots Q (F0 m pc ls (.int a0 :: rest)) :=
  W.callR (W.runS (As := [.int a0]) (rest := rest) ⟨hx, hb, hml, hown, hts⟩ (w_L_isKind h) (va_cwS 1 hts (lw_S hl q447 q85 q448) rfl rfl rfl (by decide +kernel) (mr_ hR hd (by decide))) preEq rfl rfl hsz rfl (lv_room hW) hdg hcs) kk
abbrev cX0_isSheet : ByteArray := prog_1_method_13_code
def yX0_isSheet : MethodName := ⟨RX0, "isSheet", "(I)Z"⟩
theorem dX0_isSheet_0 : decode cX0_isSheet 0 = .ok (.iload_n 0, 1) := by decide +kernel
theorem dX0_isSheet_1 : decode cX0_isSheet 1 = .ok (.iconst 0, 1) := by decide +kernel
theorem dX0_isSheet_2 : decode cX0_isSheet 2 = .ok (.iconst 3, 1) := by decide +kernel
theorem dX0_isSheet_3 : decode cX0_isSheet 3 = .ok (.invokestatic 91, 3) := by decide +kernel
theorem dX0_isSheet_6 : decode cX0_isSheet 6 = .ok (.ireturn, 1) := by decide +kernel
theorem w_L_isSheet {l : Launch} {x0 : Int32} {r : Int32} (h : L_isSheet x0 = some r) : mS l yX0_isSheet cX0_isSheet 1 (some .boolean) 1 [.int x0] r := by
  refine mm_ofS (by decide) (Nat.le_of_ble_eq_true rfl) (fun p e s m below meth c R args ls C hr hlk hl hcs => ?_)
  have hx := C.1
  have hb := C.2.1
  have hown : s.vm.findClass RX0 = some m.cls := C.2.2.2.1
  have hl : lv_has ls 1 [(0, .int x0)] := hl
  rw [L_isSheet] at h
  refine lv_iload_n hx hb dX0_isSheet_0 rfl (lv_at hl 0 rfl) ?_
  refine lv_iconst (v := 0) hx hb dX0_isSheet_1 (by decide) ?_
  refine lv_iconst (v := 3) hx hb dX0_isSheet_2 (by decide) ?_
  obtain ⟨v1, hv1, h⟩ := bd1_some h
  refine k_L_in hx hb C.2.2.1 hown C.2.2.2.2.1 C.2.2.2.2.2 q399 hv1 (Nat.le_of_ble_eq_true rfl) hl.1 (Nat.le_of_ble_eq_true rfl) hcs dX0_isSheet_3 ?_
  exact mm_zretV hx hb hr hlk h dX0_isSheet_6
theorem q1145 : (Jvm.Cond.code ({ cls := "ChapterLoan", name := "isSheet", desc := "(I)Z" } : Jvm.MethodName) prog_1_method_13_code (1 : Nat) (Option.some Jvm.ClassFile.FieldType.boolean)) ∈ lw_all := lw_g (lw_at lw_m5 101 rfl) rfl
theorem q1144 : (Jvm.Cond.static ({ cls := "ChapterLoan", name := "isSheet", desc := "(I)Z" } : Jvm.MethodName)) ∈ lw_all := lw_g (lw_at lw_m5 100 rfl) rfl
theorem k_L_isSheet {a0 : Int32} {v : Int32} (hx : p.tables.exec = Jvm.exec) (hb : c.code = cc) (hml : c.maxLocals = nL) (hown : s.vm.findClass own = some m.cls) (hts : ∀ w ∈ lw_all, w.before args s = true) (hR : d ≤ R.frames ∧ 40 * d ≤ R.locals) (hl : Cond.methodLink own index yX0_isSheet ∈ lw_all) (h : L_isSheet a0 = some v) (hd : 1 + 1 ≤ d) (hsz : ls.size = nL) (hW : (rest.map fun v => v.category).sum ≤ 8) (hcs : cells ≤ R.cells ∧ slots ≤ R.slots) (hdg : decode cc pc = .ok (.invokestatic index, 3)) (kk : W p l e R s m args below meth c H locs cells slots Q (F0 m (pc + 3) ls (.int v :: rest))) : W p l e R s m args below meth c H locs cells slots Q (F0 m pc ls (.int a0 :: rest)) :=
  W.callR (W.runS (As := [.int a0]) (rest := rest) ⟨hx, hb, hml, hown, hts⟩ (w_L_isSheet h) (va_cwS 1 hts (lw_S hl q1144 q85 q1145) rfl rfl rfl (by decide +kernel) (mr_ hR hd (by decide))) preEq rfl rfl hsz rfl (lv_room hW) hdg hcs) kk
abbrev cX0_isWidth : ByteArray := prog_1_method_14_code
def yX0_isWidth : MethodName := ⟨RX0, "isWidth", "(I)Z"⟩
theorem dX0_isWidth_0 : decode cX0_isWidth 0 = .ok (.iload_n 0, 1) := by decide +kernel
theorem dX0_isWidth_1 : decode cX0_isWidth 1 = .ok (.bipush 8, 2) := by decide +kernel
theorem dX0_isWidth_3 : decode cX0_isWidth 3 = .ok (.if_icmp .eq 15, 3) := by decide +kernel
theorem dX0_isWidth_6 : decode cX0_isWidth 6 = .ok (.iload_n 0, 1) := by decide +kernel
theorem dX0_isWidth_7 : decode cX0_isWidth 7 = .ok (.bipush 16, 2) := by decide +kernel
theorem dX0_isWidth_9 : decode cX0_isWidth 9 = .ok (.if_icmp .eq 9, 3) := by decide +kernel
theorem dX0_isWidth_12 : decode cX0_isWidth 12 = .ok (.iload_n 0, 1) := by decide +kernel
theorem dX0_isWidth_13 : decode cX0_isWidth 13 = .ok (.bipush 32, 2) := by decide +kernel
theorem dX0_isWidth_15 : decode cX0_isWidth 15 = .ok (.if_icmp .ne 7, 3) := by decide +kernel
theorem dX0_isWidth_18 : decode cX0_isWidth 18 = .ok (.iconst 1, 1) := by decide +kernel
theorem dX0_isWidth_19 : decode cX0_isWidth 19 = .ok (.goto 4, 3) := by decide +kernel
theorem dX0_isWidth_22 : decode cX0_isWidth 22 = .ok (.iconst 0, 1) := by decide +kernel
theorem dX0_isWidth_23 : decode cX0_isWidth 23 = .ok (.ireturn, 1) := by decide +kernel
theorem w_L_isWidth {l : Launch} {x0 : Int32} {r : Int32} (h : L_isWidth x0 = some r) : mS l yX0_isWidth cX0_isWidth 1 (some .boolean) 0 [.int x0] r := by
  refine mm_ofS (by decide) (Nat.le_of_ble_eq_true rfl) (fun p e s m below meth c R args ls C hr hlk hl hcs => ?_)
  have hx := C.1
  have hb := C.2.1
  have hown : s.vm.findClass RX0 = some m.cls := C.2.2.2.1
  have hl : lv_has ls 1 [(0, .int x0)] := hl
  rw [L_isWidth] at h
  refine lv_iload_n hx hb dX0_isWidth_0 rfl (lv_at hl 0 rfl) ?_
  refine lv_bipush (v := 8) hx hb dX0_isWidth_1 (by decide) ?_
  refine lv_icmp_eq (tgt := 18) hx hb dX0_isWidth_3 rfl (fun c1 => ?_) (fun c1 => ?_)
  · have h := if_some_t h c1
    refine lv_iconst (v := 1) hx hb dX0_isWidth_18 (by decide) ?_
    refine lv_goto (tgt := 23) hx hb dX0_isWidth_19 rfl ?_
    exact mm_zret hx hb hr hlk rfl h dX0_isWidth_23
  · have h := if_some_f h c1
    refine lv_iload_n hx hb dX0_isWidth_6 rfl (lv_at hl 0 rfl) ?_
    refine lv_bipush (v := 16) hx hb dX0_isWidth_7 (by decide) ?_
    refine lv_icmp_eq (tgt := 18) hx hb dX0_isWidth_9 rfl (fun c2 => ?_) (fun c2 => ?_)
    · have h := if_some_t h c2
      refine lv_iconst (v := 1) hx hb dX0_isWidth_18 (by decide) ?_
      refine lv_goto (tgt := 23) hx hb dX0_isWidth_19 rfl ?_
      exact mm_zret hx hb hr hlk rfl h dX0_isWidth_23
    · have h := if_some_f h c2
      refine lv_iload_n hx hb dX0_isWidth_12 rfl (lv_at hl 0 rfl) ?_
      refine lv_bipush (v := 32) hx hb dX0_isWidth_13 (by decide) ?_
      refine lv_icmp_ne (tgt := 22) hx hb dX0_isWidth_15 rfl (fun c3 => ?_) (fun c3 => ?_)
      · have h := if_some_f h c3
        refine lv_iconst (v := 0) hx hb dX0_isWidth_22 (by decide) ?_
        exact mm_zret hx hb hr hlk rfl h dX0_isWidth_23
      · have h := if_some_t h c3
        refine lv_iconst (v := 1) hx hb dX0_isWidth_18 (by decide) ?_
        refine lv_goto (tgt := 23) hx hb dX0_isWidth_19 rfl ?_
        exact mm_zret hx hb hr hlk rfl h dX0_isWidth_23
theorem q1408 : (Jvm.Cond.code ({ cls := "ChapterLoan", name := "isWidth", desc := "(I)Z" } : Jvm.MethodName) prog_1_method_14_code (1 : Nat) (Option.some Jvm.ClassFile.FieldType.boolean)) ∈ lw_all := lw_g (lw_at lw_m6 124 rfl) rfl
theorem q1407 : (Jvm.Cond.static ({ cls := "ChapterLoan", name := "isWidth", desc := "(I)Z" } : Jvm.MethodName)) ∈ lw_all := lw_g (lw_at lw_m6 123 rfl) rfl
theorem k_L_isWidth {a0 : Int32} {v : Int32} (hx : p.tables.exec = Jvm.exec) (hb : c.code = cc) (hml : c.maxLocals = nL) (hown : s.vm.findClass own = some m.cls) (hts : ∀ w ∈ lw_all, w.before args s = true) (hR : d ≤ R.frames ∧ 40 * d ≤ R.locals) (hl : Cond.methodLink own index yX0_isWidth ∈ lw_all) (h : L_isWidth a0 = some v) (hd : 0 + 1 ≤ d) (hsz : ls.size = nL) (hW : (rest.map fun v => v.category).sum ≤ 8) (hcs : cells ≤ R.cells ∧ slots ≤ R.slots) (hdg : decode cc pc = .ok (.invokestatic index, 3)) (kk : W p l e R s m args below meth c H locs cells slots Q (F0 m (pc + 3) ls (.int v :: rest))) : W p l e R s m args below meth c H locs cells slots Q (F0 m pc ls (.int a0 :: rest)) :=
  W.callR (W.runS (As := [.int a0]) (rest := rest) ⟨hx, hb, hml, hown, hts⟩ (w_L_isWidth h) (va_cwS 1 hts (lw_S hl q1407 q85 q1408) rfl rfl rfl (by decide +kernel) (mr_ hR hd (by decide))) preEq rfl rfl hsz rfl (lv_room hW) hdg hcs) kk
abbrev cX2_held : ByteArray := prog_23_method_3_code
def yX2_held : MethodName := ⟨RX2, "held", "(III)I"⟩
theorem dX2_held_0 : decode cX2_held 0 = .ok (.iload_n 1, 1) := by decide +kernel
theorem dX2_held_1 : decode cX2_held 1 = .ok (.iload_n 2, 1) := by decide +kernel
theorem dX2_held_2 : decode cX2_held 2 = .ok (.iload_n 0, 1) := by decide +kernel
theorem dX2_held_3 : decode cX2_held 3 = .ok (.invokestatic 109, 3) := by decide +kernel
theorem dX2_held_6 : decode cX2_held 6 = .ok (.invokestatic 115, 3) := by decide +kernel
theorem dX2_held_9 : decode cX2_held 9 = .ok (.ireturn, 1) := by decide +kernel
theorem q694 : (Jvm.Cond.methodLink "ChapterLoan$Town" (109 : Nat) ({ cls := "java/lang/Math", name := "min", desc := "(II)I" } : Jvm.MethodName)) ∈ lw_all := lw_g (lw_at lw_m3 130 rfl) rfl
theorem q697 : (Jvm.Cond.methodLink "ChapterLoan$Town" (115 : Nat) ({ cls := "java/lang/Math", name := "max", desc := "(II)I" } : Jvm.MethodName)) ∈ lw_all := lw_g (lw_at lw_m3 133 rfl) rfl
theorem w_L_held {l : Launch} {x0 : Int32} {x1 : Int32} {x2 : Int32} {r : Int32} (h : L_held x0 x1 x2 = some r) : mS l yX2_held cX2_held 3 (some .int) 1 [.int x0, .int x1, .int x2] r := by
  refine mm_ofS (by decide) (Nat.le_of_ble_eq_true rfl) (fun p e s m below meth c R args ls C hr hlk hl hcs => ?_)
  have hx := C.1
  have hb := C.2.1
  have hown : s.vm.findClass RX2 = some m.cls := C.2.2.2.1
  have hl : lv_has ls 3 [(0, .int x0), (1, .int x1), (2, .int x2)] := hl
  rw [L_held] at h
  refine lv_iload_n hx hb dX2_held_0 rfl (lv_at hl 1 rfl) ?_
  refine lv_iload_n hx hb dX2_held_1 rfl (lv_at hl 2 rfl) ?_
  refine lv_iload_n hx hb dX2_held_2 rfl (lv_at hl 0 rfl) ?_
  obtain ⟨v1, hv1, h⟩ := bd1_some h
  refine k_J_min hx hb C.2.2.1 hown C.2.2.2.2.1 C.2.2.2.2.2 q694 hv1 (Nat.le_of_ble_eq_true rfl) hl.1 (Nat.le_of_ble_eq_true rfl) hcs dX2_held_3 ?_
  obtain ⟨v2, hv2, h⟩ := bd1_some h
  refine k_J_max hx hb C.2.2.1 hown C.2.2.2.2.1 C.2.2.2.2.2 q697 hv2 (Nat.le_of_ble_eq_true rfl) hl.1 (Nat.le_of_ble_eq_true rfl) hcs dX2_held_6 ?_
  exact mm_iret hx hb hr hlk h dX2_held_9
theorem q693 : (Jvm.Cond.code ({ cls := "ChapterLoan$Town", name := "held", desc := "(III)I" } : Jvm.MethodName) prog_23_method_3_code (3 : Nat) (Option.some Jvm.ClassFile.FieldType.int)) ∈ lw_all := lw_g (lw_at lw_m3 129 rfl) rfl
theorem q692 : (Jvm.Cond.static ({ cls := "ChapterLoan$Town", name := "held", desc := "(III)I" } : Jvm.MethodName)) ∈ lw_all := lw_g (lw_at lw_m3 128 rfl) rfl
theorem q90 : (Jvm.Cond.initialized "ChapterLoan$Town") ∈ lw_all := lw_g (lw_at lw_m1 6 rfl) rfl
theorem k_L_held {a0 : Int32} {a1 : Int32} {a2 : Int32} {v : Int32} (hx : p.tables.exec = Jvm.exec) (hb : c.code = cc) (hml : c.maxLocals = nL) (hown : s.vm.findClass own = some m.cls) (hts : ∀ w ∈ lw_all, w.before args s = true) (hR : d ≤ R.frames ∧ 40 * d ≤ R.locals) (hl : Cond.methodLink own index yX2_held ∈ lw_all) (h : L_held a0 a1 a2 = some v) (hd : 1 + 1 ≤ d) (hsz : ls.size = nL) (hW : (rest.map fun v => v.category).sum ≤ 8) (hcs : cells ≤ R.cells ∧ slots ≤ R.slots) (hdg : decode cc pc = .ok (.invokestatic index, 3)) (kk : W p l e R s m args below meth c H locs cells slots Q (F0 m (pc + 3) ls (.int v :: rest))) : W p l e R s m args below meth c H locs cells slots Q (F0 m pc ls (.int a2 :: .int a1 :: .int a0 :: rest)) :=
  W.callR (W.runS (As := [.int a0, .int a1, .int a2]) (rest := rest) ⟨hx, hb, hml, hown, hts⟩ (w_L_held h) (va_cwS 3 hts (lw_S hl q692 q90 q693) rfl rfl rfl (by decide +kernel) (mr_ hR hd (by decide))) preEq rfl rfl hsz rfl (lv_room hW) hdg hcs) kk
abbrev cX15_is : ByteArray := prog_27_method_2_code
def yX15_is : MethodName := ⟨RX15, "is", "(Z)I"⟩
theorem dX15_is_0 : decode cX15_is 0 = .ok (.iload_n 0, 1) := by decide +kernel
theorem dX15_is_1 : decode cX15_is 1 = .ok (.ifCond .eq 7, 3) := by decide +kernel
theorem dX15_is_4 : decode cX15_is 4 = .ok (.iconst 1, 1) := by decide +kernel
theorem dX15_is_5 : decode cX15_is 5 = .ok (.goto 4, 3) := by decide +kernel
theorem dX15_is_8 : decode cX15_is 8 = .ok (.iconst 0, 1) := by decide +kernel
theorem dX15_is_9 : decode cX15_is 9 = .ok (.ireturn, 1) := by decide +kernel
theorem w_L_is {l : Launch} {x0 : Int32} {r : Int32} (h : L_is x0 = some r) : mS l yX15_is cX15_is 1 (some .int) 0 [.int x0] r := by
  refine mm_ofS (by decide) (Nat.le_of_ble_eq_true rfl) (fun p e s m below meth c R args ls C hr hlk hl hcs => ?_)
  have hx := C.1
  have hb := C.2.1
  have hown : s.vm.findClass RX15 = some m.cls := C.2.2.2.1
  have hl : lv_has ls 1 [(0, .int x0)] := hl
  rw [L_is] at h
  refine lv_iload_n hx hb dX15_is_0 rfl (lv_at hl 0 rfl) ?_
  refine lv_if_eq (tgt := 8) hx hb dX15_is_1 rfl (fun c1 => ?_) (fun c1 => ?_)
  · have h := if_some_t h c1
    refine lv_iconst (v := 0) hx hb dX15_is_8 (by decide) ?_
    exact mm_iret hx hb hr hlk h dX15_is_9
  · have h := if_some_f h c1
    refine lv_iconst (v := 1) hx hb dX15_is_4 (by decide) ?_
    refine lv_goto (tgt := 9) hx hb dX15_is_5 rfl ?_
    exact mm_iret hx hb hr hlk h dX15_is_9
theorem q689 : (Jvm.Cond.code ({ cls := "ChapterLoan$Two", name := "is", desc := "(Z)I" } : Jvm.MethodName) prog_27_method_2_code (1 : Nat) (Option.some Jvm.ClassFile.FieldType.int)) ∈ lw_all := lw_g (lw_at lw_m3 125 rfl) rfl
theorem q688 : (Jvm.Cond.static ({ cls := "ChapterLoan$Two", name := "is", desc := "(Z)I" } : Jvm.MethodName)) ∈ lw_all := lw_g (lw_at lw_m3 124 rfl) rfl
theorem q104 : (Jvm.Cond.initialized "ChapterLoan$Two") ∈ lw_all := lw_g (lw_at lw_m1 20 rfl) rfl
theorem k_L_is {a0 : Int32} {v : Int32} (hx : p.tables.exec = Jvm.exec) (hb : c.code = cc) (hml : c.maxLocals = nL) (hown : s.vm.findClass own = some m.cls) (hts : ∀ w ∈ lw_all, w.before args s = true) (hR : d ≤ R.frames ∧ 40 * d ≤ R.locals) (hl : Cond.methodLink own index yX15_is ∈ lw_all) (h : L_is a0 = some v) (hd : 0 + 1 ≤ d) (hsz : ls.size = nL) (hW : (rest.map fun v => v.category).sum ≤ 8) (hcs : cells ≤ R.cells ∧ slots ≤ R.slots) (hdg : decode cc pc = .ok (.invokestatic index, 3)) (kk : W p l e R s m args below meth c H locs cells slots Q (F0 m (pc + 3) ls (.int v :: rest))) : W p l e R s m args below meth c H locs cells slots Q (F0 m pc ls (.int a0 :: rest)) :=
  W.callR (W.runS (As := [.int a0]) (rest := rest) ⟨hx, hb, hml, hown, hts⟩ (w_L_is h) (va_cwS 1 hts (lw_S hl q688 q104 q689) rfl rfl rfl (by decide +kernel) (mr_ hR hd (by decide))) preEq rfl rfl hsz rfl (lv_room hW) hdg hcs) kk
end
