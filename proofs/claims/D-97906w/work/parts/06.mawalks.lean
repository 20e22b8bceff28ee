/-! the model: walks (ma) -/
set_option maxRecDepth 100000
section
variable {p : Program} {l : Launch} {e : Env} {R : Room} {s : State} {m : MethodId} {args : Array Value} {below : List Frame} {meth : Method} {c : Code} {H : Heap} {locs : List Loc} {cells slots d : Nat} {Q : State → Prop} {cc : ByteArray} {pc nL : Nat} {ls : Array Slot} {rest : List Value} {D : va_G} {cI : ClassId} {ad : Nat → Nat} {st : MSt} {H0 : Heap}
abbrev cX6_in : ByteArray := prog_30_method_4_code
def yX6_in : MethodName := ⟨RX6, "in", "(JJJ)Z"⟩
theorem dX6_in_0 : decode cX6_in 0 = .ok (.lload_n 0, 1) := by decide +kernel
theorem dX6_in_1 : decode cX6_in 1 = .ok (.lload_n 2, 1) := by decide +kernel
theorem dX6_in_2 : decode cX6_in 2 = .ok (.lcmp, 1) := by decide +kernel
theorem dX6_in_3 : decode cX6_in 3 = .ok (.ifCond .lt 14, 3) := by decide +kernel
theorem dX6_in_6 : decode cX6_in 6 = .ok (.lload_n 0, 1) := by decide +kernel
theorem dX6_in_7 : decode cX6_in 7 = .ok (.lload 4, 2) := by decide +kernel
theorem dX6_in_9 : decode cX6_in 9 = .ok (.lcmp, 1) := by decide +kernel
theorem dX6_in_10 : decode cX6_in 10 = .ok (.ifCond .gt 7, 3) := by decide +kernel
theorem dX6_in_13 : decode cX6_in 13 = .ok (.iconst 1, 1) := by decide +kernel
theorem dX6_in_14 : decode cX6_in 14 = .ok (.goto 4, 3) := by decide +kernel
theorem dX6_in_17 : decode cX6_in 17 = .ok (.iconst 0, 1) := by decide +kernel
theorem dX6_in_18 : decode cX6_in 18 = .ok (.ireturn, 1) := by decide +kernel
theorem w_in {l : Launch} {x0 : Int64} {x2 : Int64} {x4 : Int64} {r : Int32} (h : M_in x0 x2 x4 = some r) : mS l yX6_in cX6_in 6 (some .boolean) 0 [.long x0, .long x2, .long x4] r := by
  refine mm_ofS (by decide) (Nat.le_of_ble_eq_true rfl) (fun p e s m below meth c R args ls C hr hlk hl hcs => ?_)
  have hx := C.1
  have hb := C.2.1
  have hown := C.2.2.2.1
  have hl : lv_has ls 6 [(0, .long x0), (2, .long x2), (4, .long x4)] := hl
  rw [M_in] at h
  refine lv_lload_n hx hb dX6_in_0 rfl (lv_at hl 0 rfl) ?_
  refine lv_lload_n hx hb dX6_in_1 rfl (lv_at hl 1 rfl) ?_
  refine W.lcmp hx hb dX6_in_2 ?_
  refine lv_if_lt (tgt := 17) hx hb dX6_in_3 rfl (fun c1 => ?_) (fun c1 => ?_)
  · have h := if_some_t h c1
    refine lv_iconst (v := 0) hx hb dX6_in_17 (by decide) ?_
    exact mm_zret hx hb hr hlk rfl h dX6_in_18
  · have h := if_some_f h c1
    refine lv_lload_n hx hb dX6_in_6 rfl (lv_at hl 0 rfl) ?_
    refine lv_lload hx hb dX6_in_7 (lv_at hl 2 rfl) ?_
    refine W.lcmp hx hb dX6_in_9 ?_
    refine lv_if_gt (tgt := 17) hx hb dX6_in_10 rfl (fun c2 => ?_) (fun c2 => ?_)
    · have h := if_some_t h c2
      refine lv_iconst (v := 0) hx hb dX6_in_17 (by decide) ?_
      exact mm_zret hx hb hr hlk rfl h dX6_in_18
    · have h := if_some_f h c2
      refine lv_iconst (v := 1) hx hb dX6_in_13 (by decide) ?_
      refine lv_goto (tgt := 18) hx hb dX6_in_14 rfl ?_
      exact mm_zret hx hb hr hlk rfl h dX6_in_18
theorem q1602 : (Jvm.Cond.methodLink "ChapterLoanModel" (57 : Nat) ({ cls := "ChapterLoanModel", name := "in", desc := "(JJJ)Z" } : Jvm.MethodName)) ∈ lw_all := lw_g (lw_at lw_m7 78 rfl) rfl
theorem q1604 : (Jvm.Cond.code ({ cls := "ChapterLoanModel", name := "in", desc := "(JJJ)Z" } : Jvm.MethodName) prog_30_method_4_code (6 : Nat) (Option.some Jvm.ClassFile.FieldType.boolean)) ∈ lw_all := lw_g (lw_at lw_m7 80 rfl) rfl
theorem q94 : (Jvm.Cond.initialized "ChapterLoanModel") ∈ lw_all := lw_g (lw_at lw_m1 10 rfl) rfl
theorem q1603 : (Jvm.Cond.static ({ cls := "ChapterLoanModel", name := "in", desc := "(JJJ)Z" } : Jvm.MethodName)) ∈ lw_all := lw_g (lw_at lw_m7 79 rfl) rfl
theorem k_in {a0 : Int64} {a1 : Int64} {a2 : Int64} {v : Int32} (hx : p.tables.exec = Jvm.exec) (hb : c.code = cc) (hml : c.maxLocals = nL) (hown : s.vm.findClass RX6 = some m.cls) (hts : ∀ w ∈ lw_all, w.before args s = true) (hR : d ≤ R.frames ∧ 40 * d ≤ R.locals) (h : M_in a0 a1 a2 = some v) (hd : 0 + 1 ≤ d) (hsz : ls.size = nL) (hW : (rest.map fun v => v.category).sum ≤ 8) (hcs : cells ≤ R.cells ∧ slots ≤ R.slots) (hdg : decode cc pc = .ok (.invokestatic 57, 3)) (kk : W p l e R s m args below meth c H locs cells slots Q (F0 m (pc + 3) ls (.int v :: rest))) : W p l e R s m args below meth c H locs cells slots Q (F0 m pc ls (.long a2 :: .long a1 :: .long a0 :: rest)) :=
  W.callR (W.runS (As := [.long a0, .long a1, .long a2]) (rest := rest) ⟨hx, hb, hml, hown, hts⟩ (w_in h) (va_cwS 3 hts (lw_S q1602 q1603 q94 q1604) rfl rfl rfl (by decide +kernel) (mr_ hR hd (by decide))) preEq rfl rfl hsz rfl (lv_room hW) hdg hcs) kk
abbrev cX6_finds : ByteArray := prog_30_method_3_code
def yX6_finds : MethodName := ⟨RX6, "finds", "(I)I"⟩
theorem dX6_finds_0 : decode cX6_finds 0 = .ok (.aload_n 0, 1) := by decide +kernel
theorem dX6_finds_1 : decode cX6_finds 1 = .ok (.getfield 19, 3) := by decide +kernel
theorem dX6_finds_4 : decode cX6_finds 4 = .ok (.iload_n 1, 1) := by decide +kernel
theorem dX6_finds_5 : decode cX6_finds 5 = .ok (.dup2, 1) := by decide +kernel
theorem dX6_finds_6 : decode cX6_finds 6 = .ok (.iaload, 1) := by decide +kernel
theorem dX6_finds_7 : decode cX6_finds 7 = .ok (.iconst 1, 1) := by decide +kernel
theorem dX6_finds_8 : decode cX6_finds 8 = .ok (.iadd, 1) := by decide +kernel
theorem dX6_finds_9 : decode cX6_finds 9 = .ok (.iastore, 1) := by decide +kernel
theorem dX6_finds_10 : decode cX6_finds 10 = .ok (.ldc 56, 2) := by decide +kernel
theorem dX6_finds_12 : decode cX6_finds 12 = .ok (.iload_n 1, 1) := by decide +kernel
theorem dX6_finds_13 : decode cX6_finds 13 = .ok (.isub, 1) := by decide +kernel
theorem dX6_finds_14 : decode cX6_finds 14 = .ok (.ireturn, 1) := by decide +kernel
theorem q1609 : (Jvm.Cond.constant "ChapterLoanModel" (56 : Nat) (-1000000000 : Int32)) ∈ lw_all := lw_g (lw_at lw_m7 85 rfl) rfl
theorem w_finds {l : Launch} {D : va_G} {cI : ClassId} {ad : Nat → Nat} (hI : kInj 15 ad) {st st' : MSt} {x1 : Int32} {r0 : Int32} (h : M_finds st x1 = some (r0, st')) : mV l yX6_finds cX6_finds 2 (some .int) 0 D cI ad st [.int x1] (some (.int r0)) st' := by
  refine mm_ofV hI (by decide) rfl (Nat.le_of_ble_eq_true rfl) (fun p e s m below meth c R args ls C hr hlk hP hS hl hcs => ?_)
  have hx := C.1
  have hb := C.2.1
  have hown := C.2.2.2.1
  have hl : lv_has ls 2 [(0, .ref (ad 0)), (1, .int x1)] := hl
  have hP : mW D cI ad st s.heap := hP
  rw [M_finds] at h
  refine lv_aload_n hx hb dX6_finds_0 rfl (lv_at hl 0 rfl) ?_
  refine g_found C hP dX6_finds_1 ?_
  refine lv_iload_n hx hb dX6_finds_4 rfl (lv_at hl 1 rfl) ?_
  refine lv_dup2_11 hx hb dX6_finds_5 rfl rfl ?_
  obtain ⟨v1, hv1, h⟩ := bd1_some h
  refine mm_ld C hP 4 (by decide) rfl hv1 dX6_finds_6 ?_
  refine lv_iconst (v := 1) hx hb dX6_finds_7 (by decide) ?_
  refine lv_iadd hx hb dX6_finds_8 ?_
  obtain ⟨b2, hb2, h⟩ := bd1_some h
  refine mm_st C hP hS 4 (by decide) rfl hb2 dX6_finds_9 (fun H locs hP hS => ?_)
  refine lv_ldc hx hb hown (C.2.2.2.2.1 _ q1609) dX6_finds_10 ?_
  refine lv_iload_n hx hb dX6_finds_12 rfl (lv_at hl 1 rfl) ?_
  refine lv_isub hx hb dX6_finds_13 ?_
  exact mm_viret hx hb hr hlk h hP hS dX6_finds_14
theorem q1605 : (Jvm.Cond.methodLink "ChapterLoanModel" (119 : Nat) ({ cls := "ChapterLoanModel", name := "finds", desc := "(I)I" } : Jvm.MethodName)) ∈ lw_all := lw_g (lw_at lw_m7 81 rfl) rfl
theorem q1608 : (Jvm.Cond.code ({ cls := "ChapterLoanModel", name := "finds", desc := "(I)I" } : Jvm.MethodName) prog_30_method_3_code (2 : Nat) (Option.some Jvm.ClassFile.FieldType.int)) ∈ lw_all := lw_g (lw_at lw_m7 84 rfl) rfl
theorem q1607 : (Jvm.Cond.instanceMethod ({ cls := "ChapterLoanModel", name := "finds", desc := "(I)I" } : Jvm.MethodName)) ∈ lw_all := lw_g (lw_at lw_m7 83 rfl) rfl
theorem k_finds {a0 : Int32} {v : Int32} {st' : MSt} (C : mC p R d s m args c cc nL D cI ad) (hP : mW D cI ad st H) (hS : va_S (kF 15 ad) H0 H locs) (h : M_finds st a0 = some (v, st')) (hd : 0 + 1 ≤ d) (hsz : ls.size = nL) (hW : (rest.map fun v => v.category).sum ≤ 8) (hcs : cells ≤ R.cells ∧ slots ≤ R.slots) (hdg : decode cc pc = .ok (.invokevirtual 119, 3)) (kk : ∀ (H1 : Heap) (locs1 : List Loc), mW D cI ad st' H1 → va_S (kF 15 ad) H0 H1 locs1 → W p l e R s m args below meth c H1 locs1 cells slots Q (F0 m (pc + 3) ls (.int v :: rest))) : W p l e R s m args below meth c H locs cells slots Q (F0 m pc ls (.int a0 :: .ref (ad 0) :: rest)) :=
  mm_cV (As := [.int a0]) C hP hS (w_finds C.2.2.2.2.2.2.1 h) (cwV 1 C.2.2.2.2.1 (lw_V q1605 q1607 qs30 q94 q1608) rfl rfl rfl (by decide +kernel) (mr_ C.2.2.2.2.2.2.2 hd (by decide))) rfl hsz rfl hW hdg hcs kk
abbrev cX6_feed : ByteArray := prog_30_method_26_code
def yX6_feed : MethodName := ⟨RX6, "feed", "(JI)I"⟩
theorem dX6_feed_0 : decode cX6_feed 0 = .ok (.iload_n 3, 1) := by decide +kernel
theorem dX6_feed_1 : decode cX6_feed 1 = .ok (.i2l, 1) := by decide +kernel
theorem dX6_feed_2 : decode cX6_feed 2 = .ok (.lconst 1, 1) := by decide +kernel
theorem dX6_feed_3 : decode cX6_feed 3 = .ok (.ldc2_w 117, 3) := by decide +kernel
theorem dX6_feed_6 : decode cX6_feed 6 = .ok (.invokestatic 57, 3) := by decide +kernel
theorem dX6_feed_9 : decode cX6_feed 9 = .ok (.ifCond .ne 9, 3) := by decide +kernel
theorem dX6_feed_12 : decode cX6_feed 12 = .ok (.aload_n 0, 1) := by decide +kernel
theorem dX6_feed_13 : decode cX6_feed 13 = .ok (.iconst 1, 1) := by decide +kernel
theorem dX6_feed_14 : decode cX6_feed 14 = .ok (.invokevirtual 119, 3) := by decide +kernel
theorem dX6_feed_17 : decode cX6_feed 17 = .ok (.ireturn, 1) := by decide +kernel
theorem dX6_feed_18 : decode cX6_feed 18 = .ok (.aload_n 0, 1) := by decide +kernel
theorem dX6_feed_19 : decode cX6_feed 19 = .ok (.getfield 7, 3) := by decide +kernel
theorem dX6_feed_22 : decode cX6_feed 22 = .ok (.iconst 5, 1) := by decide +kernel
theorem dX6_feed_23 : decode cX6_feed 23 = .ok (.iaload, 1) := by decide +kernel
theorem dX6_feed_24 : decode cX6_feed 24 = .ok (.iload_n 3, 1) := by decide +kernel
theorem dX6_feed_25 : decode cX6_feed 25 = .ok (.iadd, 1) := by decide +kernel
theorem dX6_feed_26 : decode cX6_feed 26 = .ok (.bipush 50, 2) := by decide +kernel
theorem dX6_feed_28 : decode cX6_feed 28 = .ok (.if_icmp .le 9, 3) := by decide +kernel
theorem dX6_feed_31 : decode cX6_feed 31 = .ok (.aload_n 0, 1) := by decide +kernel
theorem dX6_feed_32 : decode cX6_feed 32 = .ok (.iconst 4, 1) := by decide +kernel
theorem dX6_feed_33 : decode cX6_feed 33 = .ok (.invokevirtual 119, 3) := by decide +kernel
theorem dX6_feed_36 : decode cX6_feed 36 = .ok (.ireturn, 1) := by decide +kernel
theorem dX6_feed_37 : decode cX6_feed 37 = .ok (.iconst 0, 1) := by decide +kernel
theorem dX6_feed_38 : decode cX6_feed 38 = .ok (.istore 4, 2) := by decide +kernel
theorem dX6_feed_40 : decode cX6_feed 40 = .ok (.iload 4, 2) := by decide +kernel
theorem dX6_feed_42 : decode cX6_feed 42 = .ok (.iload_n 3, 1) := by decide +kernel
theorem dX6_feed_43 : decode cX6_feed 43 = .ok (.if_icmp .ge 46, 3) := by decide +kernel
theorem dX6_feed_46 : decode cX6_feed 46 = .ok (.aload_n 0, 1) := by decide +kernel
theorem dX6_feed_47 : decode cX6_feed 47 = .ok (.getfield 7, 3) := by decide +kernel
theorem dX6_feed_50 : decode cX6_feed 50 = .ok (.sipush 292, 3) := by decide +kernel
theorem dX6_feed_53 : decode cX6_feed 53 = .ok (.aload_n 0, 1) := by decide +kernel
theorem dX6_feed_54 : decode cX6_feed 54 = .ok (.getfield 7, 3) := by decide +kernel
theorem dX6_feed_57 : decode cX6_feed 57 = .ok (.iconst 5, 1) := by decide +kernel
theorem dX6_feed_58 : decode cX6_feed 58 = .ok (.iaload, 1) := by decide +kernel
theorem dX6_feed_59 : decode cX6_feed 59 = .ok (.iadd, 1) := by decide +kernel
theorem dX6_feed_60 : decode cX6_feed 60 = .ok (.lload_n 1, 1) := by decide +kernel
theorem dX6_feed_61 : decode cX6_feed 61 = .ok (.bipush 8, 2) := by decide +kernel
theorem dX6_feed_63 : decode cX6_feed 63 = .ok (.iload 4, 2) := by decide +kernel
theorem dX6_feed_65 : decode cX6_feed 65 = .ok (.imul, 1) := by decide +kernel
theorem dX6_feed_66 : decode cX6_feed 66 = .ok (.lshr, 1) := by decide +kernel
theorem dX6_feed_67 : decode cX6_feed 67 = .ok (.ldc2_w 122, 3) := by decide +kernel
theorem dX6_feed_70 : decode cX6_feed 70 = .ok (.land, 1) := by decide +kernel
theorem dX6_feed_71 : decode cX6_feed 71 = .ok (.l2i, 1) := by decide +kernel
theorem dX6_feed_72 : decode cX6_feed 72 = .ok (.iastore, 1) := by decide +kernel
theorem dX6_feed_73 : decode cX6_feed 73 = .ok (.aload_n 0, 1) := by decide +kernel
theorem dX6_feed_74 : decode cX6_feed 74 = .ok (.getfield 7, 3) := by decide +kernel
theorem dX6_feed_77 : decode cX6_feed 77 = .ok (.iconst 5, 1) := by decide +kernel
theorem dX6_feed_78 : decode cX6_feed 78 = .ok (.dup2, 1) := by decide +kernel
theorem dX6_feed_79 : decode cX6_feed 79 = .ok (.iaload, 1) := by decide +kernel
theorem dX6_feed_80 : decode cX6_feed 80 = .ok (.iconst 1, 1) := by decide +kernel
theorem dX6_feed_81 : decode cX6_feed 81 = .ok (.iadd, 1) := by decide +kernel
theorem dX6_feed_82 : decode cX6_feed 82 = .ok (.iastore, 1) := by decide +kernel
theorem dX6_feed_83 : decode cX6_feed 83 = .ok (.iinc 4 1, 3) := by decide +kernel
theorem dX6_feed_86 : decode cX6_feed 86 = .ok (.goto (-46), 3) := by decide +kernel
theorem dX6_feed_89 : decode cX6_feed 89 = .ok (.aload_n 0, 1) := by decide +kernel
theorem dX6_feed_90 : decode cX6_feed 90 = .ok (.getfield 7, 3) := by decide +kernel
theorem dX6_feed_93 : decode cX6_feed 93 = .ok (.iconst 5, 1) := by decide +kernel
theorem dX6_feed_94 : decode cX6_feed 94 = .ok (.iaload, 1) := by decide +kernel
theorem dX6_feed_95 : decode cX6_feed 95 = .ok (.ireturn, 1) := by decide +kernel
theorem q1601 : (Jvm.Cond.constantLong "ChapterLoanModel" (117 : Nat) (8 : Int64)) ∈ lw_all := lw_g (lw_at lw_m7 77 rfl) rfl
theorem q1610 : (Jvm.Cond.constantLong "ChapterLoanModel" (122 : Nat) (255 : Int64)) ∈ lw_all := lw_g (lw_at lw_m7 86 rfl) rfl
theorem w_feed {l : Launch} {D : va_G} {cI : ClassId} {ad : Nat → Nat} (hI : kInj 15 ad) {st st' : MSt} {N : Nat} {x1 : Int64} {x3 : Int32} {r0 : Int32} (h : M_feed  N st x1 x3 = some (r0, st')) : mV l yX6_feed cX6_feed 5 (some .int) 1 D cI ad st [.long x1, .int x3] (some (.int r0)) st' := by
  refine mm_ofV hI (by decide) rfl (Nat.le_of_ble_eq_true rfl) (fun p e s m below meth c R args ls C hr hlk hP hS hl hcs => ?_)
  have hx := C.1
  have hb := C.2.1
  have hown := C.2.2.2.1
  have hl : lv_has ls 5 [(0, .ref (ad 0)), (1, .long x1), (3, .int x3)] := hl
  have hP : mW D cI ad st s.heap := hP
  have L40 : ∀ (x1 : Int64), ∀ (x3 : Int32), ∀ (n : Nat) (st : MSt) (x4 : Int32) (st2 : MSt), M_feed_L40 N x1 x3 n st x4 = some st2 → ∀ (H : Heap) (locs : List Loc), mW D cI ad st H → va_S (kF 15 ad) s.heap H locs → ∀ ls : Array Slot, lv_has ls 5 [(0, .ref (ad 0)), (1, .long x1), (3, .int x3), (4, .int x4)] → (∀ (H : Heap) (locs : List Loc), mW D cI ad st2 H → va_S (kF 15 ad) s.heap H locs → ∀ ls : Array Slot, lv_has ls 5 [(0, .ref (ad 0))] → mWV p l e R s m args below meth c D cI ad (some (.int r0)) st' H locs (F0 m 89 ls [])) → mWV p l e R s m args below meth c D cI ad (some (.int r0)) st' H locs (F0 m 40 ls []) := by
    intro x1 x3 n
    induction n with
    | zero =>
      intro st x4 st2 h
      exact non_some h
    | succ n ih =>
      intro st x4 st2 h H locs hP hS ls hl kx
      rw [M_feed_L40] at h
      refine lv_iload hx hb dX6_feed_40 (lv_at hl 3 rfl) ?_
      refine lv_iload_n hx hb dX6_feed_42 rfl (lv_at hl 2 rfl) ?_
      refine lv_icmp_ge (tgt := 89) hx hb dX6_feed_43 rfl (fun c5 => ?_) (fun c5 => ?_)
      · have h := if_some_t h c5
        cases h
        exact kx _ _ hP hS ls (lv_sub hl [0] rfl)
      · have h := if_some_f h c5
        refine lv_aload_n hx hb dX6_feed_46 rfl (lv_at hl 0 rfl) ?_
        refine g_d C hP dX6_feed_47 ?_
        refine lv_sipush (v := 292) hx hb dX6_feed_50 (by decide) ?_
        refine lv_aload_n hx hb dX6_feed_53 rfl (lv_at hl 0 rfl) ?_
        refine g_d C hP dX6_feed_54 ?_
        refine lv_iconst (v := 5) hx hb dX6_feed_57 (by decide) ?_
        obtain ⟨v6, hv6, h⟩ := bd1_some h
        refine mm_ld C hP 1 (by decide) rfl hv6 dX6_feed_58 ?_
        refine lv_iadd hx hb dX6_feed_59 ?_
        refine lv_lload_n hx hb dX6_feed_60 rfl (lv_at hl 1 rfl) ?_
        refine lv_bipush (v := 8) hx hb dX6_feed_61 (by decide) ?_
        refine lv_iload hx hb dX6_feed_63 (lv_at hl 3 rfl) ?_
        refine lv_imul hx hb dX6_feed_65 ?_
        refine lv_lshr (v := x1 >>> ((8 * x4).toInt64 &&& 63)) hx hb dX6_feed_66 rfl ?_
        refine lv_ldc2 hx hb hown (C.2.2.2.2.1 _ q1610) dX6_feed_67 ?_
        refine lv_land hx hb dX6_feed_70 ?_
        refine lv_l2i (v := ((x1 >>> ((8 * x4).toInt64 &&& 63)) &&& 255).toInt32) hx hb dX6_feed_71 rfl ?_
        obtain ⟨b7, hb7, h⟩ := bd1_some h
        refine mm_st C hP hS 1 (by decide) rfl hb7 dX6_feed_72 (fun H locs hP hS => ?_)
        refine lv_aload_n hx hb dX6_feed_73 rfl (lv_at hl 0 rfl) ?_
        refine g_d C hP dX6_feed_74 ?_
        refine lv_iconst (v := 5) hx hb dX6_feed_77 (by decide) ?_
        refine lv_dup2_11 hx hb dX6_feed_78 rfl rfl ?_
        obtain ⟨v8, hv8, h⟩ := bd1_some h
        refine mm_ld C hP 1 (by decide) rfl hv8 dX6_feed_79 ?_
        refine lv_iconst (v := 1) hx hb dX6_feed_80 (by decide) ?_
        refine lv_iadd hx hb dX6_feed_81 ?_
        obtain ⟨b9, hb9, h⟩ := bd1_some h
        refine mm_st C hP hS 1 (by decide) rfl hb9 dX6_feed_82 (fun H locs hP hS => ?_)
        refine lv_iinc (v := x4 + 1) (lv' := [(4, .int (x4 + 1)), (0, .ref (ad 0)), (1, .long x1), (3, .int x3)]) hx hb dX6_feed_83 hl (k := 3) rfl rfl (by decide) rfl (fun ls hl => ?_)
        refine lv_goto (tgt := 40) hx hb dX6_feed_86 rfl ?_
        exact ih (sa (sa st 1 b7) 1 b9) (x4 + 1) _ h _ _ hP hS ls (lv_sub hl [1, 2, 3, 0] rfl) kx
  rw [M_feed] at h
  refine lv_iload_n hx hb dX6_feed_0 rfl (lv_at hl 2 rfl) ?_
  refine lv_i2l (v := x3.toInt64) hx hb dX6_feed_1 rfl ?_
  refine lv_lconst (v := 1) hx hb dX6_feed_2 (by decide) ?_
  refine lv_ldc2 hx hb hown (C.2.2.2.2.1 _ q1601) dX6_feed_3 ?_
  obtain ⟨v1, hv1, h⟩ := bd1_some h
  refine k_in hx hb C.2.2.1 hown C.2.2.2.2.1 C.2.2.2.2.2.2.2 hv1 (Nat.le_of_ble_eq_true rfl) hl.1 (Nat.le_of_ble_eq_true rfl) hcs dX6_feed_6 ?_
  refine lv_if_ne (tgt := 18) hx hb dX6_feed_9 rfl (fun c2 => ?_) (fun c2 => ?_)
  · have h := if_some_f h c2
    refine lv_aload_n hx hb dX6_feed_18 rfl (lv_at hl 0 rfl) ?_
    refine g_d C hP dX6_feed_19 ?_
    refine lv_iconst (v := 5) hx hb dX6_feed_22 (by decide) ?_
    obtain ⟨v3, hv3, h⟩ := bd1_some h
    refine mm_ld C hP 1 (by decide) rfl hv3 dX6_feed_23 ?_
    refine lv_iload_n hx hb dX6_feed_24 rfl (lv_at hl 2 rfl) ?_
    refine lv_iadd hx hb dX6_feed_25 ?_
    refine lv_bipush (v := 50) hx hb dX6_feed_26 (by decide) ?_
    refine lv_icmp_le (tgt := 37) hx hb dX6_feed_28 rfl (fun c4 => ?_) (fun c4 => ?_)
    · have h := if_some_t h c4
      refine lv_iconst (v := 0) hx hb dX6_feed_37 (by decide) ?_
      refine lv_istore (lv' := [(4, .int 0), (0, .ref (ad 0)), (1, .long x1), (3, .int x3)]) hx hb dX6_feed_38 hl (by decide) rfl (fun ls hl => ?_)
      obtain ⟨st10, hz12, h⟩ := bd1_some h
      refine L40 x1 x3 N _ 0 _ hz12 _ _ hP hS ls (lv_sub hl [1, 2, 3, 0] rfl) (fun H locs hP hS ls hl => ?_)
      refine lv_aload_n hx hb dX6_feed_89 rfl (lv_at hl 0 rfl) ?_
      refine g_d C hP dX6_feed_90 ?_
      refine lv_iconst (v := 5) hx hb dX6_feed_93 (by decide) ?_
      obtain ⟨v11, hv11, h⟩ := bd1_some h
      refine mm_ld C hP 1 (by decide) rfl hv11 dX6_feed_94 ?_
      exact mm_viret hx hb hr hlk h hP hS dX6_feed_95
    · have h := if_some_f h c4
      refine lv_aload_n hx hb dX6_feed_31 rfl (lv_at hl 0 rfl) ?_
      refine lv_iconst (v := 4) hx hb dX6_feed_32 (by decide) ?_
      obtain ⟨v13, st14, hv13, h⟩ := bd2_some h
      refine k_finds C hP hS hv13 (Nat.le_of_ble_eq_true rfl) hl.1 (Nat.le_of_ble_eq_true rfl) hcs dX6_feed_33 (fun H locs hP hS => ?_)
      exact mm_viret hx hb hr hlk h hP hS dX6_feed_36
  · have h := if_some_t h c2
    refine lv_aload_n hx hb dX6_feed_12 rfl (lv_at hl 0 rfl) ?_
    refine lv_iconst (v := 1) hx hb dX6_feed_13 (by decide) ?_
    obtain ⟨v15, st16, hv15, h⟩ := bd2_some h
    refine k_finds C hP hS hv15 (Nat.le_of_ble_eq_true rfl) hl.1 (Nat.le_of_ble_eq_true rfl) hcs dX6_feed_14 (fun H locs hP hS => ?_)
    exact mm_viret hx hb hr hlk h hP hS dX6_feed_17
abbrev cX6_here : ByteArray := prog_30_method_15_code
def yX6_here : MethodName := ⟨RX6, "here", "()I"⟩
theorem dX6_here_0 : decode cX6_here 0 = .ok (.aload_n 0, 1) := by decide +kernel
theorem dX6_here_1 : decode cX6_here 1 = .ok (.getfield 61, 3) := by decide +kernel
theorem dX6_here_4 : decode cX6_here 4 = .ok (.aload_n 0, 1) := by decide +kernel
theorem dX6_here_5 : decode cX6_here 5 = .ok (.getfield 64, 3) := by decide +kernel
theorem dX6_here_8 : decode cX6_here 8 = .ok (.if_icmp .ge 27, 3) := by decide +kernel
theorem dX6_here_11 : decode cX6_here 11 = .ok (.aload_n 0, 1) := by decide +kernel
theorem dX6_here_12 : decode cX6_here 12 = .ok (.getfield 67, 3) := by decide +kernel
theorem dX6_here_15 : decode cX6_here 15 = .ok (.ifCond .ge 20, 3) := by decide +kernel
theorem dX6_here_18 : decode cX6_here 18 = .ok (.aload_n 0, 1) := by decide +kernel
theorem dX6_here_19 : decode cX6_here 19 = .ok (.getfield 7, 3) := by decide +kernel
theorem dX6_here_22 : decode cX6_here 22 = .ok (.aload_n 0, 1) := by decide +kernel
theorem dX6_here_23 : decode cX6_here 23 = .ok (.getfield 70, 3) := by decide +kernel
theorem dX6_here_26 : decode cX6_here 26 = .ok (.aload_n 0, 1) := by decide +kernel
theorem dX6_here_27 : decode cX6_here 27 = .ok (.getfield 61, 3) := by decide +kernel
theorem dX6_here_30 : decode cX6_here 30 = .ok (.iadd, 1) := by decide +kernel
theorem dX6_here_31 : decode cX6_here 31 = .ok (.iaload, 1) := by decide +kernel
theorem dX6_here_32 : decode cX6_here 32 = .ok (.goto 4, 3) := by decide +kernel
theorem dX6_here_35 : decode cX6_here 35 = .ok (.iconst (-1), 1) := by decide +kernel
theorem dX6_here_36 : decode cX6_here 36 = .ok (.ireturn, 1) := by decide +kernel
theorem w_here {l : Launch} {D : va_G} {cI : ClassId} {ad : Nat → Nat} (hI : kInj 15 ad) {st : MSt} {r : Int32} (h : M_here st = some r) : mR l yX6_here cX6_here 1 (some .int) 0 D cI ad st [] r := by
  refine mm_ofR hI (by decide) rfl (Nat.le_of_ble_eq_true rfl) (fun p e s m below meth c R args ls C hr hlk hP hl hcs => ?_)
  have hx := C.1
  have hb := C.2.1
  have hown := C.2.2.2.1
  have hl : lv_has ls 1 [(0, .ref (ad 0))] := hl
  rw [M_here] at h
  refine lv_aload_n hx hb dX6_here_0 rfl (lv_at hl 0 rfl) ?_
  refine g_at C hP dX6_here_1 ?_
  refine lv_aload_n hx hb dX6_here_4 rfl (lv_at hl 0 rfl) ?_
  refine g_size C hP dX6_here_5 ?_
  refine lv_icmp_ge (tgt := 35) hx hb dX6_here_8 rfl (fun c1 => ?_) (fun c1 => ?_)
  · have h := if_some_t h c1
    refine lv_iconst (v := (-1)) hx hb dX6_here_35 (by decide) ?_
    exact mm_iret hx hb hr hlk h dX6_here_36
  · have h := if_some_f h c1
    refine lv_aload_n hx hb dX6_here_11 rfl (lv_at hl 0 rfl) ?_
    refine g_fault C hP dX6_here_12 ?_
    refine lv_if_ge (tgt := 35) hx hb dX6_here_15 rfl (fun c2 => ?_) (fun c2 => ?_)
    · have h := if_some_t h c2
      refine lv_iconst (v := (-1)) hx hb dX6_here_35 (by decide) ?_
      exact mm_iret hx hb hr hlk h dX6_here_36
    · have h := if_some_f h c2
      refine lv_aload_n hx hb dX6_here_18 rfl (lv_at hl 0 rfl) ?_
      refine g_d C hP dX6_here_19 ?_
      refine lv_aload_n hx hb dX6_here_22 rfl (lv_at hl 0 rfl) ?_
      refine g_base C hP dX6_here_23 ?_
      refine lv_aload_n hx hb dX6_here_26 rfl (lv_at hl 0 rfl) ?_
      refine g_at C hP dX6_here_27 ?_
      refine lv_iadd hx hb dX6_here_30 ?_
      obtain ⟨v3, hv3, h⟩ := bd1_some h
      refine mm_ld C hP 1 (by decide) rfl hv3 dX6_here_31 ?_
      refine lv_goto (tgt := 36) hx hb dX6_here_32 rfl ?_
      exact mm_iret hx hb hr hlk h dX6_here_36
theorem q1643 : (Jvm.Cond.methodLink "ChapterLoanModel" (73 : Nat) ({ cls := "ChapterLoanModel", name := "here", desc := "()I" } : Jvm.MethodName)) ∈ lw_all := lw_g (lw_at lw_m7 119 rfl) rfl
theorem q1646 : (Jvm.Cond.code ({ cls := "ChapterLoanModel", name := "here", desc := "()I" } : Jvm.MethodName) prog_30_method_15_code (1 : Nat) (Option.some Jvm.ClassFile.FieldType.int)) ∈ lw_all := lw_g (lw_at lw_m7 122 rfl) rfl
theorem q1645 : (Jvm.Cond.instanceMethod ({ cls := "ChapterLoanModel", name := "here", desc := "()I" } : Jvm.MethodName)) ∈ lw_all := lw_g (lw_at lw_m7 121 rfl) rfl
theorem k_here {v : Int32} (C : mC p R d s m args c cc nL D cI ad) (hP : mW D cI ad st H) (h : M_here st = some v) (hd : 0 + 1 ≤ d) (hsz : ls.size = nL) (hW : (rest.map fun v => v.category).sum ≤ 8) (hcs : cells ≤ R.cells ∧ slots ≤ R.slots) (hdg : decode cc pc = .ok (.invokevirtual 73, 3)) (kk : W p l e R s m args below meth c H locs cells slots Q (F0 m (pc + 3) ls (.int v :: rest))) : W p l e R s m args below meth c H locs cells slots Q (F0 m pc ls (.ref (ad 0) :: rest)) :=
  mm_cR (As := []) C hP (w_here C.2.2.2.2.2.2.1 h) (cwV 0 C.2.2.2.2.1 (lw_V q1643 q1645 qs38 q94 q1646) rfl rfl rfl (by decide +kernel) (mr_ C.2.2.2.2.2.2.2 hd (by decide))) rfl hsz rfl hW hdg hcs kk
abbrev cX6_wrong : ByteArray := prog_30_method_16_code
def yX6_wrong : MethodName := ⟨RX6, "wrong", "()I"⟩
theorem dX6_wrong_0 : decode cX6_wrong 0 = .ok (.aload_n 0, 1) := by decide +kernel
theorem dX6_wrong_1 : decode cX6_wrong 1 = .ok (.aload_n 0, 1) := by decide +kernel
theorem dX6_wrong_2 : decode cX6_wrong 2 = .ok (.getfield 67, 3) := by decide +kernel
theorem dX6_wrong_5 : decode cX6_wrong 5 = .ok (.ifCond .ge 10, 3) := by decide +kernel
theorem dX6_wrong_8 : decode cX6_wrong 8 = .ok (.aload_n 0, 1) := by decide +kernel
theorem dX6_wrong_9 : decode cX6_wrong 9 = .ok (.getfield 61, 3) := by decide +kernel
theorem dX6_wrong_12 : decode cX6_wrong 12 = .ok (.goto 7, 3) := by decide +kernel
theorem dX6_wrong_15 : decode cX6_wrong 15 = .ok (.aload_n 0, 1) := by decide +kernel
theorem dX6_wrong_16 : decode cX6_wrong 16 = .ok (.getfield 67, 3) := by decide +kernel
theorem dX6_wrong_19 : decode cX6_wrong 19 = .ok (.putfield 67, 3) := by decide +kernel
theorem dX6_wrong_22 : decode cX6_wrong 22 = .ok (.iconst 0, 1) := by decide +kernel
theorem dX6_wrong_23 : decode cX6_wrong 23 = .ok (.ireturn, 1) := by decide +kernel
theorem w_wrong {l : Launch} {D : va_G} {cI : ClassId} {ad : Nat → Nat} (hI : kInj 15 ad) {st st' : MSt} {r0 : Int32} (h : M_wrong st = some (r0, st')) : mV l yX6_wrong cX6_wrong 1 (some .int) 0 D cI ad st [] (some (.int r0)) st' := by
  refine mm_ofV hI (by decide) rfl (Nat.le_of_ble_eq_true rfl) (fun p e s m below meth c R args ls C hr hlk hP hS hl hcs => ?_)
  have hx := C.1
  have hb := C.2.1
  have hown := C.2.2.2.1
  have hl : lv_has ls 1 [(0, .ref (ad 0))] := hl
  have hP : mW D cI ad st s.heap := hP
  rw [M_wrong] at h
  refine lv_aload_n hx hb dX6_wrong_0 rfl (lv_at hl 0 rfl) ?_
  refine lv_aload_n hx hb dX6_wrong_1 rfl (lv_at hl 0 rfl) ?_
  refine g_fault C hP dX6_wrong_2 ?_
  refine lv_if_ge (tgt := 15) hx hb dX6_wrong_5 rfl (fun c1 => ?_) (fun c1 => ?_)
  · have h := if_some_t h c1
    refine lv_aload_n hx hb dX6_wrong_15 rfl (lv_at hl 0 rfl) ?_
    refine g_fault C hP dX6_wrong_16 ?_
    refine p_fault C hP hS dX6_wrong_19 (fun H locs hP hS => ?_)
    refine lv_iconst (v := 0) hx hb dX6_wrong_22 (by decide) ?_
    exact mm_viret hx hb hr hlk h hP hS dX6_wrong_23
  · have h := if_some_f h c1
    refine lv_aload_n hx hb dX6_wrong_8 rfl (lv_at hl 0 rfl) ?_
    refine g_at C hP dX6_wrong_9 ?_
    refine lv_goto (tgt := 19) hx hb dX6_wrong_12 rfl ?_
    refine p_fault C hP hS dX6_wrong_19 (fun H locs hP hS => ?_)
    refine lv_iconst (v := 0) hx hb dX6_wrong_22 (by decide) ?_
    exact mm_viret hx hb hr hlk h hP hS dX6_wrong_23
theorem q1647 : (Jvm.Cond.methodLink "ChapterLoanModel" (103 : Nat) ({ cls := "ChapterLoanModel", name := "wrong", desc := "()I" } : Jvm.MethodName)) ∈ lw_all := lw_g (lw_at lw_m7 123 rfl) rfl
theorem q1650 : (Jvm.Cond.code ({ cls := "ChapterLoanModel", name := "wrong", desc := "()I" } : Jvm.MethodName) prog_30_method_16_code (1 : Nat) (Option.some Jvm.ClassFile.FieldType.int)) ∈ lw_all := lw_g (lw_at lw_m7 126 rfl) rfl
theorem q1649 : (Jvm.Cond.instanceMethod ({ cls := "ChapterLoanModel", name := "wrong", desc := "()I" } : Jvm.MethodName)) ∈ lw_all := lw_g (lw_at lw_m7 125 rfl) rfl
theorem k_wrong {v : Int32} {st' : MSt} (C : mC p R d s m args c cc nL D cI ad) (hP : mW D cI ad st H) (hS : va_S (kF 15 ad) H0 H locs) (h : M_wrong st = some (v, st')) (hd : 0 + 1 ≤ d) (hsz : ls.size = nL) (hW : (rest.map fun v => v.category).sum ≤ 8) (hcs : cells ≤ R.cells ∧ slots ≤ R.slots) (hdg : decode cc pc = .ok (.invokevirtual 103, 3)) (kk : ∀ (H1 : Heap) (locs1 : List Loc), mW D cI ad st' H1 → va_S (kF 15 ad) H0 H1 locs1 → W p l e R s m args below meth c H1 locs1 cells slots Q (F0 m (pc + 3) ls (.int v :: rest))) : W p l e R s m args below meth c H locs cells slots Q (F0 m pc ls (.ref (ad 0) :: rest)) :=
  mm_cV (As := []) C hP hS (w_wrong C.2.2.2.2.2.2.1 h) (cwV 0 C.2.2.2.2.1 (lw_V q1647 q1649 qs39 q94 q1650) rfl rfl rfl (by decide +kernel) (mr_ C.2.2.2.2.2.2.2 hd (by decide))) rfl hsz rfl hW hdg hcs kk
abbrev cX6_takes : ByteArray := prog_30_method_17_code
def yX6_takes : MethodName := ⟨RX6, "takes", "(I)Z"⟩
theorem dX6_takes_0 : decode cX6_takes 0 = .ok (.aload_n 0, 1) := by decide +kernel
theorem dX6_takes_1 : decode cX6_takes 1 = .ok (.invokevirtual 73, 3) := by decide +kernel
theorem dX6_takes_4 : decode cX6_takes 4 = .ok (.iload_n 1, 1) := by decide +kernel
theorem dX6_takes_5 : decode cX6_takes 5 = .ok (.if_icmp .eq 5, 3) := by decide +kernel
theorem dX6_takes_8 : decode cX6_takes 8 = .ok (.iconst 0, 1) := by decide +kernel
theorem dX6_takes_9 : decode cX6_takes 9 = .ok (.ireturn, 1) := by decide +kernel
theorem dX6_takes_10 : decode cX6_takes 10 = .ok (.aload_n 0, 1) := by decide +kernel
theorem dX6_takes_11 : decode cX6_takes 11 = .ok (.dup, 1) := by decide +kernel
theorem dX6_takes_12 : decode cX6_takes 12 = .ok (.getfield 61, 3) := by decide +kernel
theorem dX6_takes_15 : decode cX6_takes 15 = .ok (.iconst 1, 1) := by decide +kernel
theorem dX6_takes_16 : decode cX6_takes 16 = .ok (.iadd, 1) := by decide +kernel
theorem dX6_takes_17 : decode cX6_takes 17 = .ok (.putfield 61, 3) := by decide +kernel
theorem dX6_takes_20 : decode cX6_takes 20 = .ok (.iconst 1, 1) := by decide +kernel
theorem dX6_takes_21 : decode cX6_takes 21 = .ok (.ireturn, 1) := by decide +kernel
theorem w_takes {l : Launch} {D : va_G} {cI : ClassId} {ad : Nat → Nat} (hI : kInj 15 ad) {st st' : MSt} {x1 : Int32} {r0 : Int32} (h : M_takes st x1 = some (r0, st')) : mV l yX6_takes cX6_takes 2 (some .boolean) 1 D cI ad st [.int x1] (some (.int r0)) st' := by
  refine mm_ofV hI (by decide) rfl (Nat.le_of_ble_eq_true rfl) (fun p e s m below meth c R args ls C hr hlk hP hS hl hcs => ?_)
  have hx := C.1
  have hb := C.2.1
  have hown := C.2.2.2.1
  have hl : lv_has ls 2 [(0, .ref (ad 0)), (1, .int x1)] := hl
  have hP : mW D cI ad st s.heap := hP
  rw [M_takes] at h
  refine lv_aload_n hx hb dX6_takes_0 rfl (lv_at hl 0 rfl) ?_
  obtain ⟨v1, hv1, h⟩ := bd1_some h
  refine k_here C hP hv1 (Nat.le_of_ble_eq_true rfl) hl.1 (Nat.le_of_ble_eq_true rfl) hcs dX6_takes_1 ?_
  refine lv_iload_n hx hb dX6_takes_4 rfl (lv_at hl 1 rfl) ?_
  refine lv_icmp_eq (tgt := 10) hx hb dX6_takes_5 rfl (fun c2 => ?_) (fun c2 => ?_)
  · have h := if_some_t h c2
    refine lv_aload_n hx hb dX6_takes_10 rfl (lv_at hl 0 rfl) ?_
    refine lv_dup hx hb dX6_takes_11 rfl ?_
    refine g_at C hP dX6_takes_12 ?_
    refine lv_iconst (v := 1) hx hb dX6_takes_15 (by decide) ?_
    refine lv_iadd hx hb dX6_takes_16 ?_
    refine p_at C hP hS dX6_takes_17 (fun H locs hP hS => ?_)
    refine lv_iconst (v := 1) hx hb dX6_takes_20 (by decide) ?_
    exact mm_vzret hx hb hr hlk rfl h hP hS dX6_takes_21
  · have h := if_some_f h c2
    refine lv_iconst (v := 0) hx hb dX6_takes_8 (by decide) ?_
    exact mm_vzret hx hb hr hlk rfl h hP hS dX6_takes_9
theorem q1651 : (Jvm.Cond.methodLink "ChapterLoanModel" (84 : Nat) ({ cls := "ChapterLoanModel", name := "takes", desc := "(I)Z" } : Jvm.MethodName)) ∈ lw_all := lw_g (lw_at lw_m7 127 rfl) rfl
theorem q1654 : (Jvm.Cond.code ({ cls := "ChapterLoanModel", name := "takes", desc := "(I)Z" } : Jvm.MethodName) prog_30_method_17_code (2 : Nat) (Option.some Jvm.ClassFile.FieldType.boolean)) ∈ lw_all := lw_g (lw_at lw_m7 130 rfl) rfl
theorem q1653 : (Jvm.Cond.instanceMethod ({ cls := "ChapterLoanModel", name := "takes", desc := "(I)Z" } : Jvm.MethodName)) ∈ lw_all := lw_g (lw_at lw_m7 129 rfl) rfl
theorem k_takes {a0 : Int32} {v : Int32} {st' : MSt} (C : mC p R d s m args c cc nL D cI ad) (hP : mW D cI ad st H) (hS : va_S (kF 15 ad) H0 H locs) (h : M_takes st a0 = some (v, st')) (hd : 1 + 1 ≤ d) (hsz : ls.size = nL) (hW : (rest.map fun v => v.category).sum ≤ 8) (hcs : cells ≤ R.cells ∧ slots ≤ R.slots) (hdg : decode cc pc = .ok (.invokevirtual 84, 3)) (kk : ∀ (H1 : Heap) (locs1 : List Loc), mW D cI ad st' H1 → va_S (kF 15 ad) H0 H1 locs1 → W p l e R s m args below meth c H1 locs1 cells slots Q (F0 m (pc + 3) ls (.int v :: rest))) : W p l e R s m args below meth c H locs cells slots Q (F0 m pc ls (.int a0 :: .ref (ad 0) :: rest)) :=
  mm_cV (As := [.int a0]) C hP hS (w_takes C.2.2.2.2.2.2.1 h) (cwV 1 C.2.2.2.2.1 (lw_V q1651 q1653 qs40 q94 q1654) rfl rfl rfl (by decide +kernel) (mr_ C.2.2.2.2.2.2.2 hd (by decide))) rfl hsz rfl hW hdg hcs kk
abbrev cX6_nameOf : ByteArray := prog_30_method_18_code
def yX6_nameOf : MethodName := ⟨RX6, "nameOf", "(I)I"⟩
theorem dX6_nameOf_0 : decode cX6_nameOf 0 = .ok (.aload_n 0, 1) := by decide +kernel
theorem dX6_nameOf_1 : decode cX6_nameOf 1 = .ok (.getfield 77, 3) := by decide +kernel
theorem dX6_nameOf_4 : decode cX6_nameOf 4 = .ok (.ifCond .eq 35, 3) := by decide +kernel
theorem dX6_nameOf_7 : decode cX6_nameOf 7 = .ok (.iload_n 1, 1) := by decide +kernel
theorem dX6_nameOf_8 : decode cX6_nameOf 8 = .ok (.bipush 100, 2) := by decide +kernel
theorem dX6_nameOf_10 : decode cX6_nameOf 10 = .ok (.if_icmp .ne 7, 3) := by decide +kernel
theorem dX6_nameOf_13 : decode cX6_nameOf 13 = .ok (.iconst 0, 1) := by decide +kernel
theorem dX6_nameOf_14 : decode cX6_nameOf 14 = .ok (.goto 24, 3) := by decide +kernel
theorem dX6_nameOf_17 : decode cX6_nameOf 17 = .ok (.iload_n 1, 1) := by decide +kernel
theorem dX6_nameOf_18 : decode cX6_nameOf 18 = .ok (.bipush 111, 2) := by decide +kernel
theorem dX6_nameOf_20 : decode cX6_nameOf 20 = .ok (.if_icmp .ne 7, 3) := by decide +kernel
theorem dX6_nameOf_23 : decode cX6_nameOf 23 = .ok (.iconst 1, 1) := by decide +kernel
theorem dX6_nameOf_24 : decode cX6_nameOf 24 = .ok (.goto 14, 3) := by decide +kernel
theorem dX6_nameOf_27 : decode cX6_nameOf 27 = .ok (.iload_n 1, 1) := by decide +kernel
theorem dX6_nameOf_28 : decode cX6_nameOf 28 = .ok (.bipush 110, 2) := by decide +kernel
theorem dX6_nameOf_30 : decode cX6_nameOf 30 = .ok (.if_icmp .ne 7, 3) := by decide +kernel
theorem dX6_nameOf_33 : decode cX6_nameOf 33 = .ok (.iconst 2, 1) := by decide +kernel
theorem dX6_nameOf_34 : decode cX6_nameOf 34 = .ok (.goto 4, 3) := by decide +kernel
theorem dX6_nameOf_37 : decode cX6_nameOf 37 = .ok (.iconst (-1), 1) := by decide +kernel
theorem dX6_nameOf_38 : decode cX6_nameOf 38 = .ok (.ireturn, 1) := by decide +kernel
theorem dX6_nameOf_39 : decode cX6_nameOf 39 = .ok (.iload_n 1, 1) := by decide +kernel
theorem dX6_nameOf_40 : decode cX6_nameOf 40 = .ok (.bipush 102, 2) := by decide +kernel
theorem dX6_nameOf_42 : decode cX6_nameOf 42 = .ok (.if_icmp .ne 7, 3) := by decide +kernel
theorem dX6_nameOf_45 : decode cX6_nameOf 45 = .ok (.iconst 0, 1) := by decide +kernel
theorem dX6_nameOf_46 : decode cX6_nameOf 46 = .ok (.goto 24, 3) := by decide +kernel
theorem dX6_nameOf_49 : decode cX6_nameOf 49 = .ok (.iload_n 1, 1) := by decide +kernel
theorem dX6_nameOf_50 : decode cX6_nameOf 50 = .ok (.bipush 119, 2) := by decide +kernel
theorem dX6_nameOf_52 : decode cX6_nameOf 52 = .ok (.if_icmp .ne 7, 3) := by decide +kernel
theorem dX6_nameOf_55 : decode cX6_nameOf 55 = .ok (.iconst 1, 1) := by decide +kernel
theorem dX6_nameOf_56 : decode cX6_nameOf 56 = .ok (.goto 14, 3) := by decide +kernel
theorem dX6_nameOf_59 : decode cX6_nameOf 59 = .ok (.iload_n 1, 1) := by decide +kernel
theorem dX6_nameOf_60 : decode cX6_nameOf 60 = .ok (.bipush 100, 2) := by decide +kernel
theorem dX6_nameOf_62 : decode cX6_nameOf 62 = .ok (.if_icmp .ne 7, 3) := by decide +kernel
theorem dX6_nameOf_65 : decode cX6_nameOf 65 = .ok (.iconst 2, 1) := by decide +kernel
theorem dX6_nameOf_66 : decode cX6_nameOf 66 = .ok (.goto 4, 3) := by decide +kernel
theorem dX6_nameOf_69 : decode cX6_nameOf 69 = .ok (.iconst (-1), 1) := by decide +kernel
theorem dX6_nameOf_70 : decode cX6_nameOf 70 = .ok (.ireturn, 1) := by decide +kernel
theorem w_nameOf {l : Launch} {D : va_G} {cI : ClassId} {ad : Nat → Nat} (hI : kInj 15 ad) {st : MSt} {x1 : Int32} {r : Int32} (h : M_nameOf st x1 = some r) : mR l yX6_nameOf cX6_nameOf 2 (some .int) 0 D cI ad st [.int x1] r := by
  refine mm_ofR hI (by decide) rfl (Nat.le_of_ble_eq_true rfl) (fun p e s m below meth c R args ls C hr hlk hP hl hcs => ?_)
  have hx := C.1
  have hb := C.2.1
  have hown := C.2.2.2.1
  have hl : lv_has ls 2 [(0, .ref (ad 0)), (1, .int x1)] := hl
  rw [M_nameOf] at h
  refine lv_aload_n hx hb dX6_nameOf_0 rfl (lv_at hl 0 rfl) ?_
  refine g_isTrust C hP dX6_nameOf_1 ?_
  refine lv_if_eq (tgt := 39) hx hb dX6_nameOf_4 rfl (fun c1 => ?_) (fun c1 => ?_)
  · have h := if_some_t h c1
    refine lv_iload_n hx hb dX6_nameOf_39 rfl (lv_at hl 1 rfl) ?_
    refine lv_bipush (v := 102) hx hb dX6_nameOf_40 (by decide) ?_
    refine lv_icmp_ne (tgt := 49) hx hb dX6_nameOf_42 rfl (fun c2 => ?_) (fun c2 => ?_)
    · have h := if_some_f h c2
      refine lv_iload_n hx hb dX6_nameOf_49 rfl (lv_at hl 1 rfl) ?_
      refine lv_bipush (v := 119) hx hb dX6_nameOf_50 (by decide) ?_
      refine lv_icmp_ne (tgt := 59) hx hb dX6_nameOf_52 rfl (fun c3 => ?_) (fun c3 => ?_)
      · have h := if_some_f h c3
        refine lv_iload_n hx hb dX6_nameOf_59 rfl (lv_at hl 1 rfl) ?_
        refine lv_bipush (v := 100) hx hb dX6_nameOf_60 (by decide) ?_
        refine lv_icmp_ne (tgt := 69) hx hb dX6_nameOf_62 rfl (fun c4 => ?_) (fun c4 => ?_)
        · have h := if_some_f h c4
          refine lv_iconst (v := (-1)) hx hb dX6_nameOf_69 (by decide) ?_
          exact mm_iret hx hb hr hlk h dX6_nameOf_70
        · have h := if_some_t h c4
          refine lv_iconst (v := 2) hx hb dX6_nameOf_65 (by decide) ?_
          refine lv_goto (tgt := 70) hx hb dX6_nameOf_66 rfl ?_
          exact mm_iret hx hb hr hlk h dX6_nameOf_70
      · have h := if_some_t h c3
        refine lv_iconst (v := 1) hx hb dX6_nameOf_55 (by decide) ?_
        refine lv_goto (tgt := 70) hx hb dX6_nameOf_56 rfl ?_
        exact mm_iret hx hb hr hlk h dX6_nameOf_70
    · have h := if_some_t h c2
      refine lv_iconst (v := 0) hx hb dX6_nameOf_45 (by decide) ?_
      refine lv_goto (tgt := 70) hx hb dX6_nameOf_46 rfl ?_
      exact mm_iret hx hb hr hlk h dX6_nameOf_70
  · have h := if_some_f h c1
    refine lv_iload_n hx hb dX6_nameOf_7 rfl (lv_at hl 1 rfl) ?_
    refine lv_bipush (v := 100) hx hb dX6_nameOf_8 (by decide) ?_
    refine lv_icmp_ne (tgt := 17) hx hb dX6_nameOf_10 rfl (fun c5 => ?_) (fun c5 => ?_)
    · have h := if_some_f h c5
      refine lv_iload_n hx hb dX6_nameOf_17 rfl (lv_at hl 1 rfl) ?_
      refine lv_bipush (v := 111) hx hb dX6_nameOf_18 (by decide) ?_
      refine lv_icmp_ne (tgt := 27) hx hb dX6_nameOf_20 rfl (fun c6 => ?_) (fun c6 => ?_)
      · have h := if_some_f h c6
        refine lv_iload_n hx hb dX6_nameOf_27 rfl (lv_at hl 1 rfl) ?_
        refine lv_bipush (v := 110) hx hb dX6_nameOf_28 (by decide) ?_
        refine lv_icmp_ne (tgt := 37) hx hb dX6_nameOf_30 rfl (fun c7 => ?_) (fun c7 => ?_)
        · have h := if_some_f h c7
          refine lv_iconst (v := (-1)) hx hb dX6_nameOf_37 (by decide) ?_
          exact mm_iret hx hb hr hlk h dX6_nameOf_38
        · have h := if_some_t h c7
          refine lv_iconst (v := 2) hx hb dX6_nameOf_33 (by decide) ?_
          refine lv_goto (tgt := 38) hx hb dX6_nameOf_34 rfl ?_
          exact mm_iret hx hb hr hlk h dX6_nameOf_38
      · have h := if_some_t h c6
        refine lv_iconst (v := 1) hx hb dX6_nameOf_23 (by decide) ?_
        refine lv_goto (tgt := 38) hx hb dX6_nameOf_24 rfl ?_
        exact mm_iret hx hb hr hlk h dX6_nameOf_38
    · have h := if_some_t h c5
      refine lv_iconst (v := 0) hx hb dX6_nameOf_13 (by decide) ?_
      refine lv_goto (tgt := 38) hx hb dX6_nameOf_14 rfl ?_
      exact mm_iret hx hb hr hlk h dX6_nameOf_38
theorem q1655 : (Jvm.Cond.methodLink "ChapterLoanModel" (109 : Nat) ({ cls := "ChapterLoanModel", name := "nameOf", desc := "(I)I" } : Jvm.MethodName)) ∈ lw_all := lw_g (lw_at lw_m7 131 rfl) rfl
theorem q1658 : (Jvm.Cond.code ({ cls := "ChapterLoanModel", name := "nameOf", desc := "(I)I" } : Jvm.MethodName) prog_30_method_18_code (2 : Nat) (Option.some Jvm.ClassFile.FieldType.int)) ∈ lw_all := lw_g (lw_at lw_m7 134 rfl) rfl
theorem q1657 : (Jvm.Cond.instanceMethod ({ cls := "ChapterLoanModel", name := "nameOf", desc := "(I)I" } : Jvm.MethodName)) ∈ lw_all := lw_g (lw_at lw_m7 133 rfl) rfl
theorem k_nameOf {a0 : Int32} {v : Int32} (C : mC p R d s m args c cc nL D cI ad) (hP : mW D cI ad st H) (h : M_nameOf st a0 = some v) (hd : 0 + 1 ≤ d) (hsz : ls.size = nL) (hW : (rest.map fun v => v.category).sum ≤ 8) (hcs : cells ≤ R.cells ∧ slots ≤ R.slots) (hdg : decode cc pc = .ok (.invokevirtual 109, 3)) (kk : W p l e R s m args below meth c H locs cells slots Q (F0 m (pc + 3) ls (.int v :: rest))) : W p l e R s m args below meth c H locs cells slots Q (F0 m pc ls (.int a0 :: .ref (ad 0) :: rest)) :=
  mm_cR (As := [.int a0]) C hP (w_nameOf C.2.2.2.2.2.2.1 h) (cwV 1 C.2.2.2.2.1 (lw_V q1655 q1657 qs41 q94 q1658) rfl rfl rfl (by decide +kernel) (mr_ C.2.2.2.2.2.2.2 hd (by decide))) rfl hsz rfl hW hdg hcs kk
abbrev cX6_held : ByteArray := prog_30_method_5_code
def yX6_held : MethodName := ⟨RX6, "held", "(III)I"⟩
theorem dX6_held_0 : decode cX6_held 0 = .ok (.iload_n 0, 1) := by decide +kernel
theorem dX6_held_1 : decode cX6_held 1 = .ok (.iload_n 1, 1) := by decide +kernel
theorem dX6_held_2 : decode cX6_held 2 = .ok (.if_icmp .ge 7, 3) := by decide +kernel
theorem dX6_held_5 : decode cX6_held 5 = .ok (.iload_n 1, 1) := by decide +kernel
theorem dX6_held_6 : decode cX6_held 6 = .ok (.goto 13, 3) := by decide +kernel
theorem dX6_held_9 : decode cX6_held 9 = .ok (.iload_n 0, 1) := by decide +kernel
theorem dX6_held_10 : decode cX6_held 10 = .ok (.iload_n 2, 1) := by decide +kernel
theorem dX6_held_11 : decode cX6_held 11 = .ok (.if_icmp .le 7, 3) := by decide +kernel
theorem dX6_held_14 : decode cX6_held 14 = .ok (.iload_n 2, 1) := by decide +kernel
theorem dX6_held_15 : decode cX6_held 15 = .ok (.goto 4, 3) := by decide +kernel
theorem dX6_held_18 : decode cX6_held 18 = .ok (.iload_n 0, 1) := by decide +kernel
theorem dX6_held_19 : decode cX6_held 19 = .ok (.ireturn, 1) := by decide +kernel
theorem w_held {l : Launch} {x0 : Int32} {x1 : Int32} {x2 : Int32} {r : Int32} (h : M_held x0 x1 x2 = some r) : mS l yX6_held cX6_held 3 (some .int) 0 [.int x0, .int x1, .int x2] r := by
  refine mm_ofS (by decide) (Nat.le_of_ble_eq_true rfl) (fun p e s m below meth c R args ls C hr hlk hl hcs => ?_)
  have hx := C.1
  have hb := C.2.1
  have hown := C.2.2.2.1
  have hl : lv_has ls 3 [(0, .int x0), (1, .int x1), (2, .int x2)] := hl
  rw [M_held] at h
  refine lv_iload_n hx hb dX6_held_0 rfl (lv_at hl 0 rfl) ?_
  refine lv_iload_n hx hb dX6_held_1 rfl (lv_at hl 1 rfl) ?_
  refine lv_icmp_ge (tgt := 9) hx hb dX6_held_2 rfl (fun c1 => ?_) (fun c1 => ?_)
  · have h := if_some_t h c1
    refine lv_iload_n hx hb dX6_held_9 rfl (lv_at hl 0 rfl) ?_
    refine lv_iload_n hx hb dX6_held_10 rfl (lv_at hl 2 rfl) ?_
    refine lv_icmp_le (tgt := 18) hx hb dX6_held_11 rfl (fun c2 => ?_) (fun c2 => ?_)
    · have h := if_some_t h c2
      refine lv_iload_n hx hb dX6_held_18 rfl (lv_at hl 0 rfl) ?_
      exact mm_iret hx hb hr hlk h dX6_held_19
    · have h := if_some_f h c2
      refine lv_iload_n hx hb dX6_held_14 rfl (lv_at hl 2 rfl) ?_
      refine lv_goto (tgt := 19) hx hb dX6_held_15 rfl ?_
      exact mm_iret hx hb hr hlk h dX6_held_19
  · have h := if_some_f h c1
    refine lv_iload_n hx hb dX6_held_5 rfl (lv_at hl 1 rfl) ?_
    refine lv_goto (tgt := 19) hx hb dX6_held_6 rfl ?_
    exact mm_iret hx hb hr hlk h dX6_held_19
theorem q1669 : (Jvm.Cond.methodLink "ChapterLoanModel" (128 : Nat) ({ cls := "ChapterLoanModel", name := "held", desc := "(III)I" } : Jvm.MethodName)) ∈ lw_all := lw_g (lw_at lw_m7 145 rfl) rfl
theorem q1671 : (Jvm.Cond.code ({ cls := "ChapterLoanModel", name := "held", desc := "(III)I" } : Jvm.MethodName) prog_30_method_5_code (3 : Nat) (Option.some Jvm.ClassFile.FieldType.int)) ∈ lw_all := lw_g (lw_at lw_m7 147 rfl) rfl
theorem q1670 : (Jvm.Cond.static ({ cls := "ChapterLoanModel", name := "held", desc := "(III)I" } : Jvm.MethodName)) ∈ lw_all := lw_g (lw_at lw_m7 146 rfl) rfl
theorem k_held {a0 : Int32} {a1 : Int32} {a2 : Int32} {v : Int32} (hx : p.tables.exec = Jvm.exec) (hb : c.code = cc) (hml : c.maxLocals = nL) (hown : s.vm.findClass RX6 = some m.cls) (hts : ∀ w ∈ lw_all, w.before args s = true) (hR : d ≤ R.frames ∧ 40 * d ≤ R.locals) (h : M_held a0 a1 a2 = some v) (hd : 0 + 1 ≤ d) (hsz : ls.size = nL) (hW : (rest.map fun v => v.category).sum ≤ 8) (hcs : cells ≤ R.cells ∧ slots ≤ R.slots) (hdg : decode cc pc = .ok (.invokestatic 128, 3)) (kk : W p l e R s m args below meth c H locs cells slots Q (F0 m (pc + 3) ls (.int v :: rest))) : W p l e R s m args below meth c H locs cells slots Q (F0 m pc ls (.int a2 :: .int a1 :: .int a0 :: rest)) :=
  W.callR (W.runS (As := [.int a0, .int a1, .int a2]) (rest := rest) ⟨hx, hb, hml, hown, hts⟩ (w_held h) (va_cwS 3 hts (lw_S q1669 q1670 q94 q1671) rfl rfl rfl (by decide +kernel) (mr_ hR hd (by decide))) preEq rfl rfl hsz rfl (lv_room hW) hdg hcs) kk
abbrev cX6_puts : ByteArray := prog_30_method_9_code
def yX6_puts : MethodName := ⟨RX6, "puts", "(III)V"⟩
theorem dX6_puts_0 : decode cX6_puts 0 = .ok (.aload_n 0, 1) := by decide +kernel
theorem dX6_puts_1 : decode cX6_puts 1 = .ok (.getfield 7, 3) := by decide +kernel
theorem dX6_puts_4 : decode cX6_puts 4 = .ok (.bipush 10, 2) := by decide +kernel
theorem dX6_puts_6 : decode cX6_puts 6 = .ok (.iconst 5, 1) := by decide +kernel
theorem dX6_puts_7 : decode cX6_puts 7 = .ok (.iload_n 1, 1) := by decide +kernel
theorem dX6_puts_8 : decode cX6_puts 8 = .ok (.imul, 1) := by decide +kernel
theorem dX6_puts_9 : decode cX6_puts 9 = .ok (.iadd, 1) := by decide +kernel
theorem dX6_puts_10 : decode cX6_puts 10 = .ok (.iload_n 2, 1) := by decide +kernel
theorem dX6_puts_11 : decode cX6_puts 11 = .ok (.iadd, 1) := by decide +kernel
theorem dX6_puts_12 : decode cX6_puts 12 = .ok (.iload_n 3, 1) := by decide +kernel
theorem dX6_puts_13 : decode cX6_puts 13 = .ok (.iastore, 1) := by decide +kernel
theorem dX6_puts_14 : decode cX6_puts 14 = .ok (.return_, 1) := by decide +kernel
theorem w_puts {l : Launch} {D : va_G} {cI : ClassId} {ad : Nat → Nat} (hI : kInj 15 ad) {st st' : MSt} {x1 : Int32} {x2 : Int32} {x3 : Int32} (h : M_puts st x1 x2 x3 = some st') : mV l yX6_puts cX6_puts 4 none 0 D cI ad st [.int x1, .int x2, .int x3] none st' := by
  refine mm_ofV hI (by decide) rfl (Nat.le_of_ble_eq_true rfl) (fun p e s m below meth c R args ls C hr hlk hP hS hl hcs => ?_)
  have hx := C.1
  have hb := C.2.1
  have hown := C.2.2.2.1
  have hl : lv_has ls 4 [(0, .ref (ad 0)), (1, .int x1), (2, .int x2), (3, .int x3)] := hl
  have hP : mW D cI ad st s.heap := hP
  rw [M_puts] at h
  refine lv_aload_n hx hb dX6_puts_0 rfl (lv_at hl 0 rfl) ?_
  refine g_d C hP dX6_puts_1 ?_
  refine lv_bipush (v := 10) hx hb dX6_puts_4 (by decide) ?_
  refine lv_iconst (v := 5) hx hb dX6_puts_6 (by decide) ?_
  refine lv_iload_n hx hb dX6_puts_7 rfl (lv_at hl 1 rfl) ?_
  refine lv_imul hx hb dX6_puts_8 ?_
  refine lv_iadd hx hb dX6_puts_9 ?_
  refine lv_iload_n hx hb dX6_puts_10 rfl (lv_at hl 2 rfl) ?_
  refine lv_iadd hx hb dX6_puts_11 ?_
  refine lv_iload_n hx hb dX6_puts_12 rfl (lv_at hl 3 rfl) ?_
  obtain ⟨b1, hb1, h⟩ := bd1_some h
  refine mm_st C hP hS 1 (by decide) rfl hb1 dX6_puts_13 (fun H locs hP hS => ?_)
  exact mm_vret hx hb hr hlk h hP hS dX6_puts_14
theorem q1677 : (Jvm.Cond.methodLink "ChapterLoanModel" (137 : Nat) ({ cls := "ChapterLoanModel", name := "puts", desc := "(III)V" } : Jvm.MethodName)) ∈ lw_all := lw_g (lw_at lw_m7 153 rfl) rfl
theorem q1680 : (Jvm.Cond.code ({ cls := "ChapterLoanModel", name := "puts", desc := "(III)V" } : Jvm.MethodName) prog_30_method_9_code (4 : Nat) (Option.none : Option Jvm.ClassFile.FieldType)) ∈ lw_all := lw_g (lw_at lw_m7 156 rfl) rfl
theorem q1679 : (Jvm.Cond.instanceMethod ({ cls := "ChapterLoanModel", name := "puts", desc := "(III)V" } : Jvm.MethodName)) ∈ lw_all := lw_g (lw_at lw_m7 155 rfl) rfl
theorem k_puts {a0 : Int32} {a1 : Int32} {a2 : Int32} {st' : MSt} (C : mC p R d s m args c cc nL D cI ad) (hP : mW D cI ad st H) (hS : va_S (kF 15 ad) H0 H locs) (h : M_puts st a0 a1 a2 = some st') (hd : 0 + 1 ≤ d) (hsz : ls.size = nL) (hW : (rest.map fun v => v.category).sum ≤ 8) (hcs : cells ≤ R.cells ∧ slots ≤ R.slots) (hdg : decode cc pc = .ok (.invokevirtual 137, 3)) (kk : ∀ (H1 : Heap) (locs1 : List Loc), mW D cI ad st' H1 → va_S (kF 15 ad) H0 H1 locs1 → W p l e R s m args below meth c H1 locs1 cells slots Q (F0 m (pc + 3) ls (rest))) : W p l e R s m args below meth c H locs cells slots Q (F0 m pc ls (.int a2 :: .int a1 :: .int a0 :: .ref (ad 0) :: rest)) :=
  mm_cV (As := [.int a0, .int a1, .int a2]) C hP hS (w_puts C.2.2.2.2.2.2.1 h) (cwV 3 C.2.2.2.2.1 (lw_V q1677 q1679 qs43 q94 q1680) rfl rfl rfl (by decide +kernel) (mr_ C.2.2.2.2.2.2.2 hd (by decide))) rfl hsz rfl hW hdg hcs kk
abbrev cX6_fact : ByteArray := prog_30_method_30_code
def yX6_fact : MethodName := ⟨RX6, "fact", "(II)I"⟩
theorem dX6_fact_0 : decode cX6_fact 0 = .ok (.iload_n 1, 1) := by decide +kernel
theorem dX6_fact_1 : decode cX6_fact 1 = .ok (.i2l, 1) := by decide +kernel
theorem dX6_fact_2 : decode cX6_fact 2 = .ok (.lconst 0, 1) := by decide +kernel
theorem dX6_fact_3 : decode cX6_fact 3 = .ok (.ldc2_w 122, 3) := by decide +kernel
theorem dX6_fact_6 : decode cX6_fact 6 = .ok (.invokestatic 57, 3) := by decide +kernel
theorem dX6_fact_9 : decode cX6_fact 9 = .ok (.ifCond .eq 29, 3) := by decide +kernel
theorem dX6_fact_12 : decode cX6_fact 12 = .ok (.iload_n 1, 1) := by decide +kernel
theorem dX6_fact_13 : decode cX6_fact 13 = .ok (.aload_n 0, 1) := by decide +kernel
theorem dX6_fact_14 : decode cX6_fact 14 = .ok (.getfield 7, 3) := by decide +kernel
theorem dX6_fact_17 : decode cX6_fact 17 = .ok (.iconst 0, 1) := by decide +kernel
theorem dX6_fact_18 : decode cX6_fact 18 = .ok (.iaload, 1) := by decide +kernel
theorem dX6_fact_19 : decode cX6_fact 19 = .ok (.ishr, 1) := by decide +kernel
theorem dX6_fact_20 : decode cX6_fact 20 = .ok (.iconst 1, 1) := by decide +kernel
theorem dX6_fact_21 : decode cX6_fact 21 = .ok (.iand, 1) := by decide +kernel
theorem dX6_fact_22 : decode cX6_fact 22 = .ok (.iconst 1, 1) := by decide +kernel
theorem dX6_fact_23 : decode cX6_fact 23 = .ok (.if_icmp .eq 15, 3) := by decide +kernel
theorem dX6_fact_26 : decode cX6_fact 26 = .ok (.iload_n 2, 1) := by decide +kernel
theorem dX6_fact_27 : decode cX6_fact 27 = .ok (.i2l, 1) := by decide +kernel
theorem dX6_fact_28 : decode cX6_fact 28 = .ok (.lconst 0, 1) := by decide +kernel
theorem dX6_fact_29 : decode cX6_fact 29 = .ok (.ldc2_w 135, 3) := by decide +kernel
theorem dX6_fact_32 : decode cX6_fact 32 = .ok (.invokestatic 57, 3) := by decide +kernel
theorem dX6_fact_35 : decode cX6_fact 35 = .ok (.ifCond .ne 9, 3) := by decide +kernel
theorem dX6_fact_38 : decode cX6_fact 38 = .ok (.aload_n 0, 1) := by decide +kernel
theorem dX6_fact_39 : decode cX6_fact 39 = .ok (.iconst 1, 1) := by decide +kernel
theorem dX6_fact_40 : decode cX6_fact 40 = .ok (.invokevirtual 119, 3) := by decide +kernel
theorem dX6_fact_43 : decode cX6_fact 43 = .ok (.ireturn, 1) := by decide +kernel
theorem dX6_fact_44 : decode cX6_fact 44 = .ok (.aload_n 0, 1) := by decide +kernel
theorem dX6_fact_45 : decode cX6_fact 45 = .ok (.getfield 7, 3) := by decide +kernel
theorem dX6_fact_48 : decode cX6_fact 48 = .ok (.iconst 0, 1) := by decide +kernel
theorem dX6_fact_49 : decode cX6_fact 49 = .ok (.iaload, 1) := by decide +kernel
theorem dX6_fact_50 : decode cX6_fact 50 = .ok (.bipush 8, 2) := by decide +kernel
theorem dX6_fact_52 : decode cX6_fact 52 = .ok (.if_icmp .ne 9, 3) := by decide +kernel
theorem dX6_fact_55 : decode cX6_fact 55 = .ok (.aload_n 0, 1) := by decide +kernel
theorem dX6_fact_56 : decode cX6_fact 56 = .ok (.iconst 4, 1) := by decide +kernel
theorem dX6_fact_57 : decode cX6_fact 57 = .ok (.invokevirtual 119, 3) := by decide +kernel
theorem dX6_fact_60 : decode cX6_fact 60 = .ok (.ireturn, 1) := by decide +kernel
theorem dX6_fact_61 : decode cX6_fact 61 = .ok (.aload_n 0, 1) := by decide +kernel
theorem dX6_fact_62 : decode cX6_fact 62 = .ok (.getfield 7, 3) := by decide +kernel
theorem dX6_fact_65 : decode cX6_fact 65 = .ok (.iconst 0, 1) := by decide +kernel
theorem dX6_fact_66 : decode cX6_fact 66 = .ok (.iaload, 1) := by decide +kernel
theorem dX6_fact_67 : decode cX6_fact 67 = .ok (.istore_n 3, 1) := by decide +kernel
theorem dX6_fact_68 : decode cX6_fact 68 = .ok (.aload_n 0, 1) := by decide +kernel
theorem dX6_fact_69 : decode cX6_fact 69 = .ok (.getfield 7, 3) := by decide +kernel
theorem dX6_fact_72 : decode cX6_fact 72 = .ok (.iconst 0, 1) := by decide +kernel
theorem dX6_fact_73 : decode cX6_fact 73 = .ok (.dup2, 1) := by decide +kernel
theorem dX6_fact_74 : decode cX6_fact 74 = .ok (.iaload, 1) := by decide +kernel
theorem dX6_fact_75 : decode cX6_fact 75 = .ok (.iconst 1, 1) := by decide +kernel
theorem dX6_fact_76 : decode cX6_fact 76 = .ok (.iadd, 1) := by decide +kernel
theorem dX6_fact_77 : decode cX6_fact 77 = .ok (.iastore, 1) := by decide +kernel
theorem dX6_fact_78 : decode cX6_fact 78 = .ok (.aload_n 0, 1) := by decide +kernel
theorem dX6_fact_79 : decode cX6_fact 79 = .ok (.iload_n 3, 1) := by decide +kernel
theorem dX6_fact_80 : decode cX6_fact 80 = .ok (.iconst 0, 1) := by decide +kernel
theorem dX6_fact_81 : decode cX6_fact 81 = .ok (.iload_n 1, 1) := by decide +kernel
theorem dX6_fact_82 : decode cX6_fact 82 = .ok (.invokevirtual 137, 3) := by decide +kernel
theorem dX6_fact_85 : decode cX6_fact 85 = .ok (.aload_n 0, 1) := by decide +kernel
theorem dX6_fact_86 : decode cX6_fact 86 = .ok (.iload_n 3, 1) := by decide +kernel
theorem dX6_fact_87 : decode cX6_fact 87 = .ok (.iconst 1, 1) := by decide +kernel
theorem dX6_fact_88 : decode cX6_fact 88 = .ok (.iconst 0, 1) := by decide +kernel
theorem dX6_fact_89 : decode cX6_fact 89 = .ok (.invokevirtual 137, 3) := by decide +kernel
theorem dX6_fact_92 : decode cX6_fact 92 = .ok (.aload_n 0, 1) := by decide +kernel
theorem dX6_fact_93 : decode cX6_fact 93 = .ok (.iload_n 3, 1) := by decide +kernel
theorem dX6_fact_94 : decode cX6_fact 94 = .ok (.iconst 2, 1) := by decide +kernel
theorem dX6_fact_95 : decode cX6_fact 95 = .ok (.iconst 0, 1) := by decide +kernel
theorem dX6_fact_96 : decode cX6_fact 96 = .ok (.invokevirtual 137, 3) := by decide +kernel
theorem dX6_fact_99 : decode cX6_fact 99 = .ok (.aload_n 0, 1) := by decide +kernel
theorem dX6_fact_100 : decode cX6_fact 100 = .ok (.iload_n 3, 1) := by decide +kernel
theorem dX6_fact_101 : decode cX6_fact 101 = .ok (.iconst 3, 1) := by decide +kernel
theorem dX6_fact_102 : decode cX6_fact 102 = .ok (.iconst (-1), 1) := by decide +kernel
theorem dX6_fact_103 : decode cX6_fact 103 = .ok (.invokevirtual 137, 3) := by decide +kernel
theorem dX6_fact_106 : decode cX6_fact 106 = .ok (.aload_n 0, 1) := by decide +kernel
theorem dX6_fact_107 : decode cX6_fact 107 = .ok (.iload_n 3, 1) := by decide +kernel
theorem dX6_fact_108 : decode cX6_fact 108 = .ok (.iconst 4, 1) := by decide +kernel
theorem dX6_fact_109 : decode cX6_fact 109 = .ok (.iload_n 2, 1) := by decide +kernel
theorem dX6_fact_110 : decode cX6_fact 110 = .ok (.invokevirtual 137, 3) := by decide +kernel
theorem dX6_fact_113 : decode cX6_fact 113 = .ok (.iload_n 3, 1) := by decide +kernel
theorem dX6_fact_114 : decode cX6_fact 114 = .ok (.ireturn, 1) := by decide +kernel
theorem q1676 : (Jvm.Cond.constantLong "ChapterLoanModel" (135 : Nat) (31 : Int64)) ∈ lw_all := lw_g (lw_at lw_m7 152 rfl) rfl
theorem w_fact {l : Launch} {D : va_G} {cI : ClassId} {ad : Nat → Nat} (hI : kInj 15 ad) {st st' : MSt} {x1 : Int32} {x2 : Int32} {r0 : Int32} (h : M_fact st x1 x2 = some (r0, st')) : mV l yX6_fact cX6_fact 4 (some .int) 1 D cI ad st [.int x1, .int x2] (some (.int r0)) st' := by
  refine mm_ofV hI (by decide) rfl (Nat.le_of_ble_eq_true rfl) (fun p e s m below meth c R args ls C hr hlk hP hS hl hcs => ?_)
  have hx := C.1
  have hb := C.2.1
  have hown := C.2.2.2.1
  have hl : lv_has ls 4 [(0, .ref (ad 0)), (1, .int x1), (2, .int x2)] := hl
  have hP : mW D cI ad st s.heap := hP
  rw [M_fact] at h
  refine lv_iload_n hx hb dX6_fact_0 rfl (lv_at hl 1 rfl) ?_
  refine lv_i2l (v := x1.toInt64) hx hb dX6_fact_1 rfl ?_
  refine lv_lconst (v := 0) hx hb dX6_fact_2 (by decide) ?_
  refine lv_ldc2 hx hb hown (C.2.2.2.2.1 _ q1610) dX6_fact_3 ?_
  obtain ⟨v1, hv1, h⟩ := bd1_some h
  refine k_in hx hb C.2.2.1 hown C.2.2.2.2.1 C.2.2.2.2.2.2.2 hv1 (Nat.le_of_ble_eq_true rfl) hl.1 (Nat.le_of_ble_eq_true rfl) hcs dX6_fact_6 ?_
  refine lv_if_eq (tgt := 38) hx hb dX6_fact_9 rfl (fun c2 => ?_) (fun c2 => ?_)
  · have h := if_some_t h c2
    refine lv_aload_n hx hb dX6_fact_38 rfl (lv_at hl 0 rfl) ?_
    refine lv_iconst (v := 1) hx hb dX6_fact_39 (by decide) ?_
    obtain ⟨v3, st4, hv3, h⟩ := bd2_some h
    refine k_finds C hP hS hv3 (Nat.le_of_ble_eq_true rfl) hl.1 (Nat.le_of_ble_eq_true rfl) hcs dX6_fact_40 (fun H locs hP hS => ?_)
    exact mm_viret hx hb hr hlk h hP hS dX6_fact_43
  · have h := if_some_f h c2
    refine lv_iload_n hx hb dX6_fact_12 rfl (lv_at hl 1 rfl) ?_
    refine lv_aload_n hx hb dX6_fact_13 rfl (lv_at hl 0 rfl) ?_
    refine g_d C hP dX6_fact_14 ?_
    refine lv_iconst (v := 0) hx hb dX6_fact_17 (by decide) ?_
    obtain ⟨v5, hv5, h⟩ := bd1_some h
    refine mm_ld C hP 1 (by decide) rfl hv5 dX6_fact_18 ?_
    refine lv_ishr hx hb dX6_fact_19 ?_
    refine lv_iconst (v := 1) hx hb dX6_fact_20 (by decide) ?_
    refine lv_iand hx hb dX6_fact_21 ?_
    refine lv_iconst (v := 1) hx hb dX6_fact_22 (by decide) ?_
    refine lv_icmp_eq (tgt := 38) hx hb dX6_fact_23 rfl (fun c6 => ?_) (fun c6 => ?_)
    · have h := if_some_t h c6
      refine lv_aload_n hx hb dX6_fact_38 rfl (lv_at hl 0 rfl) ?_
      refine lv_iconst (v := 1) hx hb dX6_fact_39 (by decide) ?_
      obtain ⟨v7, st8, hv7, h⟩ := bd2_some h
      refine k_finds C hP hS hv7 (Nat.le_of_ble_eq_true rfl) hl.1 (Nat.le_of_ble_eq_true rfl) hcs dX6_fact_40 (fun H locs hP hS => ?_)
      exact mm_viret hx hb hr hlk h hP hS dX6_fact_43
    · have h := if_some_f h c6
      refine lv_iload_n hx hb dX6_fact_26 rfl (lv_at hl 2 rfl) ?_
      refine lv_i2l (v := x2.toInt64) hx hb dX6_fact_27 rfl ?_
      refine lv_lconst (v := 0) hx hb dX6_fact_28 (by decide) ?_
      refine lv_ldc2 hx hb hown (C.2.2.2.2.1 _ q1676) dX6_fact_29 ?_
      obtain ⟨v9, hv9, h⟩ := bd1_some h
      refine k_in hx hb C.2.2.1 hown C.2.2.2.2.1 C.2.2.2.2.2.2.2 hv9 (Nat.le_of_ble_eq_true rfl) hl.1 (Nat.le_of_ble_eq_true rfl) hcs dX6_fact_32 ?_
      refine lv_if_ne (tgt := 44) hx hb dX6_fact_35 rfl (fun c10 => ?_) (fun c10 => ?_)
      · have h := if_some_f h c10
        refine lv_aload_n hx hb dX6_fact_44 rfl (lv_at hl 0 rfl) ?_
        refine g_d C hP dX6_fact_45 ?_
        refine lv_iconst (v := 0) hx hb dX6_fact_48 (by decide) ?_
        obtain ⟨v11, hv11, h⟩ := bd1_some h
        refine mm_ld C hP 1 (by decide) rfl hv11 dX6_fact_49 ?_
        refine lv_bipush (v := 8) hx hb dX6_fact_50 (by decide) ?_
        refine lv_icmp_ne (tgt := 61) hx hb dX6_fact_52 rfl (fun c12 => ?_) (fun c12 => ?_)
        · have h := if_some_f h c12
          refine lv_aload_n hx hb dX6_fact_61 rfl (lv_at hl 0 rfl) ?_
          refine g_d C hP dX6_fact_62 ?_
          refine lv_iconst (v := 0) hx hb dX6_fact_65 (by decide) ?_
          obtain ⟨v13, hv13, h⟩ := bd1_some h
          refine mm_ld C hP 1 (by decide) rfl hv13 dX6_fact_66 ?_
          refine lv_istore_n (lv' := [(3, .int v13), (0, .ref (ad 0)), (1, .int x1), (2, .int x2)]) hx hb dX6_fact_67 rfl hl (by decide) rfl (fun ls hl => ?_)
          refine lv_aload_n hx hb dX6_fact_68 rfl (lv_at hl 1 rfl) ?_
          refine g_d C hP dX6_fact_69 ?_
          refine lv_iconst (v := 0) hx hb dX6_fact_72 (by decide) ?_
          refine lv_dup2_11 hx hb dX6_fact_73 rfl rfl ?_
          obtain ⟨v14, hv14, h⟩ := bd1_some h
          refine mm_ld C hP 1 (by decide) rfl hv14 dX6_fact_74 ?_
          refine lv_iconst (v := 1) hx hb dX6_fact_75 (by decide) ?_
          refine lv_iadd hx hb dX6_fact_76 ?_
          obtain ⟨b15, hb15, h⟩ := bd1_some h
          refine mm_st C hP hS 1 (by decide) rfl hb15 dX6_fact_77 (fun H locs hP hS => ?_)
          refine lv_aload_n hx hb dX6_fact_78 rfl (lv_at hl 1 rfl) ?_
          refine lv_iload_n hx hb dX6_fact_79 rfl (lv_at hl 0 rfl) ?_
          refine lv_iconst (v := 0) hx hb dX6_fact_80 (by decide) ?_
          refine lv_iload_n hx hb dX6_fact_81 rfl (lv_at hl 2 rfl) ?_
          obtain ⟨st17, hv16, h⟩ := bd1_some h
          refine k_puts C hP hS hv16 (Nat.le_of_ble_eq_true rfl) hl.1 (Nat.le_of_ble_eq_true rfl) hcs dX6_fact_82 (fun H locs hP hS => ?_)
          refine lv_aload_n hx hb dX6_fact_85 rfl (lv_at hl 1 rfl) ?_
          refine lv_iload_n hx hb dX6_fact_86 rfl (lv_at hl 0 rfl) ?_
          refine lv_iconst (v := 1) hx hb dX6_fact_87 (by decide) ?_
          refine lv_iconst (v := 0) hx hb dX6_fact_88 (by decide) ?_
          obtain ⟨st19, hv18, h⟩ := bd1_some h
          refine k_puts C hP hS hv18 (Nat.le_of_ble_eq_true rfl) hl.1 (Nat.le_of_ble_eq_true rfl) hcs dX6_fact_89 (fun H locs hP hS => ?_)
          refine lv_aload_n hx hb dX6_fact_92 rfl (lv_at hl 1 rfl) ?_
          refine lv_iload_n hx hb dX6_fact_93 rfl (lv_at hl 0 rfl) ?_
          refine lv_iconst (v := 2) hx hb dX6_fact_94 (by decide) ?_
          refine lv_iconst (v := 0) hx hb dX6_fact_95 (by decide) ?_
          obtain ⟨st21, hv20, h⟩ := bd1_some h
          refine k_puts C hP hS hv20 (Nat.le_of_ble_eq_true rfl) hl.1 (Nat.le_of_ble_eq_true rfl) hcs dX6_fact_96 (fun H locs hP hS => ?_)
          refine lv_aload_n hx hb dX6_fact_99 rfl (lv_at hl 1 rfl) ?_
          refine lv_iload_n hx hb dX6_fact_100 rfl (lv_at hl 0 rfl) ?_
          refine lv_iconst (v := 3) hx hb dX6_fact_101 (by decide) ?_
          refine lv_iconst (v := (-1)) hx hb dX6_fact_102 (by decide) ?_
          obtain ⟨st23, hv22, h⟩ := bd1_some h
          refine k_puts C hP hS hv22 (Nat.le_of_ble_eq_true rfl) hl.1 (Nat.le_of_ble_eq_true rfl) hcs dX6_fact_103 (fun H locs hP hS => ?_)
          refine lv_aload_n hx hb dX6_fact_106 rfl (lv_at hl 1 rfl) ?_
          refine lv_iload_n hx hb dX6_fact_107 rfl (lv_at hl 0 rfl) ?_
          refine lv_iconst (v := 4) hx hb dX6_fact_108 (by decide) ?_
          refine lv_iload_n hx hb dX6_fact_109 rfl (lv_at hl 3 rfl) ?_
          obtain ⟨st25, hv24, h⟩ := bd1_some h
          refine k_puts C hP hS hv24 (Nat.le_of_ble_eq_true rfl) hl.1 (Nat.le_of_ble_eq_true rfl) hcs dX6_fact_110 (fun H locs hP hS => ?_)
          refine lv_iload_n hx hb dX6_fact_113 rfl (lv_at hl 0 rfl) ?_
          exact mm_viret hx hb hr hlk h hP hS dX6_fact_114
        · have h := if_some_t h c12
          refine lv_aload_n hx hb dX6_fact_55 rfl (lv_at hl 0 rfl) ?_
          refine lv_iconst (v := 4) hx hb dX6_fact_56 (by decide) ?_
          obtain ⟨v26, st27, hv26, h⟩ := bd2_some h
          refine k_finds C hP hS hv26 (Nat.le_of_ble_eq_true rfl) hl.1 (Nat.le_of_ble_eq_true rfl) hcs dX6_fact_57 (fun H locs hP hS => ?_)
          exact mm_viret hx hb hr hlk h hP hS dX6_fact_60
      · have h := if_some_t h c10
        refine lv_aload_n hx hb dX6_fact_38 rfl (lv_at hl 0 rfl) ?_
        refine lv_iconst (v := 1) hx hb dX6_fact_39 (by decide) ?_
        obtain ⟨v28, st29, hv28, h⟩ := bd2_some h
        refine k_finds C hP hS hv28 (Nat.le_of_ble_eq_true rfl) hl.1 (Nat.le_of_ble_eq_true rfl) hcs dX6_fact_40 (fun H locs hP hS => ?_)
        exact mm_viret hx hb hr hlk h hP hS dX6_fact_43
abbrev cX6_isFact : ByteArray := prog_30_method_6_code
def yX6_isFact : MethodName := ⟨RX6, "isFact", "(I)Z"⟩
theorem dX6_isFact_0 : decode cX6_isFact 0 = .ok (.iload_n 1, 1) := by decide +kernel
theorem dX6_isFact_1 : decode cX6_isFact 1 = .ok (.i2l, 1) := by decide +kernel
theorem dX6_isFact_2 : decode cX6_isFact 2 = .ok (.lconst 0, 1) := by decide +kernel
theorem dX6_isFact_3 : decode cX6_isFact 3 = .ok (.aload_n 0, 1) := by decide +kernel
theorem dX6_isFact_4 : decode cX6_isFact 4 = .ok (.getfield 7, 3) := by decide +kernel
theorem dX6_isFact_7 : decode cX6_isFact 7 = .ok (.iconst 0, 1) := by decide +kernel
theorem dX6_isFact_8 : decode cX6_isFact 8 = .ok (.iaload, 1) := by decide +kernel
theorem dX6_isFact_9 : decode cX6_isFact 9 = .ok (.iconst 1, 1) := by decide +kernel
theorem dX6_isFact_10 : decode cX6_isFact 10 = .ok (.isub, 1) := by decide +kernel
theorem dX6_isFact_11 : decode cX6_isFact 11 = .ok (.i2l, 1) := by decide +kernel
theorem dX6_isFact_12 : decode cX6_isFact 12 = .ok (.invokestatic 57, 3) := by decide +kernel
theorem dX6_isFact_15 : decode cX6_isFact 15 = .ok (.ireturn, 1) := by decide +kernel
theorem w_isFact {l : Launch} {D : va_G} {cI : ClassId} {ad : Nat → Nat} (hI : kInj 15 ad) {st : MSt} {x1 : Int32} {r : Int32} (h : M_isFact st x1 = some r) : mR l yX6_isFact cX6_isFact 2 (some .boolean) 1 D cI ad st [.int x1] r := by
  refine mm_ofR hI (by decide) rfl (Nat.le_of_ble_eq_true rfl) (fun p e s m below meth c R args ls C hr hlk hP hl hcs => ?_)
  have hx := C.1
  have hb := C.2.1
  have hown := C.2.2.2.1
  have hl : lv_has ls 2 [(0, .ref (ad 0)), (1, .int x1)] := hl
  rw [M_isFact] at h
  refine lv_iload_n hx hb dX6_isFact_0 rfl (lv_at hl 1 rfl) ?_
  refine lv_i2l (v := x1.toInt64) hx hb dX6_isFact_1 rfl ?_
  refine lv_lconst (v := 0) hx hb dX6_isFact_2 (by decide) ?_
  refine lv_aload_n hx hb dX6_isFact_3 rfl (lv_at hl 0 rfl) ?_
  refine g_d C hP dX6_isFact_4 ?_
  refine lv_iconst (v := 0) hx hb dX6_isFact_7 (by decide) ?_
  obtain ⟨v1, hv1, h⟩ := bd1_some h
  refine mm_ld C hP 1 (by decide) rfl hv1 dX6_isFact_8 ?_
  refine lv_iconst (v := 1) hx hb dX6_isFact_9 (by decide) ?_
  refine lv_isub hx hb dX6_isFact_10 ?_
  refine lv_i2l (v := (v1 - 1).toInt64) hx hb dX6_isFact_11 rfl ?_
  obtain ⟨v2, hv2, h⟩ := bd1_some h
  refine k_in hx hb C.2.2.1 hown C.2.2.2.2.1 C.2.2.2.2.2.2.2 hv2 (Nat.le_of_ble_eq_true rfl) hl.1 (Nat.le_of_ble_eq_true rfl) hcs dX6_isFact_12 ?_
  exact mm_zretV hx hb hr hlk h dX6_isFact_15
theorem q1685 : (Jvm.Cond.methodLink "ChapterLoanModel" (141 : Nat) ({ cls := "ChapterLoanModel", name := "isFact", desc := "(I)Z" } : Jvm.MethodName)) ∈ lw_all := lw_g (lw_at lw_m7 161 rfl) rfl
theorem q1688 : (Jvm.Cond.code ({ cls := "ChapterLoanModel", name := "isFact", desc := "(I)Z" } : Jvm.MethodName) prog_30_method_6_code (2 : Nat) (Option.some Jvm.ClassFile.FieldType.boolean)) ∈ lw_all := lw_g (lw_at lw_m7 164 rfl) rfl
theorem q1687 : (Jvm.Cond.instanceMethod ({ cls := "ChapterLoanModel", name := "isFact", desc := "(I)Z" } : Jvm.MethodName)) ∈ lw_all := lw_g (lw_at lw_m7 163 rfl) rfl
theorem k_isFact {a0 : Int32} {v : Int32} (C : mC p R d s m args c cc nL D cI ad) (hP : mW D cI ad st H) (h : M_isFact st a0 = some v) (hd : 1 + 1 ≤ d) (hsz : ls.size = nL) (hW : (rest.map fun v => v.category).sum ≤ 8) (hcs : cells ≤ R.cells ∧ slots ≤ R.slots) (hdg : decode cc pc = .ok (.invokevirtual 141, 3)) (kk : W p l e R s m args below meth c H locs cells slots Q (F0 m (pc + 3) ls (.int v :: rest))) : W p l e R s m args below meth c H locs cells slots Q (F0 m pc ls (.int a0 :: .ref (ad 0) :: rest)) :=
  mm_cR (As := [.int a0]) C hP (w_isFact C.2.2.2.2.2.2.1 h) (cwV 1 C.2.2.2.2.1 (lw_V q1685 q1687 qs44 q94 q1688) rfl rfl rfl (by decide +kernel) (mr_ C.2.2.2.2.2.2.2 hd (by decide))) rfl hsz rfl hW hdg hcs kk
abbrev cX6_its : ByteArray := prog_30_method_8_code
def yX6_its : MethodName := ⟨RX6, "its", "(II)I"⟩
theorem dX6_its_0 : decode cX6_its 0 = .ok (.aload_n 0, 1) := by decide +kernel
theorem dX6_its_1 : decode cX6_its 1 = .ok (.getfield 7, 3) := by decide +kernel
theorem dX6_its_4 : decode cX6_its 4 = .ok (.bipush 10, 2) := by decide +kernel
theorem dX6_its_6 : decode cX6_its 6 = .ok (.iconst 5, 1) := by decide +kernel
theorem dX6_its_7 : decode cX6_its 7 = .ok (.iload_n 1, 1) := by decide +kernel
theorem dX6_its_8 : decode cX6_its 8 = .ok (.imul, 1) := by decide +kernel
theorem dX6_its_9 : decode cX6_its 9 = .ok (.iadd, 1) := by decide +kernel
theorem dX6_its_10 : decode cX6_its 10 = .ok (.iload_n 2, 1) := by decide +kernel
theorem dX6_its_11 : decode cX6_its 11 = .ok (.iadd, 1) := by decide +kernel
theorem dX6_its_12 : decode cX6_its 12 = .ok (.iaload, 1) := by decide +kernel
theorem dX6_its_13 : decode cX6_its 13 = .ok (.ireturn, 1) := by decide +kernel
theorem w_its {l : Launch} {D : va_G} {cI : ClassId} {ad : Nat → Nat} (hI : kInj 15 ad) {st : MSt} {x1 : Int32} {x2 : Int32} {r : Int32} (h : M_its st x1 x2 = some r) : mR l yX6_its cX6_its 3 (some .int) 0 D cI ad st [.int x1, .int x2] r := by
  refine mm_ofR hI (by decide) rfl (Nat.le_of_ble_eq_true rfl) (fun p e s m below meth c R args ls C hr hlk hP hl hcs => ?_)
  have hx := C.1
  have hb := C.2.1
  have hown := C.2.2.2.1
  have hl : lv_has ls 3 [(0, .ref (ad 0)), (1, .int x1), (2, .int x2)] := hl
  rw [M_its] at h
  refine lv_aload_n hx hb dX6_its_0 rfl (lv_at hl 0 rfl) ?_
  refine g_d C hP dX6_its_1 ?_
  refine lv_bipush (v := 10) hx hb dX6_its_4 (by decide) ?_
  refine lv_iconst (v := 5) hx hb dX6_its_6 (by decide) ?_
  refine lv_iload_n hx hb dX6_its_7 rfl (lv_at hl 1 rfl) ?_
  refine lv_imul hx hb dX6_its_8 ?_
  refine lv_iadd hx hb dX6_its_9 ?_
  refine lv_iload_n hx hb dX6_its_10 rfl (lv_at hl 2 rfl) ?_
  refine lv_iadd hx hb dX6_its_11 ?_
  obtain ⟨v1, hv1, h⟩ := bd1_some h
  refine mm_ld C hP 1 (by decide) rfl hv1 dX6_its_12 ?_
  exact mm_iret hx hb hr hlk h dX6_its_13
theorem q1689 : (Jvm.Cond.methodLink "ChapterLoanModel" (144 : Nat) ({ cls := "ChapterLoanModel", name := "its", desc := "(II)I" } : Jvm.MethodName)) ∈ lw_all := lw_g (lw_at lw_m7 165 rfl) rfl
theorem q1692 : (Jvm.Cond.code ({ cls := "ChapterLoanModel", name := "its", desc := "(II)I" } : Jvm.MethodName) prog_30_method_8_code (3 : Nat) (Option.some Jvm.ClassFile.FieldType.int)) ∈ lw_all := lw_g (lw_at lw_m7 168 rfl) rfl
theorem q1691 : (Jvm.Cond.instanceMethod ({ cls := "ChapterLoanModel", name := "its", desc := "(II)I" } : Jvm.MethodName)) ∈ lw_all := lw_g (lw_at lw_m7 167 rfl) rfl
theorem k_its {a0 : Int32} {a1 : Int32} {v : Int32} (C : mC p R d s m args c cc nL D cI ad) (hP : mW D cI ad st H) (h : M_its st a0 a1 = some v) (hd : 0 + 1 ≤ d) (hsz : ls.size = nL) (hW : (rest.map fun v => v.category).sum ≤ 8) (hcs : cells ≤ R.cells ∧ slots ≤ R.slots) (hdg : decode cc pc = .ok (.invokevirtual 144, 3)) (kk : W p l e R s m args below meth c H locs cells slots Q (F0 m (pc + 3) ls (.int v :: rest))) : W p l e R s m args below meth c H locs cells slots Q (F0 m pc ls (.int a1 :: .int a0 :: .ref (ad 0) :: rest)) :=
  mm_cR (As := [.int a0, .int a1]) C hP (w_its C.2.2.2.2.2.2.1 h) (cwV 2 C.2.2.2.2.1 (lw_V q1689 q1691 qs45 q94 q1692) rfl rfl rfl (by decide +kernel) (mr_ C.2.2.2.2.2.2.2 hd (by decide))) rfl hsz rfl hW hdg hcs kk
abbrev cX6_clash : ByteArray := prog_30_method_31_code
def yX6_clash : MethodName := ⟨RX6, "clash", "(III)I"⟩
theorem dX6_clash_0 : decode cX6_clash 0 = .ok (.aload_n 0, 1) := by decide +kernel
theorem dX6_clash_1 : decode cX6_clash 1 = .ok (.iload_n 1, 1) := by decide +kernel
theorem dX6_clash_2 : decode cX6_clash 2 = .ok (.invokevirtual 141, 3) := by decide +kernel
theorem dX6_clash_5 : decode cX6_clash 5 = .ok (.ifCond .eq 26, 3) := by decide +kernel
theorem dX6_clash_8 : decode cX6_clash 8 = .ok (.aload_n 0, 1) := by decide +kernel
theorem dX6_clash_9 : decode cX6_clash 9 = .ok (.iload_n 2, 1) := by decide +kernel
theorem dX6_clash_10 : decode cX6_clash 10 = .ok (.invokevirtual 141, 3) := by decide +kernel
theorem dX6_clash_13 : decode cX6_clash 13 = .ok (.ifCond .eq 18, 3) := by decide +kernel
theorem dX6_clash_16 : decode cX6_clash 16 = .ok (.iload_n 1, 1) := by decide +kernel
theorem dX6_clash_17 : decode cX6_clash 17 = .ok (.iload_n 2, 1) := by decide +kernel
theorem dX6_clash_18 : decode cX6_clash 18 = .ok (.if_icmp .eq 13, 3) := by decide +kernel
theorem dX6_clash_21 : decode cX6_clash 21 = .ok (.iload_n 3, 1) := by decide +kernel
theorem dX6_clash_22 : decode cX6_clash 22 = .ok (.i2l, 1) := by decide +kernel
theorem dX6_clash_23 : decode cX6_clash 23 = .ok (.lconst 0, 1) := by decide +kernel
theorem dX6_clash_24 : decode cX6_clash 24 = .ok (.lconst 1, 1) := by decide +kernel
theorem dX6_clash_25 : decode cX6_clash 25 = .ok (.invokestatic 57, 3) := by decide +kernel
theorem dX6_clash_28 : decode cX6_clash 28 = .ok (.ifCond .ne 9, 3) := by decide +kernel
theorem dX6_clash_31 : decode cX6_clash 31 = .ok (.aload_n 0, 1) := by decide +kernel
theorem dX6_clash_32 : decode cX6_clash 32 = .ok (.iconst 1, 1) := by decide +kernel
theorem dX6_clash_33 : decode cX6_clash 33 = .ok (.invokevirtual 119, 3) := by decide +kernel
theorem dX6_clash_36 : decode cX6_clash 36 = .ok (.ireturn, 1) := by decide +kernel
theorem dX6_clash_37 : decode cX6_clash 37 = .ok (.aload_n 0, 1) := by decide +kernel
theorem dX6_clash_38 : decode cX6_clash 38 = .ok (.iload_n 1, 1) := by decide +kernel
theorem dX6_clash_39 : decode cX6_clash 39 = .ok (.iconst 1, 1) := by decide +kernel
theorem dX6_clash_40 : decode cX6_clash 40 = .ok (.invokevirtual 144, 3) := by decide +kernel
theorem dX6_clash_43 : decode cX6_clash 43 = .ok (.iload_n 2, 1) := by decide +kernel
theorem dX6_clash_44 : decode cX6_clash 44 = .ok (.ishr, 1) := by decide +kernel
theorem dX6_clash_45 : decode cX6_clash 45 = .ok (.iconst 1, 1) := by decide +kernel
theorem dX6_clash_46 : decode cX6_clash 46 = .ok (.iand, 1) := by decide +kernel
theorem dX6_clash_47 : decode cX6_clash 47 = .ok (.istore 4, 2) := by decide +kernel
theorem dX6_clash_49 : decode cX6_clash 49 = .ok (.aload_n 0, 1) := by decide +kernel
theorem dX6_clash_50 : decode cX6_clash 50 = .ok (.iload_n 1, 1) := by decide +kernel
theorem dX6_clash_51 : decode cX6_clash 51 = .ok (.iconst 1, 1) := by decide +kernel
theorem dX6_clash_52 : decode cX6_clash 52 = .ok (.aload_n 0, 1) := by decide +kernel
theorem dX6_clash_53 : decode cX6_clash 53 = .ok (.iload_n 1, 1) := by decide +kernel
theorem dX6_clash_54 : decode cX6_clash 54 = .ok (.iconst 1, 1) := by decide +kernel
theorem dX6_clash_55 : decode cX6_clash 55 = .ok (.invokevirtual 144, 3) := by decide +kernel
theorem dX6_clash_58 : decode cX6_clash 58 = .ok (.iconst 1, 1) := by decide +kernel
theorem dX6_clash_59 : decode cX6_clash 59 = .ok (.iload_n 2, 1) := by decide +kernel
theorem dX6_clash_60 : decode cX6_clash 60 = .ok (.ishl, 1) := by decide +kernel
theorem dX6_clash_61 : decode cX6_clash 61 = .ok (.iconst (-1), 1) := by decide +kernel
theorem dX6_clash_62 : decode cX6_clash 62 = .ok (.ixor, 1) := by decide +kernel
theorem dX6_clash_63 : decode cX6_clash 63 = .ok (.iand, 1) := by decide +kernel
theorem dX6_clash_64 : decode cX6_clash 64 = .ok (.iload_n 3, 1) := by decide +kernel
theorem dX6_clash_65 : decode cX6_clash 65 = .ok (.iload_n 2, 1) := by decide +kernel
theorem dX6_clash_66 : decode cX6_clash 66 = .ok (.ishl, 1) := by decide +kernel
theorem dX6_clash_67 : decode cX6_clash 67 = .ok (.ior, 1) := by decide +kernel
theorem dX6_clash_68 : decode cX6_clash 68 = .ok (.invokevirtual 137, 3) := by decide +kernel
theorem dX6_clash_71 : decode cX6_clash 71 = .ok (.aload_n 0, 1) := by decide +kernel
theorem dX6_clash_72 : decode cX6_clash 72 = .ok (.iload_n 2, 1) := by decide +kernel
theorem dX6_clash_73 : decode cX6_clash 73 = .ok (.iconst 1, 1) := by decide +kernel
theorem dX6_clash_74 : decode cX6_clash 74 = .ok (.aload_n 0, 1) := by decide +kernel
theorem dX6_clash_75 : decode cX6_clash 75 = .ok (.iload_n 2, 1) := by decide +kernel
theorem dX6_clash_76 : decode cX6_clash 76 = .ok (.iconst 1, 1) := by decide +kernel
theorem dX6_clash_77 : decode cX6_clash 77 = .ok (.invokevirtual 144, 3) := by decide +kernel
theorem dX6_clash_80 : decode cX6_clash 80 = .ok (.iconst 1, 1) := by decide +kernel
theorem dX6_clash_81 : decode cX6_clash 81 = .ok (.iload_n 1, 1) := by decide +kernel
theorem dX6_clash_82 : decode cX6_clash 82 = .ok (.ishl, 1) := by decide +kernel
theorem dX6_clash_83 : decode cX6_clash 83 = .ok (.iconst (-1), 1) := by decide +kernel
theorem dX6_clash_84 : decode cX6_clash 84 = .ok (.ixor, 1) := by decide +kernel
theorem dX6_clash_85 : decode cX6_clash 85 = .ok (.iand, 1) := by decide +kernel
theorem dX6_clash_86 : decode cX6_clash 86 = .ok (.iload_n 3, 1) := by decide +kernel
theorem dX6_clash_87 : decode cX6_clash 87 = .ok (.iload_n 1, 1) := by decide +kernel
theorem dX6_clash_88 : decode cX6_clash 88 = .ok (.ishl, 1) := by decide +kernel
theorem dX6_clash_89 : decode cX6_clash 89 = .ok (.ior, 1) := by decide +kernel
theorem dX6_clash_90 : decode cX6_clash 90 = .ok (.invokevirtual 137, 3) := by decide +kernel
theorem dX6_clash_93 : decode cX6_clash 93 = .ok (.iload 4, 2) := by decide +kernel
theorem dX6_clash_95 : decode cX6_clash 95 = .ok (.ireturn, 1) := by decide +kernel
theorem w_clash {l : Launch} {D : va_G} {cI : ClassId} {ad : Nat → Nat} (hI : kInj 15 ad) {st st' : MSt} {x1 : Int32} {x2 : Int32} {x3 : Int32} {r0 : Int32} (h : M_clash st x1 x2 x3 = some (r0, st')) : mV l yX6_clash cX6_clash 5 (some .int) 2 D cI ad st [.int x1, .int x2, .int x3] (some (.int r0)) st' := by
  refine mm_ofV hI (by decide) rfl (Nat.le_of_ble_eq_true rfl) (fun p e s m below meth c R args ls C hr hlk hP hS hl hcs => ?_)
  have hx := C.1
  have hb := C.2.1
  have hown := C.2.2.2.1
  have hl : lv_has ls 5 [(0, .ref (ad 0)), (1, .int x1), (2, .int x2), (3, .int x3)] := hl
  have hP : mW D cI ad st s.heap := hP
  rw [M_clash] at h
  refine lv_aload_n hx hb dX6_clash_0 rfl (lv_at hl 0 rfl) ?_
  refine lv_iload_n hx hb dX6_clash_1 rfl (lv_at hl 1 rfl) ?_
  obtain ⟨v1, hv1, h⟩ := bd1_some h
  refine k_isFact C hP hv1 (Nat.le_of_ble_eq_true rfl) hl.1 (Nat.le_of_ble_eq_true rfl) hcs dX6_clash_2 ?_
  refine lv_if_eq (tgt := 31) hx hb dX6_clash_5 rfl (fun c2 => ?_) (fun c2 => ?_)
  · have h := if_some_t h c2
    refine lv_aload_n hx hb dX6_clash_31 rfl (lv_at hl 0 rfl) ?_
    refine lv_iconst (v := 1) hx hb dX6_clash_32 (by decide) ?_
    obtain ⟨v3, st4, hv3, h⟩ := bd2_some h
    refine k_finds C hP hS hv3 (Nat.le_of_ble_eq_true rfl) hl.1 (Nat.le_of_ble_eq_true rfl) hcs dX6_clash_33 (fun H locs hP hS => ?_)
    exact mm_viret hx hb hr hlk h hP hS dX6_clash_36
  · have h := if_some_f h c2
    refine lv_aload_n hx hb dX6_clash_8 rfl (lv_at hl 0 rfl) ?_
    refine lv_iload_n hx hb dX6_clash_9 rfl (lv_at hl 2 rfl) ?_
    obtain ⟨v5, hv5, h⟩ := bd1_some h
    refine k_isFact C hP hv5 (Nat.le_of_ble_eq_true rfl) hl.1 (Nat.le_of_ble_eq_true rfl) hcs dX6_clash_10 ?_
    refine lv_if_eq (tgt := 31) hx hb dX6_clash_13 rfl (fun c6 => ?_) (fun c6 => ?_)
    · have h := if_some_t h c6
      refine lv_aload_n hx hb dX6_clash_31 rfl (lv_at hl 0 rfl) ?_
      refine lv_iconst (v := 1) hx hb dX6_clash_32 (by decide) ?_
      obtain ⟨v7, st8, hv7, h⟩ := bd2_some h
      refine k_finds C hP hS hv7 (Nat.le_of_ble_eq_true rfl) hl.1 (Nat.le_of_ble_eq_true rfl) hcs dX6_clash_33 (fun H locs hP hS => ?_)
      exact mm_viret hx hb hr hlk h hP hS dX6_clash_36
    · have h := if_some_f h c6
      refine lv_iload_n hx hb dX6_clash_16 rfl (lv_at hl 1 rfl) ?_
      refine lv_iload_n hx hb dX6_clash_17 rfl (lv_at hl 2 rfl) ?_
      refine lv_icmp_eq (tgt := 31) hx hb dX6_clash_18 rfl (fun c9 => ?_) (fun c9 => ?_)
      · have h := if_some_t h c9
        refine lv_aload_n hx hb dX6_clash_31 rfl (lv_at hl 0 rfl) ?_
        refine lv_iconst (v := 1) hx hb dX6_clash_32 (by decide) ?_
        obtain ⟨v10, st11, hv10, h⟩ := bd2_some h
        refine k_finds C hP hS hv10 (Nat.le_of_ble_eq_true rfl) hl.1 (Nat.le_of_ble_eq_true rfl) hcs dX6_clash_33 (fun H locs hP hS => ?_)
        exact mm_viret hx hb hr hlk h hP hS dX6_clash_36
      · have h := if_some_f h c9
        refine lv_iload_n hx hb dX6_clash_21 rfl (lv_at hl 3 rfl) ?_
        refine lv_i2l (v := x3.toInt64) hx hb dX6_clash_22 rfl ?_
        refine lv_lconst (v := 0) hx hb dX6_clash_23 (by decide) ?_
        refine lv_lconst (v := 1) hx hb dX6_clash_24 (by decide) ?_
        obtain ⟨v12, hv12, h⟩ := bd1_some h
        refine k_in hx hb C.2.2.1 hown C.2.2.2.2.1 C.2.2.2.2.2.2.2 hv12 (Nat.le_of_ble_eq_true rfl) hl.1 (Nat.le_of_ble_eq_true rfl) hcs dX6_clash_25 ?_
        refine lv_if_ne (tgt := 37) hx hb dX6_clash_28 rfl (fun c13 => ?_) (fun c13 => ?_)
        · have h := if_some_f h c13
          refine lv_aload_n hx hb dX6_clash_37 rfl (lv_at hl 0 rfl) ?_
          refine lv_iload_n hx hb dX6_clash_38 rfl (lv_at hl 1 rfl) ?_
          refine lv_iconst (v := 1) hx hb dX6_clash_39 (by decide) ?_
          obtain ⟨v14, hv14, h⟩ := bd1_some h
          refine k_its C hP hv14 (Nat.le_of_ble_eq_true rfl) hl.1 (Nat.le_of_ble_eq_true rfl) hcs dX6_clash_40 ?_
          refine lv_iload_n hx hb dX6_clash_43 rfl (lv_at hl 2 rfl) ?_
          refine lv_ishr hx hb dX6_clash_44 ?_
          refine lv_iconst (v := 1) hx hb dX6_clash_45 (by decide) ?_
          refine lv_iand hx hb dX6_clash_46 ?_
          refine lv_istore (lv' := [(4, .int ((v14 >>> (x2 &&& 31)) &&& 1)), (0, .ref (ad 0)), (1, .int x1), (2, .int x2), (3, .int x3)]) hx hb dX6_clash_47 hl (by decide) rfl (fun ls hl => ?_)
          refine lv_aload_n hx hb dX6_clash_49 rfl (lv_at hl 1 rfl) ?_
          refine lv_iload_n hx hb dX6_clash_50 rfl (lv_at hl 2 rfl) ?_
          refine lv_iconst (v := 1) hx hb dX6_clash_51 (by decide) ?_
          refine lv_aload_n hx hb dX6_clash_52 rfl (lv_at hl 1 rfl) ?_
          refine lv_iload_n hx hb dX6_clash_53 rfl (lv_at hl 2 rfl) ?_
          refine lv_iconst (v := 1) hx hb dX6_clash_54 (by decide) ?_
          obtain ⟨v15, hv15, h⟩ := bd1_some h
          refine k_its C hP hv15 (Nat.le_of_ble_eq_true rfl) hl.1 (Nat.le_of_ble_eq_true rfl) hcs dX6_clash_55 ?_
          refine lv_iconst (v := 1) hx hb dX6_clash_58 (by decide) ?_
          refine lv_iload_n hx hb dX6_clash_59 rfl (lv_at hl 3 rfl) ?_
          refine lv_ishl hx hb dX6_clash_60 ?_
          refine lv_iconst (v := (-1)) hx hb dX6_clash_61 (by decide) ?_
          refine lv_ixor hx hb dX6_clash_62 ?_
          refine lv_iand hx hb dX6_clash_63 ?_
          refine lv_iload_n hx hb dX6_clash_64 rfl (lv_at hl 4 rfl) ?_
          refine lv_iload_n hx hb dX6_clash_65 rfl (lv_at hl 3 rfl) ?_
          refine lv_ishl hx hb dX6_clash_66 ?_
          refine lv_ior hx hb dX6_clash_67 ?_
          obtain ⟨st17, hv16, h⟩ := bd1_some h
          refine k_puts C hP hS hv16 (Nat.le_of_ble_eq_true rfl) hl.1 (Nat.le_of_ble_eq_true rfl) hcs dX6_clash_68 (fun H locs hP hS => ?_)
          refine lv_aload_n hx hb dX6_clash_71 rfl (lv_at hl 1 rfl) ?_
          refine lv_iload_n hx hb dX6_clash_72 rfl (lv_at hl 3 rfl) ?_
          refine lv_iconst (v := 1) hx hb dX6_clash_73 (by decide) ?_
          refine lv_aload_n hx hb dX6_clash_74 rfl (lv_at hl 1 rfl) ?_
          refine lv_iload_n hx hb dX6_clash_75 rfl (lv_at hl 3 rfl) ?_
          refine lv_iconst (v := 1) hx hb dX6_clash_76 (by decide) ?_
          obtain ⟨v18, hv18, h⟩ := bd1_some h
          refine k_its C hP hv18 (Nat.le_of_ble_eq_true rfl) hl.1 (Nat.le_of_ble_eq_true rfl) hcs dX6_clash_77 ?_
          refine lv_iconst (v := 1) hx hb dX6_clash_80 (by decide) ?_
          refine lv_iload_n hx hb dX6_clash_81 rfl (lv_at hl 2 rfl) ?_
          refine lv_ishl hx hb dX6_clash_82 ?_
          refine lv_iconst (v := (-1)) hx hb dX6_clash_83 (by decide) ?_
          refine lv_ixor hx hb dX6_clash_84 ?_
          refine lv_iand hx hb dX6_clash_85 ?_
          refine lv_iload_n hx hb dX6_clash_86 rfl (lv_at hl 4 rfl) ?_
          refine lv_iload_n hx hb dX6_clash_87 rfl (lv_at hl 2 rfl) ?_
          refine lv_ishl hx hb dX6_clash_88 ?_
          refine lv_ior hx hb dX6_clash_89 ?_
          obtain ⟨st20, hv19, h⟩ := bd1_some h
          refine k_puts C hP hS hv19 (Nat.le_of_ble_eq_true rfl) hl.1 (Nat.le_of_ble_eq_true rfl) hcs dX6_clash_90 (fun H locs hP hS => ?_)
          refine lv_iload hx hb dX6_clash_93 (lv_at hl 0 rfl) ?_
          exact mm_viret hx hb hr hlk h hP hS dX6_clash_95
        · have h := if_some_t h c13
          refine lv_aload_n hx hb dX6_clash_31 rfl (lv_at hl 0 rfl) ?_
          refine lv_iconst (v := 1) hx hb dX6_clash_32 (by decide) ?_
          obtain ⟨v21, st22, hv21, h⟩ := bd2_some h
          refine k_finds C hP hS hv21 (Nat.le_of_ble_eq_true rfl) hl.1 (Nat.le_of_ble_eq_true rfl) hcs dX6_clash_33 (fun H locs hP hS => ?_)
          exact mm_viret hx hb hr hlk h hP hS dX6_clash_36
abbrev cX6_explain : ByteArray := prog_30_method_32_code
def yX6_explain : MethodName := ⟨RX6, "explain", "(III)I"⟩
theorem dX6_explain_0 : decode cX6_explain 0 = .ok (.aload_n 0, 1) := by decide +kernel
theorem dX6_explain_1 : decode cX6_explain 1 = .ok (.iload_n 1, 1) := by decide +kernel
theorem dX6_explain_2 : decode cX6_explain 2 = .ok (.invokevirtual 141, 3) := by decide +kernel
theorem dX6_explain_5 : decode cX6_explain 5 = .ok (.ifCond .eq 32, 3) := by decide +kernel
theorem dX6_explain_8 : decode cX6_explain 8 = .ok (.iload_n 2, 1) := by decide +kernel
theorem dX6_explain_9 : decode cX6_explain 9 = .ok (.i2l, 1) := by decide +kernel
theorem dX6_explain_10 : decode cX6_explain 10 = .ok (.lconst 0, 1) := by decide +kernel
theorem dX6_explain_11 : decode cX6_explain 11 = .ok (.ldc2_w 148, 3) := by decide +kernel
theorem dX6_explain_14 : decode cX6_explain 14 = .ok (.invokestatic 57, 3) := by decide +kernel
theorem dX6_explain_17 : decode cX6_explain 17 = .ok (.ifCond .eq 20, 3) := by decide +kernel
theorem dX6_explain_20 : decode cX6_explain 20 = .ok (.iload_n 2, 1) := by decide +kernel
theorem dX6_explain_21 : decode cX6_explain 21 = .ok (.ifCond .le 22, 3) := by decide +kernel
theorem dX6_explain_24 : decode cX6_explain 24 = .ok (.aload_n 0, 1) := by decide +kernel
theorem dX6_explain_25 : decode cX6_explain 25 = .ok (.iload_n 3, 1) := by decide +kernel
theorem dX6_explain_26 : decode cX6_explain 26 = .ok (.invokevirtual 141, 3) := by decide +kernel
theorem dX6_explain_29 : decode cX6_explain 29 = .ok (.ifCond .eq 8, 3) := by decide +kernel
theorem dX6_explain_32 : decode cX6_explain 32 = .ok (.iload_n 3, 1) := by decide +kernel
theorem dX6_explain_33 : decode cX6_explain 33 = .ok (.iload_n 1, 1) := by decide +kernel
theorem dX6_explain_34 : decode cX6_explain 34 = .ok (.if_icmp .ne 9, 3) := by decide +kernel
theorem dX6_explain_37 : decode cX6_explain 37 = .ok (.aload_n 0, 1) := by decide +kernel
theorem dX6_explain_38 : decode cX6_explain 38 = .ok (.iconst 1, 1) := by decide +kernel
theorem dX6_explain_39 : decode cX6_explain 39 = .ok (.invokevirtual 119, 3) := by decide +kernel
theorem dX6_explain_42 : decode cX6_explain 42 = .ok (.ireturn, 1) := by decide +kernel
theorem dX6_explain_43 : decode cX6_explain 43 = .ok (.aload_n 0, 1) := by decide +kernel
theorem dX6_explain_44 : decode cX6_explain 44 = .ok (.iload_n 1, 1) := by decide +kernel
theorem dX6_explain_45 : decode cX6_explain 45 = .ok (.iconst 2, 1) := by decide +kernel
theorem dX6_explain_46 : decode cX6_explain 46 = .ok (.invokevirtual 144, 3) := by decide +kernel
theorem dX6_explain_49 : decode cX6_explain 49 = .ok (.istore 4, 2) := by decide +kernel
theorem dX6_explain_51 : decode cX6_explain 51 = .ok (.aload_n 0, 1) := by decide +kernel
theorem dX6_explain_52 : decode cX6_explain 52 = .ok (.iload_n 1, 1) := by decide +kernel
theorem dX6_explain_53 : decode cX6_explain 53 = .ok (.iconst 2, 1) := by decide +kernel
theorem dX6_explain_54 : decode cX6_explain 54 = .ok (.iload_n 2, 1) := by decide +kernel
theorem dX6_explain_55 : decode cX6_explain 55 = .ok (.invokevirtual 137, 3) := by decide +kernel
theorem dX6_explain_58 : decode cX6_explain 58 = .ok (.aload_n 0, 1) := by decide +kernel
theorem dX6_explain_59 : decode cX6_explain 59 = .ok (.iload_n 1, 1) := by decide +kernel
theorem dX6_explain_60 : decode cX6_explain 60 = .ok (.iconst 3, 1) := by decide +kernel
theorem dX6_explain_61 : decode cX6_explain 61 = .ok (.iload_n 2, 1) := by decide +kernel
theorem dX6_explain_62 : decode cX6_explain 62 = .ok (.ifCond .le 7, 3) := by decide +kernel
theorem dX6_explain_65 : decode cX6_explain 65 = .ok (.iload_n 3, 1) := by decide +kernel
theorem dX6_explain_66 : decode cX6_explain 66 = .ok (.goto 4, 3) := by decide +kernel
theorem dX6_explain_69 : decode cX6_explain 69 = .ok (.iconst (-1), 1) := by decide +kernel
theorem dX6_explain_70 : decode cX6_explain 70 = .ok (.invokevirtual 137, 3) := by decide +kernel
theorem dX6_explain_73 : decode cX6_explain 73 = .ok (.iload 4, 2) := by decide +kernel
theorem dX6_explain_75 : decode cX6_explain 75 = .ok (.ireturn, 1) := by decide +kernel
theorem q1697 : (Jvm.Cond.constantLong "ChapterLoanModel" (148 : Nat) (9 : Int64)) ∈ lw_all := lw_g (lw_at lw_m7 173 rfl) rfl
theorem w_explain {l : Launch} {D : va_G} {cI : ClassId} {ad : Nat → Nat} (hI : kInj 15 ad) {st st' : MSt} {x1 : Int32} {x2 : Int32} {x3 : Int32} {r0 : Int32} (h : M_explain st x1 x2 x3 = some (r0, st')) : mV l yX6_explain cX6_explain 5 (some .int) 2 D cI ad st [.int x1, .int x2, .int x3] (some (.int r0)) st' := by
  refine mm_ofV hI (by decide) rfl (Nat.le_of_ble_eq_true rfl) (fun p e s m below meth c R args ls C hr hlk hP hS hl hcs => ?_)
  have hx := C.1
  have hb := C.2.1
  have hown := C.2.2.2.1
  have hl : lv_has ls 5 [(0, .ref (ad 0)), (1, .int x1), (2, .int x2), (3, .int x3)] := hl
  have hP : mW D cI ad st s.heap := hP
  rw [M_explain] at h
  refine lv_aload_n hx hb dX6_explain_0 rfl (lv_at hl 0 rfl) ?_
  refine lv_iload_n hx hb dX6_explain_1 rfl (lv_at hl 1 rfl) ?_
  obtain ⟨v1, hv1, h⟩ := bd1_some h
  refine k_isFact C hP hv1 (Nat.le_of_ble_eq_true rfl) hl.1 (Nat.le_of_ble_eq_true rfl) hcs dX6_explain_2 ?_
  refine lv_if_eq (tgt := 37) hx hb dX6_explain_5 rfl (fun c2 => ?_) (fun c2 => ?_)
  · have h := if_some_t h c2
    refine lv_aload_n hx hb dX6_explain_37 rfl (lv_at hl 0 rfl) ?_
    refine lv_iconst (v := 1) hx hb dX6_explain_38 (by decide) ?_
    obtain ⟨v3, st4, hv3, h⟩ := bd2_some h
    refine k_finds C hP hS hv3 (Nat.le_of_ble_eq_true rfl) hl.1 (Nat.le_of_ble_eq_true rfl) hcs dX6_explain_39 (fun H locs hP hS => ?_)
    exact mm_viret hx hb hr hlk h hP hS dX6_explain_42
  · have h := if_some_f h c2
    refine lv_iload_n hx hb dX6_explain_8 rfl (lv_at hl 2 rfl) ?_
    refine lv_i2l (v := x2.toInt64) hx hb dX6_explain_9 rfl ?_
    refine lv_lconst (v := 0) hx hb dX6_explain_10 (by decide) ?_
    refine lv_ldc2 hx hb hown (C.2.2.2.2.1 _ q1697) dX6_explain_11 ?_
    obtain ⟨v5, hv5, h⟩ := bd1_some h
    refine k_in hx hb C.2.2.1 hown C.2.2.2.2.1 C.2.2.2.2.2.2.2 hv5 (Nat.le_of_ble_eq_true rfl) hl.1 (Nat.le_of_ble_eq_true rfl) hcs dX6_explain_14 ?_
    refine lv_if_eq (tgt := 37) hx hb dX6_explain_17 rfl (fun c6 => ?_) (fun c6 => ?_)
    · have h := if_some_t h c6
      refine lv_aload_n hx hb dX6_explain_37 rfl (lv_at hl 0 rfl) ?_
      refine lv_iconst (v := 1) hx hb dX6_explain_38 (by decide) ?_
      obtain ⟨v7, st8, hv7, h⟩ := bd2_some h
      refine k_finds C hP hS hv7 (Nat.le_of_ble_eq_true rfl) hl.1 (Nat.le_of_ble_eq_true rfl) hcs dX6_explain_39 (fun H locs hP hS => ?_)
      exact mm_viret hx hb hr hlk h hP hS dX6_explain_42
    · have h := if_some_f h c6
      refine lv_iload_n hx hb dX6_explain_20 rfl (lv_at hl 2 rfl) ?_
      refine lv_if_le (tgt := 43) hx hb dX6_explain_21 rfl (fun c9 => ?_) (fun c9 => ?_)
      · have h := if_some_t h c9
        refine lv_aload_n hx hb dX6_explain_43 rfl (lv_at hl 0 rfl) ?_
        refine lv_iload_n hx hb dX6_explain_44 rfl (lv_at hl 1 rfl) ?_
        refine lv_iconst (v := 2) hx hb dX6_explain_45 (by decide) ?_
        obtain ⟨v10, hv10, h⟩ := bd1_some h
        refine k_its C hP hv10 (Nat.le_of_ble_eq_true rfl) hl.1 (Nat.le_of_ble_eq_true rfl) hcs dX6_explain_46 ?_
        refine lv_istore (lv' := [(4, .int v10), (0, .ref (ad 0)), (1, .int x1), (2, .int x2), (3, .int x3)]) hx hb dX6_explain_49 hl (by decide) rfl (fun ls hl => ?_)
        refine lv_aload_n hx hb dX6_explain_51 rfl (lv_at hl 1 rfl) ?_
        refine lv_iload_n hx hb dX6_explain_52 rfl (lv_at hl 2 rfl) ?_
        refine lv_iconst (v := 2) hx hb dX6_explain_53 (by decide) ?_
        refine lv_iload_n hx hb dX6_explain_54 rfl (lv_at hl 3 rfl) ?_
        obtain ⟨st12, hv11, h⟩ := bd1_some h
        refine k_puts C hP hS hv11 (Nat.le_of_ble_eq_true rfl) hl.1 (Nat.le_of_ble_eq_true rfl) hcs dX6_explain_55 (fun H locs hP hS => ?_)
        refine lv_aload_n hx hb dX6_explain_58 rfl (lv_at hl 1 rfl) ?_
        refine lv_iload_n hx hb dX6_explain_59 rfl (lv_at hl 2 rfl) ?_
        refine lv_iconst (v := 3) hx hb dX6_explain_60 (by decide) ?_
        refine lv_iload_n hx hb dX6_explain_61 rfl (lv_at hl 3 rfl) ?_
        refine lv_if_le (tgt := 69) hx hb dX6_explain_62 rfl (fun c13 => ?_) (fun c13 => ?_)
        · have h := if_some_t h c13
          refine lv_iconst (v := (-1)) hx hb dX6_explain_69 (by decide) ?_
          obtain ⟨st15, hv14, h⟩ := bd1_some h
          refine k_puts C hP hS hv14 (Nat.le_of_ble_eq_true rfl) hl.1 (Nat.le_of_ble_eq_true rfl) hcs dX6_explain_70 (fun H locs hP hS => ?_)
          refine lv_iload hx hb dX6_explain_73 (lv_at hl 0 rfl) ?_
          exact mm_viret hx hb hr hlk h hP hS dX6_explain_75
        · have h := if_some_f h c13
          refine lv_iload_n hx hb dX6_explain_65 rfl (lv_at hl 4 rfl) ?_
          refine lv_goto (tgt := 70) hx hb dX6_explain_66 rfl ?_
          obtain ⟨st17, hv16, h⟩ := bd1_some h
          refine k_puts C hP hS hv16 (Nat.le_of_ble_eq_true rfl) hl.1 (Nat.le_of_ble_eq_true rfl) hcs dX6_explain_70 (fun H locs hP hS => ?_)
          refine lv_iload hx hb dX6_explain_73 (lv_at hl 0 rfl) ?_
          exact mm_viret hx hb hr hlk h hP hS dX6_explain_75
      · have h := if_some_f h c9
        refine lv_aload_n hx hb dX6_explain_24 rfl (lv_at hl 0 rfl) ?_
        refine lv_iload_n hx hb dX6_explain_25 rfl (lv_at hl 3 rfl) ?_
        obtain ⟨v18, hv18, h⟩ := bd1_some h
        refine k_isFact C hP hv18 (Nat.le_of_ble_eq_true rfl) hl.1 (Nat.le_of_ble_eq_true rfl) hcs dX6_explain_26 ?_
        refine lv_if_eq (tgt := 37) hx hb dX6_explain_29 rfl (fun c19 => ?_) (fun c19 => ?_)
        · have h := if_some_t h c19
          refine lv_aload_n hx hb dX6_explain_37 rfl (lv_at hl 0 rfl) ?_
          refine lv_iconst (v := 1) hx hb dX6_explain_38 (by decide) ?_
          obtain ⟨v20, st21, hv20, h⟩ := bd2_some h
          refine k_finds C hP hS hv20 (Nat.le_of_ble_eq_true rfl) hl.1 (Nat.le_of_ble_eq_true rfl) hcs dX6_explain_39 (fun H locs hP hS => ?_)
          exact mm_viret hx hb hr hlk h hP hS dX6_explain_42
        · have h := if_some_f h c19
          refine lv_iload_n hx hb dX6_explain_32 rfl (lv_at hl 3 rfl) ?_
          refine lv_iload_n hx hb dX6_explain_33 rfl (lv_at hl 1 rfl) ?_
          refine lv_icmp_ne (tgt := 43) hx hb dX6_explain_34 rfl (fun c22 => ?_) (fun c22 => ?_)
          · have h := if_some_f h c22
            refine lv_aload_n hx hb dX6_explain_43 rfl (lv_at hl 0 rfl) ?_
            refine lv_iload_n hx hb dX6_explain_44 rfl (lv_at hl 1 rfl) ?_
            refine lv_iconst (v := 2) hx hb dX6_explain_45 (by decide) ?_
            obtain ⟨v23, hv23, h⟩ := bd1_some h
            refine k_its C hP hv23 (Nat.le_of_ble_eq_true rfl) hl.1 (Nat.le_of_ble_eq_true rfl) hcs dX6_explain_46 ?_
            refine lv_istore (lv' := [(4, .int v23), (0, .ref (ad 0)), (1, .int x1), (2, .int x2), (3, .int x3)]) hx hb dX6_explain_49 hl (by decide) rfl (fun ls hl => ?_)
            refine lv_aload_n hx hb dX6_explain_51 rfl (lv_at hl 1 rfl) ?_
            refine lv_iload_n hx hb dX6_explain_52 rfl (lv_at hl 2 rfl) ?_
            refine lv_iconst (v := 2) hx hb dX6_explain_53 (by decide) ?_
            refine lv_iload_n hx hb dX6_explain_54 rfl (lv_at hl 3 rfl) ?_
            obtain ⟨st25, hv24, h⟩ := bd1_some h
            refine k_puts C hP hS hv24 (Nat.le_of_ble_eq_true rfl) hl.1 (Nat.le_of_ble_eq_true rfl) hcs dX6_explain_55 (fun H locs hP hS => ?_)
            refine lv_aload_n hx hb dX6_explain_58 rfl (lv_at hl 1 rfl) ?_
            refine lv_iload_n hx hb dX6_explain_59 rfl (lv_at hl 2 rfl) ?_
            refine lv_iconst (v := 3) hx hb dX6_explain_60 (by decide) ?_
            refine lv_iload_n hx hb dX6_explain_61 rfl (lv_at hl 3 rfl) ?_
            refine lv_if_le (tgt := 69) hx hb dX6_explain_62 rfl (fun c26 => ?_) (fun c26 => ?_)
            · have h := if_some_t h c26
              refine lv_iconst (v := (-1)) hx hb dX6_explain_69 (by decide) ?_
              obtain ⟨st28, hv27, h⟩ := bd1_some h
              refine k_puts C hP hS hv27 (Nat.le_of_ble_eq_true rfl) hl.1 (Nat.le_of_ble_eq_true rfl) hcs dX6_explain_70 (fun H locs hP hS => ?_)
              refine lv_iload hx hb dX6_explain_73 (lv_at hl 0 rfl) ?_
              exact mm_viret hx hb hr hlk h hP hS dX6_explain_75
            · have h := if_some_f h c26
              refine lv_iload_n hx hb dX6_explain_65 rfl (lv_at hl 4 rfl) ?_
              refine lv_goto (tgt := 70) hx hb dX6_explain_66 rfl ?_
              obtain ⟨st30, hv29, h⟩ := bd1_some h
              refine k_puts C hP hS hv29 (Nat.le_of_ble_eq_true rfl) hl.1 (Nat.le_of_ble_eq_true rfl) hcs dX6_explain_70 (fun H locs hP hS => ?_)
              refine lv_iload hx hb dX6_explain_73 (lv_at hl 0 rfl) ?_
              exact mm_viret hx hb hr hlk h hP hS dX6_explain_75
          · have h := if_some_t h c22
            refine lv_aload_n hx hb dX6_explain_37 rfl (lv_at hl 0 rfl) ?_
            refine lv_iconst (v := 1) hx hb dX6_explain_38 (by decide) ?_
            obtain ⟨v31, st32, hv31, h⟩ := bd2_some h
            refine k_finds C hP hS hv31 (Nat.le_of_ble_eq_true rfl) hl.1 (Nat.le_of_ble_eq_true rfl) hcs dX6_explain_39 (fun H locs hP hS => ?_)
            exact mm_viret hx hb hr hlk h hP hS dX6_explain_42
abbrev cX6_of : ByteArray := prog_30_method_10_code
def yX6_of : MethodName := ⟨RX6, "of", "(II)I"⟩
theorem dX6_of_0 : decode cX6_of 0 = .ok (.aload_n 0, 1) := by decide +kernel
theorem dX6_of_1 : decode cX6_of 1 = .ok (.getfield 7, 3) := by decide +kernel
theorem dX6_of_4 : decode cX6_of 4 = .ok (.bipush 50, 2) := by decide +kernel
theorem dX6_of_6 : decode cX6_of 6 = .ok (.bipush 21, 2) := by decide +kernel
theorem dX6_of_8 : decode cX6_of 8 = .ok (.iload_n 1, 1) := by decide +kernel
theorem dX6_of_9 : decode cX6_of 9 = .ok (.imul, 1) := by decide +kernel
theorem dX6_of_10 : decode cX6_of 10 = .ok (.iadd, 1) := by decide +kernel
theorem dX6_of_11 : decode cX6_of 11 = .ok (.iload_n 2, 1) := by decide +kernel
theorem dX6_of_12 : decode cX6_of 12 = .ok (.iadd, 1) := by decide +kernel
theorem dX6_of_13 : decode cX6_of 13 = .ok (.iaload, 1) := by decide +kernel
theorem dX6_of_14 : decode cX6_of 14 = .ok (.ireturn, 1) := by decide +kernel
theorem w_of {l : Launch} {D : va_G} {cI : ClassId} {ad : Nat → Nat} (hI : kInj 15 ad) {st : MSt} {x1 : Int32} {x2 : Int32} {r : Int32} (h : M_of st x1 x2 = some r) : mR l yX6_of cX6_of 3 (some .int) 0 D cI ad st [.int x1, .int x2] r := by
  refine mm_ofR hI (by decide) rfl (Nat.le_of_ble_eq_true rfl) (fun p e s m below meth c R args ls C hr hlk hP hl hcs => ?_)
  have hx := C.1
  have hb := C.2.1
  have hown := C.2.2.2.1
  have hl : lv_has ls 3 [(0, .ref (ad 0)), (1, .int x1), (2, .int x2)] := hl
  rw [M_of] at h
  refine lv_aload_n hx hb dX6_of_0 rfl (lv_at hl 0 rfl) ?_
  refine g_d C hP dX6_of_1 ?_
  refine lv_bipush (v := 50) hx hb dX6_of_4 (by decide) ?_
  refine lv_bipush (v := 21) hx hb dX6_of_6 (by decide) ?_
  refine lv_iload_n hx hb dX6_of_8 rfl (lv_at hl 1 rfl) ?_
  refine lv_imul hx hb dX6_of_9 ?_
  refine lv_iadd hx hb dX6_of_10 ?_
  refine lv_iload_n hx hb dX6_of_11 rfl (lv_at hl 2 rfl) ?_
  refine lv_iadd hx hb dX6_of_12 ?_
  obtain ⟨v1, hv1, h⟩ := bd1_some h
  refine mm_ld C hP 1 (by decide) rfl hv1 dX6_of_13 ?_
  exact mm_iret hx hb hr hlk h dX6_of_14
theorem q1711 : (Jvm.Cond.methodLink "ChapterLoanModel" (150 : Nat) ({ cls := "ChapterLoanModel", name := "of", desc := "(II)I" } : Jvm.MethodName)) ∈ lw_all := lw_g (lw_at lw_m7 187 rfl) rfl
theorem q1714 : (Jvm.Cond.code ({ cls := "ChapterLoanModel", name := "of", desc := "(II)I" } : Jvm.MethodName) prog_30_method_10_code (3 : Nat) (Option.some Jvm.ClassFile.FieldType.int)) ∈ lw_all := lw_g (lw_at lw_m7 190 rfl) rfl
theorem q1713 : (Jvm.Cond.instanceMethod ({ cls := "ChapterLoanModel", name := "of", desc := "(II)I" } : Jvm.MethodName)) ∈ lw_all := lw_g (lw_at lw_m7 189 rfl) rfl
theorem k_of {a0 : Int32} {a1 : Int32} {v : Int32} (C : mC p R d s m args c cc nL D cI ad) (hP : mW D cI ad st H) (h : M_of st a0 a1 = some v) (hd : 0 + 1 ≤ d) (hsz : ls.size = nL) (hW : (rest.map fun v => v.category).sum ≤ 8) (hcs : cells ≤ R.cells ∧ slots ≤ R.slots) (hdg : decode cc pc = .ok (.invokevirtual 150, 3)) (kk : W p l e R s m args below meth c H locs cells slots Q (F0 m (pc + 3) ls (.int v :: rest))) : W p l e R s m args below meth c H locs cells slots Q (F0 m pc ls (.int a1 :: .int a0 :: .ref (ad 0) :: rest)) :=
  mm_cR (As := [.int a0, .int a1]) C hP (w_of C.2.2.2.2.2.2.1 h) (cwV 2 C.2.2.2.2.1 (lw_V q1711 q1713 qs48 q94 q1714) rfl rfl rfl (by decide +kernel) (mr_ C.2.2.2.2.2.2.2 hd (by decide))) rfl hsz rfl hW hdg hcs kk
abbrev cX6_bookOf : ByteArray := prog_30_method_33_code
def yX6_bookOf : MethodName := ⟨RX6, "bookOf", "(I)I"⟩
theorem dX6_bookOf_0 : decode cX6_bookOf 0 = .ok (.iconst 0, 1) := by decide +kernel
theorem dX6_bookOf_1 : decode cX6_bookOf 1 = .ok (.istore_n 2, 1) := by decide +kernel
theorem dX6_bookOf_2 : decode cX6_bookOf 2 = .ok (.iconst 0, 1) := by decide +kernel
theorem dX6_bookOf_3 : decode cX6_bookOf 3 = .ok (.istore_n 3, 1) := by decide +kernel
theorem dX6_bookOf_4 : decode cX6_bookOf 4 = .ok (.iload_n 3, 1) := by decide +kernel
theorem dX6_bookOf_5 : decode cX6_bookOf 5 = .ok (.aload_n 0, 1) := by decide +kernel
theorem dX6_bookOf_6 : decode cX6_bookOf 6 = .ok (.iload_n 1, 1) := by decide +kernel
theorem dX6_bookOf_7 : decode cX6_bookOf 7 = .ok (.iconst 4, 1) := by decide +kernel
theorem dX6_bookOf_8 : decode cX6_bookOf 8 = .ok (.invokevirtual 150, 3) := by decide +kernel
theorem dX6_bookOf_11 : decode cX6_bookOf 11 = .ok (.if_icmp .ge 22, 3) := by decide +kernel
theorem dX6_bookOf_14 : decode cX6_bookOf 14 = .ok (.iload_n 2, 1) := by decide +kernel
theorem dX6_bookOf_15 : decode cX6_bookOf 15 = .ok (.iconst 1, 1) := by decide +kernel
theorem dX6_bookOf_16 : decode cX6_bookOf 16 = .ok (.aload_n 0, 1) := by decide +kernel
theorem dX6_bookOf_17 : decode cX6_bookOf 17 = .ok (.iload_n 1, 1) := by decide +kernel
theorem dX6_bookOf_18 : decode cX6_bookOf 18 = .ok (.iconst 5, 1) := by decide +kernel
theorem dX6_bookOf_19 : decode cX6_bookOf 19 = .ok (.iload_n 3, 1) := by decide +kernel
theorem dX6_bookOf_20 : decode cX6_bookOf 20 = .ok (.iadd, 1) := by decide +kernel
theorem dX6_bookOf_21 : decode cX6_bookOf 21 = .ok (.invokevirtual 150, 3) := by decide +kernel
theorem dX6_bookOf_24 : decode cX6_bookOf 24 = .ok (.ishl, 1) := by decide +kernel
theorem dX6_bookOf_25 : decode cX6_bookOf 25 = .ok (.ior, 1) := by decide +kernel
theorem dX6_bookOf_26 : decode cX6_bookOf 26 = .ok (.istore_n 2, 1) := by decide +kernel
theorem dX6_bookOf_27 : decode cX6_bookOf 27 = .ok (.iinc 3 1, 3) := by decide +kernel
theorem dX6_bookOf_30 : decode cX6_bookOf 30 = .ok (.goto (-26), 3) := by decide +kernel
theorem dX6_bookOf_33 : decode cX6_bookOf 33 = .ok (.iload_n 2, 1) := by decide +kernel
theorem dX6_bookOf_34 : decode cX6_bookOf 34 = .ok (.ireturn, 1) := by decide +kernel
theorem w_bookOf {l : Launch} {D : va_G} {cI : ClassId} {ad : Nat → Nat} (hI : kInj 15 ad) {st : MSt} {N : Nat} {x1 : Int32} {r : Int32} (h : M_bookOf  N st x1 = some r) : mR l yX6_bookOf cX6_bookOf 4 (some .int) 1 D cI ad st [.int x1] r := by
  refine mm_ofR hI (by decide) rfl (Nat.le_of_ble_eq_true rfl) (fun p e s m below meth c R args ls C hr hlk hP hl hcs => ?_)
  have hx := C.1
  have hb := C.2.1
  have hown := C.2.2.2.1
  have hl : lv_has ls 4 [(0, .ref (ad 0)), (1, .int x1)] := hl
  have L4 : ∀ (x1 : Int32), ∀ (n : Nat) (x2 : Int32) (x3 : Int32) (z2 : Int32), M_bookOf_L4 N st x1 n x2 x3 = some z2 → ∀ ls : Array Slot, lv_has ls 4 [(0, .ref (ad 0)), (1, .int x1), (2, .int x2), (3, .int x3)] → (∀ ls : Array Slot, lv_has ls 4 [(2, .int z2)] → mWR p l e R s m args below meth c r (F0 m 33 ls [])) → mWR p l e R s m args below meth c r (F0 m 4 ls []) := by
    intro x1 n
    induction n with
    | zero =>
      intro x2 x3 z2 h
      exact non_some h
    | succ n ih =>
      intro x2 x3 z2 h ls hl kx
      rw [M_bookOf_L4] at h
      refine lv_iload_n hx hb dX6_bookOf_4 rfl (lv_at hl 3 rfl) ?_
      refine lv_aload_n hx hb dX6_bookOf_5 rfl (lv_at hl 0 rfl) ?_
      refine lv_iload_n hx hb dX6_bookOf_6 rfl (lv_at hl 1 rfl) ?_
      refine lv_iconst (v := 4) hx hb dX6_bookOf_7 (by decide) ?_
      obtain ⟨v1, hv1, h⟩ := bd1_some h
      refine k_of C hP hv1 (Nat.le_of_ble_eq_true rfl) hl.1 (Nat.le_of_ble_eq_true rfl) hcs dX6_bookOf_8 ?_
      refine lv_icmp_ge (tgt := 33) hx hb dX6_bookOf_11 rfl (fun c2 => ?_) (fun c2 => ?_)
      · have h := if_some_t h c2
        cases h
        exact kx ls (lv_sub hl [2] rfl)
      · have h := if_some_f h c2
        refine lv_iload_n hx hb dX6_bookOf_14 rfl (lv_at hl 2 rfl) ?_
        refine lv_iconst (v := 1) hx hb dX6_bookOf_15 (by decide) ?_
        refine lv_aload_n hx hb dX6_bookOf_16 rfl (lv_at hl 0 rfl) ?_
        refine lv_iload_n hx hb dX6_bookOf_17 rfl (lv_at hl 1 rfl) ?_
        refine lv_iconst (v := 5) hx hb dX6_bookOf_18 (by decide) ?_
        refine lv_iload_n hx hb dX6_bookOf_19 rfl (lv_at hl 3 rfl) ?_
        refine lv_iadd hx hb dX6_bookOf_20 ?_
        obtain ⟨v3, hv3, h⟩ := bd1_some h
        refine k_of C hP hv3 (Nat.le_of_ble_eq_true rfl) hl.1 (Nat.le_of_ble_eq_true rfl) hcs dX6_bookOf_21 ?_
        refine lv_ishl hx hb dX6_bookOf_24 ?_
        refine lv_ior hx hb dX6_bookOf_25 ?_
        refine lv_istore_n (lv' := [(2, .int (x2 ||| (1 <<< (v3 &&& 31)))), (0, .ref (ad 0)), (1, .int x1), (3, .int x3)]) hx hb dX6_bookOf_26 rfl hl (by decide) rfl (fun ls hl => ?_)
        refine lv_iinc (v := x3 + 1) (lv' := [(3, .int (x3 + 1)), (2, .int (x2 ||| (1 <<< (v3 &&& 31)))), (0, .ref (ad 0)), (1, .int x1)]) hx hb dX6_bookOf_27 hl (k := 3) rfl rfl (by decide) rfl (fun ls hl => ?_)
        refine lv_goto (tgt := 4) hx hb dX6_bookOf_30 rfl ?_
        exact ih (x2 ||| (1 <<< (v3 &&& 31))) (x3 + 1) _ h ls (lv_sub hl [2, 3, 1, 0] rfl) kx
  rw [M_bookOf] at h
  refine lv_iconst (v := 0) hx hb dX6_bookOf_0 (by decide) ?_
  refine lv_istore_n (lv' := [(2, .int 0), (0, .ref (ad 0)), (1, .int x1)]) hx hb dX6_bookOf_1 rfl hl (by decide) rfl (fun ls hl => ?_)
  refine lv_iconst (v := 0) hx hb dX6_bookOf_2 (by decide) ?_
  refine lv_istore_n (lv' := [(3, .int 0), (2, .int 0), (0, .ref (ad 0)), (1, .int x1)]) hx hb dX6_bookOf_3 rfl hl (by decide) rfl (fun ls hl => ?_)
  obtain ⟨z4, hz5, h⟩ := bd1_some h
  refine L4 x1 N 0 0 _ hz5 ls (lv_sub hl [2, 3, 1, 0] rfl) (fun ls hl => ?_)
  refine lv_iload_n hx hb dX6_bookOf_33 rfl (lv_at hl 0 rfl) ?_
  exact mm_iret hx hb hr hlk h dX6_bookOf_34
theorem q1707 : (Jvm.Cond.methodLink "ChapterLoanModel" (153 : Nat) ({ cls := "ChapterLoanModel", name := "bookOf", desc := "(I)I" } : Jvm.MethodName)) ∈ lw_all := lw_g (lw_at lw_m7 183 rfl) rfl
theorem q1710 : (Jvm.Cond.code ({ cls := "ChapterLoanModel", name := "bookOf", desc := "(I)I" } : Jvm.MethodName) prog_30_method_33_code (4 : Nat) (Option.some Jvm.ClassFile.FieldType.int)) ∈ lw_all := lw_g (lw_at lw_m7 186 rfl) rfl
theorem q1709 : (Jvm.Cond.instanceMethod ({ cls := "ChapterLoanModel", name := "bookOf", desc := "(I)I" } : Jvm.MethodName)) ∈ lw_all := lw_g (lw_at lw_m7 185 rfl) rfl
theorem k_bookOf {N : Nat} {a0 : Int32} {v : Int32} (C : mC p R d s m args c cc nL D cI ad) (hP : mW D cI ad st H) (h : M_bookOf N st a0 = some v) (hd : 1 + 1 ≤ d) (hsz : ls.size = nL) (hW : (rest.map fun v => v.category).sum ≤ 8) (hcs : cells ≤ R.cells ∧ slots ≤ R.slots) (hdg : decode cc pc = .ok (.invokevirtual 153, 3)) (kk : W p l e R s m args below meth c H locs cells slots Q (F0 m (pc + 3) ls (.int v :: rest))) : W p l e R s m args below meth c H locs cells slots Q (F0 m pc ls (.int a0 :: .ref (ad 0) :: rest)) :=
  mm_cR (As := [.int a0]) C hP (w_bookOf C.2.2.2.2.2.2.1 h) (cwV 1 C.2.2.2.2.1 (lw_V q1707 q1709 qs47 q94 q1710) rfl rfl rfl (by decide +kernel) (mr_ C.2.2.2.2.2.2.2 hd (by decide))) rfl hsz rfl hW hdg hcs kk
abbrev cX6_booksWith : ByteArray := prog_30_method_34_code
def yX6_booksWith : MethodName := ⟨RX6, "booksWith", "(I)I"⟩
theorem dX6_booksWith_0 : decode cX6_booksWith 0 = .ok (.iconst 0, 1) := by decide +kernel
theorem dX6_booksWith_1 : decode cX6_booksWith 1 = .ok (.istore_n 2, 1) := by decide +kernel
theorem dX6_booksWith_2 : decode cX6_booksWith 2 = .ok (.iconst 0, 1) := by decide +kernel
theorem dX6_booksWith_3 : decode cX6_booksWith 3 = .ok (.istore_n 3, 1) := by decide +kernel
theorem dX6_booksWith_4 : decode cX6_booksWith 4 = .ok (.iload_n 3, 1) := by decide +kernel
theorem dX6_booksWith_5 : decode cX6_booksWith 5 = .ok (.aload_n 0, 1) := by decide +kernel
theorem dX6_booksWith_6 : decode cX6_booksWith 6 = .ok (.getfield 7, 3) := by decide +kernel
theorem dX6_booksWith_9 : decode cX6_booksWith 9 = .ok (.iconst 1, 1) := by decide +kernel
theorem dX6_booksWith_10 : decode cX6_booksWith 10 = .ok (.iaload, 1) := by decide +kernel
theorem dX6_booksWith_11 : decode cX6_booksWith 11 = .ok (.if_icmp .ge 21, 3) := by decide +kernel
theorem dX6_booksWith_14 : decode cX6_booksWith 14 = .ok (.iload_n 2, 1) := by decide +kernel
theorem dX6_booksWith_15 : decode cX6_booksWith 15 = .ok (.aload_n 0, 1) := by decide +kernel
theorem dX6_booksWith_16 : decode cX6_booksWith 16 = .ok (.iload_n 3, 1) := by decide +kernel
theorem dX6_booksWith_17 : decode cX6_booksWith 17 = .ok (.invokevirtual 153, 3) := by decide +kernel
theorem dX6_booksWith_20 : decode cX6_booksWith 20 = .ok (.iload_n 1, 1) := by decide +kernel
theorem dX6_booksWith_21 : decode cX6_booksWith 21 = .ok (.ishr, 1) := by decide +kernel
theorem dX6_booksWith_22 : decode cX6_booksWith 22 = .ok (.iconst 1, 1) := by decide +kernel
theorem dX6_booksWith_23 : decode cX6_booksWith 23 = .ok (.iand, 1) := by decide +kernel
theorem dX6_booksWith_24 : decode cX6_booksWith 24 = .ok (.iadd, 1) := by decide +kernel
theorem dX6_booksWith_25 : decode cX6_booksWith 25 = .ok (.istore_n 2, 1) := by decide +kernel
theorem dX6_booksWith_26 : decode cX6_booksWith 26 = .ok (.iinc 3 1, 3) := by decide +kernel
theorem dX6_booksWith_29 : decode cX6_booksWith 29 = .ok (.goto (-25), 3) := by decide +kernel
theorem dX6_booksWith_32 : decode cX6_booksWith 32 = .ok (.iload_n 2, 1) := by decide +kernel
theorem dX6_booksWith_33 : decode cX6_booksWith 33 = .ok (.ireturn, 1) := by decide +kernel
theorem w_booksWith {l : Launch} {D : va_G} {cI : ClassId} {ad : Nat → Nat} (hI : kInj 15 ad) {st : MSt} {N : Nat} {x1 : Int32} {r : Int32} (h : M_booksWith  N st x1 = some r) : mR l yX6_booksWith cX6_booksWith 4 (some .int) 2 D cI ad st [.int x1] r := by
  refine mm_ofR hI (by decide) rfl (Nat.le_of_ble_eq_true rfl) (fun p e s m below meth c R args ls C hr hlk hP hl hcs => ?_)
  have hx := C.1
  have hb := C.2.1
  have hown := C.2.2.2.1
  have hl : lv_has ls 4 [(0, .ref (ad 0)), (1, .int x1)] := hl
  have L4 : ∀ (x1 : Int32), ∀ (n : Nat) (x2 : Int32) (x3 : Int32) (z2 : Int32), M_booksWith_L4 N st x1 n x2 x3 = some z2 → ∀ ls : Array Slot, lv_has ls 4 [(0, .ref (ad 0)), (1, .int x1), (2, .int x2), (3, .int x3)] → (∀ ls : Array Slot, lv_has ls 4 [(2, .int z2)] → mWR p l e R s m args below meth c r (F0 m 32 ls [])) → mWR p l e R s m args below meth c r (F0 m 4 ls []) := by
    intro x1 n
    induction n with
    | zero =>
      intro x2 x3 z2 h
      exact non_some h
    | succ n ih =>
      intro x2 x3 z2 h ls hl kx
      rw [M_booksWith_L4] at h
      refine lv_iload_n hx hb dX6_booksWith_4 rfl (lv_at hl 3 rfl) ?_
      refine lv_aload_n hx hb dX6_booksWith_5 rfl (lv_at hl 0 rfl) ?_
      refine g_d C hP dX6_booksWith_6 ?_
      refine lv_iconst (v := 1) hx hb dX6_booksWith_9 (by decide) ?_
      obtain ⟨v1, hv1, h⟩ := bd1_some h
      refine mm_ld C hP 1 (by decide) rfl hv1 dX6_booksWith_10 ?_
      refine lv_icmp_ge (tgt := 32) hx hb dX6_booksWith_11 rfl (fun c2 => ?_) (fun c2 => ?_)
      · have h := if_some_t h c2
        cases h
        exact kx ls (lv_sub hl [2] rfl)
      · have h := if_some_f h c2
        refine lv_iload_n hx hb dX6_booksWith_14 rfl (lv_at hl 2 rfl) ?_
        refine lv_aload_n hx hb dX6_booksWith_15 rfl (lv_at hl 0 rfl) ?_
        refine lv_iload_n hx hb dX6_booksWith_16 rfl (lv_at hl 3 rfl) ?_
        obtain ⟨v3, hv3, h⟩ := bd1_some h
        refine k_bookOf C hP hv3 (Nat.le_of_ble_eq_true rfl) hl.1 (Nat.le_of_ble_eq_true rfl) hcs dX6_booksWith_17 ?_
        refine lv_iload_n hx hb dX6_booksWith_20 rfl (lv_at hl 1 rfl) ?_
        refine lv_ishr hx hb dX6_booksWith_21 ?_
        refine lv_iconst (v := 1) hx hb dX6_booksWith_22 (by decide) ?_
        refine lv_iand hx hb dX6_booksWith_23 ?_
        refine lv_iadd hx hb dX6_booksWith_24 ?_
        refine lv_istore_n (lv' := [(2, .int (x2 + ((v3 >>> (x1 &&& 31)) &&& 1))), (0, .ref (ad 0)), (1, .int x1), (3, .int x3)]) hx hb dX6_booksWith_25 rfl hl (by decide) rfl (fun ls hl => ?_)
        refine lv_iinc (v := x3 + 1) (lv' := [(3, .int (x3 + 1)), (2, .int (x2 + ((v3 >>> (x1 &&& 31)) &&& 1))), (0, .ref (ad 0)), (1, .int x1)]) hx hb dX6_booksWith_26 hl (k := 3) rfl rfl (by decide) rfl (fun ls hl => ?_)
        refine lv_goto (tgt := 4) hx hb dX6_booksWith_29 rfl ?_
        exact ih (x2 + ((v3 >>> (x1 &&& 31)) &&& 1)) (x3 + 1) _ h ls (lv_sub hl [2, 3, 1, 0] rfl) kx
  rw [M_booksWith] at h
  refine lv_iconst (v := 0) hx hb dX6_booksWith_0 (by decide) ?_
  refine lv_istore_n (lv' := [(2, .int 0), (0, .ref (ad 0)), (1, .int x1)]) hx hb dX6_booksWith_1 rfl hl (by decide) rfl (fun ls hl => ?_)
  refine lv_iconst (v := 0) hx hb dX6_booksWith_2 (by decide) ?_
  refine lv_istore_n (lv' := [(3, .int 0), (2, .int 0), (0, .ref (ad 0)), (1, .int x1)]) hx hb dX6_booksWith_3 rfl hl (by decide) rfl (fun ls hl => ?_)
  obtain ⟨z4, hz5, h⟩ := bd1_some h
  refine L4 x1 N 0 0 _ hz5 ls (lv_sub hl [2, 3, 1, 0] rfl) (fun ls hl => ?_)
  refine lv_iload_n hx hb dX6_booksWith_32 rfl (lv_at hl 0 rfl) ?_
  exact mm_iret hx hb hr hlk h dX6_booksWith_33
theorem q1703 : (Jvm.Cond.methodLink "ChapterLoanModel" (158 : Nat) ({ cls := "ChapterLoanModel", name := "booksWith", desc := "(I)I" } : Jvm.MethodName)) ∈ lw_all := lw_g (lw_at lw_m7 179 rfl) rfl
theorem q1706 : (Jvm.Cond.code ({ cls := "ChapterLoanModel", name := "booksWith", desc := "(I)I" } : Jvm.MethodName) prog_30_method_34_code (4 : Nat) (Option.some Jvm.ClassFile.FieldType.int)) ∈ lw_all := lw_g (lw_at lw_m7 182 rfl) rfl
theorem q1705 : (Jvm.Cond.instanceMethod ({ cls := "ChapterLoanModel", name := "booksWith", desc := "(I)I" } : Jvm.MethodName)) ∈ lw_all := lw_g (lw_at lw_m7 181 rfl) rfl
theorem k_booksWith {N : Nat} {a0 : Int32} {v : Int32} (C : mC p R d s m args c cc nL D cI ad) (hP : mW D cI ad st H) (h : M_booksWith N st a0 = some v) (hd : 2 + 1 ≤ d) (hsz : ls.size = nL) (hW : (rest.map fun v => v.category).sum ≤ 8) (hcs : cells ≤ R.cells ∧ slots ≤ R.slots) (hdg : decode cc pc = .ok (.invokevirtual 158, 3)) (kk : W p l e R s m args below meth c H locs cells slots Q (F0 m (pc + 3) ls (.int v :: rest))) : W p l e R s m args below meth c H locs cells slots Q (F0 m pc ls (.int a0 :: .ref (ad 0) :: rest)) :=
  mm_cR (As := [.int a0]) C hP (w_booksWith C.2.2.2.2.2.2.1 h) (cwV 1 C.2.2.2.2.1 (lw_V q1703 q1705 qs46 q94 q1706) rfl rfl rfl (by decide +kernel) (mr_ C.2.2.2.2.2.2.2 hd (by decide))) rfl hsz rfl hW hdg hcs kk
abbrev cX6_ofFact : ByteArray := prog_30_method_35_code
def yX6_ofFact : MethodName := ⟨RX6, "ofFact", "(II)I"⟩
theorem dX6_ofFact_0 : decode cX6_ofFact 0 = .ok (.aload_n 0, 1) := by decide +kernel
theorem dX6_ofFact_1 : decode cX6_ofFact 1 = .ok (.iload_n 1, 1) := by decide +kernel
theorem dX6_ofFact_2 : decode cX6_ofFact 2 = .ok (.invokevirtual 141, 3) := by decide +kernel
theorem dX6_ofFact_5 : decode cX6_ofFact 5 = .ok (.ifCond .eq 15, 3) := by decide +kernel
theorem dX6_ofFact_8 : decode cX6_ofFact 8 = .ok (.iload_n 2, 1) := by decide +kernel
theorem dX6_ofFact_9 : decode cX6_ofFact 9 = .ok (.i2l, 1) := by decide +kernel
theorem dX6_ofFact_10 : decode cX6_ofFact 10 = .ok (.lconst 0, 1) := by decide +kernel
theorem dX6_ofFact_11 : decode cX6_ofFact 11 = .ok (.ldc2_w 156, 3) := by decide +kernel
theorem dX6_ofFact_14 : decode cX6_ofFact 14 = .ok (.invokestatic 57, 3) := by decide +kernel
theorem dX6_ofFact_17 : decode cX6_ofFact 17 = .ok (.ifCond .ne 9, 3) := by decide +kernel
theorem dX6_ofFact_20 : decode cX6_ofFact 20 = .ok (.aload_n 0, 1) := by decide +kernel
theorem dX6_ofFact_21 : decode cX6_ofFact 21 = .ok (.iconst 1, 1) := by decide +kernel
theorem dX6_ofFact_22 : decode cX6_ofFact 22 = .ok (.invokevirtual 119, 3) := by decide +kernel
theorem dX6_ofFact_25 : decode cX6_ofFact 25 = .ok (.ireturn, 1) := by decide +kernel
theorem dX6_ofFact_26 : decode cX6_ofFact 26 = .ok (.iload_n 2, 1) := by decide +kernel
theorem dX6_ofFact_27 : decode cX6_ofFact 27 = .ok (.iconst 5, 1) := by decide +kernel
theorem dX6_ofFact_28 : decode cX6_ofFact 28 = .ok (.if_icmp .ge 12, 3) := by decide +kernel
theorem dX6_ofFact_31 : decode cX6_ofFact 31 = .ok (.aload_n 0, 1) := by decide +kernel
theorem dX6_ofFact_32 : decode cX6_ofFact 32 = .ok (.iload_n 1, 1) := by decide +kernel
theorem dX6_ofFact_33 : decode cX6_ofFact 33 = .ok (.iload_n 2, 1) := by decide +kernel
theorem dX6_ofFact_34 : decode cX6_ofFact 34 = .ok (.invokevirtual 144, 3) := by decide +kernel
theorem dX6_ofFact_37 : decode cX6_ofFact 37 = .ok (.goto 8, 3) := by decide +kernel
theorem dX6_ofFact_40 : decode cX6_ofFact 40 = .ok (.aload_n 0, 1) := by decide +kernel
theorem dX6_ofFact_41 : decode cX6_ofFact 41 = .ok (.iload_n 1, 1) := by decide +kernel
theorem dX6_ofFact_42 : decode cX6_ofFact 42 = .ok (.invokevirtual 158, 3) := by decide +kernel
theorem dX6_ofFact_45 : decode cX6_ofFact 45 = .ok (.ireturn, 1) := by decide +kernel
theorem q1702 : (Jvm.Cond.constantLong "ChapterLoanModel" (156 : Nat) (5 : Int64)) ∈ lw_all := lw_g (lw_at lw_m7 178 rfl) rfl
theorem w_ofFact {l : Launch} {D : va_G} {cI : ClassId} {ad : Nat → Nat} (hI : kInj 15 ad) {st st' : MSt} {N : Nat} {x1 : Int32} {x2 : Int32} {r0 : Int32} (h : M_ofFact  N st x1 x2 = some (r0, st')) : mV l yX6_ofFact cX6_ofFact 3 (some .int) 3 D cI ad st [.int x1, .int x2] (some (.int r0)) st' := by
  refine mm_ofV hI (by decide) rfl (Nat.le_of_ble_eq_true rfl) (fun p e s m below meth c R args ls C hr hlk hP hS hl hcs => ?_)
  have hx := C.1
  have hb := C.2.1
  have hown := C.2.2.2.1
  have hl : lv_has ls 3 [(0, .ref (ad 0)), (1, .int x1), (2, .int x2)] := hl
  have hP : mW D cI ad st s.heap := hP
  rw [M_ofFact] at h
  refine lv_aload_n hx hb dX6_ofFact_0 rfl (lv_at hl 0 rfl) ?_
  refine lv_iload_n hx hb dX6_ofFact_1 rfl (lv_at hl 1 rfl) ?_
  obtain ⟨v1, hv1, h⟩ := bd1_some h
  refine k_isFact C hP hv1 (Nat.le_of_ble_eq_true rfl) hl.1 (Nat.le_of_ble_eq_true rfl) hcs dX6_ofFact_2 ?_
  refine lv_if_eq (tgt := 20) hx hb dX6_ofFact_5 rfl (fun c2 => ?_) (fun c2 => ?_)
  · have h := if_some_t h c2
    refine lv_aload_n hx hb dX6_ofFact_20 rfl (lv_at hl 0 rfl) ?_
    refine lv_iconst (v := 1) hx hb dX6_ofFact_21 (by decide) ?_
    obtain ⟨v3, st4, hv3, h⟩ := bd2_some h
    refine k_finds C hP hS hv3 (Nat.le_of_ble_eq_true rfl) hl.1 (Nat.le_of_ble_eq_true rfl) hcs dX6_ofFact_22 (fun H locs hP hS => ?_)
    exact mm_viret hx hb hr hlk h hP hS dX6_ofFact_25
  · have h := if_some_f h c2
    refine lv_iload_n hx hb dX6_ofFact_8 rfl (lv_at hl 2 rfl) ?_
    refine lv_i2l (v := x2.toInt64) hx hb dX6_ofFact_9 rfl ?_
    refine lv_lconst (v := 0) hx hb dX6_ofFact_10 (by decide) ?_
    refine lv_ldc2 hx hb hown (C.2.2.2.2.1 _ q1702) dX6_ofFact_11 ?_
    obtain ⟨v5, hv5, h⟩ := bd1_some h
    refine k_in hx hb C.2.2.1 hown C.2.2.2.2.1 C.2.2.2.2.2.2.2 hv5 (Nat.le_of_ble_eq_true rfl) hl.1 (Nat.le_of_ble_eq_true rfl) hcs dX6_ofFact_14 ?_
    refine lv_if_ne (tgt := 26) hx hb dX6_ofFact_17 rfl (fun c6 => ?_) (fun c6 => ?_)
    · have h := if_some_f h c6
      refine lv_iload_n hx hb dX6_ofFact_26 rfl (lv_at hl 2 rfl) ?_
      refine lv_iconst (v := 5) hx hb dX6_ofFact_27 (by decide) ?_
      refine lv_icmp_ge (tgt := 40) hx hb dX6_ofFact_28 rfl (fun c7 => ?_) (fun c7 => ?_)
      · have h := if_some_t h c7
        refine lv_aload_n hx hb dX6_ofFact_40 rfl (lv_at hl 0 rfl) ?_
        refine lv_iload_n hx hb dX6_ofFact_41 rfl (lv_at hl 1 rfl) ?_
        obtain ⟨v8, hv8, h⟩ := bd1_some h
        refine k_booksWith C hP hv8 (Nat.le_of_ble_eq_true rfl) hl.1 (Nat.le_of_ble_eq_true rfl) hcs dX6_ofFact_42 ?_
        exact mm_viret hx hb hr hlk h hP hS dX6_ofFact_45
      · have h := if_some_f h c7
        refine lv_aload_n hx hb dX6_ofFact_31 rfl (lv_at hl 0 rfl) ?_
        refine lv_iload_n hx hb dX6_ofFact_32 rfl (lv_at hl 1 rfl) ?_
        refine lv_iload_n hx hb dX6_ofFact_33 rfl (lv_at hl 2 rfl) ?_
        obtain ⟨v9, hv9, h⟩ := bd1_some h
        refine k_its C hP hv9 (Nat.le_of_ble_eq_true rfl) hl.1 (Nat.le_of_ble_eq_true rfl) hcs dX6_ofFact_34 ?_
        refine lv_goto (tgt := 45) hx hb dX6_ofFact_37 rfl ?_
        exact mm_viret hx hb hr hlk h hP hS dX6_ofFact_45
    · have h := if_some_t h c6
      refine lv_aload_n hx hb dX6_ofFact_20 rfl (lv_at hl 0 rfl) ?_
      refine lv_iconst (v := 1) hx hb dX6_ofFact_21 (by decide) ?_
      obtain ⟨v10, st11, hv10, h⟩ := bd2_some h
      refine k_finds C hP hS hv10 (Nat.le_of_ble_eq_true rfl) hl.1 (Nat.le_of_ble_eq_true rfl) hcs dX6_ofFact_22 (fun H locs hP hS => ?_)
      exact mm_viret hx hb hr hlk h hP hS dX6_ofFact_25
abbrev cX6_sets : ByteArray := prog_30_method_11_code
def yX6_sets : MethodName := ⟨RX6, "sets", "(III)V"⟩
theorem dX6_sets_0 : decode cX6_sets 0 = .ok (.aload_n 0, 1) := by decide +kernel
theorem dX6_sets_1 : decode cX6_sets 1 = .ok (.getfield 7, 3) := by decide +kernel
theorem dX6_sets_4 : decode cX6_sets 4 = .ok (.bipush 50, 2) := by decide +kernel
theorem dX6_sets_6 : decode cX6_sets 6 = .ok (.bipush 21, 2) := by decide +kernel
theorem dX6_sets_8 : decode cX6_sets 8 = .ok (.iload_n 1, 1) := by decide +kernel
theorem dX6_sets_9 : decode cX6_sets 9 = .ok (.imul, 1) := by decide +kernel
theorem dX6_sets_10 : decode cX6_sets 10 = .ok (.iadd, 1) := by decide +kernel
theorem dX6_sets_11 : decode cX6_sets 11 = .ok (.iload_n 2, 1) := by decide +kernel
theorem dX6_sets_12 : decode cX6_sets 12 = .ok (.iadd, 1) := by decide +kernel
theorem dX6_sets_13 : decode cX6_sets 13 = .ok (.iload_n 3, 1) := by decide +kernel
theorem dX6_sets_14 : decode cX6_sets 14 = .ok (.iastore, 1) := by decide +kernel
theorem dX6_sets_15 : decode cX6_sets 15 = .ok (.return_, 1) := by decide +kernel
theorem w_sets {l : Launch} {D : va_G} {cI : ClassId} {ad : Nat → Nat} (hI : kInj 15 ad) {st st' : MSt} {x1 : Int32} {x2 : Int32} {x3 : Int32} (h : M_sets st x1 x2 x3 = some st') : mV l yX6_sets cX6_sets 4 none 0 D cI ad st [.int x1, .int x2, .int x3] none st' := by
  refine mm_ofV hI (by decide) rfl (Nat.le_of_ble_eq_true rfl) (fun p e s m below meth c R args ls C hr hlk hP hS hl hcs => ?_)
  have hx := C.1
  have hb := C.2.1
  have hown := C.2.2.2.1
  have hl : lv_has ls 4 [(0, .ref (ad 0)), (1, .int x1), (2, .int x2), (3, .int x3)] := hl
  have hP : mW D cI ad st s.heap := hP
  rw [M_sets] at h
  refine lv_aload_n hx hb dX6_sets_0 rfl (lv_at hl 0 rfl) ?_
  refine g_d C hP dX6_sets_1 ?_
  refine lv_bipush (v := 50) hx hb dX6_sets_4 (by decide) ?_
  refine lv_bipush (v := 21) hx hb dX6_sets_6 (by decide) ?_
  refine lv_iload_n hx hb dX6_sets_8 rfl (lv_at hl 1 rfl) ?_
  refine lv_imul hx hb dX6_sets_9 ?_
  refine lv_iadd hx hb dX6_sets_10 ?_
  refine lv_iload_n hx hb dX6_sets_11 rfl (lv_at hl 2 rfl) ?_
  refine lv_iadd hx hb dX6_sets_12 ?_
  refine lv_iload_n hx hb dX6_sets_13 rfl (lv_at hl 3 rfl) ?_
  obtain ⟨b1, hb1, h⟩ := bd1_some h
  refine mm_st C hP hS 1 (by decide) rfl hb1 dX6_sets_14 (fun H locs hP hS => ?_)
  exact mm_vret hx hb hr hlk h hP hS dX6_sets_15
theorem q1721 : (Jvm.Cond.methodLink "ChapterLoanModel" (174 : Nat) ({ cls := "ChapterLoanModel", name := "sets", desc := "(III)V" } : Jvm.MethodName)) ∈ lw_all := lw_g (lw_at lw_m7 197 rfl) rfl
theorem q1724 : (Jvm.Cond.code ({ cls := "ChapterLoanModel", name := "sets", desc := "(III)V" } : Jvm.MethodName) prog_30_method_11_code (4 : Nat) (Option.none : Option Jvm.ClassFile.FieldType)) ∈ lw_all := lw_g (lw_at lw_m7 200 rfl) rfl
theorem q1723 : (Jvm.Cond.instanceMethod ({ cls := "ChapterLoanModel", name := "sets", desc := "(III)V" } : Jvm.MethodName)) ∈ lw_all := lw_g (lw_at lw_m7 199 rfl) rfl
theorem k_sets {a0 : Int32} {a1 : Int32} {a2 : Int32} {st' : MSt} (C : mC p R d s m args c cc nL D cI ad) (hP : mW D cI ad st H) (hS : va_S (kF 15 ad) H0 H locs) (h : M_sets st a0 a1 a2 = some st') (hd : 0 + 1 ≤ d) (hsz : ls.size = nL) (hW : (rest.map fun v => v.category).sum ≤ 8) (hcs : cells ≤ R.cells ∧ slots ≤ R.slots) (hdg : decode cc pc = .ok (.invokevirtual 174, 3)) (kk : ∀ (H1 : Heap) (locs1 : List Loc), mW D cI ad st' H1 → va_S (kF 15 ad) H0 H1 locs1 → W p l e R s m args below meth c H1 locs1 cells slots Q (F0 m (pc + 3) ls (rest))) : W p l e R s m args below meth c H locs cells slots Q (F0 m pc ls (.int a2 :: .int a1 :: .int a0 :: .ref (ad 0) :: rest)) :=
  mm_cV (As := [.int a0, .int a1, .int a2]) C hP hS (w_sets C.2.2.2.2.2.2.1 h) (cwV 3 C.2.2.2.2.1 (lw_V q1721 q1723 qs49 q94 q1724) rfl rfl rfl (by decide +kernel) (mr_ C.2.2.2.2.2.2.2 hd (by decide))) rfl hsz rfl hW hdg hcs kk
abbrev cX6_debtor : ByteArray := prog_30_method_45_code
def yX6_debtor : MethodName := ⟨RX6, "debtor", "(II)I"⟩
theorem dX6_debtor_0 : decode cX6_debtor 0 = .ok (.iload_n 1, 1) := by decide +kernel
theorem dX6_debtor_1 : decode cX6_debtor 1 = .ok (.i2l, 1) := by decide +kernel
theorem dX6_debtor_2 : decode cX6_debtor 2 = .ok (.lconst 0, 1) := by decide +kernel
theorem dX6_debtor_3 : decode cX6_debtor 3 = .ok (.ldc2_w 184, 3) := by decide +kernel
theorem dX6_debtor_6 : decode cX6_debtor 6 = .ok (.invokestatic 57, 3) := by decide +kernel
theorem dX6_debtor_9 : decode cX6_debtor 9 = .ok (.ifCond .eq 15, 3) := by decide +kernel
theorem dX6_debtor_12 : decode cX6_debtor 12 = .ok (.iload_n 2, 1) := by decide +kernel
theorem dX6_debtor_13 : decode cX6_debtor 13 = .ok (.i2l, 1) := by decide +kernel
theorem dX6_debtor_14 : decode cX6_debtor 14 = .ok (.lconst 0, 1) := by decide +kernel
theorem dX6_debtor_15 : decode cX6_debtor 15 = .ok (.ldc2_w 186, 3) := by decide +kernel
theorem dX6_debtor_18 : decode cX6_debtor 18 = .ok (.invokestatic 57, 3) := by decide +kernel
theorem dX6_debtor_21 : decode cX6_debtor 21 = .ok (.ifCond .ne 9, 3) := by decide +kernel
theorem dX6_debtor_24 : decode cX6_debtor 24 = .ok (.aload_n 0, 1) := by decide +kernel
theorem dX6_debtor_25 : decode cX6_debtor 25 = .ok (.iconst 1, 1) := by decide +kernel
theorem dX6_debtor_26 : decode cX6_debtor 26 = .ok (.invokevirtual 119, 3) := by decide +kernel
theorem dX6_debtor_29 : decode cX6_debtor 29 = .ok (.ireturn, 1) := by decide +kernel
theorem dX6_debtor_30 : decode cX6_debtor 30 = .ok (.aload_n 0, 1) := by decide +kernel
theorem dX6_debtor_31 : decode cX6_debtor 31 = .ok (.getfield 7, 3) := by decide +kernel
theorem dX6_debtor_34 : decode cX6_debtor 34 = .ok (.iconst 1, 1) := by decide +kernel
theorem dX6_debtor_35 : decode cX6_debtor 35 = .ok (.iaload, 1) := by decide +kernel
theorem dX6_debtor_36 : decode cX6_debtor 36 = .ok (.iconst 4, 1) := by decide +kernel
theorem dX6_debtor_37 : decode cX6_debtor 37 = .ok (.if_icmp .ne 9, 3) := by decide +kernel
theorem dX6_debtor_40 : decode cX6_debtor 40 = .ok (.aload_n 0, 1) := by decide +kernel
theorem dX6_debtor_41 : decode cX6_debtor 41 = .ok (.iconst 4, 1) := by decide +kernel
theorem dX6_debtor_42 : decode cX6_debtor 42 = .ok (.invokevirtual 119, 3) := by decide +kernel
theorem dX6_debtor_45 : decode cX6_debtor 45 = .ok (.ireturn, 1) := by decide +kernel
theorem dX6_debtor_46 : decode cX6_debtor 46 = .ok (.aload_n 0, 1) := by decide +kernel
theorem dX6_debtor_47 : decode cX6_debtor 47 = .ok (.getfield 7, 3) := by decide +kernel
theorem dX6_debtor_50 : decode cX6_debtor 50 = .ok (.iconst 1, 1) := by decide +kernel
theorem dX6_debtor_51 : decode cX6_debtor 51 = .ok (.iaload, 1) := by decide +kernel
theorem dX6_debtor_52 : decode cX6_debtor 52 = .ok (.istore_n 3, 1) := by decide +kernel
theorem dX6_debtor_53 : decode cX6_debtor 53 = .ok (.aload_n 0, 1) := by decide +kernel
theorem dX6_debtor_54 : decode cX6_debtor 54 = .ok (.getfield 7, 3) := by decide +kernel
theorem dX6_debtor_57 : decode cX6_debtor 57 = .ok (.iconst 1, 1) := by decide +kernel
theorem dX6_debtor_58 : decode cX6_debtor 58 = .ok (.dup2, 1) := by decide +kernel
theorem dX6_debtor_59 : decode cX6_debtor 59 = .ok (.iaload, 1) := by decide +kernel
theorem dX6_debtor_60 : decode cX6_debtor 60 = .ok (.iconst 1, 1) := by decide +kernel
theorem dX6_debtor_61 : decode cX6_debtor 61 = .ok (.iadd, 1) := by decide +kernel
theorem dX6_debtor_62 : decode cX6_debtor 62 = .ok (.iastore, 1) := by decide +kernel
theorem dX6_debtor_63 : decode cX6_debtor 63 = .ok (.aload_n 0, 1) := by decide +kernel
theorem dX6_debtor_64 : decode cX6_debtor 64 = .ok (.iload_n 3, 1) := by decide +kernel
theorem dX6_debtor_65 : decode cX6_debtor 65 = .ok (.iconst 0, 1) := by decide +kernel
theorem dX6_debtor_66 : decode cX6_debtor 66 = .ok (.iload_n 1, 1) := by decide +kernel
theorem dX6_debtor_67 : decode cX6_debtor 67 = .ok (.bipush 10, 2) := by decide +kernel
theorem dX6_debtor_69 : decode cX6_debtor 69 = .ok (.idiv, 1) := by decide +kernel
theorem dX6_debtor_70 : decode cX6_debtor 70 = .ok (.invokevirtual 174, 3) := by decide +kernel
theorem dX6_debtor_73 : decode cX6_debtor 73 = .ok (.aload_n 0, 1) := by decide +kernel
theorem dX6_debtor_74 : decode cX6_debtor 74 = .ok (.iload_n 3, 1) := by decide +kernel
theorem dX6_debtor_75 : decode cX6_debtor 75 = .ok (.iconst 1, 1) := by decide +kernel
theorem dX6_debtor_76 : decode cX6_debtor 76 = .ok (.iload_n 1, 1) := by decide +kernel
theorem dX6_debtor_77 : decode cX6_debtor 77 = .ok (.bipush 10, 2) := by decide +kernel
theorem dX6_debtor_79 : decode cX6_debtor 79 = .ok (.irem, 1) := by decide +kernel
theorem dX6_debtor_80 : decode cX6_debtor 80 = .ok (.invokevirtual 174, 3) := by decide +kernel
theorem dX6_debtor_83 : decode cX6_debtor 83 = .ok (.aload_n 0, 1) := by decide +kernel
theorem dX6_debtor_84 : decode cX6_debtor 84 = .ok (.iload_n 3, 1) := by decide +kernel
theorem dX6_debtor_85 : decode cX6_debtor 85 = .ok (.iconst 2, 1) := by decide +kernel
theorem dX6_debtor_86 : decode cX6_debtor 86 = .ok (.iload_n 2, 1) := by decide +kernel
theorem dX6_debtor_87 : decode cX6_debtor 87 = .ok (.invokevirtual 174, 3) := by decide +kernel
theorem dX6_debtor_90 : decode cX6_debtor 90 = .ok (.aload_n 0, 1) := by decide +kernel
theorem dX6_debtor_91 : decode cX6_debtor 91 = .ok (.iload_n 3, 1) := by decide +kernel
theorem dX6_debtor_92 : decode cX6_debtor 92 = .ok (.iconst 3, 1) := by decide +kernel
theorem dX6_debtor_93 : decode cX6_debtor 93 = .ok (.iconst 0, 1) := by decide +kernel
theorem dX6_debtor_94 : decode cX6_debtor 94 = .ok (.invokevirtual 174, 3) := by decide +kernel
theorem dX6_debtor_97 : decode cX6_debtor 97 = .ok (.aload_n 0, 1) := by decide +kernel
theorem dX6_debtor_98 : decode cX6_debtor 98 = .ok (.iload_n 3, 1) := by decide +kernel
theorem dX6_debtor_99 : decode cX6_debtor 99 = .ok (.iconst 4, 1) := by decide +kernel
theorem dX6_debtor_100 : decode cX6_debtor 100 = .ok (.iconst 0, 1) := by decide +kernel
theorem dX6_debtor_101 : decode cX6_debtor 101 = .ok (.invokevirtual 174, 3) := by decide +kernel
theorem dX6_debtor_104 : decode cX6_debtor 104 = .ok (.iload_n 3, 1) := by decide +kernel
theorem dX6_debtor_105 : decode cX6_debtor 105 = .ok (.ireturn, 1) := by decide +kernel
theorem q1719 : (Jvm.Cond.constantLong "ChapterLoanModel" (184 : Nat) (69 : Int64)) ∈ lw_all := lw_g (lw_at lw_m7 195 rfl) rfl
theorem q1720 : (Jvm.Cond.constantLong "ChapterLoanModel" (186 : Nat) (9999 : Int64)) ∈ lw_all := lw_g (lw_at lw_m7 196 rfl) rfl
theorem w_debtor {l : Launch} {D : va_G} {cI : ClassId} {ad : Nat → Nat} (hI : kInj 15 ad) {st st' : MSt} {x1 : Int32} {x2 : Int32} {r0 : Int32} (h : M_debtor st x1 x2 = some (r0, st')) : mV l yX6_debtor cX6_debtor 4 (some .int) 1 D cI ad st [.int x1, .int x2] (some (.int r0)) st' := by
  refine mm_ofV hI (by decide) rfl (Nat.le_of_ble_eq_true rfl) (fun p e s m below meth c R args ls C hr hlk hP hS hl hcs => ?_)
  have hx := C.1
  have hb := C.2.1
  have hown := C.2.2.2.1
  have hl : lv_has ls 4 [(0, .ref (ad 0)), (1, .int x1), (2, .int x2)] := hl
  have hP : mW D cI ad st s.heap := hP
  rw [M_debtor] at h
  refine lv_iload_n hx hb dX6_debtor_0 rfl (lv_at hl 1 rfl) ?_
  refine lv_i2l (v := x1.toInt64) hx hb dX6_debtor_1 rfl ?_
  refine lv_lconst (v := 0) hx hb dX6_debtor_2 (by decide) ?_
  refine lv_ldc2 hx hb hown (C.2.2.2.2.1 _ q1719) dX6_debtor_3 ?_
  obtain ⟨v1, hv1, h⟩ := bd1_some h
  refine k_in hx hb C.2.2.1 hown C.2.2.2.2.1 C.2.2.2.2.2.2.2 hv1 (Nat.le_of_ble_eq_true rfl) hl.1 (Nat.le_of_ble_eq_true rfl) hcs dX6_debtor_6 ?_
  refine lv_if_eq (tgt := 24) hx hb dX6_debtor_9 rfl (fun c2 => ?_) (fun c2 => ?_)
  · have h := if_some_t h c2
    refine lv_aload_n hx hb dX6_debtor_24 rfl (lv_at hl 0 rfl) ?_
    refine lv_iconst (v := 1) hx hb dX6_debtor_25 (by decide) ?_
    obtain ⟨v3, st4, hv3, h⟩ := bd2_some h
    refine k_finds C hP hS hv3 (Nat.le_of_ble_eq_true rfl) hl.1 (Nat.le_of_ble_eq_true rfl) hcs dX6_debtor_26 (fun H locs hP hS => ?_)
    exact mm_viret hx hb hr hlk h hP hS dX6_debtor_29
  · have h := if_some_f h c2
    refine lv_iload_n hx hb dX6_debtor_12 rfl (lv_at hl 2 rfl) ?_
    refine lv_i2l (v := x2.toInt64) hx hb dX6_debtor_13 rfl ?_
    refine lv_lconst (v := 0) hx hb dX6_debtor_14 (by decide) ?_
    refine lv_ldc2 hx hb hown (C.2.2.2.2.1 _ q1720) dX6_debtor_15 ?_
    obtain ⟨v5, hv5, h⟩ := bd1_some h
    refine k_in hx hb C.2.2.1 hown C.2.2.2.2.1 C.2.2.2.2.2.2.2 hv5 (Nat.le_of_ble_eq_true rfl) hl.1 (Nat.le_of_ble_eq_true rfl) hcs dX6_debtor_18 ?_
    refine lv_if_ne (tgt := 30) hx hb dX6_debtor_21 rfl (fun c6 => ?_) (fun c6 => ?_)
    · have h := if_some_f h c6
      refine lv_aload_n hx hb dX6_debtor_30 rfl (lv_at hl 0 rfl) ?_
      refine g_d C hP dX6_debtor_31 ?_
      refine lv_iconst (v := 1) hx hb dX6_debtor_34 (by decide) ?_
      obtain ⟨v7, hv7, h⟩ := bd1_some h
      refine mm_ld C hP 1 (by decide) rfl hv7 dX6_debtor_35 ?_
      refine lv_iconst (v := 4) hx hb dX6_debtor_36 (by decide) ?_
      refine lv_icmp_ne (tgt := 46) hx hb dX6_debtor_37 rfl (fun c8 => ?_) (fun c8 => ?_)
      · have h := if_some_f h c8
        refine lv_aload_n hx hb dX6_debtor_46 rfl (lv_at hl 0 rfl) ?_
        refine g_d C hP dX6_debtor_47 ?_
        refine lv_iconst (v := 1) hx hb dX6_debtor_50 (by decide) ?_
        obtain ⟨v9, hv9, h⟩ := bd1_some h
        refine mm_ld C hP 1 (by decide) rfl hv9 dX6_debtor_51 ?_
        refine lv_istore_n (lv' := [(3, .int v9), (0, .ref (ad 0)), (1, .int x1), (2, .int x2)]) hx hb dX6_debtor_52 rfl hl (by decide) rfl (fun ls hl => ?_)
        refine lv_aload_n hx hb dX6_debtor_53 rfl (lv_at hl 1 rfl) ?_
        refine g_d C hP dX6_debtor_54 ?_
        refine lv_iconst (v := 1) hx hb dX6_debtor_57 (by decide) ?_
        refine lv_dup2_11 hx hb dX6_debtor_58 rfl rfl ?_
        obtain ⟨v10, hv10, h⟩ := bd1_some h
        refine mm_ld C hP 1 (by decide) rfl hv10 dX6_debtor_59 ?_
        refine lv_iconst (v := 1) hx hb dX6_debtor_60 (by decide) ?_
        refine lv_iadd hx hb dX6_debtor_61 ?_
        obtain ⟨b11, hb11, h⟩ := bd1_some h
        refine mm_st C hP hS 1 (by decide) rfl hb11 dX6_debtor_62 (fun H locs hP hS => ?_)
        refine lv_aload_n hx hb dX6_debtor_63 rfl (lv_at hl 1 rfl) ?_
        refine lv_iload_n hx hb dX6_debtor_64 rfl (lv_at hl 0 rfl) ?_
        refine lv_iconst (v := 0) hx hb dX6_debtor_65 (by decide) ?_
        refine lv_iload_n hx hb dX6_debtor_66 rfl (lv_at hl 2 rfl) ?_
        refine lv_bipush (v := 10) hx hb dX6_debtor_67 (by decide) ?_
        refine lv_idiv hx hb dX6_debtor_69 (by decide) ?_
        obtain ⟨st13, hv12, h⟩ := bd1_some h
        refine k_sets C hP hS hv12 (Nat.le_of_ble_eq_true rfl) hl.1 (Nat.le_of_ble_eq_true rfl) hcs dX6_debtor_70 (fun H locs hP hS => ?_)
        refine lv_aload_n hx hb dX6_debtor_73 rfl (lv_at hl 1 rfl) ?_
        refine lv_iload_n hx hb dX6_debtor_74 rfl (lv_at hl 0 rfl) ?_
        refine lv_iconst (v := 1) hx hb dX6_debtor_75 (by decide) ?_
        refine lv_iload_n hx hb dX6_debtor_76 rfl (lv_at hl 2 rfl) ?_
        refine lv_bipush (v := 10) hx hb dX6_debtor_77 (by decide) ?_
        refine lv_irem hx hb dX6_debtor_79 (by decide) ?_
        obtain ⟨st15, hv14, h⟩ := bd1_some h
        refine k_sets C hP hS hv14 (Nat.le_of_ble_eq_true rfl) hl.1 (Nat.le_of_ble_eq_true rfl) hcs dX6_debtor_80 (fun H locs hP hS => ?_)
        refine lv_aload_n hx hb dX6_debtor_83 rfl (lv_at hl 1 rfl) ?_
        refine lv_iload_n hx hb dX6_debtor_84 rfl (lv_at hl 0 rfl) ?_
        refine lv_iconst (v := 2) hx hb dX6_debtor_85 (by decide) ?_
        refine lv_iload_n hx hb dX6_debtor_86 rfl (lv_at hl 3 rfl) ?_
        obtain ⟨st17, hv16, h⟩ := bd1_some h
        refine k_sets C hP hS hv16 (Nat.le_of_ble_eq_true rfl) hl.1 (Nat.le_of_ble_eq_true rfl) hcs dX6_debtor_87 (fun H locs hP hS => ?_)
        refine lv_aload_n hx hb dX6_debtor_90 rfl (lv_at hl 1 rfl) ?_
        refine lv_iload_n hx hb dX6_debtor_91 rfl (lv_at hl 0 rfl) ?_
        refine lv_iconst (v := 3) hx hb dX6_debtor_92 (by decide) ?_
        refine lv_iconst (v := 0) hx hb dX6_debtor_93 (by decide) ?_
        obtain ⟨st19, hv18, h⟩ := bd1_some h
        refine k_sets C hP hS hv18 (Nat.le_of_ble_eq_true rfl) hl.1 (Nat.le_of_ble_eq_true rfl) hcs dX6_debtor_94 (fun H locs hP hS => ?_)
        refine lv_aload_n hx hb dX6_debtor_97 rfl (lv_at hl 1 rfl) ?_
        refine lv_iload_n hx hb dX6_debtor_98 rfl (lv_at hl 0 rfl) ?_
        refine lv_iconst (v := 4) hx hb dX6_debtor_99 (by decide) ?_
        refine lv_iconst (v := 0) hx hb dX6_debtor_100 (by decide) ?_
        obtain ⟨st21, hv20, h⟩ := bd1_some h
        refine k_sets C hP hS hv20 (Nat.le_of_ble_eq_true rfl) hl.1 (Nat.le_of_ble_eq_true rfl) hcs dX6_debtor_101 (fun H locs hP hS => ?_)
        refine lv_iload_n hx hb dX6_debtor_104 rfl (lv_at hl 0 rfl) ?_
        exact mm_viret hx hb hr hlk h hP hS dX6_debtor_105
      · have h := if_some_t h c8
        refine lv_aload_n hx hb dX6_debtor_40 rfl (lv_at hl 0 rfl) ?_
        refine lv_iconst (v := 4) hx hb dX6_debtor_41 (by decide) ?_
        obtain ⟨v22, st23, hv22, h⟩ := bd2_some h
        refine k_finds C hP hS hv22 (Nat.le_of_ble_eq_true rfl) hl.1 (Nat.le_of_ble_eq_true rfl) hcs dX6_debtor_42 (fun H locs hP hS => ?_)
        exact mm_viret hx hb hr hlk h hP hS dX6_debtor_45
    · have h := if_some_t h c6
      refine lv_aload_n hx hb dX6_debtor_24 rfl (lv_at hl 0 rfl) ?_
      refine lv_iconst (v := 1) hx hb dX6_debtor_25 (by decide) ?_
      obtain ⟨v24, st25, hv24, h⟩ := bd2_some h
      refine k_finds C hP hS hv24 (Nat.le_of_ble_eq_true rfl) hl.1 (Nat.le_of_ble_eq_true rfl) hcs dX6_debtor_26 (fun H locs hP hS => ?_)
      exact mm_viret hx hb hr hlk h hP hS dX6_debtor_29
abbrev cX6_isDebtor : ByteArray := prog_30_method_7_code
def yX6_isDebtor : MethodName := ⟨RX6, "isDebtor", "(I)Z"⟩
theorem dX6_isDebtor_0 : decode cX6_isDebtor 0 = .ok (.iload_n 1, 1) := by decide +kernel
theorem dX6_isDebtor_1 : decode cX6_isDebtor 1 = .ok (.i2l, 1) := by decide +kernel
theorem dX6_isDebtor_2 : decode cX6_isDebtor 2 = .ok (.lconst 0, 1) := by decide +kernel
theorem dX6_isDebtor_3 : decode cX6_isDebtor 3 = .ok (.aload_n 0, 1) := by decide +kernel
theorem dX6_isDebtor_4 : decode cX6_isDebtor 4 = .ok (.getfield 7, 3) := by decide +kernel
theorem dX6_isDebtor_7 : decode cX6_isDebtor 7 = .ok (.iconst 1, 1) := by decide +kernel
theorem dX6_isDebtor_8 : decode cX6_isDebtor 8 = .ok (.iaload, 1) := by decide +kernel
theorem dX6_isDebtor_9 : decode cX6_isDebtor 9 = .ok (.iconst 1, 1) := by decide +kernel
theorem dX6_isDebtor_10 : decode cX6_isDebtor 10 = .ok (.isub, 1) := by decide +kernel
theorem dX6_isDebtor_11 : decode cX6_isDebtor 11 = .ok (.i2l, 1) := by decide +kernel
theorem dX6_isDebtor_12 : decode cX6_isDebtor 12 = .ok (.invokestatic 57, 3) := by decide +kernel
theorem dX6_isDebtor_15 : decode cX6_isDebtor 15 = .ok (.ireturn, 1) := by decide +kernel
theorem w_isDebtor {l : Launch} {D : va_G} {cI : ClassId} {ad : Nat → Nat} (hI : kInj 15 ad) {st : MSt} {x1 : Int32} {r : Int32} (h : M_isDebtor st x1 = some r) : mR l yX6_isDebtor cX6_isDebtor 2 (some .boolean) 1 D cI ad st [.int x1] r := by
  refine mm_ofR hI (by decide) rfl (Nat.le_of_ble_eq_true rfl) (fun p e s m below meth c R args ls C hr hlk hP hl hcs => ?_)
  have hx := C.1
  have hb := C.2.1
  have hown := C.2.2.2.1
  have hl : lv_has ls 2 [(0, .ref (ad 0)), (1, .int x1)] := hl
  rw [M_isDebtor] at h
  refine lv_iload_n hx hb dX6_isDebtor_0 rfl (lv_at hl 1 rfl) ?_
  refine lv_i2l (v := x1.toInt64) hx hb dX6_isDebtor_1 rfl ?_
  refine lv_lconst (v := 0) hx hb dX6_isDebtor_2 (by decide) ?_
  refine lv_aload_n hx hb dX6_isDebtor_3 rfl (lv_at hl 0 rfl) ?_
  refine g_d C hP dX6_isDebtor_4 ?_
  refine lv_iconst (v := 1) hx hb dX6_isDebtor_7 (by decide) ?_
  obtain ⟨v1, hv1, h⟩ := bd1_some h
  refine mm_ld C hP 1 (by decide) rfl hv1 dX6_isDebtor_8 ?_
  refine lv_iconst (v := 1) hx hb dX6_isDebtor_9 (by decide) ?_
  refine lv_isub hx hb dX6_isDebtor_10 ?_
  refine lv_i2l (v := (v1 - 1).toInt64) hx hb dX6_isDebtor_11 rfl ?_
  obtain ⟨v2, hv2, h⟩ := bd1_some h
  refine k_in hx hb C.2.2.1 hown C.2.2.2.2.1 C.2.2.2.2.2.2.2 hv2 (Nat.le_of_ble_eq_true rfl) hl.1 (Nat.le_of_ble_eq_true rfl) hcs dX6_isDebtor_12 ?_
  exact mm_zretV hx hb hr hlk h dX6_isDebtor_15
theorem q1729 : (Jvm.Cond.methodLink "ChapterLoanModel" (197 : Nat) ({ cls := "ChapterLoanModel", name := "isDebtor", desc := "(I)Z" } : Jvm.MethodName)) ∈ lw_all := lw_g (lw_at lw_m7 205 rfl) rfl
theorem q1732 : (Jvm.Cond.code ({ cls := "ChapterLoanModel", name := "isDebtor", desc := "(I)Z" } : Jvm.MethodName) prog_30_method_7_code (2 : Nat) (Option.some Jvm.ClassFile.FieldType.boolean)) ∈ lw_all := lw_g (lw_at lw_m7 208 rfl) rfl
theorem q1731 : (Jvm.Cond.instanceMethod ({ cls := "ChapterLoanModel", name := "isDebtor", desc := "(I)Z" } : Jvm.MethodName)) ∈ lw_all := lw_g (lw_at lw_m7 207 rfl) rfl
theorem k_isDebtor {a0 : Int32} {v : Int32} (C : mC p R d s m args c cc nL D cI ad) (hP : mW D cI ad st H) (h : M_isDebtor st a0 = some v) (hd : 1 + 1 ≤ d) (hsz : ls.size = nL) (hW : (rest.map fun v => v.category).sum ≤ 8) (hcs : cells ≤ R.cells ∧ slots ≤ R.slots) (hdg : decode cc pc = .ok (.invokevirtual 197, 3)) (kk : W p l e R s m args below meth c H locs cells slots Q (F0 m (pc + 3) ls (.int v :: rest))) : W p l e R s m args below meth c H locs cells slots Q (F0 m pc ls (.int a0 :: .ref (ad 0) :: rest)) :=
  mm_cR (As := [.int a0]) C hP (w_isDebtor C.2.2.2.2.2.2.1 h) (cwV 1 C.2.2.2.2.1 (lw_V q1729 q1731 qs50 q94 q1732) rfl rfl rfl (by decide +kernel) (mr_ C.2.2.2.2.2.2.2 hd (by decide))) rfl hsz rfl hW hdg hcs kk
abbrev cX6_dueOf : ByteArray := prog_30_method_38_code
def yX6_dueOf : MethodName := ⟨RX6, "dueOf", "(I)I"⟩
theorem dX6_dueOf_0 : decode cX6_dueOf 0 = .ok (.iload_n 1, 1) := by decide +kernel
theorem dX6_dueOf_1 : decode cX6_dueOf 1 = .ok (.aload_n 0, 1) := by decide +kernel
theorem dX6_dueOf_2 : decode cX6_dueOf 2 = .ok (.getfield 25, 3) := by decide +kernel
theorem dX6_dueOf_5 : decode cX6_dueOf 5 = .ok (.if_icmp .ne 8, 3) := by decide +kernel
theorem dX6_dueOf_8 : decode cX6_dueOf 8 = .ok (.aload_n 0, 1) := by decide +kernel
theorem dX6_dueOf_9 : decode cX6_dueOf 9 = .ok (.getfield 168, 3) := by decide +kernel
theorem dX6_dueOf_12 : decode cX6_dueOf 12 = .ok (.ireturn, 1) := by decide +kernel
theorem dX6_dueOf_13 : decode cX6_dueOf 13 = .ok (.aload_n 0, 1) := by decide +kernel
theorem dX6_dueOf_14 : decode cX6_dueOf 14 = .ok (.iload_n 1, 1) := by decide +kernel
theorem dX6_dueOf_15 : decode cX6_dueOf 15 = .ok (.iconst 1, 1) := by decide +kernel
theorem dX6_dueOf_16 : decode cX6_dueOf 16 = .ok (.invokevirtual 150, 3) := by decide +kernel
theorem dX6_dueOf_19 : decode cX6_dueOf 19 = .ok (.iconst 2, 1) := by decide +kernel
theorem dX6_dueOf_20 : decode cX6_dueOf 20 = .ok (.irem, 1) := by decide +kernel
theorem dX6_dueOf_21 : decode cX6_dueOf 21 = .ok (.istore_n 2, 1) := by decide +kernel
theorem dX6_dueOf_22 : decode cX6_dueOf 22 = .ok (.aload_n 0, 1) := by decide +kernel
theorem dX6_dueOf_23 : decode cX6_dueOf 23 = .ok (.iload_n 1, 1) := by decide +kernel
theorem dX6_dueOf_24 : decode cX6_dueOf 24 = .ok (.iconst 0, 1) := by decide +kernel
theorem dX6_dueOf_25 : decode cX6_dueOf 25 = .ok (.invokevirtual 150, 3) := by decide +kernel
theorem dX6_dueOf_28 : decode cX6_dueOf 28 = .ok (.istore_n 3, 1) := by decide +kernel
theorem dX6_dueOf_29 : decode cX6_dueOf 29 = .ok (.iload_n 3, 1) := by decide +kernel
theorem dX6_dueOf_30 : decode cX6_dueOf 30 = .ok (.iconst 3, 1) := by decide +kernel
theorem dX6_dueOf_31 : decode cX6_dueOf 31 = .ok (.if_icmp .ne 7, 3) := by decide +kernel
theorem dX6_dueOf_34 : decode cX6_dueOf 34 = .ok (.iconst 2, 1) := by decide +kernel
theorem dX6_dueOf_35 : decode cX6_dueOf 35 = .ok (.goto 27, 3) := by decide +kernel
theorem dX6_dueOf_38 : decode cX6_dueOf 38 = .ok (.iload_n 3, 1) := by decide +kernel
theorem dX6_dueOf_39 : decode cX6_dueOf 39 = .ok (.bipush 6, 2) := by decide +kernel
theorem dX6_dueOf_41 : decode cX6_dueOf 41 = .ok (.if_icmp .ne 9, 3) := by decide +kernel
theorem dX6_dueOf_44 : decode cX6_dueOf 44 = .ok (.iconst 2, 1) := by decide +kernel
theorem dX6_dueOf_45 : decode cX6_dueOf 45 = .ok (.iload_n 2, 1) := by decide +kernel
theorem dX6_dueOf_46 : decode cX6_dueOf 46 = .ok (.isub, 1) := by decide +kernel
theorem dX6_dueOf_47 : decode cX6_dueOf 47 = .ok (.goto 15, 3) := by decide +kernel
theorem dX6_dueOf_50 : decode cX6_dueOf 50 = .ok (.iload_n 3, 1) := by decide +kernel
theorem dX6_dueOf_51 : decode cX6_dueOf 51 = .ok (.iconst 4, 1) := by decide +kernel
theorem dX6_dueOf_52 : decode cX6_dueOf 52 = .ok (.if_icmp .ne 9, 3) := by decide +kernel
theorem dX6_dueOf_55 : decode cX6_dueOf 55 = .ok (.iconst 1, 1) := by decide +kernel
theorem dX6_dueOf_56 : decode cX6_dueOf 56 = .ok (.iload_n 2, 1) := by decide +kernel
theorem dX6_dueOf_57 : decode cX6_dueOf 57 = .ok (.iadd, 1) := by decide +kernel
theorem dX6_dueOf_58 : decode cX6_dueOf 58 = .ok (.goto 4, 3) := by decide +kernel
theorem dX6_dueOf_61 : decode cX6_dueOf 61 = .ok (.iconst 1, 1) := by decide +kernel
theorem dX6_dueOf_62 : decode cX6_dueOf 62 = .ok (.ireturn, 1) := by decide +kernel
theorem w_dueOf {l : Launch} {D : va_G} {cI : ClassId} {ad : Nat → Nat} (hI : kInj 15 ad) {st : MSt} {x1 : Int32} {r : Int32} (h : M_dueOf st x1 = some r) : mR l yX6_dueOf cX6_dueOf 4 (some .int) 1 D cI ad st [.int x1] r := by
  refine mm_ofR hI (by decide) rfl (Nat.le_of_ble_eq_true rfl) (fun p e s m below meth c R args ls C hr hlk hP hl hcs => ?_)
  have hx := C.1
  have hb := C.2.1
  have hown := C.2.2.2.1
  have hl : lv_has ls 4 [(0, .ref (ad 0)), (1, .int x1)] := hl
  rw [M_dueOf] at h
  refine lv_iload_n hx hb dX6_dueOf_0 rfl (lv_at hl 1 rfl) ?_
  refine lv_aload_n hx hb dX6_dueOf_1 rfl (lv_at hl 0 rfl) ?_
  refine g_rated0 C hP dX6_dueOf_2 ?_
  refine lv_icmp_ne (tgt := 13) hx hb dX6_dueOf_5 rfl (fun c1 => ?_) (fun c1 => ?_)
  · have h := if_some_f h c1
    refine lv_aload_n hx hb dX6_dueOf_13 rfl (lv_at hl 0 rfl) ?_
    refine lv_iload_n hx hb dX6_dueOf_14 rfl (lv_at hl 1 rfl) ?_
    refine lv_iconst (v := 1) hx hb dX6_dueOf_15 (by decide) ?_
    obtain ⟨v2, hv2, h⟩ := bd1_some h
    refine k_of C hP hv2 (Nat.le_of_ble_eq_true rfl) hl.1 (Nat.le_of_ble_eq_true rfl) hcs dX6_dueOf_16 ?_
    refine lv_iconst (v := 2) hx hb dX6_dueOf_19 (by decide) ?_
    refine lv_irem hx hb dX6_dueOf_20 (by decide) ?_
    refine lv_istore_n (lv' := [(2, .int (v2 - v2 / 2 * 2)), (0, .ref (ad 0)), (1, .int x1)]) hx hb dX6_dueOf_21 rfl hl (by decide) rfl (fun ls hl => ?_)
    refine lv_aload_n hx hb dX6_dueOf_22 rfl (lv_at hl 1 rfl) ?_
    refine lv_iload_n hx hb dX6_dueOf_23 rfl (lv_at hl 2 rfl) ?_
    refine lv_iconst (v := 0) hx hb dX6_dueOf_24 (by decide) ?_
    obtain ⟨v3, hv3, h⟩ := bd1_some h
    refine k_of C hP hv3 (Nat.le_of_ble_eq_true rfl) hl.1 (Nat.le_of_ble_eq_true rfl) hcs dX6_dueOf_25 ?_
    refine lv_istore_n (lv' := [(3, .int v3), (2, .int (v2 - v2 / 2 * 2)), (0, .ref (ad 0)), (1, .int x1)]) hx hb dX6_dueOf_28 rfl hl (by decide) rfl (fun ls hl => ?_)
    refine lv_iload_n hx hb dX6_dueOf_29 rfl (lv_at hl 0 rfl) ?_
    refine lv_iconst (v := 3) hx hb dX6_dueOf_30 (by decide) ?_
    refine lv_icmp_ne (tgt := 38) hx hb dX6_dueOf_31 rfl (fun c4 => ?_) (fun c4 => ?_)
    · have h := if_some_f h c4
      refine lv_iload_n hx hb dX6_dueOf_38 rfl (lv_at hl 0 rfl) ?_
      refine lv_bipush (v := 6) hx hb dX6_dueOf_39 (by decide) ?_
      refine lv_icmp_ne (tgt := 50) hx hb dX6_dueOf_41 rfl (fun c5 => ?_) (fun c5 => ?_)
      · have h := if_some_f h c5
        refine lv_iload_n hx hb dX6_dueOf_50 rfl (lv_at hl 0 rfl) ?_
        refine lv_iconst (v := 4) hx hb dX6_dueOf_51 (by decide) ?_
        refine lv_icmp_ne (tgt := 61) hx hb dX6_dueOf_52 rfl (fun c6 => ?_) (fun c6 => ?_)
        · have h := if_some_f h c6
          refine lv_iconst (v := 1) hx hb dX6_dueOf_61 (by decide) ?_
          exact mm_iret hx hb hr hlk h dX6_dueOf_62
        · have h := if_some_t h c6
          refine lv_iconst (v := 1) hx hb dX6_dueOf_55 (by decide) ?_
          refine lv_iload_n hx hb dX6_dueOf_56 rfl (lv_at hl 1 rfl) ?_
          refine lv_iadd hx hb dX6_dueOf_57 ?_
          refine lv_goto (tgt := 62) hx hb dX6_dueOf_58 rfl ?_
          exact mm_iret hx hb hr hlk h dX6_dueOf_62
      · have h := if_some_t h c5
        refine lv_iconst (v := 2) hx hb dX6_dueOf_44 (by decide) ?_
        refine lv_iload_n hx hb dX6_dueOf_45 rfl (lv_at hl 1 rfl) ?_
        refine lv_isub hx hb dX6_dueOf_46 ?_
        refine lv_goto (tgt := 62) hx hb dX6_dueOf_47 rfl ?_
        exact mm_iret hx hb hr hlk h dX6_dueOf_62
    · have h := if_some_t h c4
      refine lv_iconst (v := 2) hx hb dX6_dueOf_34 (by decide) ?_
      refine lv_goto (tgt := 62) hx hb dX6_dueOf_35 rfl ?_
      exact mm_iret hx hb hr hlk h dX6_dueOf_62
  · have h := if_some_t h c1
    refine lv_aload_n hx hb dX6_dueOf_8 rfl (lv_at hl 0 rfl) ?_
    refine g_rate C hP dX6_dueOf_9 ?_
    exact mm_iret hx hb hr hlk h dX6_dueOf_12
theorem q1737 : (Jvm.Cond.methodLink "ChapterLoanModel" (188 : Nat) ({ cls := "ChapterLoanModel", name := "dueOf", desc := "(I)I" } : Jvm.MethodName)) ∈ lw_all := lw_g (lw_at lw_m7 213 rfl) rfl
theorem q1740 : (Jvm.Cond.code ({ cls := "ChapterLoanModel", name := "dueOf", desc := "(I)I" } : Jvm.MethodName) prog_30_method_38_code (4 : Nat) (Option.some Jvm.ClassFile.FieldType.int)) ∈ lw_all := lw_g (lw_at lw_m7 216 rfl) rfl
theorem q1739 : (Jvm.Cond.instanceMethod ({ cls := "ChapterLoanModel", name := "dueOf", desc := "(I)I" } : Jvm.MethodName)) ∈ lw_all := lw_g (lw_at lw_m7 215 rfl) rfl
theorem k_dueOf {a0 : Int32} {v : Int32} (C : mC p R d s m args c cc nL D cI ad) (hP : mW D cI ad st H) (h : M_dueOf st a0 = some v) (hd : 1 + 1 ≤ d) (hsz : ls.size = nL) (hW : (rest.map fun v => v.category).sum ≤ 8) (hcs : cells ≤ R.cells ∧ slots ≤ R.slots) (hdg : decode cc pc = .ok (.invokevirtual 188, 3)) (kk : W p l e R s m args below meth c H locs cells slots Q (F0 m (pc + 3) ls (.int v :: rest))) : W p l e R s m args below meth c H locs cells slots Q (F0 m pc ls (.int a0 :: .ref (ad 0) :: rest)) :=
  mm_cR (As := [.int a0]) C hP (w_dueOf C.2.2.2.2.2.2.1 h) (cwV 1 C.2.2.2.2.1 (lw_V q1737 q1739 qs52 q94 q1740) rfl rfl rfl (by decide +kernel) (mr_ C.2.2.2.2.2.2.2 hd (by decide))) rfl hsz rfl hW hdg hcs kk
abbrev cX6_isOpen : ByteArray := prog_30_method_40_code
def yX6_isOpen : MethodName := ⟨RX6, "isOpen", "(II)Z"⟩
theorem dX6_isOpen_0 : decode cX6_isOpen 0 = .ok (.aload_n 0, 1) := by decide +kernel
theorem dX6_isOpen_1 : decode cX6_isOpen 1 = .ok (.iload_n 1, 1) := by decide +kernel
theorem dX6_isOpen_2 : decode cX6_isOpen 2 = .ok (.iconst 2, 1) := by decide +kernel
theorem dX6_isOpen_3 : decode cX6_isOpen 3 = .ok (.invokevirtual 144, 3) := by decide +kernel
theorem dX6_isOpen_6 : decode cX6_isOpen 6 = .ok (.ifCond .le 20, 3) := by decide +kernel
theorem dX6_isOpen_9 : decode cX6_isOpen 9 = .ok (.iload_n 2, 1) := by decide +kernel
theorem dX6_isOpen_10 : decode cX6_isOpen 10 = .ok (.aload_n 0, 1) := by decide +kernel
theorem dX6_isOpen_11 : decode cX6_isOpen 11 = .ok (.iload_n 1, 1) := by decide +kernel
theorem dX6_isOpen_12 : decode cX6_isOpen 12 = .ok (.iconst 3, 1) := by decide +kernel
theorem dX6_isOpen_13 : decode cX6_isOpen 13 = .ok (.invokevirtual 144, 3) := by decide +kernel
theorem dX6_isOpen_16 : decode cX6_isOpen 16 = .ok (.ishr, 1) := by decide +kernel
theorem dX6_isOpen_17 : decode cX6_isOpen 17 = .ok (.iconst 1, 1) := by decide +kernel
theorem dX6_isOpen_18 : decode cX6_isOpen 18 = .ok (.iand, 1) := by decide +kernel
theorem dX6_isOpen_19 : decode cX6_isOpen 19 = .ok (.ifCond .ne 7, 3) := by decide +kernel
theorem dX6_isOpen_22 : decode cX6_isOpen 22 = .ok (.iconst 1, 1) := by decide +kernel
theorem dX6_isOpen_23 : decode cX6_isOpen 23 = .ok (.goto 4, 3) := by decide +kernel
theorem dX6_isOpen_26 : decode cX6_isOpen 26 = .ok (.iconst 0, 1) := by decide +kernel
theorem dX6_isOpen_27 : decode cX6_isOpen 27 = .ok (.ireturn, 1) := by decide +kernel
theorem w_isOpen {l : Launch} {D : va_G} {cI : ClassId} {ad : Nat → Nat} (hI : kInj 15 ad) {st : MSt} {x1 : Int32} {x2 : Int32} {r : Int32} (h : M_isOpen st x1 x2 = some r) : mR l yX6_isOpen cX6_isOpen 3 (some .boolean) 1 D cI ad st [.int x1, .int x2] r := by
  refine mm_ofR hI (by decide) rfl (Nat.le_of_ble_eq_true rfl) (fun p e s m below meth c R args ls C hr hlk hP hl hcs => ?_)
  have hx := C.1
  have hb := C.2.1
  have hown := C.2.2.2.1
  have hl : lv_has ls 3 [(0, .ref (ad 0)), (1, .int x1), (2, .int x2)] := hl
  rw [M_isOpen] at h
  refine lv_aload_n hx hb dX6_isOpen_0 rfl (lv_at hl 0 rfl) ?_
  refine lv_iload_n hx hb dX6_isOpen_1 rfl (lv_at hl 1 rfl) ?_
  refine lv_iconst (v := 2) hx hb dX6_isOpen_2 (by decide) ?_
  obtain ⟨v1, hv1, h⟩ := bd1_some h
  refine k_its C hP hv1 (Nat.le_of_ble_eq_true rfl) hl.1 (Nat.le_of_ble_eq_true rfl) hcs dX6_isOpen_3 ?_
  refine lv_if_le (tgt := 26) hx hb dX6_isOpen_6 rfl (fun c2 => ?_) (fun c2 => ?_)
  · have h := if_some_t h c2
    refine lv_iconst (v := 0) hx hb dX6_isOpen_26 (by decide) ?_
    exact mm_zret hx hb hr hlk rfl h dX6_isOpen_27
  · have h := if_some_f h c2
    refine lv_iload_n hx hb dX6_isOpen_9 rfl (lv_at hl 2 rfl) ?_
    refine lv_aload_n hx hb dX6_isOpen_10 rfl (lv_at hl 0 rfl) ?_
    refine lv_iload_n hx hb dX6_isOpen_11 rfl (lv_at hl 1 rfl) ?_
    refine lv_iconst (v := 3) hx hb dX6_isOpen_12 (by decide) ?_
    obtain ⟨v3, hv3, h⟩ := bd1_some h
    refine k_its C hP hv3 (Nat.le_of_ble_eq_true rfl) hl.1 (Nat.le_of_ble_eq_true rfl) hcs dX6_isOpen_13 ?_
    refine lv_ishr hx hb dX6_isOpen_16 ?_
    refine lv_iconst (v := 1) hx hb dX6_isOpen_17 (by decide) ?_
    refine lv_iand hx hb dX6_isOpen_18 ?_
    refine lv_if_ne (tgt := 26) hx hb dX6_isOpen_19 rfl (fun c4 => ?_) (fun c4 => ?_)
    · have h := if_some_f h c4
      refine lv_iconst (v := 0) hx hb dX6_isOpen_26 (by decide) ?_
      exact mm_zret hx hb hr hlk rfl h dX6_isOpen_27
    · have h := if_some_t h c4
      refine lv_iconst (v := 1) hx hb dX6_isOpen_22 (by decide) ?_
      refine lv_goto (tgt := 27) hx hb dX6_isOpen_23 rfl ?_
      exact mm_zret hx hb hr hlk rfl h dX6_isOpen_27
theorem q1745 : (Jvm.Cond.methodLink "ChapterLoanModel" (171 : Nat) ({ cls := "ChapterLoanModel", name := "isOpen", desc := "(II)Z" } : Jvm.MethodName)) ∈ lw_all := lw_g (lw_at lw_m7 221 rfl) rfl
theorem q1748 : (Jvm.Cond.code ({ cls := "ChapterLoanModel", name := "isOpen", desc := "(II)Z" } : Jvm.MethodName) prog_30_method_40_code (3 : Nat) (Option.some Jvm.ClassFile.FieldType.boolean)) ∈ lw_all := lw_g (lw_at lw_m7 224 rfl) rfl
theorem q1747 : (Jvm.Cond.instanceMethod ({ cls := "ChapterLoanModel", name := "isOpen", desc := "(II)Z" } : Jvm.MethodName)) ∈ lw_all := lw_g (lw_at lw_m7 223 rfl) rfl
theorem k_isOpen {a0 : Int32} {a1 : Int32} {v : Int32} (C : mC p R d s m args c cc nL D cI ad) (hP : mW D cI ad st H) (h : M_isOpen st a0 a1 = some v) (hd : 1 + 1 ≤ d) (hsz : ls.size = nL) (hW : (rest.map fun v => v.category).sum ≤ 8) (hcs : cells ≤ R.cells ∧ slots ≤ R.slots) (hdg : decode cc pc = .ok (.invokevirtual 171, 3)) (kk : W p l e R s m args below meth c H locs cells slots Q (F0 m (pc + 3) ls (.int v :: rest))) : W p l e R s m args below meth c H locs cells slots Q (F0 m pc ls (.int a1 :: .int a0 :: .ref (ad 0) :: rest)) :=
  mm_cR (As := [.int a0, .int a1]) C hP (w_isOpen C.2.2.2.2.2.2.1 h) (cwV 2 C.2.2.2.2.1 (lw_V q1745 q1747 qs54 q94 q1748) rfl rfl rfl (by decide +kernel) (mr_ C.2.2.2.2.2.2.2 hd (by decide))) rfl hsz rfl hW hdg hcs kk
abbrev cX6_openOf : ByteArray := prog_30_method_41_code
def yX6_openOf : MethodName := ⟨RX6, "openOf", "(I)I"⟩
theorem dX6_openOf_0 : decode cX6_openOf 0 = .ok (.aload_n 0, 1) := by decide +kernel
theorem dX6_openOf_1 : decode cX6_openOf 1 = .ok (.iload_n 1, 1) := by decide +kernel
theorem dX6_openOf_2 : decode cX6_openOf 2 = .ok (.invokevirtual 153, 3) := by decide +kernel
theorem dX6_openOf_5 : decode cX6_openOf 5 = .ok (.istore_n 2, 1) := by decide +kernel
theorem dX6_openOf_6 : decode cX6_openOf 6 = .ok (.iconst 0, 1) := by decide +kernel
theorem dX6_openOf_7 : decode cX6_openOf 7 = .ok (.istore_n 3, 1) := by decide +kernel
theorem dX6_openOf_8 : decode cX6_openOf 8 = .ok (.iconst 0, 1) := by decide +kernel
theorem dX6_openOf_9 : decode cX6_openOf 9 = .ok (.istore 4, 2) := by decide +kernel
theorem dX6_openOf_11 : decode cX6_openOf 11 = .ok (.iload 4, 2) := by decide +kernel
theorem dX6_openOf_13 : decode cX6_openOf 13 = .ok (.aload_n 0, 1) := by decide +kernel
theorem dX6_openOf_14 : decode cX6_openOf 14 = .ok (.iload_n 1, 1) := by decide +kernel
theorem dX6_openOf_15 : decode cX6_openOf 15 = .ok (.iconst 4, 1) := by decide +kernel
theorem dX6_openOf_16 : decode cX6_openOf 16 = .ok (.invokevirtual 150, 3) := by decide +kernel
theorem dX6_openOf_19 : decode cX6_openOf 19 = .ok (.if_icmp .ge 34, 3) := by decide +kernel
theorem dX6_openOf_22 : decode cX6_openOf 22 = .ok (.iload_n 3, 1) := by decide +kernel
theorem dX6_openOf_23 : decode cX6_openOf 23 = .ok (.aload_n 0, 1) := by decide +kernel
theorem dX6_openOf_24 : decode cX6_openOf 24 = .ok (.aload_n 0, 1) := by decide +kernel
theorem dX6_openOf_25 : decode cX6_openOf 25 = .ok (.iload_n 1, 1) := by decide +kernel
theorem dX6_openOf_26 : decode cX6_openOf 26 = .ok (.iconst 5, 1) := by decide +kernel
theorem dX6_openOf_27 : decode cX6_openOf 27 = .ok (.iload 4, 2) := by decide +kernel
theorem dX6_openOf_29 : decode cX6_openOf 29 = .ok (.iadd, 1) := by decide +kernel
theorem dX6_openOf_30 : decode cX6_openOf 30 = .ok (.invokevirtual 150, 3) := by decide +kernel
theorem dX6_openOf_33 : decode cX6_openOf 33 = .ok (.iload_n 2, 1) := by decide +kernel
theorem dX6_openOf_34 : decode cX6_openOf 34 = .ok (.invokevirtual 171, 3) := by decide +kernel
theorem dX6_openOf_37 : decode cX6_openOf 37 = .ok (.ifCond .eq 7, 3) := by decide +kernel
theorem dX6_openOf_40 : decode cX6_openOf 40 = .ok (.iconst 1, 1) := by decide +kernel
theorem dX6_openOf_41 : decode cX6_openOf 41 = .ok (.goto 4, 3) := by decide +kernel
theorem dX6_openOf_44 : decode cX6_openOf 44 = .ok (.iconst 0, 1) := by decide +kernel
theorem dX6_openOf_45 : decode cX6_openOf 45 = .ok (.iadd, 1) := by decide +kernel
theorem dX6_openOf_46 : decode cX6_openOf 46 = .ok (.istore_n 3, 1) := by decide +kernel
theorem dX6_openOf_47 : decode cX6_openOf 47 = .ok (.iinc 4 1, 3) := by decide +kernel
theorem dX6_openOf_50 : decode cX6_openOf 50 = .ok (.goto (-39), 3) := by decide +kernel
theorem dX6_openOf_53 : decode cX6_openOf 53 = .ok (.iload_n 3, 1) := by decide +kernel
theorem dX6_openOf_54 : decode cX6_openOf 54 = .ok (.ireturn, 1) := by decide +kernel
theorem w_openOf {l : Launch} {D : va_G} {cI : ClassId} {ad : Nat → Nat} (hI : kInj 15 ad) {st : MSt} {N : Nat} {x1 : Int32} {r : Int32} (h : M_openOf  N st x1 = some r) : mR l yX6_openOf cX6_openOf 5 (some .int) 2 D cI ad st [.int x1] r := by
  refine mm_ofR hI (by decide) rfl (Nat.le_of_ble_eq_true rfl) (fun p e s m below meth c R args ls C hr hlk hP hl hcs => ?_)
  have hx := C.1
  have hb := C.2.1
  have hown := C.2.2.2.1
  have hl : lv_has ls 5 [(0, .ref (ad 0)), (1, .int x1)] := hl
  have L11 : ∀ (x1 : Int32), ∀ (x2 : Int32), ∀ (n : Nat) (x3 : Int32) (x4 : Int32) (z3 : Int32), M_openOf_L11 N st x1 x2 n x3 x4 = some z3 → ∀ ls : Array Slot, lv_has ls 5 [(0, .ref (ad 0)), (1, .int x1), (2, .int x2), (3, .int x3), (4, .int x4)] → (∀ ls : Array Slot, lv_has ls 5 [(3, .int z3)] → mWR p l e R s m args below meth c r (F0 m 53 ls [])) → mWR p l e R s m args below meth c r (F0 m 11 ls []) := by
    intro x1 x2 n
    induction n with
    | zero =>
      intro x3 x4 z3 h
      exact non_some h
    | succ n ih =>
      intro x3 x4 z3 h ls hl kx
      rw [M_openOf_L11] at h
      refine lv_iload hx hb dX6_openOf_11 (lv_at hl 4 rfl) ?_
      refine lv_aload_n hx hb dX6_openOf_13 rfl (lv_at hl 0 rfl) ?_
      refine lv_iload_n hx hb dX6_openOf_14 rfl (lv_at hl 1 rfl) ?_
      refine lv_iconst (v := 4) hx hb dX6_openOf_15 (by decide) ?_
      obtain ⟨v2, hv2, h⟩ := bd1_some h
      refine k_of C hP hv2 (Nat.le_of_ble_eq_true rfl) hl.1 (Nat.le_of_ble_eq_true rfl) hcs dX6_openOf_16 ?_
      refine lv_icmp_ge (tgt := 53) hx hb dX6_openOf_19 rfl (fun c3 => ?_) (fun c3 => ?_)
      · have h := if_some_t h c3
        cases h
        exact kx ls (lv_sub hl [3] rfl)
      · have h := if_some_f h c3
        refine lv_iload_n hx hb dX6_openOf_22 rfl (lv_at hl 3 rfl) ?_
        refine lv_aload_n hx hb dX6_openOf_23 rfl (lv_at hl 0 rfl) ?_
        refine lv_aload_n hx hb dX6_openOf_24 rfl (lv_at hl 0 rfl) ?_
        refine lv_iload_n hx hb dX6_openOf_25 rfl (lv_at hl 1 rfl) ?_
        refine lv_iconst (v := 5) hx hb dX6_openOf_26 (by decide) ?_
        refine lv_iload hx hb dX6_openOf_27 (lv_at hl 4 rfl) ?_
        refine lv_iadd hx hb dX6_openOf_29 ?_
        obtain ⟨v4, hv4, h⟩ := bd1_some h
        refine k_of C hP hv4 (Nat.le_of_ble_eq_true rfl) hl.1 (Nat.le_of_ble_eq_true rfl) hcs dX6_openOf_30 ?_
        refine lv_iload_n hx hb dX6_openOf_33 rfl (lv_at hl 2 rfl) ?_
        obtain ⟨v5, hv5, h⟩ := bd1_some h
        refine k_isOpen C hP hv5 (Nat.le_of_ble_eq_true rfl) hl.1 (Nat.le_of_ble_eq_true rfl) hcs dX6_openOf_34 ?_
        refine lv_if_eq (tgt := 44) hx hb dX6_openOf_37 rfl (fun c6 => ?_) (fun c6 => ?_)
        · have h := if_some_t h c6
          refine lv_iconst (v := 0) hx hb dX6_openOf_44 (by decide) ?_
          refine lv_iadd hx hb dX6_openOf_45 ?_
          refine lv_istore_n (lv' := [(3, .int (x3 + 0)), (0, .ref (ad 0)), (1, .int x1), (2, .int x2), (4, .int x4)]) hx hb dX6_openOf_46 rfl hl (by decide) rfl (fun ls hl => ?_)
          refine lv_iinc (v := x4 + 1) (lv' := [(4, .int (x4 + 1)), (3, .int (x3 + 0)), (0, .ref (ad 0)), (1, .int x1), (2, .int x2)]) hx hb dX6_openOf_47 hl (k := 4) rfl rfl (by decide) rfl (fun ls hl => ?_)
          refine lv_goto (tgt := 11) hx hb dX6_openOf_50 rfl ?_
          exact ih (x3 + 0) (x4 + 1) _ h ls (lv_sub hl [2, 3, 4, 1, 0] rfl) kx
        · have h := if_some_f h c6
          refine lv_iconst (v := 1) hx hb dX6_openOf_40 (by decide) ?_
          refine lv_goto (tgt := 45) hx hb dX6_openOf_41 rfl ?_
          refine lv_iadd hx hb dX6_openOf_45 ?_
          refine lv_istore_n (lv' := [(3, .int (x3 + 1)), (0, .ref (ad 0)), (1, .int x1), (2, .int x2), (4, .int x4)]) hx hb dX6_openOf_46 rfl hl (by decide) rfl (fun ls hl => ?_)
          refine lv_iinc (v := x4 + 1) (lv' := [(4, .int (x4 + 1)), (3, .int (x3 + 1)), (0, .ref (ad 0)), (1, .int x1), (2, .int x2)]) hx hb dX6_openOf_47 hl (k := 4) rfl rfl (by decide) rfl (fun ls hl => ?_)
          refine lv_goto (tgt := 11) hx hb dX6_openOf_50 rfl ?_
          exact ih (x3 + 1) (x4 + 1) _ h ls (lv_sub hl [2, 3, 4, 1, 0] rfl) kx
  rw [M_openOf] at h
  refine lv_aload_n hx hb dX6_openOf_0 rfl (lv_at hl 0 rfl) ?_
  refine lv_iload_n hx hb dX6_openOf_1 rfl (lv_at hl 1 rfl) ?_
  obtain ⟨v1, hv1, h⟩ := bd1_some h
  refine k_bookOf C hP hv1 (Nat.le_of_ble_eq_true rfl) hl.1 (Nat.le_of_ble_eq_true rfl) hcs dX6_openOf_2 ?_
  refine lv_istore_n (lv' := [(2, .int v1), (0, .ref (ad 0)), (1, .int x1)]) hx hb dX6_openOf_5 rfl hl (by decide) rfl (fun ls hl => ?_)
  refine lv_iconst (v := 0) hx hb dX6_openOf_6 (by decide) ?_
  refine lv_istore_n (lv' := [(3, .int 0), (2, .int v1), (0, .ref (ad 0)), (1, .int x1)]) hx hb dX6_openOf_7 rfl hl (by decide) rfl (fun ls hl => ?_)
  refine lv_iconst (v := 0) hx hb dX6_openOf_8 (by decide) ?_
  refine lv_istore (lv' := [(4, .int 0), (3, .int 0), (2, .int v1), (0, .ref (ad 0)), (1, .int x1)]) hx hb dX6_openOf_9 hl (by decide) rfl (fun ls hl => ?_)
  obtain ⟨z7, hz8, h⟩ := bd1_some h
  refine L11 x1 v1 N 0 0 _ hz8 ls (lv_sub hl [3, 4, 2, 1, 0] rfl) (fun ls hl => ?_)
  refine lv_iload_n hx hb dX6_openOf_53 rfl (lv_at hl 0 rfl) ?_
  exact mm_iret hx hb hr hlk h dX6_openOf_54
theorem q1741 : (Jvm.Cond.methodLink "ChapterLoanModel" (191 : Nat) ({ cls := "ChapterLoanModel", name := "openOf", desc := "(I)I" } : Jvm.MethodName)) ∈ lw_all := lw_g (lw_at lw_m7 217 rfl) rfl
theorem q1744 : (Jvm.Cond.code ({ cls := "ChapterLoanModel", name := "openOf", desc := "(I)I" } : Jvm.MethodName) prog_30_method_41_code (5 : Nat) (Option.some Jvm.ClassFile.FieldType.int)) ∈ lw_all := lw_g (lw_at lw_m7 220 rfl) rfl
theorem q1743 : (Jvm.Cond.instanceMethod ({ cls := "ChapterLoanModel", name := "openOf", desc := "(I)I" } : Jvm.MethodName)) ∈ lw_all := lw_g (lw_at lw_m7 219 rfl) rfl
theorem k_openOf {N : Nat} {a0 : Int32} {v : Int32} (C : mC p R d s m args c cc nL D cI ad) (hP : mW D cI ad st H) (h : M_openOf N st a0 = some v) (hd : 2 + 1 ≤ d) (hsz : ls.size = nL) (hW : (rest.map fun v => v.category).sum ≤ 8) (hcs : cells ≤ R.cells ∧ slots ≤ R.slots) (hdg : decode cc pc = .ok (.invokevirtual 191, 3)) (kk : W p l e R s m args below meth c H locs cells slots Q (F0 m (pc + 3) ls (.int v :: rest))) : W p l e R s m args below meth c H locs cells slots Q (F0 m pc ls (.int a0 :: .ref (ad 0) :: rest)) :=
  mm_cR (As := [.int a0]) C hP (w_openOf C.2.2.2.2.2.2.1 h) (cwV 1 C.2.2.2.2.1 (lw_V q1741 q1743 qs53 q94 q1744) rfl rfl rfl (by decide +kernel) (mr_ C.2.2.2.2.2.2.2 hd (by decide))) rfl hsz rfl hW hdg hcs kk
abbrev cX6_ones : ByteArray := prog_30_method_12_code
def yX6_ones : MethodName := ⟨RX6, "ones", "(I)I"⟩
theorem dX6_ones_0 : decode cX6_ones 0 = .ok (.iconst 0, 1) := by decide +kernel
theorem dX6_ones_1 : decode cX6_ones 1 = .ok (.istore_n 1, 1) := by decide +kernel
theorem dX6_ones_2 : decode cX6_ones 2 = .ok (.iconst 0, 1) := by decide +kernel
theorem dX6_ones_3 : decode cX6_ones 3 = .ok (.istore_n 2, 1) := by decide +kernel
theorem dX6_ones_4 : decode cX6_ones 4 = .ok (.iload_n 2, 1) := by decide +kernel
theorem dX6_ones_5 : decode cX6_ones 5 = .ok (.bipush 8, 2) := by decide +kernel
theorem dX6_ones_7 : decode cX6_ones 7 = .ok (.if_icmp .ge 17, 3) := by decide +kernel
theorem dX6_ones_10 : decode cX6_ones 10 = .ok (.iload_n 1, 1) := by decide +kernel
theorem dX6_ones_11 : decode cX6_ones 11 = .ok (.iload_n 0, 1) := by decide +kernel
theorem dX6_ones_12 : decode cX6_ones 12 = .ok (.iload_n 2, 1) := by decide +kernel
theorem dX6_ones_13 : decode cX6_ones 13 = .ok (.ishr, 1) := by decide +kernel
theorem dX6_ones_14 : decode cX6_ones 14 = .ok (.iconst 1, 1) := by decide +kernel
theorem dX6_ones_15 : decode cX6_ones 15 = .ok (.iand, 1) := by decide +kernel
theorem dX6_ones_16 : decode cX6_ones 16 = .ok (.iadd, 1) := by decide +kernel
theorem dX6_ones_17 : decode cX6_ones 17 = .ok (.istore_n 1, 1) := by decide +kernel
theorem dX6_ones_18 : decode cX6_ones 18 = .ok (.iinc 2 1, 3) := by decide +kernel
theorem dX6_ones_21 : decode cX6_ones 21 = .ok (.goto (-17), 3) := by decide +kernel
theorem dX6_ones_24 : decode cX6_ones 24 = .ok (.iload_n 1, 1) := by decide +kernel
theorem dX6_ones_25 : decode cX6_ones 25 = .ok (.ireturn, 1) := by decide +kernel
theorem w_ones {l : Launch} {N : Nat} {x0 : Int32} {r : Int32} (h : M_ones  N x0 = some r) : mS l yX6_ones cX6_ones 3 (some .int) 0 [.int x0] r := by
  refine mm_ofS (by decide) (Nat.le_of_ble_eq_true rfl) (fun p e s m below meth c R args ls C hr hlk hl hcs => ?_)
  have hx := C.1
  have hb := C.2.1
  have hown := C.2.2.2.1
  have hl : lv_has ls 3 [(0, .int x0)] := hl
  have L4 : ∀ (x0 : Int32), ∀ (n : Nat) (x1 : Int32) (x2 : Int32) (z1 : Int32), M_ones_L4 N x0 n x1 x2 = some z1 → ∀ ls : Array Slot, lv_has ls 3 [(0, .int x0), (1, .int x1), (2, .int x2)] → (∀ ls : Array Slot, lv_has ls 3 [(1, .int z1)] → mWR p l e R s m args below meth c r (F0 m 24 ls [])) → mWR p l e R s m args below meth c r (F0 m 4 ls []) := by
    intro x0 n
    induction n with
    | zero =>
      intro x1 x2 z1 h
      exact non_some h
    | succ n ih =>
      intro x1 x2 z1 h ls hl kx
      rw [M_ones_L4] at h
      refine lv_iload_n hx hb dX6_ones_4 rfl (lv_at hl 2 rfl) ?_
      refine lv_bipush (v := 8) hx hb dX6_ones_5 (by decide) ?_
      refine lv_icmp_ge (tgt := 24) hx hb dX6_ones_7 rfl (fun c1 => ?_) (fun c1 => ?_)
      · have h := if_some_t h c1
        cases h
        exact kx ls (lv_sub hl [1] rfl)
      · have h := if_some_f h c1
        refine lv_iload_n hx hb dX6_ones_10 rfl (lv_at hl 1 rfl) ?_
        refine lv_iload_n hx hb dX6_ones_11 rfl (lv_at hl 0 rfl) ?_
        refine lv_iload_n hx hb dX6_ones_12 rfl (lv_at hl 2 rfl) ?_
        refine lv_ishr hx hb dX6_ones_13 ?_
        refine lv_iconst (v := 1) hx hb dX6_ones_14 (by decide) ?_
        refine lv_iand hx hb dX6_ones_15 ?_
        refine lv_iadd hx hb dX6_ones_16 ?_
        refine lv_istore_n (lv' := [(1, .int (x1 + ((x0 >>> (x2 &&& 31)) &&& 1))), (0, .int x0), (2, .int x2)]) hx hb dX6_ones_17 rfl hl (by decide) rfl (fun ls hl => ?_)
        refine lv_iinc (v := x2 + 1) (lv' := [(2, .int (x2 + 1)), (1, .int (x1 + ((x0 >>> (x2 &&& 31)) &&& 1))), (0, .int x0)]) hx hb dX6_ones_18 hl (k := 2) rfl rfl (by decide) rfl (fun ls hl => ?_)
        refine lv_goto (tgt := 4) hx hb dX6_ones_21 rfl ?_
        exact ih (x1 + ((x0 >>> (x2 &&& 31)) &&& 1)) (x2 + 1) _ h ls (lv_sub hl [2, 1, 0] rfl) kx
  rw [M_ones] at h
  refine lv_iconst (v := 0) hx hb dX6_ones_0 (by decide) ?_
  refine lv_istore_n (lv' := [(1, .int 0), (0, .int x0)]) hx hb dX6_ones_1 rfl hl (by decide) rfl (fun ls hl => ?_)
  refine lv_iconst (v := 0) hx hb dX6_ones_2 (by decide) ?_
  refine lv_istore_n (lv' := [(2, .int 0), (1, .int 0), (0, .int x0)]) hx hb dX6_ones_3 rfl hl (by decide) rfl (fun ls hl => ?_)
  obtain ⟨z2, hz3, h⟩ := bd1_some h
  refine L4 x0 N 0 0 _ hz3 ls (lv_sub hl [2, 1, 0] rfl) (fun ls hl => ?_)
  refine lv_iload_n hx hb dX6_ones_24 rfl (lv_at hl 0 rfl) ?_
  exact mm_iret hx hb hr hlk h dX6_ones_25
theorem q1757 : (Jvm.Cond.methodLink "ChapterLoanModel" (161 : Nat) ({ cls := "ChapterLoanModel", name := "ones", desc := "(I)I" } : Jvm.MethodName)) ∈ lw_all := lw_g (lw_at lw_m7 233 rfl) rfl
theorem q1759 : (Jvm.Cond.code ({ cls := "ChapterLoanModel", name := "ones", desc := "(I)I" } : Jvm.MethodName) prog_30_method_12_code (3 : Nat) (Option.some Jvm.ClassFile.FieldType.int)) ∈ lw_all := lw_g (lw_at lw_m7 235 rfl) rfl
theorem q1758 : (Jvm.Cond.static ({ cls := "ChapterLoanModel", name := "ones", desc := "(I)I" } : Jvm.MethodName)) ∈ lw_all := lw_g (lw_at lw_m7 234 rfl) rfl
theorem k_ones {N : Nat} {a0 : Int32} {v : Int32} (hx : p.tables.exec = Jvm.exec) (hb : c.code = cc) (hml : c.maxLocals = nL) (hown : s.vm.findClass RX6 = some m.cls) (hts : ∀ w ∈ lw_all, w.before args s = true) (hR : d ≤ R.frames ∧ 40 * d ≤ R.locals) (h : M_ones N a0 = some v) (hd : 0 + 1 ≤ d) (hsz : ls.size = nL) (hW : (rest.map fun v => v.category).sum ≤ 8) (hcs : cells ≤ R.cells ∧ slots ≤ R.slots) (hdg : decode cc pc = .ok (.invokestatic 161, 3)) (kk : W p l e R s m args below meth c H locs cells slots Q (F0 m (pc + 3) ls (.int v :: rest))) : W p l e R s m args below meth c H locs cells slots Q (F0 m pc ls (.int a0 :: rest)) :=
  W.callR (W.runS (As := [.int a0]) (rest := rest) ⟨hx, hb, hml, hown, hts⟩ (w_ones h) (va_cwS 1 hts (lw_S q1757 q1758 q94 q1759) rfl rfl rfl (by decide +kernel) (mr_ hR hd (by decide))) preEq rfl rfl hsz rfl (lv_room hW) hdg hcs) kk
abbrev cX6_mayTell : ByteArray := prog_30_method_36_code
def yX6_mayTell : MethodName := ⟨RX6, "mayTell", "(II)Z"⟩
theorem dX6_mayTell_0 : decode cX6_mayTell 0 = .ok (.aload_n 0, 1) := by decide +kernel
theorem dX6_mayTell_1 : decode cX6_mayTell 1 = .ok (.iload_n 1, 1) := by decide +kernel
theorem dX6_mayTell_2 : decode cX6_mayTell 2 = .ok (.invokevirtual 153, 3) := by decide +kernel
theorem dX6_mayTell_5 : decode cX6_mayTell 5 = .ok (.istore_n 3, 1) := by decide +kernel
theorem dX6_mayTell_6 : decode cX6_mayTell 6 = .ok (.iload_n 3, 1) := by decide +kernel
theorem dX6_mayTell_7 : decode cX6_mayTell 7 = .ok (.iload_n 2, 1) := by decide +kernel
theorem dX6_mayTell_8 : decode cX6_mayTell 8 = .ok (.ishr, 1) := by decide +kernel
theorem dX6_mayTell_9 : decode cX6_mayTell 9 = .ok (.iconst 1, 1) := by decide +kernel
theorem dX6_mayTell_10 : decode cX6_mayTell 10 = .ok (.iand, 1) := by decide +kernel
theorem dX6_mayTell_11 : decode cX6_mayTell 11 = .ok (.iconst 1, 1) := by decide +kernel
theorem dX6_mayTell_12 : decode cX6_mayTell 12 = .ok (.if_icmp .ne 5, 3) := by decide +kernel
theorem dX6_mayTell_15 : decode cX6_mayTell 15 = .ok (.iconst 0, 1) := by decide +kernel
theorem dX6_mayTell_16 : decode cX6_mayTell 16 = .ok (.ireturn, 1) := by decide +kernel
theorem dX6_mayTell_17 : decode cX6_mayTell 17 = .ok (.aload_n 0, 1) := by decide +kernel
theorem dX6_mayTell_18 : decode cX6_mayTell 18 = .ok (.iload_n 2, 1) := by decide +kernel
theorem dX6_mayTell_19 : decode cX6_mayTell 19 = .ok (.iconst 0, 1) := by decide +kernel
theorem dX6_mayTell_20 : decode cX6_mayTell 20 = .ok (.invokevirtual 144, 3) := by decide +kernel
theorem dX6_mayTell_23 : decode cX6_mayTell 23 = .ok (.iload_n 3, 1) := by decide +kernel
theorem dX6_mayTell_24 : decode cX6_mayTell 24 = .ok (.iconst (-1), 1) := by decide +kernel
theorem dX6_mayTell_25 : decode cX6_mayTell 25 = .ok (.ixor, 1) := by decide +kernel
theorem dX6_mayTell_26 : decode cX6_mayTell 26 = .ok (.iand, 1) := by decide +kernel
theorem dX6_mayTell_27 : decode cX6_mayTell 27 = .ok (.invokestatic 161, 3) := by decide +kernel
theorem dX6_mayTell_30 : decode cX6_mayTell 30 = .ok (.istore 4, 2) := by decide +kernel
theorem dX6_mayTell_32 : decode cX6_mayTell 32 = .ok (.aload_n 0, 1) := by decide +kernel
theorem dX6_mayTell_33 : decode cX6_mayTell 33 = .ok (.iload_n 2, 1) := by decide +kernel
theorem dX6_mayTell_34 : decode cX6_mayTell 34 = .ok (.iconst 1, 1) := by decide +kernel
theorem dX6_mayTell_35 : decode cX6_mayTell 35 = .ok (.invokevirtual 144, 3) := by decide +kernel
theorem dX6_mayTell_38 : decode cX6_mayTell 38 = .ok (.iload_n 3, 1) := by decide +kernel
theorem dX6_mayTell_39 : decode cX6_mayTell 39 = .ok (.iand, 1) := by decide +kernel
theorem dX6_mayTell_40 : decode cX6_mayTell 40 = .ok (.ifCond .ne 7, 3) := by decide +kernel
theorem dX6_mayTell_43 : decode cX6_mayTell 43 = .ok (.iconst 1, 1) := by decide +kernel
theorem dX6_mayTell_44 : decode cX6_mayTell 44 = .ok (.goto 4, 3) := by decide +kernel
theorem dX6_mayTell_47 : decode cX6_mayTell 47 = .ok (.iconst 0, 1) := by decide +kernel
theorem dX6_mayTell_48 : decode cX6_mayTell 48 = .ok (.istore 5, 2) := by decide +kernel
theorem dX6_mayTell_50 : decode cX6_mayTell 50 = .ok (.aload_n 0, 1) := by decide +kernel
theorem dX6_mayTell_51 : decode cX6_mayTell 51 = .ok (.iload_n 1, 1) := by decide +kernel
theorem dX6_mayTell_52 : decode cX6_mayTell 52 = .ok (.iconst 1, 1) := by decide +kernel
theorem dX6_mayTell_53 : decode cX6_mayTell 53 = .ok (.invokevirtual 150, 3) := by decide +kernel
theorem dX6_mayTell_56 : decode cX6_mayTell 56 = .ok (.istore 6, 2) := by decide +kernel
theorem dX6_mayTell_58 : decode cX6_mayTell 58 = .ok (.aload_n 0, 1) := by decide +kernel
theorem dX6_mayTell_59 : decode cX6_mayTell 59 = .ok (.iload_n 1, 1) := by decide +kernel
theorem dX6_mayTell_60 : decode cX6_mayTell 60 = .ok (.iconst 0, 1) := by decide +kernel
theorem dX6_mayTell_61 : decode cX6_mayTell 61 = .ok (.invokevirtual 150, 3) := by decide +kernel
theorem dX6_mayTell_64 : decode cX6_mayTell 64 = .ok (.tableswitch 145 1 6 #[40, 64, 110, 40, 84, 121], 40) := by decide +kernel
theorem dX6_mayTell_104 : decode cX6_mayTell 104 = .ok (.iload 5, 2) := by decide +kernel
theorem dX6_mayTell_106 : decode cX6_mayTell 106 = .ok (.ifCond .eq 20, 3) := by decide +kernel
theorem dX6_mayTell_109 : decode cX6_mayTell 109 = .ok (.iload 4, 2) := by decide +kernel
theorem dX6_mayTell_111 : decode cX6_mayTell 111 = .ok (.ifCond .eq 11, 3) := by decide +kernel
theorem dX6_mayTell_114 : decode cX6_mayTell 114 = .ok (.aload_n 0, 1) := by decide +kernel
theorem dX6_mayTell_115 : decode cX6_mayTell 115 = .ok (.iload_n 2, 1) := by decide +kernel
theorem dX6_mayTell_116 : decode cX6_mayTell 116 = .ok (.invokevirtual 158, 3) := by decide +kernel
theorem dX6_mayTell_119 : decode cX6_mayTell 119 = .ok (.ifCond .le 7, 3) := by decide +kernel
theorem dX6_mayTell_122 : decode cX6_mayTell 122 = .ok (.iconst 1, 1) := by decide +kernel
theorem dX6_mayTell_123 : decode cX6_mayTell 123 = .ok (.goto 4, 3) := by decide +kernel
theorem dX6_mayTell_126 : decode cX6_mayTell 126 = .ok (.iconst 0, 1) := by decide +kernel
theorem dX6_mayTell_127 : decode cX6_mayTell 127 = .ok (.ireturn, 1) := by decide +kernel
theorem dX6_mayTell_128 : decode cX6_mayTell 128 = .ok (.iload 5, 2) := by decide +kernel
theorem dX6_mayTell_130 : decode cX6_mayTell 130 = .ok (.ifCond .eq 16, 3) := by decide +kernel
theorem dX6_mayTell_133 : decode cX6_mayTell 133 = .ok (.iload 4, 2) := by decide +kernel
theorem dX6_mayTell_135 : decode cX6_mayTell 135 = .ok (.iload 6, 2) := by decide +kernel
theorem dX6_mayTell_137 : decode cX6_mayTell 137 = .ok (.iconst 3, 1) := by decide +kernel
theorem dX6_mayTell_138 : decode cX6_mayTell 138 = .ok (.irem, 1) := by decide +kernel
theorem dX6_mayTell_139 : decode cX6_mayTell 139 = .ok (.if_icmp .gt 7, 3) := by decide +kernel
theorem dX6_mayTell_142 : decode cX6_mayTell 142 = .ok (.iconst 1, 1) := by decide +kernel
theorem dX6_mayTell_143 : decode cX6_mayTell 143 = .ok (.goto 4, 3) := by decide +kernel
theorem dX6_mayTell_146 : decode cX6_mayTell 146 = .ok (.iconst 0, 1) := by decide +kernel
theorem dX6_mayTell_147 : decode cX6_mayTell 147 = .ok (.ireturn, 1) := by decide +kernel
theorem dX6_mayTell_148 : decode cX6_mayTell 148 = .ok (.iload 5, 2) := by decide +kernel
theorem dX6_mayTell_150 : decode cX6_mayTell 150 = .ok (.ifCond .eq 22, 3) := by decide +kernel
theorem dX6_mayTell_153 : decode cX6_mayTell 153 = .ok (.iload 4, 2) := by decide +kernel
theorem dX6_mayTell_155 : decode cX6_mayTell 155 = .ok (.iload 6, 2) := by decide +kernel
theorem dX6_mayTell_157 : decode cX6_mayTell 157 = .ok (.iconst 3, 1) := by decide +kernel
theorem dX6_mayTell_158 : decode cX6_mayTell 158 = .ok (.irem, 1) := by decide +kernel
theorem dX6_mayTell_159 : decode cX6_mayTell 159 = .ok (.if_icmp .gt 13, 3) := by decide +kernel
theorem dX6_mayTell_162 : decode cX6_mayTell 162 = .ok (.iload_n 2, 1) := by decide +kernel
theorem dX6_mayTell_163 : decode cX6_mayTell 163 = .ok (.iload 6, 2) := by decide +kernel
theorem dX6_mayTell_165 : decode cX6_mayTell 165 = .ok (.if_icmp .eq 7, 3) := by decide +kernel
theorem dX6_mayTell_168 : decode cX6_mayTell 168 = .ok (.iconst 1, 1) := by decide +kernel
theorem dX6_mayTell_169 : decode cX6_mayTell 169 = .ok (.goto 4, 3) := by decide +kernel
theorem dX6_mayTell_172 : decode cX6_mayTell 172 = .ok (.iconst 0, 1) := by decide +kernel
theorem dX6_mayTell_173 : decode cX6_mayTell 173 = .ok (.ireturn, 1) := by decide +kernel
theorem dX6_mayTell_174 : decode cX6_mayTell 174 = .ok (.iload 4, 2) := by decide +kernel
theorem dX6_mayTell_176 : decode cX6_mayTell 176 = .ok (.ifCond .ne 7, 3) := by decide +kernel
theorem dX6_mayTell_179 : decode cX6_mayTell 179 = .ok (.iconst 1, 1) := by decide +kernel
theorem dX6_mayTell_180 : decode cX6_mayTell 180 = .ok (.goto 4, 3) := by decide +kernel
theorem dX6_mayTell_183 : decode cX6_mayTell 183 = .ok (.iconst 0, 1) := by decide +kernel
theorem dX6_mayTell_184 : decode cX6_mayTell 184 = .ok (.ireturn, 1) := by decide +kernel
theorem dX6_mayTell_185 : decode cX6_mayTell 185 = .ok (.iload 4, 2) := by decide +kernel
theorem dX6_mayTell_187 : decode cX6_mayTell 187 = .ok (.ifCond .ne 20, 3) := by decide +kernel
theorem dX6_mayTell_190 : decode cX6_mayTell 190 = .ok (.iload 5, 2) := by decide +kernel
theorem dX6_mayTell_192 : decode cX6_mayTell 192 = .ok (.ifCond .ne 11, 3) := by decide +kernel
theorem dX6_mayTell_195 : decode cX6_mayTell 195 = .ok (.iload 6, 2) := by decide +kernel
theorem dX6_mayTell_197 : decode cX6_mayTell 197 = .ok (.iconst 2, 1) := by decide +kernel
theorem dX6_mayTell_198 : decode cX6_mayTell 198 = .ok (.irem, 1) := by decide +kernel
theorem dX6_mayTell_199 : decode cX6_mayTell 199 = .ok (.iconst 1, 1) := by decide +kernel
theorem dX6_mayTell_200 : decode cX6_mayTell 200 = .ok (.if_icmp .ne 7, 3) := by decide +kernel
theorem dX6_mayTell_203 : decode cX6_mayTell 203 = .ok (.iconst 1, 1) := by decide +kernel
theorem dX6_mayTell_204 : decode cX6_mayTell 204 = .ok (.goto 4, 3) := by decide +kernel
theorem dX6_mayTell_207 : decode cX6_mayTell 207 = .ok (.iconst 0, 1) := by decide +kernel
theorem dX6_mayTell_208 : decode cX6_mayTell 208 = .ok (.ireturn, 1) := by decide +kernel
theorem dX6_mayTell_209 : decode cX6_mayTell 209 = .ok (.iload 5, 2) := by decide +kernel
theorem dX6_mayTell_211 : decode cX6_mayTell 211 = .ok (.ifCond .eq 12, 3) := by decide +kernel
theorem dX6_mayTell_214 : decode cX6_mayTell 214 = .ok (.iload 4, 2) := by decide +kernel
theorem dX6_mayTell_216 : decode cX6_mayTell 216 = .ok (.ifCond .ne 7, 3) := by decide +kernel
theorem dX6_mayTell_219 : decode cX6_mayTell 219 = .ok (.iconst 1, 1) := by decide +kernel
theorem dX6_mayTell_220 : decode cX6_mayTell 220 = .ok (.goto 4, 3) := by decide +kernel
theorem dX6_mayTell_223 : decode cX6_mayTell 223 = .ok (.iconst 0, 1) := by decide +kernel
theorem dX6_mayTell_224 : decode cX6_mayTell 224 = .ok (.ireturn, 1) := by decide +kernel
theorem w_mayTell {l : Launch} {D : va_G} {cI : ClassId} {ad : Nat → Nat} (hI : kInj 15 ad) {st : MSt} {N : Nat} {x1 : Int32} {x2 : Int32} {r : Int32} (h : M_mayTell  N st x1 x2 = some r) : mR l yX6_mayTell cX6_mayTell 7 (some .boolean) 3 D cI ad st [.int x1, .int x2] r := by
  refine mm_ofR hI (by decide) rfl (Nat.le_of_ble_eq_true rfl) (fun p e s m below meth c R args ls C hr hlk hP hl hcs => ?_)
  have hx := C.1
  have hb := C.2.1
  have hown := C.2.2.2.1
  have hl : lv_has ls 7 [(0, .ref (ad 0)), (1, .int x1), (2, .int x2)] := hl
  rw [M_mayTell] at h
  refine lv_aload_n hx hb dX6_mayTell_0 rfl (lv_at hl 0 rfl) ?_
  refine lv_iload_n hx hb dX6_mayTell_1 rfl (lv_at hl 1 rfl) ?_
  obtain ⟨v1, hv1, h⟩ := bd1_some h
  refine k_bookOf C hP hv1 (Nat.le_of_ble_eq_true rfl) hl.1 (Nat.le_of_ble_eq_true rfl) hcs dX6_mayTell_2 ?_
  refine lv_istore_n (lv' := [(3, .int v1), (0, .ref (ad 0)), (1, .int x1), (2, .int x2)]) hx hb dX6_mayTell_5 rfl hl (by decide) rfl (fun ls hl => ?_)
  refine lv_iload_n hx hb dX6_mayTell_6 rfl (lv_at hl 0 rfl) ?_
  refine lv_iload_n hx hb dX6_mayTell_7 rfl (lv_at hl 3 rfl) ?_
  refine lv_ishr hx hb dX6_mayTell_8 ?_
  refine lv_iconst (v := 1) hx hb dX6_mayTell_9 (by decide) ?_
  refine lv_iand hx hb dX6_mayTell_10 ?_
  refine lv_iconst (v := 1) hx hb dX6_mayTell_11 (by decide) ?_
  refine lv_icmp_ne (tgt := 17) hx hb dX6_mayTell_12 rfl (fun c2 => ?_) (fun c2 => ?_)
  · have h := if_some_f h c2
    refine lv_aload_n hx hb dX6_mayTell_17 rfl (lv_at hl 1 rfl) ?_
    refine lv_iload_n hx hb dX6_mayTell_18 rfl (lv_at hl 3 rfl) ?_
    refine lv_iconst (v := 0) hx hb dX6_mayTell_19 (by decide) ?_
    obtain ⟨v3, hv3, h⟩ := bd1_some h
    refine k_its C hP hv3 (Nat.le_of_ble_eq_true rfl) hl.1 (Nat.le_of_ble_eq_true rfl) hcs dX6_mayTell_20 ?_
    refine lv_iload_n hx hb dX6_mayTell_23 rfl (lv_at hl 0 rfl) ?_
    refine lv_iconst (v := (-1)) hx hb dX6_mayTell_24 (by decide) ?_
    refine lv_ixor hx hb dX6_mayTell_25 ?_
    refine lv_iand hx hb dX6_mayTell_26 ?_
    obtain ⟨v4, hv4, h⟩ := bd1_some h
    refine k_ones hx hb C.2.2.1 hown C.2.2.2.2.1 C.2.2.2.2.2.2.2 hv4 (Nat.le_of_ble_eq_true rfl) hl.1 (Nat.le_of_ble_eq_true rfl) hcs dX6_mayTell_27 ?_
    refine lv_istore (lv' := [(4, .int v4), (3, .int v1), (0, .ref (ad 0)), (1, .int x1), (2, .int x2)]) hx hb dX6_mayTell_30 hl (by decide) rfl (fun ls hl => ?_)
    refine lv_aload_n hx hb dX6_mayTell_32 rfl (lv_at hl 2 rfl) ?_
    refine lv_iload_n hx hb dX6_mayTell_33 rfl (lv_at hl 4 rfl) ?_
    refine lv_iconst (v := 1) hx hb dX6_mayTell_34 (by decide) ?_
    obtain ⟨v5, hv5, h⟩ := bd1_some h
    refine k_its C hP hv5 (Nat.le_of_ble_eq_true rfl) hl.1 (Nat.le_of_ble_eq_true rfl) hcs dX6_mayTell_35 ?_
    refine lv_iload_n hx hb dX6_mayTell_38 rfl (lv_at hl 1 rfl) ?_
    refine lv_iand hx hb dX6_mayTell_39 ?_
    refine lv_if_ne (tgt := 47) hx hb dX6_mayTell_40 rfl (fun c6 => ?_) (fun c6 => ?_)
    · have h := if_some_f h c6
      refine lv_iconst (v := 0) hx hb dX6_mayTell_47 (by decide) ?_
      refine lv_istore (lv' := [(5, .int 0), (4, .int v4), (3, .int v1), (0, .ref (ad 0)), (1, .int x1), (2, .int x2)]) hx hb dX6_mayTell_48 hl (by decide) rfl (fun ls hl => ?_)
      refine lv_aload_n hx hb dX6_mayTell_50 rfl (lv_at hl 3 rfl) ?_
      refine lv_iload_n hx hb dX6_mayTell_51 rfl (lv_at hl 4 rfl) ?_
      refine lv_iconst (v := 1) hx hb dX6_mayTell_52 (by decide) ?_
      obtain ⟨v7, hv7, h⟩ := bd1_some h
      refine k_of C hP hv7 (Nat.le_of_ble_eq_true rfl) hl.1 (Nat.le_of_ble_eq_true rfl) hcs dX6_mayTell_53 ?_
      refine lv_istore (lv' := [(6, .int v7), (5, .int 0), (4, .int v4), (3, .int v1), (0, .ref (ad 0)), (1, .int x1), (2, .int x2)]) hx hb dX6_mayTell_56 hl (by decide) rfl (fun ls hl => ?_)
      refine lv_aload_n hx hb dX6_mayTell_58 rfl (lv_at hl 4 rfl) ?_
      refine lv_iload_n hx hb dX6_mayTell_59 rfl (lv_at hl 5 rfl) ?_
      refine lv_iconst (v := 0) hx hb dX6_mayTell_60 (by decide) ?_
      obtain ⟨v8, hv8, h⟩ := bd1_some h
      refine k_of C hP hv8 (Nat.le_of_ble_eq_true rfl) hl.1 (Nat.le_of_ble_eq_true rfl) hcs dX6_mayTell_61 ?_
      by_cases c9 : v8 = 1
      · have h := if_some_t h c9
        refine lv_tableIn (tgt := 104) hx hb dX6_mayTell_64 (by rw [c9]; decide) (by rw [c9]; decide) (by rw [c9]; rfl) (by decide) ?_
        refine lv_iload hx hb dX6_mayTell_104 (lv_at hl 1 rfl) ?_
        refine lv_if_eq (tgt := 126) hx hb dX6_mayTell_106 rfl (fun _ => ?_) (fun c => absurd c (by decide))
        refine lv_iconst (v := 0) hx hb dX6_mayTell_126 (by decide) ?_
        exact mm_zret hx hb hr hlk rfl h dX6_mayTell_127
      · have h := if_some_f h c9
        by_cases c10 : v8 = 2
        · have h := if_some_t h c10
          refine lv_tableIn (tgt := 128) hx hb dX6_mayTell_64 (by rw [c10]; decide) (by rw [c10]; decide) (by rw [c10]; rfl) (by decide) ?_
          refine lv_iload hx hb dX6_mayTell_128 (lv_at hl 1 rfl) ?_
          refine lv_if_eq (tgt := 146) hx hb dX6_mayTell_130 rfl (fun _ => ?_) (fun c => absurd c (by decide))
          refine lv_iconst (v := 0) hx hb dX6_mayTell_146 (by decide) ?_
          exact mm_zret hx hb hr hlk rfl h dX6_mayTell_147
        · have h := if_some_f h c10
          by_cases c11 : v8 = 3
          · have h := if_some_t h c11
            refine lv_tableIn (tgt := 174) hx hb dX6_mayTell_64 (by rw [c11]; decide) (by rw [c11]; decide) (by rw [c11]; rfl) (by decide) ?_
            refine lv_iload hx hb dX6_mayTell_174 (lv_at hl 2 rfl) ?_
            refine lv_if_ne (tgt := 183) hx hb dX6_mayTell_176 rfl (fun c12 => ?_) (fun c12 => ?_)
            · have h := if_some_f h c12
              refine lv_iconst (v := 0) hx hb dX6_mayTell_183 (by decide) ?_
              exact mm_zret hx hb hr hlk rfl h dX6_mayTell_184
            · have h := if_some_t h c12
              refine lv_iconst (v := 1) hx hb dX6_mayTell_179 (by decide) ?_
              refine lv_goto (tgt := 184) hx hb dX6_mayTell_180 rfl ?_
              exact mm_zret hx hb hr hlk rfl h dX6_mayTell_184
          · have h := if_some_f h c11
            by_cases c13 : v8 = 4
            · have h := if_some_t h c13
              refine lv_tableIn (tgt := 104) hx hb dX6_mayTell_64 (by rw [c13]; decide) (by rw [c13]; decide) (by rw [c13]; rfl) (by decide) ?_
              refine lv_iload hx hb dX6_mayTell_104 (lv_at hl 1 rfl) ?_
              refine lv_if_eq (tgt := 126) hx hb dX6_mayTell_106 rfl (fun _ => ?_) (fun c => absurd c (by decide))
              refine lv_iconst (v := 0) hx hb dX6_mayTell_126 (by decide) ?_
              exact mm_zret hx hb hr hlk rfl h dX6_mayTell_127
            · have h := if_some_f h c13
              by_cases c14 : v8 = 5
              · have h := if_some_t h c14
                refine lv_tableIn (tgt := 148) hx hb dX6_mayTell_64 (by rw [c14]; decide) (by rw [c14]; decide) (by rw [c14]; rfl) (by decide) ?_
                refine lv_iload hx hb dX6_mayTell_148 (lv_at hl 1 rfl) ?_
                refine lv_if_eq (tgt := 172) hx hb dX6_mayTell_150 rfl (fun _ => ?_) (fun c => absurd c (by decide))
                refine lv_iconst (v := 0) hx hb dX6_mayTell_172 (by decide) ?_
                exact mm_zret hx hb hr hlk rfl h dX6_mayTell_173
              · have h := if_some_f h c14
                by_cases c15 : v8 = 6
                · have h := if_some_t h c15
                  refine lv_tableIn (tgt := 185) hx hb dX6_mayTell_64 (by rw [c15]; decide) (by rw [c15]; decide) (by rw [c15]; rfl) (by decide) ?_
                  refine lv_iload hx hb dX6_mayTell_185 (lv_at hl 2 rfl) ?_
                  refine lv_if_ne (tgt := 207) hx hb dX6_mayTell_187 rfl (fun c16 => ?_) (fun c16 => ?_)
                  · have h := if_some_f h c16
                    refine lv_iconst (v := 0) hx hb dX6_mayTell_207 (by decide) ?_
                    exact mm_zret hx hb hr hlk rfl h dX6_mayTell_208
                  · have h := if_some_t h c16
                    refine lv_iload hx hb dX6_mayTell_190 (lv_at hl 1 rfl) ?_
                    refine lv_if_ne (tgt := 203) hx hb dX6_mayTell_192 rfl (fun c => absurd c (by decide)) (fun _ => ?_)
                    refine lv_iload hx hb dX6_mayTell_195 (lv_at hl 0 rfl) ?_
                    refine lv_iconst (v := 2) hx hb dX6_mayTell_197 (by decide) ?_
                    refine lv_irem hx hb dX6_mayTell_198 (by decide) ?_
                    refine lv_iconst (v := 1) hx hb dX6_mayTell_199 (by decide) ?_
                    refine lv_icmp_ne (tgt := 207) hx hb dX6_mayTell_200 rfl (fun c17 => ?_) (fun c17 => ?_)
                    · have h := if_some_f h c17
                      refine lv_iconst (v := 0) hx hb dX6_mayTell_207 (by decide) ?_
                      exact mm_zret hx hb hr hlk rfl h dX6_mayTell_208
                    · have h := if_some_t h c17
                      refine lv_iconst (v := 1) hx hb dX6_mayTell_203 (by decide) ?_
                      refine lv_goto (tgt := 208) hx hb dX6_mayTell_204 rfl ?_
                      exact mm_zret hx hb hr hlk rfl h dX6_mayTell_208
                · have h := if_some_f h c15
                  refine lv_tableOut (tgt := 209) hx hb dX6_mayTell_64 ?_ (by decide) ?_
                  · have := lv_neT c9 (show (1 : Int32).toInt = 1 by decide)
                    have := lv_neT c10 (show (2 : Int32).toInt = 2 by decide)
                    have := lv_neT c11 (show (3 : Int32).toInt = 3 by decide)
                    have := lv_neT c13 (show (4 : Int32).toInt = 4 by decide)
                    have := lv_neT c14 (show (5 : Int32).toInt = 5 by decide)
                    have := lv_neT c15 (show (6 : Int32).toInt = 6 by decide)
                    omega
                  · refine lv_iload hx hb dX6_mayTell_209 (lv_at hl 1 rfl) ?_
                    refine lv_if_eq (tgt := 223) hx hb dX6_mayTell_211 rfl (fun _ => ?_) (fun c => absurd c (by decide))
                    refine lv_iconst (v := 0) hx hb dX6_mayTell_223 (by decide) ?_
                    exact mm_zret hx hb hr hlk rfl h dX6_mayTell_224
    · have h := if_some_t h c6
      refine lv_iconst (v := 1) hx hb dX6_mayTell_43 (by decide) ?_
      refine lv_goto (tgt := 48) hx hb dX6_mayTell_44 rfl ?_
      refine lv_istore (lv' := [(5, .int 1), (4, .int v4), (3, .int v1), (0, .ref (ad 0)), (1, .int x1), (2, .int x2)]) hx hb dX6_mayTell_48 hl (by decide) rfl (fun ls hl => ?_)
      refine lv_aload_n hx hb dX6_mayTell_50 rfl (lv_at hl 3 rfl) ?_
      refine lv_iload_n hx hb dX6_mayTell_51 rfl (lv_at hl 4 rfl) ?_
      refine lv_iconst (v := 1) hx hb dX6_mayTell_52 (by decide) ?_
      obtain ⟨v18, hv18, h⟩ := bd1_some h
      refine k_of C hP hv18 (Nat.le_of_ble_eq_true rfl) hl.1 (Nat.le_of_ble_eq_true rfl) hcs dX6_mayTell_53 ?_
      refine lv_istore (lv' := [(6, .int v18), (5, .int 1), (4, .int v4), (3, .int v1), (0, .ref (ad 0)), (1, .int x1), (2, .int x2)]) hx hb dX6_mayTell_56 hl (by decide) rfl (fun ls hl => ?_)
      refine lv_aload_n hx hb dX6_mayTell_58 rfl (lv_at hl 4 rfl) ?_
      refine lv_iload_n hx hb dX6_mayTell_59 rfl (lv_at hl 5 rfl) ?_
      refine lv_iconst (v := 0) hx hb dX6_mayTell_60 (by decide) ?_
      obtain ⟨v19, hv19, h⟩ := bd1_some h
      refine k_of C hP hv19 (Nat.le_of_ble_eq_true rfl) hl.1 (Nat.le_of_ble_eq_true rfl) hcs dX6_mayTell_61 ?_
      by_cases c20 : v19 = 1
      · have h := if_some_t h c20
        refine lv_tableIn (tgt := 104) hx hb dX6_mayTell_64 (by rw [c20]; decide) (by rw [c20]; decide) (by rw [c20]; rfl) (by decide) ?_
        refine lv_iload hx hb dX6_mayTell_104 (lv_at hl 1 rfl) ?_
        refine lv_if_eq (tgt := 126) hx hb dX6_mayTell_106 rfl (fun c => absurd c (by decide)) (fun _ => ?_)
        refine lv_iload hx hb dX6_mayTell_109 (lv_at hl 2 rfl) ?_
        refine lv_if_eq (tgt := 122) hx hb dX6_mayTell_111 rfl (fun c21 => ?_) (fun c21 => ?_)
        · have h := if_some_t h c21
          refine lv_iconst (v := 1) hx hb dX6_mayTell_122 (by decide) ?_
          refine lv_goto (tgt := 127) hx hb dX6_mayTell_123 rfl ?_
          exact mm_zret hx hb hr hlk rfl h dX6_mayTell_127
        · have h := if_some_f h c21
          refine lv_aload_n hx hb dX6_mayTell_114 rfl (lv_at hl 4 rfl) ?_
          refine lv_iload_n hx hb dX6_mayTell_115 rfl (lv_at hl 6 rfl) ?_
          obtain ⟨v22, hv22, h⟩ := bd1_some h
          refine k_booksWith C hP hv22 (Nat.le_of_ble_eq_true rfl) hl.1 (Nat.le_of_ble_eq_true rfl) hcs dX6_mayTell_116 ?_
          refine lv_if_le (tgt := 126) hx hb dX6_mayTell_119 rfl (fun c23 => ?_) (fun c23 => ?_)
          · have h := if_some_t h c23
            refine lv_iconst (v := 0) hx hb dX6_mayTell_126 (by decide) ?_
            exact mm_zret hx hb hr hlk rfl h dX6_mayTell_127
          · have h := if_some_f h c23
            refine lv_iconst (v := 1) hx hb dX6_mayTell_122 (by decide) ?_
            refine lv_goto (tgt := 127) hx hb dX6_mayTell_123 rfl ?_
            exact mm_zret hx hb hr hlk rfl h dX6_mayTell_127
      · have h := if_some_f h c20
        by_cases c24 : v19 = 2
        · have h := if_some_t h c24
          refine lv_tableIn (tgt := 128) hx hb dX6_mayTell_64 (by rw [c24]; decide) (by rw [c24]; decide) (by rw [c24]; rfl) (by decide) ?_
          refine lv_iload hx hb dX6_mayTell_128 (lv_at hl 1 rfl) ?_
          refine lv_if_eq (tgt := 146) hx hb dX6_mayTell_130 rfl (fun c => absurd c (by decide)) (fun _ => ?_)
          refine lv_iload hx hb dX6_mayTell_133 (lv_at hl 2 rfl) ?_
          refine lv_iload hx hb dX6_mayTell_135 (lv_at hl 0 rfl) ?_
          refine lv_iconst (v := 3) hx hb dX6_mayTell_137 (by decide) ?_
          refine lv_irem hx hb dX6_mayTell_138 (by decide) ?_
          refine lv_icmp_gt (tgt := 146) hx hb dX6_mayTell_139 rfl (fun c25 => ?_) (fun c25 => ?_)
          · have h := if_some_t h c25
            refine lv_iconst (v := 0) hx hb dX6_mayTell_146 (by decide) ?_
            exact mm_zret hx hb hr hlk rfl h dX6_mayTell_147
          · have h := if_some_f h c25
            refine lv_iconst (v := 1) hx hb dX6_mayTell_142 (by decide) ?_
            refine lv_goto (tgt := 147) hx hb dX6_mayTell_143 rfl ?_
            exact mm_zret hx hb hr hlk rfl h dX6_mayTell_147
        · have h := if_some_f h c24
          by_cases c26 : v19 = 3
          · have h := if_some_t h c26
            refine lv_tableIn (tgt := 174) hx hb dX6_mayTell_64 (by rw [c26]; decide) (by rw [c26]; decide) (by rw [c26]; rfl) (by decide) ?_
            refine lv_iload hx hb dX6_mayTell_174 (lv_at hl 2 rfl) ?_
            refine lv_if_ne (tgt := 183) hx hb dX6_mayTell_176 rfl (fun c27 => ?_) (fun c27 => ?_)
            · have h := if_some_f h c27
              refine lv_iconst (v := 0) hx hb dX6_mayTell_183 (by decide) ?_
              exact mm_zret hx hb hr hlk rfl h dX6_mayTell_184
            · have h := if_some_t h c27
              refine lv_iconst (v := 1) hx hb dX6_mayTell_179 (by decide) ?_
              refine lv_goto (tgt := 184) hx hb dX6_mayTell_180 rfl ?_
              exact mm_zret hx hb hr hlk rfl h dX6_mayTell_184
          · have h := if_some_f h c26
            by_cases c28 : v19 = 4
            · have h := if_some_t h c28
              refine lv_tableIn (tgt := 104) hx hb dX6_mayTell_64 (by rw [c28]; decide) (by rw [c28]; decide) (by rw [c28]; rfl) (by decide) ?_
              refine lv_iload hx hb dX6_mayTell_104 (lv_at hl 1 rfl) ?_
              refine lv_if_eq (tgt := 126) hx hb dX6_mayTell_106 rfl (fun c => absurd c (by decide)) (fun _ => ?_)
              refine lv_iload hx hb dX6_mayTell_109 (lv_at hl 2 rfl) ?_
              refine lv_if_eq (tgt := 122) hx hb dX6_mayTell_111 rfl (fun c29 => ?_) (fun c29 => ?_)
              · have h := if_some_t h c29
                refine lv_iconst (v := 1) hx hb dX6_mayTell_122 (by decide) ?_
                refine lv_goto (tgt := 127) hx hb dX6_mayTell_123 rfl ?_
                exact mm_zret hx hb hr hlk rfl h dX6_mayTell_127
              · have h := if_some_f h c29
                refine lv_aload_n hx hb dX6_mayTell_114 rfl (lv_at hl 4 rfl) ?_
                refine lv_iload_n hx hb dX6_mayTell_115 rfl (lv_at hl 6 rfl) ?_
                obtain ⟨v30, hv30, h⟩ := bd1_some h
                refine k_booksWith C hP hv30 (Nat.le_of_ble_eq_true rfl) hl.1 (Nat.le_of_ble_eq_true rfl) hcs dX6_mayTell_116 ?_
                refine lv_if_le (tgt := 126) hx hb dX6_mayTell_119 rfl (fun c31 => ?_) (fun c31 => ?_)
                · have h := if_some_t h c31
                  refine lv_iconst (v := 0) hx hb dX6_mayTell_126 (by decide) ?_
                  exact mm_zret hx hb hr hlk rfl h dX6_mayTell_127
                · have h := if_some_f h c31
                  refine lv_iconst (v := 1) hx hb dX6_mayTell_122 (by decide) ?_
                  refine lv_goto (tgt := 127) hx hb dX6_mayTell_123 rfl ?_
                  exact mm_zret hx hb hr hlk rfl h dX6_mayTell_127
            · have h := if_some_f h c28
              by_cases c32 : v19 = 5
              · have h := if_some_t h c32
                refine lv_tableIn (tgt := 148) hx hb dX6_mayTell_64 (by rw [c32]; decide) (by rw [c32]; decide) (by rw [c32]; rfl) (by decide) ?_
                refine lv_iload hx hb dX6_mayTell_148 (lv_at hl 1 rfl) ?_
                refine lv_if_eq (tgt := 172) hx hb dX6_mayTell_150 rfl (fun c => absurd c (by decide)) (fun _ => ?_)
                refine lv_iload hx hb dX6_mayTell_153 (lv_at hl 2 rfl) ?_
                refine lv_iload hx hb dX6_mayTell_155 (lv_at hl 0 rfl) ?_
                refine lv_iconst (v := 3) hx hb dX6_mayTell_157 (by decide) ?_
                refine lv_irem hx hb dX6_mayTell_158 (by decide) ?_
                refine lv_icmp_gt (tgt := 172) hx hb dX6_mayTell_159 rfl (fun c33 => ?_) (fun c33 => ?_)
                · have h := if_some_t h c33
                  refine lv_iconst (v := 0) hx hb dX6_mayTell_172 (by decide) ?_
                  exact mm_zret hx hb hr hlk rfl h dX6_mayTell_173
                · have h := if_some_f h c33
                  refine lv_iload_n hx hb dX6_mayTell_162 rfl (lv_at hl 6 rfl) ?_
                  refine lv_iload hx hb dX6_mayTell_163 (lv_at hl 0 rfl) ?_
                  refine lv_icmp_eq (tgt := 172) hx hb dX6_mayTell_165 rfl (fun c34 => ?_) (fun c34 => ?_)
                  · have h := if_some_t h c34
                    refine lv_iconst (v := 0) hx hb dX6_mayTell_172 (by decide) ?_
                    exact mm_zret hx hb hr hlk rfl h dX6_mayTell_173
                  · have h := if_some_f h c34
                    refine lv_iconst (v := 1) hx hb dX6_mayTell_168 (by decide) ?_
                    refine lv_goto (tgt := 173) hx hb dX6_mayTell_169 rfl ?_
                    exact mm_zret hx hb hr hlk rfl h dX6_mayTell_173
              · have h := if_some_f h c32
                by_cases c35 : v19 = 6
                · have h := if_some_t h c35
                  refine lv_tableIn (tgt := 185) hx hb dX6_mayTell_64 (by rw [c35]; decide) (by rw [c35]; decide) (by rw [c35]; rfl) (by decide) ?_
                  refine lv_iload hx hb dX6_mayTell_185 (lv_at hl 2 rfl) ?_
                  refine lv_if_ne (tgt := 207) hx hb dX6_mayTell_187 rfl (fun c36 => ?_) (fun c36 => ?_)
                  · have h := if_some_f h c36
                    refine lv_iconst (v := 0) hx hb dX6_mayTell_207 (by decide) ?_
                    exact mm_zret hx hb hr hlk rfl h dX6_mayTell_208
                  · have h := if_some_t h c36
                    refine lv_iload hx hb dX6_mayTell_190 (lv_at hl 1 rfl) ?_
                    refine lv_if_ne (tgt := 203) hx hb dX6_mayTell_192 rfl (fun _ => ?_) (fun c => absurd c (by decide))
                    refine lv_iconst (v := 1) hx hb dX6_mayTell_203 (by decide) ?_
                    refine lv_goto (tgt := 208) hx hb dX6_mayTell_204 rfl ?_
                    exact mm_zret hx hb hr hlk rfl h dX6_mayTell_208
                · have h := if_some_f h c35
                  refine lv_tableOut (tgt := 209) hx hb dX6_mayTell_64 ?_ (by decide) ?_
                  · have := lv_neT c20 (show (1 : Int32).toInt = 1 by decide)
                    have := lv_neT c24 (show (2 : Int32).toInt = 2 by decide)
                    have := lv_neT c26 (show (3 : Int32).toInt = 3 by decide)
                    have := lv_neT c28 (show (4 : Int32).toInt = 4 by decide)
                    have := lv_neT c32 (show (5 : Int32).toInt = 5 by decide)
                    have := lv_neT c35 (show (6 : Int32).toInt = 6 by decide)
                    omega
                  · refine lv_iload hx hb dX6_mayTell_209 (lv_at hl 1 rfl) ?_
                    refine lv_if_eq (tgt := 223) hx hb dX6_mayTell_211 rfl (fun c => absurd c (by decide)) (fun _ => ?_)
                    refine lv_iload hx hb dX6_mayTell_214 (lv_at hl 2 rfl) ?_
                    refine lv_if_ne (tgt := 223) hx hb dX6_mayTell_216 rfl (fun c37 => ?_) (fun c37 => ?_)
                    · have h := if_some_f h c37
                      refine lv_iconst (v := 0) hx hb dX6_mayTell_223 (by decide) ?_
                      exact mm_zret hx hb hr hlk rfl h dX6_mayTell_224
                    · have h := if_some_t h c37
                      refine lv_iconst (v := 1) hx hb dX6_mayTell_219 (by decide) ?_
                      refine lv_goto (tgt := 224) hx hb dX6_mayTell_220 rfl ?_
                      exact mm_zret hx hb hr hlk rfl h dX6_mayTell_224
  · have h := if_some_t h c2
    refine lv_iconst (v := 0) hx hb dX6_mayTell_15 (by decide) ?_
    exact mm_zret hx hb hr hlk rfl h dX6_mayTell_16
theorem q1753 : (Jvm.Cond.methodLink "ChapterLoanModel" (164 : Nat) ({ cls := "ChapterLoanModel", name := "mayTell", desc := "(II)Z" } : Jvm.MethodName)) ∈ lw_all := lw_g (lw_at lw_m7 229 rfl) rfl
theorem q1756 : (Jvm.Cond.code ({ cls := "ChapterLoanModel", name := "mayTell", desc := "(II)Z" } : Jvm.MethodName) prog_30_method_36_code (7 : Nat) (Option.some Jvm.ClassFile.FieldType.boolean)) ∈ lw_all := lw_g (lw_at lw_m7 232 rfl) rfl
theorem q1755 : (Jvm.Cond.instanceMethod ({ cls := "ChapterLoanModel", name := "mayTell", desc := "(II)Z" } : Jvm.MethodName)) ∈ lw_all := lw_g (lw_at lw_m7 231 rfl) rfl
theorem k_mayTell {N : Nat} {a0 : Int32} {a1 : Int32} {v : Int32} (C : mC p R d s m args c cc nL D cI ad) (hP : mW D cI ad st H) (h : M_mayTell N st a0 a1 = some v) (hd : 3 + 1 ≤ d) (hsz : ls.size = nL) (hW : (rest.map fun v => v.category).sum ≤ 8) (hcs : cells ≤ R.cells ∧ slots ≤ R.slots) (hdg : decode cc pc = .ok (.invokevirtual 164, 3)) (kk : W p l e R s m args below meth c H locs cells slots Q (F0 m (pc + 3) ls (.int v :: rest))) : W p l e R s m args below meth c H locs cells slots Q (F0 m pc ls (.int a1 :: .int a0 :: .ref (ad 0) :: rest)) :=
  mm_cR (As := [.int a0, .int a1]) C hP (w_mayTell C.2.2.2.2.2.2.1 h) (cwV 2 C.2.2.2.2.1 (lw_V q1753 q1755 qs56 q94 q1756) rfl rfl rfl (by decide +kernel) (mr_ C.2.2.2.2.2.2.2 hd (by decide))) rfl hsz rfl hW hdg hcs kk
abbrev cX6_allMay : ByteArray := prog_30_method_37_code
def yX6_allMay : MethodName := ⟨RX6, "allMay", "(I)I"⟩
theorem dX6_allMay_0 : decode cX6_allMay 0 = .ok (.iconst 0, 1) := by decide +kernel
theorem dX6_allMay_1 : decode cX6_allMay 1 = .ok (.istore_n 2, 1) := by decide +kernel
theorem dX6_allMay_2 : decode cX6_allMay 2 = .ok (.iconst 0, 1) := by decide +kernel
theorem dX6_allMay_3 : decode cX6_allMay 3 = .ok (.istore_n 3, 1) := by decide +kernel
theorem dX6_allMay_4 : decode cX6_allMay 4 = .ok (.iload_n 3, 1) := by decide +kernel
theorem dX6_allMay_5 : decode cX6_allMay 5 = .ok (.aload_n 0, 1) := by decide +kernel
theorem dX6_allMay_6 : decode cX6_allMay 6 = .ok (.getfield 7, 3) := by decide +kernel
theorem dX6_allMay_9 : decode cX6_allMay 9 = .ok (.iconst 0, 1) := by decide +kernel
theorem dX6_allMay_10 : decode cX6_allMay 10 = .ok (.iaload, 1) := by decide +kernel
theorem dX6_allMay_11 : decode cX6_allMay 11 = .ok (.if_icmp .ge 28, 3) := by decide +kernel
theorem dX6_allMay_14 : decode cX6_allMay 14 = .ok (.iload_n 2, 1) := by decide +kernel
theorem dX6_allMay_15 : decode cX6_allMay 15 = .ok (.aload_n 0, 1) := by decide +kernel
theorem dX6_allMay_16 : decode cX6_allMay 16 = .ok (.iload_n 1, 1) := by decide +kernel
theorem dX6_allMay_17 : decode cX6_allMay 17 = .ok (.iload_n 3, 1) := by decide +kernel
theorem dX6_allMay_18 : decode cX6_allMay 18 = .ok (.invokevirtual 164, 3) := by decide +kernel
theorem dX6_allMay_21 : decode cX6_allMay 21 = .ok (.ifCond .eq 9, 3) := by decide +kernel
theorem dX6_allMay_24 : decode cX6_allMay 24 = .ok (.iconst 1, 1) := by decide +kernel
theorem dX6_allMay_25 : decode cX6_allMay 25 = .ok (.iload_n 3, 1) := by decide +kernel
theorem dX6_allMay_26 : decode cX6_allMay 26 = .ok (.ishl, 1) := by decide +kernel
theorem dX6_allMay_27 : decode cX6_allMay 27 = .ok (.goto 4, 3) := by decide +kernel
theorem dX6_allMay_30 : decode cX6_allMay 30 = .ok (.iconst 0, 1) := by decide +kernel
theorem dX6_allMay_31 : decode cX6_allMay 31 = .ok (.ior, 1) := by decide +kernel
theorem dX6_allMay_32 : decode cX6_allMay 32 = .ok (.istore_n 2, 1) := by decide +kernel
theorem dX6_allMay_33 : decode cX6_allMay 33 = .ok (.iinc 3 1, 3) := by decide +kernel
theorem dX6_allMay_36 : decode cX6_allMay 36 = .ok (.goto (-32), 3) := by decide +kernel
theorem dX6_allMay_39 : decode cX6_allMay 39 = .ok (.iload_n 2, 1) := by decide +kernel
theorem dX6_allMay_40 : decode cX6_allMay 40 = .ok (.ireturn, 1) := by decide +kernel
theorem w_allMay {l : Launch} {D : va_G} {cI : ClassId} {ad : Nat → Nat} (hI : kInj 15 ad) {st : MSt} {N : Nat} {x1 : Int32} {r : Int32} (h : M_allMay  N st x1 = some r) : mR l yX6_allMay cX6_allMay 4 (some .int) 4 D cI ad st [.int x1] r := by
  refine mm_ofR hI (by decide) rfl (Nat.le_of_ble_eq_true rfl) (fun p e s m below meth c R args ls C hr hlk hP hl hcs => ?_)
  have hx := C.1
  have hb := C.2.1
  have hown := C.2.2.2.1
  have hl : lv_has ls 4 [(0, .ref (ad 0)), (1, .int x1)] := hl
  have L4 : ∀ (x1 : Int32), ∀ (n : Nat) (x2 : Int32) (x3 : Int32) (z2 : Int32), M_allMay_L4 N st x1 n x2 x3 = some z2 → ∀ ls : Array Slot, lv_has ls 4 [(0, .ref (ad 0)), (1, .int x1), (2, .int x2), (3, .int x3)] → (∀ ls : Array Slot, lv_has ls 4 [(2, .int z2)] → mWR p l e R s m args below meth c r (F0 m 39 ls [])) → mWR p l e R s m args below meth c r (F0 m 4 ls []) := by
    intro x1 n
    induction n with
    | zero =>
      intro x2 x3 z2 h
      exact non_some h
    | succ n ih =>
      intro x2 x3 z2 h ls hl kx
      rw [M_allMay_L4] at h
      refine lv_iload_n hx hb dX6_allMay_4 rfl (lv_at hl 3 rfl) ?_
      refine lv_aload_n hx hb dX6_allMay_5 rfl (lv_at hl 0 rfl) ?_
      refine g_d C hP dX6_allMay_6 ?_
      refine lv_iconst (v := 0) hx hb dX6_allMay_9 (by decide) ?_
      obtain ⟨v1, hv1, h⟩ := bd1_some h
      refine mm_ld C hP 1 (by decide) rfl hv1 dX6_allMay_10 ?_
      refine lv_icmp_ge (tgt := 39) hx hb dX6_allMay_11 rfl (fun c2 => ?_) (fun c2 => ?_)
      · have h := if_some_t h c2
        cases h
        exact kx ls (lv_sub hl [2] rfl)
      · have h := if_some_f h c2
        refine lv_iload_n hx hb dX6_allMay_14 rfl (lv_at hl 2 rfl) ?_
        refine lv_aload_n hx hb dX6_allMay_15 rfl (lv_at hl 0 rfl) ?_
        refine lv_iload_n hx hb dX6_allMay_16 rfl (lv_at hl 1 rfl) ?_
        refine lv_iload_n hx hb dX6_allMay_17 rfl (lv_at hl 3 rfl) ?_
        obtain ⟨v3, hv3, h⟩ := bd1_some h
        refine k_mayTell C hP hv3 (Nat.le_of_ble_eq_true rfl) hl.1 (Nat.le_of_ble_eq_true rfl) hcs dX6_allMay_18 ?_
        refine lv_if_eq (tgt := 30) hx hb dX6_allMay_21 rfl (fun c4 => ?_) (fun c4 => ?_)
        · have h := if_some_t h c4
          refine lv_iconst (v := 0) hx hb dX6_allMay_30 (by decide) ?_
          refine lv_ior hx hb dX6_allMay_31 ?_
          refine lv_istore_n (lv' := [(2, .int (x2 ||| 0)), (0, .ref (ad 0)), (1, .int x1), (3, .int x3)]) hx hb dX6_allMay_32 rfl hl (by decide) rfl (fun ls hl => ?_)
          refine lv_iinc (v := x3 + 1) (lv' := [(3, .int (x3 + 1)), (2, .int (x2 ||| 0)), (0, .ref (ad 0)), (1, .int x1)]) hx hb dX6_allMay_33 hl (k := 3) rfl rfl (by decide) rfl (fun ls hl => ?_)
          refine lv_goto (tgt := 4) hx hb dX6_allMay_36 rfl ?_
          exact ih (x2 ||| 0) (x3 + 1) _ h ls (lv_sub hl [2, 3, 1, 0] rfl) kx
        · have h := if_some_f h c4
          refine lv_iconst (v := 1) hx hb dX6_allMay_24 (by decide) ?_
          refine lv_iload_n hx hb dX6_allMay_25 rfl (lv_at hl 3 rfl) ?_
          refine lv_ishl hx hb dX6_allMay_26 ?_
          refine lv_goto (tgt := 31) hx hb dX6_allMay_27 rfl ?_
          refine lv_ior hx hb dX6_allMay_31 ?_
          refine lv_istore_n (lv' := [(2, .int (x2 ||| (1 <<< (x3 &&& 31)))), (0, .ref (ad 0)), (1, .int x1), (3, .int x3)]) hx hb dX6_allMay_32 rfl hl (by decide) rfl (fun ls hl => ?_)
          refine lv_iinc (v := x3 + 1) (lv' := [(3, .int (x3 + 1)), (2, .int (x2 ||| (1 <<< (x3 &&& 31)))), (0, .ref (ad 0)), (1, .int x1)]) hx hb dX6_allMay_33 hl (k := 3) rfl rfl (by decide) rfl (fun ls hl => ?_)
          refine lv_goto (tgt := 4) hx hb dX6_allMay_36 rfl ?_
          exact ih (x2 ||| (1 <<< (x3 &&& 31))) (x3 + 1) _ h ls (lv_sub hl [2, 3, 1, 0] rfl) kx
  rw [M_allMay] at h
  refine lv_iconst (v := 0) hx hb dX6_allMay_0 (by decide) ?_
  refine lv_istore_n (lv' := [(2, .int 0), (0, .ref (ad 0)), (1, .int x1)]) hx hb dX6_allMay_1 rfl hl (by decide) rfl (fun ls hl => ?_)
  refine lv_iconst (v := 0) hx hb dX6_allMay_2 (by decide) ?_
  refine lv_istore_n (lv' := [(3, .int 0), (2, .int 0), (0, .ref (ad 0)), (1, .int x1)]) hx hb dX6_allMay_3 rfl hl (by decide) rfl (fun ls hl => ?_)
  obtain ⟨z5, hz6, h⟩ := bd1_some h
  refine L4 x1 N 0 0 _ hz6 ls (lv_sub hl [2, 3, 1, 0] rfl) (fun ls hl => ?_)
  refine lv_iload_n hx hb dX6_allMay_39 rfl (lv_at hl 0 rfl) ?_
  exact mm_iret hx hb hr hlk h dX6_allMay_40
theorem q1749 : (Jvm.Cond.methodLink "ChapterLoanModel" (194 : Nat) ({ cls := "ChapterLoanModel", name := "allMay", desc := "(I)I" } : Jvm.MethodName)) ∈ lw_all := lw_g (lw_at lw_m7 225 rfl) rfl
theorem q1752 : (Jvm.Cond.code ({ cls := "ChapterLoanModel", name := "allMay", desc := "(I)I" } : Jvm.MethodName) prog_30_method_37_code (4 : Nat) (Option.some Jvm.ClassFile.FieldType.int)) ∈ lw_all := lw_g (lw_at lw_m7 228 rfl) rfl
theorem q1751 : (Jvm.Cond.instanceMethod ({ cls := "ChapterLoanModel", name := "allMay", desc := "(I)I" } : Jvm.MethodName)) ∈ lw_all := lw_g (lw_at lw_m7 227 rfl) rfl
theorem k_allMay {N : Nat} {a0 : Int32} {v : Int32} (C : mC p R d s m args c cc nL D cI ad) (hP : mW D cI ad st H) (h : M_allMay N st a0 = some v) (hd : 4 + 1 ≤ d) (hsz : ls.size = nL) (hW : (rest.map fun v => v.category).sum ≤ 8) (hcs : cells ≤ R.cells ∧ slots ≤ R.slots) (hdg : decode cc pc = .ok (.invokevirtual 194, 3)) (kk : W p l e R s m args below meth c H locs cells slots Q (F0 m (pc + 3) ls (.int v :: rest))) : W p l e R s m args below meth c H locs cells slots Q (F0 m pc ls (.int a0 :: .ref (ad 0) :: rest)) :=
  mm_cR (As := [.int a0]) C hP (w_allMay C.2.2.2.2.2.2.1 h) (cwV 1 C.2.2.2.2.1 (lw_V q1749 q1751 qs55 q94 q1752) rfl rfl rfl (by decide +kernel) (mr_ C.2.2.2.2.2.2.2 hd (by decide))) rfl hsz rfl hW hdg hcs kk
abbrev cX6_book : ByteArray := prog_30_method_48_code
def yX6_book : MethodName := ⟨RX6, "book", "(III)I"⟩
theorem dX6_book_0 : decode cX6_book 0 = .ok (.aload_n 0, 1) := by decide +kernel
theorem dX6_book_1 : decode cX6_book 1 = .ok (.iload_n 1, 1) := by decide +kernel
theorem dX6_book_2 : decode cX6_book 2 = .ok (.invokevirtual 197, 3) := by decide +kernel
theorem dX6_book_5 : decode cX6_book 5 = .ok (.ifCond .eq 13, 3) := by decide +kernel
theorem dX6_book_8 : decode cX6_book 8 = .ok (.iload_n 3, 1) := by decide +kernel
theorem dX6_book_9 : decode cX6_book 9 = .ok (.i2l, 1) := by decide +kernel
theorem dX6_book_10 : decode cX6_book 10 = .ok (.lconst 0, 1) := by decide +kernel
theorem dX6_book_11 : decode cX6_book 11 = .ok (.lconst 1, 1) := by decide +kernel
theorem dX6_book_12 : decode cX6_book 12 = .ok (.invokestatic 57, 3) := by decide +kernel
theorem dX6_book_15 : decode cX6_book 15 = .ok (.ifCond .ne 9, 3) := by decide +kernel
theorem dX6_book_18 : decode cX6_book 18 = .ok (.aload_n 0, 1) := by decide +kernel
theorem dX6_book_19 : decode cX6_book 19 = .ok (.iconst 1, 1) := by decide +kernel
theorem dX6_book_20 : decode cX6_book 20 = .ok (.invokevirtual 119, 3) := by decide +kernel
theorem dX6_book_23 : decode cX6_book 23 = .ok (.ireturn, 1) := by decide +kernel
theorem dX6_book_24 : decode cX6_book 24 = .ok (.iload_n 2, 1) := by decide +kernel
theorem dX6_book_25 : decode cX6_book 25 = .ok (.i2l, 1) := by decide +kernel
theorem dX6_book_26 : decode cX6_book 26 = .ok (.lconst 0, 1) := by decide +kernel
theorem dX6_book_27 : decode cX6_book 27 = .ok (.aload_n 0, 1) := by decide +kernel
theorem dX6_book_28 : decode cX6_book 28 = .ok (.iload_n 1, 1) := by decide +kernel
theorem dX6_book_29 : decode cX6_book 29 = .ok (.iconst 4, 1) := by decide +kernel
theorem dX6_book_30 : decode cX6_book 30 = .ok (.invokevirtual 150, 3) := by decide +kernel
theorem dX6_book_33 : decode cX6_book 33 = .ok (.iconst 1, 1) := by decide +kernel
theorem dX6_book_34 : decode cX6_book 34 = .ok (.isub, 1) := by decide +kernel
theorem dX6_book_35 : decode cX6_book 35 = .ok (.i2l, 1) := by decide +kernel
theorem dX6_book_36 : decode cX6_book 36 = .ok (.invokestatic 57, 3) := by decide +kernel
theorem dX6_book_39 : decode cX6_book 39 = .ok (.ifCond .ne 9, 3) := by decide +kernel
theorem dX6_book_42 : decode cX6_book 42 = .ok (.aload_n 0, 1) := by decide +kernel
theorem dX6_book_43 : decode cX6_book 43 = .ok (.iconst 2, 1) := by decide +kernel
theorem dX6_book_44 : decode cX6_book 44 = .ok (.invokevirtual 119, 3) := by decide +kernel
theorem dX6_book_47 : decode cX6_book 47 = .ok (.ireturn, 1) := by decide +kernel
theorem dX6_book_48 : decode cX6_book 48 = .ok (.aload_n 0, 1) := by decide +kernel
theorem dX6_book_49 : decode cX6_book 49 = .ok (.iload_n 1, 1) := by decide +kernel
theorem dX6_book_50 : decode cX6_book 50 = .ok (.iload_n 3, 1) := by decide +kernel
theorem dX6_book_51 : decode cX6_book 51 = .ok (.ifCond .ne 9, 3) := by decide +kernel
theorem dX6_book_54 : decode cX6_book 54 = .ok (.iconst 5, 1) := by decide +kernel
theorem dX6_book_55 : decode cX6_book 55 = .ok (.iload_n 2, 1) := by decide +kernel
theorem dX6_book_56 : decode cX6_book 56 = .ok (.iadd, 1) := by decide +kernel
theorem dX6_book_57 : decode cX6_book 57 = .ok (.goto 7, 3) := by decide +kernel
theorem dX6_book_60 : decode cX6_book 60 = .ok (.bipush 13, 2) := by decide +kernel
theorem dX6_book_62 : decode cX6_book 62 = .ok (.iload_n 2, 1) := by decide +kernel
theorem dX6_book_63 : decode cX6_book 63 = .ok (.iadd, 1) := by decide +kernel
theorem dX6_book_64 : decode cX6_book 64 = .ok (.invokevirtual 150, 3) := by decide +kernel
theorem dX6_book_67 : decode cX6_book 67 = .ok (.ireturn, 1) := by decide +kernel
theorem w_book {l : Launch} {D : va_G} {cI : ClassId} {ad : Nat → Nat} (hI : kInj 15 ad) {st st' : MSt} {x1 : Int32} {x2 : Int32} {x3 : Int32} {r0 : Int32} (h : M_book st x1 x2 x3 = some (r0, st')) : mV l yX6_book cX6_book 4 (some .int) 2 D cI ad st [.int x1, .int x2, .int x3] (some (.int r0)) st' := by
  refine mm_ofV hI (by decide) rfl (Nat.le_of_ble_eq_true rfl) (fun p e s m below meth c R args ls C hr hlk hP hS hl hcs => ?_)
  have hx := C.1
  have hb := C.2.1
  have hown := C.2.2.2.1
  have hl : lv_has ls 4 [(0, .ref (ad 0)), (1, .int x1), (2, .int x2), (3, .int x3)] := hl
  have hP : mW D cI ad st s.heap := hP
  rw [M_book] at h
  refine lv_aload_n hx hb dX6_book_0 rfl (lv_at hl 0 rfl) ?_
  refine lv_iload_n hx hb dX6_book_1 rfl (lv_at hl 1 rfl) ?_
  obtain ⟨v1, hv1, h⟩ := bd1_some h
  refine k_isDebtor C hP hv1 (Nat.le_of_ble_eq_true rfl) hl.1 (Nat.le_of_ble_eq_true rfl) hcs dX6_book_2 ?_
  refine lv_if_eq (tgt := 18) hx hb dX6_book_5 rfl (fun c2 => ?_) (fun c2 => ?_)
  · have h := if_some_t h c2
    refine lv_aload_n hx hb dX6_book_18 rfl (lv_at hl 0 rfl) ?_
    refine lv_iconst (v := 1) hx hb dX6_book_19 (by decide) ?_
    obtain ⟨v3, st4, hv3, h⟩ := bd2_some h
    refine k_finds C hP hS hv3 (Nat.le_of_ble_eq_true rfl) hl.1 (Nat.le_of_ble_eq_true rfl) hcs dX6_book_20 (fun H locs hP hS => ?_)
    exact mm_viret hx hb hr hlk h hP hS dX6_book_23
  · have h := if_some_f h c2
    refine lv_iload_n hx hb dX6_book_8 rfl (lv_at hl 3 rfl) ?_
    refine lv_i2l (v := x3.toInt64) hx hb dX6_book_9 rfl ?_
    refine lv_lconst (v := 0) hx hb dX6_book_10 (by decide) ?_
    refine lv_lconst (v := 1) hx hb dX6_book_11 (by decide) ?_
    obtain ⟨v5, hv5, h⟩ := bd1_some h
    refine k_in hx hb C.2.2.1 hown C.2.2.2.2.1 C.2.2.2.2.2.2.2 hv5 (Nat.le_of_ble_eq_true rfl) hl.1 (Nat.le_of_ble_eq_true rfl) hcs dX6_book_12 ?_
    refine lv_if_ne (tgt := 24) hx hb dX6_book_15 rfl (fun c6 => ?_) (fun c6 => ?_)
    · have h := if_some_f h c6
      refine lv_iload_n hx hb dX6_book_24 rfl (lv_at hl 2 rfl) ?_
      refine lv_i2l (v := x2.toInt64) hx hb dX6_book_25 rfl ?_
      refine lv_lconst (v := 0) hx hb dX6_book_26 (by decide) ?_
      refine lv_aload_n hx hb dX6_book_27 rfl (lv_at hl 0 rfl) ?_
      refine lv_iload_n hx hb dX6_book_28 rfl (lv_at hl 1 rfl) ?_
      refine lv_iconst (v := 4) hx hb dX6_book_29 (by decide) ?_
      obtain ⟨v7, hv7, h⟩ := bd1_some h
      refine k_of C hP hv7 (Nat.le_of_ble_eq_true rfl) hl.1 (Nat.le_of_ble_eq_true rfl) hcs dX6_book_30 ?_
      refine lv_iconst (v := 1) hx hb dX6_book_33 (by decide) ?_
      refine lv_isub hx hb dX6_book_34 ?_
      refine lv_i2l (v := (v7 - 1).toInt64) hx hb dX6_book_35 rfl ?_
      obtain ⟨v8, hv8, h⟩ := bd1_some h
      refine k_in hx hb C.2.2.1 hown C.2.2.2.2.1 C.2.2.2.2.2.2.2 hv8 (Nat.le_of_ble_eq_true rfl) hl.1 (Nat.le_of_ble_eq_true rfl) hcs dX6_book_36 ?_
      refine lv_if_ne (tgt := 48) hx hb dX6_book_39 rfl (fun c9 => ?_) (fun c9 => ?_)
      · have h := if_some_f h c9
        refine lv_aload_n hx hb dX6_book_48 rfl (lv_at hl 0 rfl) ?_
        refine lv_iload_n hx hb dX6_book_49 rfl (lv_at hl 1 rfl) ?_
        refine lv_iload_n hx hb dX6_book_50 rfl (lv_at hl 3 rfl) ?_
        refine lv_if_ne (tgt := 60) hx hb dX6_book_51 rfl (fun c10 => ?_) (fun c10 => ?_)
        · have h := if_some_f h c10
          refine lv_bipush (v := 13) hx hb dX6_book_60 (by decide) ?_
          refine lv_iload_n hx hb dX6_book_62 rfl (lv_at hl 2 rfl) ?_
          refine lv_iadd hx hb dX6_book_63 ?_
          obtain ⟨v11, hv11, h⟩ := bd1_some h
          refine k_of C hP hv11 (Nat.le_of_ble_eq_true rfl) hl.1 (Nat.le_of_ble_eq_true rfl) hcs dX6_book_64 ?_
          exact mm_viret hx hb hr hlk h hP hS dX6_book_67
        · have h := if_some_t h c10
          refine lv_iconst (v := 5) hx hb dX6_book_54 (by decide) ?_
          refine lv_iload_n hx hb dX6_book_55 rfl (lv_at hl 2 rfl) ?_
          refine lv_iadd hx hb dX6_book_56 ?_
          refine lv_goto (tgt := 64) hx hb dX6_book_57 rfl ?_
          obtain ⟨v12, hv12, h⟩ := bd1_some h
          refine k_of C hP hv12 (Nat.le_of_ble_eq_true rfl) hl.1 (Nat.le_of_ble_eq_true rfl) hcs dX6_book_64 ?_
          exact mm_viret hx hb hr hlk h hP hS dX6_book_67
      · have h := if_some_t h c9
        refine lv_aload_n hx hb dX6_book_42 rfl (lv_at hl 0 rfl) ?_
        refine lv_iconst (v := 2) hx hb dX6_book_43 (by decide) ?_
        obtain ⟨v13, st14, hv13, h⟩ := bd2_some h
        refine k_finds C hP hS hv13 (Nat.le_of_ble_eq_true rfl) hl.1 (Nat.le_of_ble_eq_true rfl) hcs dX6_book_44 (fun H locs hP hS => ?_)
        exact mm_viret hx hb hr hlk h hP hS dX6_book_47
    · have h := if_some_t h c6
      refine lv_aload_n hx hb dX6_book_18 rfl (lv_at hl 0 rfl) ?_
      refine lv_iconst (v := 1) hx hb dX6_book_19 (by decide) ?_
      obtain ⟨v15, st16, hv15, h⟩ := bd2_some h
      refine k_finds C hP hS hv15 (Nat.le_of_ble_eq_true rfl) hl.1 (Nat.le_of_ble_eq_true rfl) hcs dX6_book_20 (fun H locs hP hS => ?_)
      exact mm_viret hx hb hr hlk h hP hS dX6_book_23
abbrev cX6_become : ByteArray := prog_30_method_49_code
def yX6_become : MethodName := ⟨RX6, "become", "(II)I"⟩
theorem dX6_become_0 : decode cX6_become 0 = .ok (.aload_n 0, 1) := by decide +kernel
theorem dX6_become_1 : decode cX6_become 1 = .ok (.iload_n 1, 1) := by decide +kernel
theorem dX6_become_2 : decode cX6_become 2 = .ok (.invokevirtual 197, 3) := by decide +kernel
theorem dX6_become_5 : decode cX6_become 5 = .ok (.ifCond .eq 15, 3) := by decide +kernel
theorem dX6_become_8 : decode cX6_become 8 = .ok (.iload_n 2, 1) := by decide +kernel
theorem dX6_become_9 : decode cX6_become 9 = .ok (.i2l, 1) := by decide +kernel
theorem dX6_become_10 : decode cX6_become 10 = .ok (.lconst 0, 1) := by decide +kernel
theorem dX6_become_11 : decode cX6_become 11 = .ok (.ldc2_w 184, 3) := by decide +kernel
theorem dX6_become_14 : decode cX6_become 14 = .ok (.invokestatic 57, 3) := by decide +kernel
theorem dX6_become_17 : decode cX6_become 17 = .ok (.ifCond .ne 9, 3) := by decide +kernel
theorem dX6_become_20 : decode cX6_become 20 = .ok (.aload_n 0, 1) := by decide +kernel
theorem dX6_become_21 : decode cX6_become 21 = .ok (.iconst 1, 1) := by decide +kernel
theorem dX6_become_22 : decode cX6_become 22 = .ok (.invokevirtual 119, 3) := by decide +kernel
theorem dX6_become_25 : decode cX6_become 25 = .ok (.ireturn, 1) := by decide +kernel
theorem dX6_become_26 : decode cX6_become 26 = .ok (.aload_n 0, 1) := by decide +kernel
theorem dX6_become_27 : decode cX6_become 27 = .ok (.iload_n 1, 1) := by decide +kernel
theorem dX6_become_28 : decode cX6_become 28 = .ok (.iconst 0, 1) := by decide +kernel
theorem dX6_become_29 : decode cX6_become 29 = .ok (.invokevirtual 150, 3) := by decide +kernel
theorem dX6_become_32 : decode cX6_become 32 = .ok (.istore_n 3, 1) := by decide +kernel
theorem dX6_become_33 : decode cX6_become 33 = .ok (.aload_n 0, 1) := by decide +kernel
theorem dX6_become_34 : decode cX6_become 34 = .ok (.iload_n 1, 1) := by decide +kernel
theorem dX6_become_35 : decode cX6_become 35 = .ok (.iconst 0, 1) := by decide +kernel
theorem dX6_become_36 : decode cX6_become 36 = .ok (.iload_n 2, 1) := by decide +kernel
theorem dX6_become_37 : decode cX6_become 37 = .ok (.bipush 10, 2) := by decide +kernel
theorem dX6_become_39 : decode cX6_become 39 = .ok (.idiv, 1) := by decide +kernel
theorem dX6_become_40 : decode cX6_become 40 = .ok (.invokevirtual 174, 3) := by decide +kernel
theorem dX6_become_43 : decode cX6_become 43 = .ok (.aload_n 0, 1) := by decide +kernel
theorem dX6_become_44 : decode cX6_become 44 = .ok (.iload_n 1, 1) := by decide +kernel
theorem dX6_become_45 : decode cX6_become 45 = .ok (.iconst 1, 1) := by decide +kernel
theorem dX6_become_46 : decode cX6_become 46 = .ok (.iload_n 2, 1) := by decide +kernel
theorem dX6_become_47 : decode cX6_become 47 = .ok (.bipush 10, 2) := by decide +kernel
theorem dX6_become_49 : decode cX6_become 49 = .ok (.irem, 1) := by decide +kernel
theorem dX6_become_50 : decode cX6_become 50 = .ok (.invokevirtual 174, 3) := by decide +kernel
theorem dX6_become_53 : decode cX6_become 53 = .ok (.iload_n 3, 1) := by decide +kernel
theorem dX6_become_54 : decode cX6_become 54 = .ok (.ireturn, 1) := by decide +kernel
theorem w_become {l : Launch} {D : va_G} {cI : ClassId} {ad : Nat → Nat} (hI : kInj 15 ad) {st st' : MSt} {x1 : Int32} {x2 : Int32} {r0 : Int32} (h : M_become st x1 x2 = some (r0, st')) : mV l yX6_become cX6_become 4 (some .int) 2 D cI ad st [.int x1, .int x2] (some (.int r0)) st' := by
  refine mm_ofV hI (by decide) rfl (Nat.le_of_ble_eq_true rfl) (fun p e s m below meth c R args ls C hr hlk hP hS hl hcs => ?_)
  have hx := C.1
  have hb := C.2.1
  have hown := C.2.2.2.1
  have hl : lv_has ls 4 [(0, .ref (ad 0)), (1, .int x1), (2, .int x2)] := hl
  have hP : mW D cI ad st s.heap := hP
  rw [M_become] at h
  refine lv_aload_n hx hb dX6_become_0 rfl (lv_at hl 0 rfl) ?_
  refine lv_iload_n hx hb dX6_become_1 rfl (lv_at hl 1 rfl) ?_
  obtain ⟨v1, hv1, h⟩ := bd1_some h
  refine k_isDebtor C hP hv1 (Nat.le_of_ble_eq_true rfl) hl.1 (Nat.le_of_ble_eq_true rfl) hcs dX6_become_2 ?_
  refine lv_if_eq (tgt := 20) hx hb dX6_become_5 rfl (fun c2 => ?_) (fun c2 => ?_)
  · have h := if_some_t h c2
    refine lv_aload_n hx hb dX6_become_20 rfl (lv_at hl 0 rfl) ?_
    refine lv_iconst (v := 1) hx hb dX6_become_21 (by decide) ?_
    obtain ⟨v3, st4, hv3, h⟩ := bd2_some h
    refine k_finds C hP hS hv3 (Nat.le_of_ble_eq_true rfl) hl.1 (Nat.le_of_ble_eq_true rfl) hcs dX6_become_22 (fun H locs hP hS => ?_)
    exact mm_viret hx hb hr hlk h hP hS dX6_become_25
  · have h := if_some_f h c2
    refine lv_iload_n hx hb dX6_become_8 rfl (lv_at hl 2 rfl) ?_
    refine lv_i2l (v := x2.toInt64) hx hb dX6_become_9 rfl ?_
    refine lv_lconst (v := 0) hx hb dX6_become_10 (by decide) ?_
    refine lv_ldc2 hx hb hown (C.2.2.2.2.1 _ q1719) dX6_become_11 ?_
    obtain ⟨v5, hv5, h⟩ := bd1_some h
    refine k_in hx hb C.2.2.1 hown C.2.2.2.2.1 C.2.2.2.2.2.2.2 hv5 (Nat.le_of_ble_eq_true rfl) hl.1 (Nat.le_of_ble_eq_true rfl) hcs dX6_become_14 ?_
    refine lv_if_ne (tgt := 26) hx hb dX6_become_17 rfl (fun c6 => ?_) (fun c6 => ?_)
    · have h := if_some_f h c6
      refine lv_aload_n hx hb dX6_become_26 rfl (lv_at hl 0 rfl) ?_
      refine lv_iload_n hx hb dX6_become_27 rfl (lv_at hl 1 rfl) ?_
      refine lv_iconst (v := 0) hx hb dX6_become_28 (by decide) ?_
      obtain ⟨v7, hv7, h⟩ := bd1_some h
      refine k_of C hP hv7 (Nat.le_of_ble_eq_true rfl) hl.1 (Nat.le_of_ble_eq_true rfl) hcs dX6_become_29 ?_
      refine lv_istore_n (lv' := [(3, .int v7), (0, .ref (ad 0)), (1, .int x1), (2, .int x2)]) hx hb dX6_become_32 rfl hl (by decide) rfl (fun ls hl => ?_)
      refine lv_aload_n hx hb dX6_become_33 rfl (lv_at hl 1 rfl) ?_
      refine lv_iload_n hx hb dX6_become_34 rfl (lv_at hl 2 rfl) ?_
      refine lv_iconst (v := 0) hx hb dX6_become_35 (by decide) ?_
      refine lv_iload_n hx hb dX6_become_36 rfl (lv_at hl 3 rfl) ?_
      refine lv_bipush (v := 10) hx hb dX6_become_37 (by decide) ?_
      refine lv_idiv hx hb dX6_become_39 (by decide) ?_
      obtain ⟨st9, hv8, h⟩ := bd1_some h
      refine k_sets C hP hS hv8 (Nat.le_of_ble_eq_true rfl) hl.1 (Nat.le_of_ble_eq_true rfl) hcs dX6_become_40 (fun H locs hP hS => ?_)
      refine lv_aload_n hx hb dX6_become_43 rfl (lv_at hl 1 rfl) ?_
      refine lv_iload_n hx hb dX6_become_44 rfl (lv_at hl 2 rfl) ?_
      refine lv_iconst (v := 1) hx hb dX6_become_45 (by decide) ?_
      refine lv_iload_n hx hb dX6_become_46 rfl (lv_at hl 3 rfl) ?_
      refine lv_bipush (v := 10) hx hb dX6_become_47 (by decide) ?_
      refine lv_irem hx hb dX6_become_49 (by decide) ?_
      obtain ⟨st11, hv10, h⟩ := bd1_some h
      refine k_sets C hP hS hv10 (Nat.le_of_ble_eq_true rfl) hl.1 (Nat.le_of_ble_eq_true rfl) hcs dX6_become_50 (fun H locs hP hS => ?_)
      refine lv_iload_n hx hb dX6_become_53 rfl (lv_at hl 0 rfl) ?_
      exact mm_viret hx hb hr hlk h hP hS dX6_become_54
    · have h := if_some_t h c6
      refine lv_aload_n hx hb dX6_become_20 rfl (lv_at hl 0 rfl) ?_
      refine lv_iconst (v := 1) hx hb dX6_become_21 (by decide) ?_
      obtain ⟨v12, st13, hv12, h⟩ := bd2_some h
      refine k_finds C hP hS hv12 (Nat.le_of_ble_eq_true rfl) hl.1 (Nat.le_of_ble_eq_true rfl) hcs dX6_become_22 (fun H locs hP hS => ?_)
      exact mm_viret hx hb hr hlk h hP hS dX6_become_25
abbrev cX6_above : ByteArray := prog_30_method_50_code
def yX6_above : MethodName := ⟨RX6, "above", "(I)I"⟩
theorem dX6_above_0 : decode cX6_above 0 = .ok (.iload_n 0, 1) := by decide +kernel
theorem dX6_above_1 : decode cX6_above 1 = .ok (.iconst 4, 1) := by decide +kernel
theorem dX6_above_2 : decode cX6_above 2 = .ok (.if_icmp .ge 7, 3) := by decide +kernel
theorem dX6_above_5 : decode cX6_above 5 = .ok (.iconst 0, 1) := by decide +kernel
theorem dX6_above_6 : decode cX6_above 6 = .ok (.goto 6, 3) := by decide +kernel
theorem dX6_above_9 : decode cX6_above 9 = .ok (.iload_n 0, 1) := by decide +kernel
theorem dX6_above_10 : decode cX6_above 10 = .ok (.iconst 3, 1) := by decide +kernel
theorem dX6_above_11 : decode cX6_above 11 = .ok (.isub, 1) := by decide +kernel
theorem dX6_above_12 : decode cX6_above 12 = .ok (.ireturn, 1) := by decide +kernel
theorem w_above {l : Launch} {x0 : Int32} {r : Int32} (h : M_above x0 = some r) : mS l yX6_above cX6_above 1 (some .int) 0 [.int x0] r := by
  refine mm_ofS (by decide) (Nat.le_of_ble_eq_true rfl) (fun p e s m below meth c R args ls C hr hlk hl hcs => ?_)
  have hx := C.1
  have hb := C.2.1
  have hown := C.2.2.2.1
  have hl : lv_has ls 1 [(0, .int x0)] := hl
  rw [M_above] at h
  refine lv_iload_n hx hb dX6_above_0 rfl (lv_at hl 0 rfl) ?_
  refine lv_iconst (v := 4) hx hb dX6_above_1 (by decide) ?_
  refine lv_icmp_ge (tgt := 9) hx hb dX6_above_2 rfl (fun c1 => ?_) (fun c1 => ?_)
  · have h := if_some_t h c1
    refine lv_iload_n hx hb dX6_above_9 rfl (lv_at hl 0 rfl) ?_
    refine lv_iconst (v := 3) hx hb dX6_above_10 (by decide) ?_
    refine lv_isub hx hb dX6_above_11 ?_
    exact mm_iret hx hb hr hlk h dX6_above_12
  · have h := if_some_f h c1
    refine lv_iconst (v := 0) hx hb dX6_above_5 (by decide) ?_
    refine lv_goto (tgt := 12) hx hb dX6_above_6 rfl ?_
    exact mm_iret hx hb hr hlk h dX6_above_12
theorem q1773 : (Jvm.Cond.methodLink "ChapterLoanModel" (205 : Nat) ({ cls := "ChapterLoanModel", name := "above", desc := "(I)I" } : Jvm.MethodName)) ∈ lw_all := lw_g (lw_at lw_m8 9 rfl) rfl
theorem q1775 : (Jvm.Cond.code ({ cls := "ChapterLoanModel", name := "above", desc := "(I)I" } : Jvm.MethodName) prog_30_method_50_code (1 : Nat) (Option.some Jvm.ClassFile.FieldType.int)) ∈ lw_all := lw_g (lw_at lw_m8 11 rfl) rfl
theorem q1774 : (Jvm.Cond.static ({ cls := "ChapterLoanModel", name := "above", desc := "(I)I" } : Jvm.MethodName)) ∈ lw_all := lw_g (lw_at lw_m8 10 rfl) rfl
theorem k_above {a0 : Int32} {v : Int32} (hx : p.tables.exec = Jvm.exec) (hb : c.code = cc) (hml : c.maxLocals = nL) (hown : s.vm.findClass RX6 = some m.cls) (hts : ∀ w ∈ lw_all, w.before args s = true) (hR : d ≤ R.frames ∧ 40 * d ≤ R.locals) (h : M_above a0 = some v) (hd : 0 + 1 ≤ d) (hsz : ls.size = nL) (hW : (rest.map fun v => v.category).sum ≤ 8) (hcs : cells ≤ R.cells ∧ slots ≤ R.slots) (hdg : decode cc pc = .ok (.invokestatic 205, 3)) (kk : W p l e R s m args below meth c H locs cells slots Q (F0 m (pc + 3) ls (.int v :: rest))) : W p l e R s m args below meth c H locs cells slots Q (F0 m pc ls (.int a0 :: rest)) :=
  W.callR (W.runS (As := [.int a0]) (rest := rest) ⟨hx, hb, hml, hown, hts⟩ (w_above h) (va_cwS 1 hts (lw_S q1773 q1774 q94 q1775) rfl rfl rfl (by decide +kernel) (mr_ hR hd (by decide))) preEq rfl rfl hsz rfl (lv_room hW) hdg hcs) kk
abbrev cX6_as : ByteArray := prog_30_method_51_code
def yX6_as : MethodName := ⟨RX6, "as", "(II)I"⟩
theorem dX6_as_0 : decode cX6_as 0 = .ok (.aload_n 0, 1) := by decide +kernel
theorem dX6_as_1 : decode cX6_as 1 = .ok (.iload_n 1, 1) := by decide +kernel
theorem dX6_as_2 : decode cX6_as 2 = .ok (.invokevirtual 197, 3) := by decide +kernel
theorem dX6_as_5 : decode cX6_as 5 = .ok (.ifCond .eq 15, 3) := by decide +kernel
theorem dX6_as_8 : decode cX6_as 8 = .ok (.iload_n 2, 1) := by decide +kernel
theorem dX6_as_9 : decode cX6_as 9 = .ok (.i2l, 1) := by decide +kernel
theorem dX6_as_10 : decode cX6_as 10 = .ok (.lconst 0, 1) := by decide +kernel
theorem dX6_as_11 : decode cX6_as 11 = .ok (.ldc2_w 203, 3) := by decide +kernel
theorem dX6_as_14 : decode cX6_as 14 = .ok (.invokestatic 57, 3) := by decide +kernel
theorem dX6_as_17 : decode cX6_as 17 = .ok (.ifCond .ne 9, 3) := by decide +kernel
theorem dX6_as_20 : decode cX6_as 20 = .ok (.aload_n 0, 1) := by decide +kernel
theorem dX6_as_21 : decode cX6_as 21 = .ok (.iconst 1, 1) := by decide +kernel
theorem dX6_as_22 : decode cX6_as 22 = .ok (.invokevirtual 119, 3) := by decide +kernel
theorem dX6_as_25 : decode cX6_as 25 = .ok (.ireturn, 1) := by decide +kernel
theorem dX6_as_26 : decode cX6_as 26 = .ok (.aload_n 0, 1) := by decide +kernel
theorem dX6_as_27 : decode cX6_as 27 = .ok (.iload_n 1, 1) := by decide +kernel
theorem dX6_as_28 : decode cX6_as 28 = .ok (.iconst 0, 1) := by decide +kernel
theorem dX6_as_29 : decode cX6_as 29 = .ok (.invokevirtual 150, 3) := by decide +kernel
theorem dX6_as_32 : decode cX6_as 32 = .ok (.istore_n 3, 1) := by decide +kernel
theorem dX6_as_33 : decode cX6_as 33 = .ok (.iload_n 2, 1) := by decide +kernel
theorem dX6_as_34 : decode cX6_as 34 = .ok (.ifCond .eq 16, 3) := by decide +kernel
theorem dX6_as_37 : decode cX6_as 37 = .ok (.iload_n 2, 1) := by decide +kernel
theorem dX6_as_38 : decode cX6_as 38 = .ok (.iload_n 3, 1) := by decide +kernel
theorem dX6_as_39 : decode cX6_as 39 = .ok (.if_icmp .eq 11, 3) := by decide +kernel
theorem dX6_as_42 : decode cX6_as 42 = .ok (.iload_n 2, 1) := by decide +kernel
theorem dX6_as_43 : decode cX6_as 43 = .ok (.iload_n 3, 1) := by decide +kernel
theorem dX6_as_44 : decode cX6_as 44 = .ok (.invokestatic 205, 3) := by decide +kernel
theorem dX6_as_47 : decode cX6_as 47 = .ok (.if_icmp .ne 12, 3) := by decide +kernel
theorem dX6_as_50 : decode cX6_as 50 = .ok (.aload_n 0, 1) := by decide +kernel
theorem dX6_as_51 : decode cX6_as 51 = .ok (.iload_n 1, 1) := by decide +kernel
theorem dX6_as_52 : decode cX6_as 52 = .ok (.iconst 1, 1) := by decide +kernel
theorem dX6_as_53 : decode cX6_as 53 = .ok (.invokevirtual 150, 3) := by decide +kernel
theorem dX6_as_56 : decode cX6_as 56 = .ok (.goto 8, 3) := by decide +kernel
theorem dX6_as_59 : decode cX6_as 59 = .ok (.aload_n 0, 1) := by decide +kernel
theorem dX6_as_60 : decode cX6_as 60 = .ok (.iconst 5, 1) := by decide +kernel
theorem dX6_as_61 : decode cX6_as 61 = .ok (.invokevirtual 119, 3) := by decide +kernel
theorem dX6_as_64 : decode cX6_as 64 = .ok (.ireturn, 1) := by decide +kernel
theorem q1772 : (Jvm.Cond.constantLong "ChapterLoanModel" (203 : Nat) (6 : Int64)) ∈ lw_all := lw_g (lw_at lw_m8 8 rfl) rfl
theorem w_as {l : Launch} {D : va_G} {cI : ClassId} {ad : Nat → Nat} (hI : kInj 15 ad) {st st' : MSt} {x1 : Int32} {x2 : Int32} {r0 : Int32} (h : M_as st x1 x2 = some (r0, st')) : mV l yX6_as cX6_as 4 (some .int) 2 D cI ad st [.int x1, .int x2] (some (.int r0)) st' := by
  refine mm_ofV hI (by decide) rfl (Nat.le_of_ble_eq_true rfl) (fun p e s m below meth c R args ls C hr hlk hP hS hl hcs => ?_)
  have hx := C.1
  have hb := C.2.1
  have hown := C.2.2.2.1
  have hl : lv_has ls 4 [(0, .ref (ad 0)), (1, .int x1), (2, .int x2)] := hl
  have hP : mW D cI ad st s.heap := hP
  rw [M_as] at h
  refine lv_aload_n hx hb dX6_as_0 rfl (lv_at hl 0 rfl) ?_
  refine lv_iload_n hx hb dX6_as_1 rfl (lv_at hl 1 rfl) ?_
  obtain ⟨v1, hv1, h⟩ := bd1_some h
  refine k_isDebtor C hP hv1 (Nat.le_of_ble_eq_true rfl) hl.1 (Nat.le_of_ble_eq_true rfl) hcs dX6_as_2 ?_
  refine lv_if_eq (tgt := 20) hx hb dX6_as_5 rfl (fun c2 => ?_) (fun c2 => ?_)
  · have h := if_some_t h c2
    refine lv_aload_n hx hb dX6_as_20 rfl (lv_at hl 0 rfl) ?_
    refine lv_iconst (v := 1) hx hb dX6_as_21 (by decide) ?_
    obtain ⟨v3, st4, hv3, h⟩ := bd2_some h
    refine k_finds C hP hS hv3 (Nat.le_of_ble_eq_true rfl) hl.1 (Nat.le_of_ble_eq_true rfl) hcs dX6_as_22 (fun H locs hP hS => ?_)
    exact mm_viret hx hb hr hlk h hP hS dX6_as_25
  · have h := if_some_f h c2
    refine lv_iload_n hx hb dX6_as_8 rfl (lv_at hl 2 rfl) ?_
    refine lv_i2l (v := x2.toInt64) hx hb dX6_as_9 rfl ?_
    refine lv_lconst (v := 0) hx hb dX6_as_10 (by decide) ?_
    refine lv_ldc2 hx hb hown (C.2.2.2.2.1 _ q1772) dX6_as_11 ?_
    obtain ⟨v5, hv5, h⟩ := bd1_some h
    refine k_in hx hb C.2.2.1 hown C.2.2.2.2.1 C.2.2.2.2.2.2.2 hv5 (Nat.le_of_ble_eq_true rfl) hl.1 (Nat.le_of_ble_eq_true rfl) hcs dX6_as_14 ?_
    refine lv_if_ne (tgt := 26) hx hb dX6_as_17 rfl (fun c6 => ?_) (fun c6 => ?_)
    · have h := if_some_f h c6
      refine lv_aload_n hx hb dX6_as_26 rfl (lv_at hl 0 rfl) ?_
      refine lv_iload_n hx hb dX6_as_27 rfl (lv_at hl 1 rfl) ?_
      refine lv_iconst (v := 0) hx hb dX6_as_28 (by decide) ?_
      obtain ⟨v7, hv7, h⟩ := bd1_some h
      refine k_of C hP hv7 (Nat.le_of_ble_eq_true rfl) hl.1 (Nat.le_of_ble_eq_true rfl) hcs dX6_as_29 ?_
      refine lv_istore_n (lv' := [(3, .int v7), (0, .ref (ad 0)), (1, .int x1), (2, .int x2)]) hx hb dX6_as_32 rfl hl (by decide) rfl (fun ls hl => ?_)
      refine lv_iload_n hx hb dX6_as_33 rfl (lv_at hl 3 rfl) ?_
      refine lv_if_eq (tgt := 50) hx hb dX6_as_34 rfl (fun c8 => ?_) (fun c8 => ?_)
      · have h := if_some_t h c8
        refine lv_aload_n hx hb dX6_as_50 rfl (lv_at hl 1 rfl) ?_
        refine lv_iload_n hx hb dX6_as_51 rfl (lv_at hl 2 rfl) ?_
        refine lv_iconst (v := 1) hx hb dX6_as_52 (by decide) ?_
        obtain ⟨v9, hv9, h⟩ := bd1_some h
        refine k_of C hP hv9 (Nat.le_of_ble_eq_true rfl) hl.1 (Nat.le_of_ble_eq_true rfl) hcs dX6_as_53 ?_
        refine lv_goto (tgt := 64) hx hb dX6_as_56 rfl ?_
        exact mm_viret hx hb hr hlk h hP hS dX6_as_64
      · have h := if_some_f h c8
        refine lv_iload_n hx hb dX6_as_37 rfl (lv_at hl 3 rfl) ?_
        refine lv_iload_n hx hb dX6_as_38 rfl (lv_at hl 0 rfl) ?_
        refine lv_icmp_eq (tgt := 50) hx hb dX6_as_39 rfl (fun c10 => ?_) (fun c10 => ?_)
        · have h := if_some_t h c10
          refine lv_aload_n hx hb dX6_as_50 rfl (lv_at hl 1 rfl) ?_
          refine lv_iload_n hx hb dX6_as_51 rfl (lv_at hl 2 rfl) ?_
          refine lv_iconst (v := 1) hx hb dX6_as_52 (by decide) ?_
          obtain ⟨v11, hv11, h⟩ := bd1_some h
          refine k_of C hP hv11 (Nat.le_of_ble_eq_true rfl) hl.1 (Nat.le_of_ble_eq_true rfl) hcs dX6_as_53 ?_
          refine lv_goto (tgt := 64) hx hb dX6_as_56 rfl ?_
          exact mm_viret hx hb hr hlk h hP hS dX6_as_64
        · have h := if_some_f h c10
          refine lv_iload_n hx hb dX6_as_42 rfl (lv_at hl 3 rfl) ?_
          refine lv_iload_n hx hb dX6_as_43 rfl (lv_at hl 0 rfl) ?_
          obtain ⟨v12, hv12, h⟩ := bd1_some h
          refine k_above hx hb C.2.2.1 hown C.2.2.2.2.1 C.2.2.2.2.2.2.2 hv12 (Nat.le_of_ble_eq_true rfl) hl.1 (Nat.le_of_ble_eq_true rfl) hcs dX6_as_44 ?_
          refine lv_icmp_ne (tgt := 59) hx hb dX6_as_47 rfl (fun c13 => ?_) (fun c13 => ?_)
          · have h := if_some_f h c13
            refine lv_aload_n hx hb dX6_as_59 rfl (lv_at hl 1 rfl) ?_
            refine lv_iconst (v := 5) hx hb dX6_as_60 (by decide) ?_
            obtain ⟨v14, st15, hv14, h⟩ := bd2_some h
            refine k_finds C hP hS hv14 (Nat.le_of_ble_eq_true rfl) hl.1 (Nat.le_of_ble_eq_true rfl) hcs dX6_as_61 (fun H locs hP hS => ?_)
            exact mm_viret hx hb hr hlk h hP hS dX6_as_64
          · have h := if_some_t h c13
            refine lv_aload_n hx hb dX6_as_50 rfl (lv_at hl 1 rfl) ?_
            refine lv_iload_n hx hb dX6_as_51 rfl (lv_at hl 2 rfl) ?_
            refine lv_iconst (v := 1) hx hb dX6_as_52 (by decide) ?_
            obtain ⟨v16, hv16, h⟩ := bd1_some h
            refine k_of C hP hv16 (Nat.le_of_ble_eq_true rfl) hl.1 (Nat.le_of_ble_eq_true rfl) hcs dX6_as_53 ?_
            refine lv_goto (tgt := 64) hx hb dX6_as_56 rfl ?_
            exact mm_viret hx hb hr hlk h hP hS dX6_as_64
    · have h := if_some_t h c6
      refine lv_aload_n hx hb dX6_as_20 rfl (lv_at hl 0 rfl) ?_
      refine lv_iconst (v := 1) hx hb dX6_as_21 (by decide) ?_
      obtain ⟨v17, st18, hv17, h⟩ := bd2_some h
      refine k_finds C hP hS hv17 (Nat.le_of_ble_eq_true rfl) hl.1 (Nat.le_of_ble_eq_true rfl) hcs dX6_as_22 (fun H locs hP hS => ?_)
      exact mm_viret hx hb hr hlk h hP hS dX6_as_25
abbrev cX6_lends : ByteArray := prog_30_method_52_code
def yX6_lends : MethodName := ⟨RX6, "lends", "(II)V"⟩
theorem dX6_lends_0 : decode cX6_lends 0 = .ok (.aload_n 0, 1) := by decide +kernel
theorem dX6_lends_1 : decode cX6_lends 1 = .ok (.iload_n 1, 1) := by decide +kernel
theorem dX6_lends_2 : decode cX6_lends 2 = .ok (.iconst 2, 1) := by decide +kernel
theorem dX6_lends_3 : decode cX6_lends 3 = .ok (.aload_n 0, 1) := by decide +kernel
theorem dX6_lends_4 : decode cX6_lends 4 = .ok (.iload_n 1, 1) := by decide +kernel
theorem dX6_lends_5 : decode cX6_lends 5 = .ok (.iconst 2, 1) := by decide +kernel
theorem dX6_lends_6 : decode cX6_lends 6 = .ok (.invokevirtual 150, 3) := by decide +kernel
theorem dX6_lends_9 : decode cX6_lends 9 = .ok (.iload_n 2, 1) := by decide +kernel
theorem dX6_lends_10 : decode cX6_lends 10 = .ok (.iadd, 1) := by decide +kernel
theorem dX6_lends_11 : decode cX6_lends 11 = .ok (.iconst 0, 1) := by decide +kernel
theorem dX6_lends_12 : decode cX6_lends 12 = .ok (.sipush 9999, 3) := by decide +kernel
theorem dX6_lends_15 : decode cX6_lends 15 = .ok (.invokestatic 128, 3) := by decide +kernel
theorem dX6_lends_18 : decode cX6_lends 18 = .ok (.invokevirtual 174, 3) := by decide +kernel
theorem dX6_lends_21 : decode cX6_lends 21 = .ok (.return_, 1) := by decide +kernel
theorem w_lends {l : Launch} {D : va_G} {cI : ClassId} {ad : Nat → Nat} (hI : kInj 15 ad) {st st' : MSt} {x1 : Int32} {x2 : Int32} (h : M_lends st x1 x2 = some st') : mV l yX6_lends cX6_lends 3 none 1 D cI ad st [.int x1, .int x2] none st' := by
  refine mm_ofV hI (by decide) rfl (Nat.le_of_ble_eq_true rfl) (fun p e s m below meth c R args ls C hr hlk hP hS hl hcs => ?_)
  have hx := C.1
  have hb := C.2.1
  have hown := C.2.2.2.1
  have hl : lv_has ls 3 [(0, .ref (ad 0)), (1, .int x1), (2, .int x2)] := hl
  have hP : mW D cI ad st s.heap := hP
  rw [M_lends] at h
  refine lv_aload_n hx hb dX6_lends_0 rfl (lv_at hl 0 rfl) ?_
  refine lv_iload_n hx hb dX6_lends_1 rfl (lv_at hl 1 rfl) ?_
  refine lv_iconst (v := 2) hx hb dX6_lends_2 (by decide) ?_
  refine lv_aload_n hx hb dX6_lends_3 rfl (lv_at hl 0 rfl) ?_
  refine lv_iload_n hx hb dX6_lends_4 rfl (lv_at hl 1 rfl) ?_
  refine lv_iconst (v := 2) hx hb dX6_lends_5 (by decide) ?_
  obtain ⟨v1, hv1, h⟩ := bd1_some h
  refine k_of C hP hv1 (Nat.le_of_ble_eq_true rfl) hl.1 (Nat.le_of_ble_eq_true rfl) hcs dX6_lends_6 ?_
  refine lv_iload_n hx hb dX6_lends_9 rfl (lv_at hl 2 rfl) ?_
  refine lv_iadd hx hb dX6_lends_10 ?_
  refine lv_iconst (v := 0) hx hb dX6_lends_11 (by decide) ?_
  refine lv_sipush (v := 9999) hx hb dX6_lends_12 (by decide) ?_
  obtain ⟨v2, hv2, h⟩ := bd1_some h
  refine k_held hx hb C.2.2.1 hown C.2.2.2.2.1 C.2.2.2.2.2.2.2 hv2 (Nat.le_of_ble_eq_true rfl) hl.1 (Nat.le_of_ble_eq_true rfl) hcs dX6_lends_15 ?_
  obtain ⟨st4, hv3, h⟩ := bd1_some h
  refine k_sets C hP hS hv3 (Nat.le_of_ble_eq_true rfl) hl.1 (Nat.le_of_ble_eq_true rfl) hcs dX6_lends_18 (fun H locs hP hS => ?_)
  exact mm_vret hx hb hr hlk h hP hS dX6_lends_21
theorem q1781 : (Jvm.Cond.methodLink "ChapterLoanModel" (210 : Nat) ({ cls := "ChapterLoanModel", name := "lends", desc := "(II)V" } : Jvm.MethodName)) ∈ lw_all := lw_g (lw_at lw_m8 17 rfl) rfl
theorem q1784 : (Jvm.Cond.code ({ cls := "ChapterLoanModel", name := "lends", desc := "(II)V" } : Jvm.MethodName) prog_30_method_52_code (3 : Nat) (Option.none : Option Jvm.ClassFile.FieldType)) ∈ lw_all := lw_g (lw_at lw_m8 20 rfl) rfl
theorem q1783 : (Jvm.Cond.instanceMethod ({ cls := "ChapterLoanModel", name := "lends", desc := "(II)V" } : Jvm.MethodName)) ∈ lw_all := lw_g (lw_at lw_m8 19 rfl) rfl
theorem k_lends {a0 : Int32} {a1 : Int32} {st' : MSt} (C : mC p R d s m args c cc nL D cI ad) (hP : mW D cI ad st H) (hS : va_S (kF 15 ad) H0 H locs) (h : M_lends st a0 a1 = some st') (hd : 1 + 1 ≤ d) (hsz : ls.size = nL) (hW : (rest.map fun v => v.category).sum ≤ 8) (hcs : cells ≤ R.cells ∧ slots ≤ R.slots) (hdg : decode cc pc = .ok (.invokevirtual 210, 3)) (kk : ∀ (H1 : Heap) (locs1 : List Loc), mW D cI ad st' H1 → va_S (kF 15 ad) H0 H1 locs1 → W p l e R s m args below meth c H1 locs1 cells slots Q (F0 m (pc + 3) ls (rest))) : W p l e R s m args below meth c H locs cells slots Q (F0 m pc ls (.int a1 :: .int a0 :: .ref (ad 0) :: rest)) :=
  mm_cV (As := [.int a0, .int a1]) C hP hS (w_lends C.2.2.2.2.2.2.1 h) (cwV 2 C.2.2.2.2.1 (lw_V q1781 q1783 qs57 q94 q1784) rfl rfl rfl (by decide +kernel) (mr_ C.2.2.2.2.2.2.2 hd (by decide))) rfl hsz rfl hW hdg hcs kk
abbrev cX6_lend : ByteArray := prog_30_method_53_code
def yX6_lend : MethodName := ⟨RX6, "lend", "(II)I"⟩
theorem dX6_lend_0 : decode cX6_lend 0 = .ok (.aload_n 0, 1) := by decide +kernel
theorem dX6_lend_1 : decode cX6_lend 1 = .ok (.iload_n 1, 1) := by decide +kernel
theorem dX6_lend_2 : decode cX6_lend 2 = .ok (.invokevirtual 197, 3) := by decide +kernel
theorem dX6_lend_5 : decode cX6_lend 5 = .ok (.ifCond .eq 15, 3) := by decide +kernel
theorem dX6_lend_8 : decode cX6_lend 8 = .ok (.iload_n 2, 1) := by decide +kernel
theorem dX6_lend_9 : decode cX6_lend 9 = .ok (.i2l, 1) := by decide +kernel
theorem dX6_lend_10 : decode cX6_lend 10 = .ok (.lconst 1, 1) := by decide +kernel
theorem dX6_lend_11 : decode cX6_lend 11 = .ok (.ldc2_w 208, 3) := by decide +kernel
theorem dX6_lend_14 : decode cX6_lend 14 = .ok (.invokestatic 57, 3) := by decide +kernel
theorem dX6_lend_17 : decode cX6_lend 17 = .ok (.ifCond .ne 9, 3) := by decide +kernel
theorem dX6_lend_20 : decode cX6_lend 20 = .ok (.aload_n 0, 1) := by decide +kernel
theorem dX6_lend_21 : decode cX6_lend 21 = .ok (.iconst 1, 1) := by decide +kernel
theorem dX6_lend_22 : decode cX6_lend 22 = .ok (.invokevirtual 119, 3) := by decide +kernel
theorem dX6_lend_25 : decode cX6_lend 25 = .ok (.ireturn, 1) := by decide +kernel
theorem dX6_lend_26 : decode cX6_lend 26 = .ok (.aload_n 0, 1) := by decide +kernel
theorem dX6_lend_27 : decode cX6_lend 27 = .ok (.iload_n 1, 1) := by decide +kernel
theorem dX6_lend_28 : decode cX6_lend 28 = .ok (.iconst 3, 1) := by decide +kernel
theorem dX6_lend_29 : decode cX6_lend 29 = .ok (.invokevirtual 150, 3) := by decide +kernel
theorem dX6_lend_32 : decode cX6_lend 32 = .ok (.iconst 1, 1) := by decide +kernel
theorem dX6_lend_33 : decode cX6_lend 33 = .ok (.if_icmp .ne 9, 3) := by decide +kernel
theorem dX6_lend_36 : decode cX6_lend 36 = .ok (.aload_n 0, 1) := by decide +kernel
theorem dX6_lend_37 : decode cX6_lend 37 = .ok (.iconst 3, 1) := by decide +kernel
theorem dX6_lend_38 : decode cX6_lend 38 = .ok (.invokevirtual 119, 3) := by decide +kernel
theorem dX6_lend_41 : decode cX6_lend 41 = .ok (.ireturn, 1) := by decide +kernel
theorem dX6_lend_42 : decode cX6_lend 42 = .ok (.aload_n 0, 1) := by decide +kernel
theorem dX6_lend_43 : decode cX6_lend 43 = .ok (.iload_n 1, 1) := by decide +kernel
theorem dX6_lend_44 : decode cX6_lend 44 = .ok (.iload_n 2, 1) := by decide +kernel
theorem dX6_lend_45 : decode cX6_lend 45 = .ok (.invokevirtual 210, 3) := by decide +kernel
theorem dX6_lend_48 : decode cX6_lend 48 = .ok (.aload_n 0, 1) := by decide +kernel
theorem dX6_lend_49 : decode cX6_lend 49 = .ok (.iload_n 1, 1) := by decide +kernel
theorem dX6_lend_50 : decode cX6_lend 50 = .ok (.iconst 2, 1) := by decide +kernel
theorem dX6_lend_51 : decode cX6_lend 51 = .ok (.invokevirtual 150, 3) := by decide +kernel
theorem dX6_lend_54 : decode cX6_lend 54 = .ok (.ireturn, 1) := by decide +kernel
theorem q1780 : (Jvm.Cond.constantLong "ChapterLoanModel" (208 : Nat) (999 : Int64)) ∈ lw_all := lw_g (lw_at lw_m8 16 rfl) rfl
theorem w_lend {l : Launch} {D : va_G} {cI : ClassId} {ad : Nat → Nat} (hI : kInj 15 ad) {st st' : MSt} {x1 : Int32} {x2 : Int32} {r0 : Int32} (h : M_lend st x1 x2 = some (r0, st')) : mV l yX6_lend cX6_lend 3 (some .int) 2 D cI ad st [.int x1, .int x2] (some (.int r0)) st' := by
  refine mm_ofV hI (by decide) rfl (Nat.le_of_ble_eq_true rfl) (fun p e s m below meth c R args ls C hr hlk hP hS hl hcs => ?_)
  have hx := C.1
  have hb := C.2.1
  have hown := C.2.2.2.1
  have hl : lv_has ls 3 [(0, .ref (ad 0)), (1, .int x1), (2, .int x2)] := hl
  have hP : mW D cI ad st s.heap := hP
  rw [M_lend] at h
  refine lv_aload_n hx hb dX6_lend_0 rfl (lv_at hl 0 rfl) ?_
  refine lv_iload_n hx hb dX6_lend_1 rfl (lv_at hl 1 rfl) ?_
  obtain ⟨v1, hv1, h⟩ := bd1_some h
  refine k_isDebtor C hP hv1 (Nat.le_of_ble_eq_true rfl) hl.1 (Nat.le_of_ble_eq_true rfl) hcs dX6_lend_2 ?_
  refine lv_if_eq (tgt := 20) hx hb dX6_lend_5 rfl (fun c2 => ?_) (fun c2 => ?_)
  · have h := if_some_t h c2
    refine lv_aload_n hx hb dX6_lend_20 rfl (lv_at hl 0 rfl) ?_
    refine lv_iconst (v := 1) hx hb dX6_lend_21 (by decide) ?_
    obtain ⟨v3, st4, hv3, h⟩ := bd2_some h
    refine k_finds C hP hS hv3 (Nat.le_of_ble_eq_true rfl) hl.1 (Nat.le_of_ble_eq_true rfl) hcs dX6_lend_22 (fun H locs hP hS => ?_)
    exact mm_viret hx hb hr hlk h hP hS dX6_lend_25
  · have h := if_some_f h c2
    refine lv_iload_n hx hb dX6_lend_8 rfl (lv_at hl 2 rfl) ?_
    refine lv_i2l (v := x2.toInt64) hx hb dX6_lend_9 rfl ?_
    refine lv_lconst (v := 1) hx hb dX6_lend_10 (by decide) ?_
    refine lv_ldc2 hx hb hown (C.2.2.2.2.1 _ q1780) dX6_lend_11 ?_
    obtain ⟨v5, hv5, h⟩ := bd1_some h
    refine k_in hx hb C.2.2.1 hown C.2.2.2.2.1 C.2.2.2.2.2.2.2 hv5 (Nat.le_of_ble_eq_true rfl) hl.1 (Nat.le_of_ble_eq_true rfl) hcs dX6_lend_14 ?_
    refine lv_if_ne (tgt := 26) hx hb dX6_lend_17 rfl (fun c6 => ?_) (fun c6 => ?_)
    · have h := if_some_f h c6
      refine lv_aload_n hx hb dX6_lend_26 rfl (lv_at hl 0 rfl) ?_
      refine lv_iload_n hx hb dX6_lend_27 rfl (lv_at hl 1 rfl) ?_
      refine lv_iconst (v := 3) hx hb dX6_lend_28 (by decide) ?_
      obtain ⟨v7, hv7, h⟩ := bd1_some h
      refine k_of C hP hv7 (Nat.le_of_ble_eq_true rfl) hl.1 (Nat.le_of_ble_eq_true rfl) hcs dX6_lend_29 ?_
      refine lv_iconst (v := 1) hx hb dX6_lend_32 (by decide) ?_
      refine lv_icmp_ne (tgt := 42) hx hb dX6_lend_33 rfl (fun c8 => ?_) (fun c8 => ?_)
      · have h := if_some_f h c8
        refine lv_aload_n hx hb dX6_lend_42 rfl (lv_at hl 0 rfl) ?_
        refine lv_iload_n hx hb dX6_lend_43 rfl (lv_at hl 1 rfl) ?_
        refine lv_iload_n hx hb dX6_lend_44 rfl (lv_at hl 2 rfl) ?_
        obtain ⟨st10, hv9, h⟩ := bd1_some h
        refine k_lends C hP hS hv9 (Nat.le_of_ble_eq_true rfl) hl.1 (Nat.le_of_ble_eq_true rfl) hcs dX6_lend_45 (fun H locs hP hS => ?_)
        refine lv_aload_n hx hb dX6_lend_48 rfl (lv_at hl 0 rfl) ?_
        refine lv_iload_n hx hb dX6_lend_49 rfl (lv_at hl 1 rfl) ?_
        refine lv_iconst (v := 2) hx hb dX6_lend_50 (by decide) ?_
        obtain ⟨v11, hv11, h⟩ := bd1_some h
        refine k_of C hP hv11 (Nat.le_of_ble_eq_true rfl) hl.1 (Nat.le_of_ble_eq_true rfl) hcs dX6_lend_51 ?_
        exact mm_viret hx hb hr hlk h hP hS dX6_lend_54
      · have h := if_some_t h c8
        refine lv_aload_n hx hb dX6_lend_36 rfl (lv_at hl 0 rfl) ?_
        refine lv_iconst (v := 3) hx hb dX6_lend_37 (by decide) ?_
        obtain ⟨v12, st13, hv12, h⟩ := bd2_some h
        refine k_finds C hP hS hv12 (Nat.le_of_ble_eq_true rfl) hl.1 (Nat.le_of_ble_eq_true rfl) hcs dX6_lend_38 (fun H locs hP hS => ?_)
        exact mm_viret hx hb hr hlk h hP hS dX6_lend_41
    · have h := if_some_t h c6
      refine lv_aload_n hx hb dX6_lend_20 rfl (lv_at hl 0 rfl) ?_
      refine lv_iconst (v := 1) hx hb dX6_lend_21 (by decide) ?_
      obtain ⟨v14, st15, hv14, h⟩ := bd2_some h
      refine k_finds C hP hS hv14 (Nat.le_of_ble_eq_true rfl) hl.1 (Nat.le_of_ble_eq_true rfl) hcs dX6_lend_22 (fun H locs hP hS => ?_)
      exact mm_viret hx hb hr hlk h hP hS dX6_lend_25
abbrev cX6_writes : ByteArray := prog_30_method_43_code
def yX6_writes : MethodName := ⟨RX6, "writes", "(II)V"⟩
theorem dX6_writes_0 : decode cX6_writes 0 = .ok (.aload_n 0, 1) := by decide +kernel
theorem dX6_writes_1 : decode cX6_writes 1 = .ok (.iload_n 1, 1) := by decide +kernel
theorem dX6_writes_2 : decode cX6_writes 2 = .ok (.iconst 5, 1) := by decide +kernel
theorem dX6_writes_3 : decode cX6_writes 3 = .ok (.aload_n 0, 1) := by decide +kernel
theorem dX6_writes_4 : decode cX6_writes 4 = .ok (.iload_n 1, 1) := by decide +kernel
theorem dX6_writes_5 : decode cX6_writes 5 = .ok (.iconst 4, 1) := by decide +kernel
theorem dX6_writes_6 : decode cX6_writes 6 = .ok (.invokevirtual 150, 3) := by decide +kernel
theorem dX6_writes_9 : decode cX6_writes 9 = .ok (.iadd, 1) := by decide +kernel
theorem dX6_writes_10 : decode cX6_writes 10 = .ok (.iload_n 2, 1) := by decide +kernel
theorem dX6_writes_11 : decode cX6_writes 11 = .ok (.invokevirtual 174, 3) := by decide +kernel
theorem dX6_writes_14 : decode cX6_writes 14 = .ok (.aload_n 0, 1) := by decide +kernel
theorem dX6_writes_15 : decode cX6_writes 15 = .ok (.iload_n 1, 1) := by decide +kernel
theorem dX6_writes_16 : decode cX6_writes 16 = .ok (.bipush 13, 2) := by decide +kernel
theorem dX6_writes_18 : decode cX6_writes 18 = .ok (.aload_n 0, 1) := by decide +kernel
theorem dX6_writes_19 : decode cX6_writes 19 = .ok (.iload_n 1, 1) := by decide +kernel
theorem dX6_writes_20 : decode cX6_writes 20 = .ok (.iconst 4, 1) := by decide +kernel
theorem dX6_writes_21 : decode cX6_writes 21 = .ok (.invokevirtual 150, 3) := by decide +kernel
theorem dX6_writes_24 : decode cX6_writes 24 = .ok (.iadd, 1) := by decide +kernel
theorem dX6_writes_25 : decode cX6_writes 25 = .ok (.aload_n 0, 1) := by decide +kernel
theorem dX6_writes_26 : decode cX6_writes 26 = .ok (.getfield 7, 3) := by decide +kernel
theorem dX6_writes_29 : decode cX6_writes 29 = .ok (.iconst 3, 1) := by decide +kernel
theorem dX6_writes_30 : decode cX6_writes 30 = .ok (.iaload, 1) := by decide +kernel
theorem dX6_writes_31 : decode cX6_writes 31 = .ok (.invokevirtual 174, 3) := by decide +kernel
theorem dX6_writes_34 : decode cX6_writes 34 = .ok (.aload_n 0, 1) := by decide +kernel
theorem dX6_writes_35 : decode cX6_writes 35 = .ok (.iload_n 1, 1) := by decide +kernel
theorem dX6_writes_36 : decode cX6_writes 36 = .ok (.iconst 4, 1) := by decide +kernel
theorem dX6_writes_37 : decode cX6_writes 37 = .ok (.aload_n 0, 1) := by decide +kernel
theorem dX6_writes_38 : decode cX6_writes 38 = .ok (.iload_n 1, 1) := by decide +kernel
theorem dX6_writes_39 : decode cX6_writes 39 = .ok (.iconst 4, 1) := by decide +kernel
theorem dX6_writes_40 : decode cX6_writes 40 = .ok (.invokevirtual 150, 3) := by decide +kernel
theorem dX6_writes_43 : decode cX6_writes 43 = .ok (.iconst 1, 1) := by decide +kernel
theorem dX6_writes_44 : decode cX6_writes 44 = .ok (.iadd, 1) := by decide +kernel
theorem dX6_writes_45 : decode cX6_writes 45 = .ok (.invokevirtual 174, 3) := by decide +kernel
theorem dX6_writes_48 : decode cX6_writes 48 = .ok (.return_, 1) := by decide +kernel
theorem w_writes {l : Launch} {D : va_G} {cI : ClassId} {ad : Nat → Nat} (hI : kInj 15 ad) {st st' : MSt} {x1 : Int32} {x2 : Int32} (h : M_writes st x1 x2 = some st') : mV l yX6_writes cX6_writes 3 none 1 D cI ad st [.int x1, .int x2] none st' := by
  refine mm_ofV hI (by decide) rfl (Nat.le_of_ble_eq_true rfl) (fun p e s m below meth c R args ls C hr hlk hP hS hl hcs => ?_)
  have hx := C.1
  have hb := C.2.1
  have hown := C.2.2.2.1
  have hl : lv_has ls 3 [(0, .ref (ad 0)), (1, .int x1), (2, .int x2)] := hl
  have hP : mW D cI ad st s.heap := hP
  rw [M_writes] at h
  refine lv_aload_n hx hb dX6_writes_0 rfl (lv_at hl 0 rfl) ?_
  refine lv_iload_n hx hb dX6_writes_1 rfl (lv_at hl 1 rfl) ?_
  refine lv_iconst (v := 5) hx hb dX6_writes_2 (by decide) ?_
  refine lv_aload_n hx hb dX6_writes_3 rfl (lv_at hl 0 rfl) ?_
  refine lv_iload_n hx hb dX6_writes_4 rfl (lv_at hl 1 rfl) ?_
  refine lv_iconst (v := 4) hx hb dX6_writes_5 (by decide) ?_
  obtain ⟨v1, hv1, h⟩ := bd1_some h
  refine k_of C hP hv1 (Nat.le_of_ble_eq_true rfl) hl.1 (Nat.le_of_ble_eq_true rfl) hcs dX6_writes_6 ?_
  refine lv_iadd hx hb dX6_writes_9 ?_
  refine lv_iload_n hx hb dX6_writes_10 rfl (lv_at hl 2 rfl) ?_
  obtain ⟨st3, hv2, h⟩ := bd1_some h
  refine k_sets C hP hS hv2 (Nat.le_of_ble_eq_true rfl) hl.1 (Nat.le_of_ble_eq_true rfl) hcs dX6_writes_11 (fun H locs hP hS => ?_)
  refine lv_aload_n hx hb dX6_writes_14 rfl (lv_at hl 0 rfl) ?_
  refine lv_iload_n hx hb dX6_writes_15 rfl (lv_at hl 1 rfl) ?_
  refine lv_bipush (v := 13) hx hb dX6_writes_16 (by decide) ?_
  refine lv_aload_n hx hb dX6_writes_18 rfl (lv_at hl 0 rfl) ?_
  refine lv_iload_n hx hb dX6_writes_19 rfl (lv_at hl 1 rfl) ?_
  refine lv_iconst (v := 4) hx hb dX6_writes_20 (by decide) ?_
  obtain ⟨v4, hv4, h⟩ := bd1_some h
  refine k_of C hP hv4 (Nat.le_of_ble_eq_true rfl) hl.1 (Nat.le_of_ble_eq_true rfl) hcs dX6_writes_21 ?_
  refine lv_iadd hx hb dX6_writes_24 ?_
  refine lv_aload_n hx hb dX6_writes_25 rfl (lv_at hl 0 rfl) ?_
  refine g_d C hP dX6_writes_26 ?_
  refine lv_iconst (v := 3) hx hb dX6_writes_29 (by decide) ?_
  obtain ⟨v5, hv5, h⟩ := bd1_some h
  refine mm_ld C hP 1 (by decide) rfl hv5 dX6_writes_30 ?_
  obtain ⟨st7, hv6, h⟩ := bd1_some h
  refine k_sets C hP hS hv6 (Nat.le_of_ble_eq_true rfl) hl.1 (Nat.le_of_ble_eq_true rfl) hcs dX6_writes_31 (fun H locs hP hS => ?_)
  refine lv_aload_n hx hb dX6_writes_34 rfl (lv_at hl 0 rfl) ?_
  refine lv_iload_n hx hb dX6_writes_35 rfl (lv_at hl 1 rfl) ?_
  refine lv_iconst (v := 4) hx hb dX6_writes_36 (by decide) ?_
  refine lv_aload_n hx hb dX6_writes_37 rfl (lv_at hl 0 rfl) ?_
  refine lv_iload_n hx hb dX6_writes_38 rfl (lv_at hl 1 rfl) ?_
  refine lv_iconst (v := 4) hx hb dX6_writes_39 (by decide) ?_
  obtain ⟨v8, hv8, h⟩ := bd1_some h
  refine k_of C hP hv8 (Nat.le_of_ble_eq_true rfl) hl.1 (Nat.le_of_ble_eq_true rfl) hcs dX6_writes_40 ?_
  refine lv_iconst (v := 1) hx hb dX6_writes_43 (by decide) ?_
  refine lv_iadd hx hb dX6_writes_44 ?_
  obtain ⟨st10, hv9, h⟩ := bd1_some h
  refine k_sets C hP hS hv9 (Nat.le_of_ble_eq_true rfl) hl.1 (Nat.le_of_ble_eq_true rfl) hcs dX6_writes_45 (fun H locs hP hS => ?_)
  exact mm_vret hx hb hr hlk h hP hS dX6_writes_48
theorem q1797 : (Jvm.Cond.methodLink "ChapterLoanModel" (180 : Nat) ({ cls := "ChapterLoanModel", name := "writes", desc := "(II)V" } : Jvm.MethodName)) ∈ lw_all := lw_g (lw_at lw_m8 33 rfl) rfl
theorem q1800 : (Jvm.Cond.code ({ cls := "ChapterLoanModel", name := "writes", desc := "(II)V" } : Jvm.MethodName) prog_30_method_43_code (3 : Nat) (Option.none : Option Jvm.ClassFile.FieldType)) ∈ lw_all := lw_g (lw_at lw_m8 36 rfl) rfl
theorem q1799 : (Jvm.Cond.instanceMethod ({ cls := "ChapterLoanModel", name := "writes", desc := "(II)V" } : Jvm.MethodName)) ∈ lw_all := lw_g (lw_at lw_m8 35 rfl) rfl
theorem k_writes {a0 : Int32} {a1 : Int32} {st' : MSt} (C : mC p R d s m args c cc nL D cI ad) (hP : mW D cI ad st H) (hS : va_S (kF 15 ad) H0 H locs) (h : M_writes st a0 a1 = some st') (hd : 1 + 1 ≤ d) (hsz : ls.size = nL) (hW : (rest.map fun v => v.category).sum ≤ 8) (hcs : cells ≤ R.cells ∧ slots ≤ R.slots) (hdg : decode cc pc = .ok (.invokevirtual 180, 3)) (kk : ∀ (H1 : Heap) (locs1 : List Loc), mW D cI ad st' H1 → va_S (kF 15 ad) H0 H1 locs1 → W p l e R s m args below meth c H1 locs1 cells slots Q (F0 m (pc + 3) ls (rest))) : W p l e R s m args below meth c H locs cells slots Q (F0 m pc ls (.int a1 :: .int a0 :: .ref (ad 0) :: rest)) :=
  mm_cV (As := [.int a0, .int a1]) C hP hS (w_writes C.2.2.2.2.2.2.1 h) (cwV 2 C.2.2.2.2.1 (lw_V q1797 q1799 qs60 q94 q1800) rfl rfl rfl (by decide +kernel) (mr_ C.2.2.2.2.2.2.2 hd (by decide))) rfl hsz rfl hW hdg hcs kk
abbrev cX6_pardon : ByteArray := prog_30_method_55_code
def yX6_pardon : MethodName := ⟨RX6, "pardon", "(I)I"⟩
theorem dX6_pardon_0 : decode cX6_pardon 0 = .ok (.aload_n 0, 1) := by decide +kernel
theorem dX6_pardon_1 : decode cX6_pardon 1 = .ok (.iload_n 1, 1) := by decide +kernel
theorem dX6_pardon_2 : decode cX6_pardon 2 = .ok (.invokevirtual 197, 3) := by decide +kernel
theorem dX6_pardon_5 : decode cX6_pardon 5 = .ok (.ifCond .ne 9, 3) := by decide +kernel
theorem dX6_pardon_8 : decode cX6_pardon 8 = .ok (.aload_n 0, 1) := by decide +kernel
theorem dX6_pardon_9 : decode cX6_pardon 9 = .ok (.iconst 1, 1) := by decide +kernel
theorem dX6_pardon_10 : decode cX6_pardon 10 = .ok (.invokevirtual 119, 3) := by decide +kernel
theorem dX6_pardon_13 : decode cX6_pardon 13 = .ok (.ireturn, 1) := by decide +kernel
theorem dX6_pardon_14 : decode cX6_pardon 14 = .ok (.aload_n 0, 1) := by decide +kernel
theorem dX6_pardon_15 : decode cX6_pardon 15 = .ok (.iload_n 1, 1) := by decide +kernel
theorem dX6_pardon_16 : decode cX6_pardon 16 = .ok (.iconst 3, 1) := by decide +kernel
theorem dX6_pardon_17 : decode cX6_pardon 17 = .ok (.invokevirtual 150, 3) := by decide +kernel
theorem dX6_pardon_20 : decode cX6_pardon 20 = .ok (.ifCond .ne 9, 3) := by decide +kernel
theorem dX6_pardon_23 : decode cX6_pardon 23 = .ok (.aload_n 0, 1) := by decide +kernel
theorem dX6_pardon_24 : decode cX6_pardon 24 = .ok (.iconst 3, 1) := by decide +kernel
theorem dX6_pardon_25 : decode cX6_pardon 25 = .ok (.invokevirtual 119, 3) := by decide +kernel
theorem dX6_pardon_28 : decode cX6_pardon 28 = .ok (.ireturn, 1) := by decide +kernel
theorem dX6_pardon_29 : decode cX6_pardon 29 = .ok (.aload_n 0, 1) := by decide +kernel
theorem dX6_pardon_30 : decode cX6_pardon 30 = .ok (.iload_n 1, 1) := by decide +kernel
theorem dX6_pardon_31 : decode cX6_pardon 31 = .ok (.iconst 4, 1) := by decide +kernel
theorem dX6_pardon_32 : decode cX6_pardon 32 = .ok (.invokevirtual 150, 3) := by decide +kernel
theorem dX6_pardon_35 : decode cX6_pardon 35 = .ok (.istore_n 2, 1) := by decide +kernel
theorem dX6_pardon_36 : decode cX6_pardon 36 = .ok (.aload_n 0, 1) := by decide +kernel
theorem dX6_pardon_37 : decode cX6_pardon 37 = .ok (.iload_n 1, 1) := by decide +kernel
theorem dX6_pardon_38 : decode cX6_pardon 38 = .ok (.iconst 2, 1) := by decide +kernel
theorem dX6_pardon_39 : decode cX6_pardon 39 = .ok (.iconst 0, 1) := by decide +kernel
theorem dX6_pardon_40 : decode cX6_pardon 40 = .ok (.invokevirtual 174, 3) := by decide +kernel
theorem dX6_pardon_43 : decode cX6_pardon 43 = .ok (.aload_n 0, 1) := by decide +kernel
theorem dX6_pardon_44 : decode cX6_pardon 44 = .ok (.iload_n 1, 1) := by decide +kernel
theorem dX6_pardon_45 : decode cX6_pardon 45 = .ok (.iconst 3, 1) := by decide +kernel
theorem dX6_pardon_46 : decode cX6_pardon 46 = .ok (.iconst 0, 1) := by decide +kernel
theorem dX6_pardon_47 : decode cX6_pardon 47 = .ok (.invokevirtual 174, 3) := by decide +kernel
theorem dX6_pardon_50 : decode cX6_pardon 50 = .ok (.aload_n 0, 1) := by decide +kernel
theorem dX6_pardon_51 : decode cX6_pardon 51 = .ok (.iload_n 1, 1) := by decide +kernel
theorem dX6_pardon_52 : decode cX6_pardon 52 = .ok (.iconst 4, 1) := by decide +kernel
theorem dX6_pardon_53 : decode cX6_pardon 53 = .ok (.iconst 0, 1) := by decide +kernel
theorem dX6_pardon_54 : decode cX6_pardon 54 = .ok (.invokevirtual 174, 3) := by decide +kernel
theorem dX6_pardon_57 : decode cX6_pardon 57 = .ok (.iload_n 2, 1) := by decide +kernel
theorem dX6_pardon_58 : decode cX6_pardon 58 = .ok (.ireturn, 1) := by decide +kernel
theorem w_pardon {l : Launch} {D : va_G} {cI : ClassId} {ad : Nat → Nat} (hI : kInj 15 ad) {st st' : MSt} {x1 : Int32} {r0 : Int32} (h : M_pardon st x1 = some (r0, st')) : mV l yX6_pardon cX6_pardon 3 (some .int) 2 D cI ad st [.int x1] (some (.int r0)) st' := by
  refine mm_ofV hI (by decide) rfl (Nat.le_of_ble_eq_true rfl) (fun p e s m below meth c R args ls C hr hlk hP hS hl hcs => ?_)
  have hx := C.1
  have hb := C.2.1
  have hown := C.2.2.2.1
  have hl : lv_has ls 3 [(0, .ref (ad 0)), (1, .int x1)] := hl
  have hP : mW D cI ad st s.heap := hP
  rw [M_pardon] at h
  refine lv_aload_n hx hb dX6_pardon_0 rfl (lv_at hl 0 rfl) ?_
  refine lv_iload_n hx hb dX6_pardon_1 rfl (lv_at hl 1 rfl) ?_
  obtain ⟨v1, hv1, h⟩ := bd1_some h
  refine k_isDebtor C hP hv1 (Nat.le_of_ble_eq_true rfl) hl.1 (Nat.le_of_ble_eq_true rfl) hcs dX6_pardon_2 ?_
  refine lv_if_ne (tgt := 14) hx hb dX6_pardon_5 rfl (fun c2 => ?_) (fun c2 => ?_)
  · have h := if_some_f h c2
    refine lv_aload_n hx hb dX6_pardon_14 rfl (lv_at hl 0 rfl) ?_
    refine lv_iload_n hx hb dX6_pardon_15 rfl (lv_at hl 1 rfl) ?_
    refine lv_iconst (v := 3) hx hb dX6_pardon_16 (by decide) ?_
    obtain ⟨v3, hv3, h⟩ := bd1_some h
    refine k_of C hP hv3 (Nat.le_of_ble_eq_true rfl) hl.1 (Nat.le_of_ble_eq_true rfl) hcs dX6_pardon_17 ?_
    refine lv_if_ne (tgt := 29) hx hb dX6_pardon_20 rfl (fun c4 => ?_) (fun c4 => ?_)
    · have h := if_some_f h c4
      refine lv_aload_n hx hb dX6_pardon_29 rfl (lv_at hl 0 rfl) ?_
      refine lv_iload_n hx hb dX6_pardon_30 rfl (lv_at hl 1 rfl) ?_
      refine lv_iconst (v := 4) hx hb dX6_pardon_31 (by decide) ?_
      obtain ⟨v5, hv5, h⟩ := bd1_some h
      refine k_of C hP hv5 (Nat.le_of_ble_eq_true rfl) hl.1 (Nat.le_of_ble_eq_true rfl) hcs dX6_pardon_32 ?_
      refine lv_istore_n (lv' := [(2, .int v5), (0, .ref (ad 0)), (1, .int x1)]) hx hb dX6_pardon_35 rfl hl (by decide) rfl (fun ls hl => ?_)
      refine lv_aload_n hx hb dX6_pardon_36 rfl (lv_at hl 1 rfl) ?_
      refine lv_iload_n hx hb dX6_pardon_37 rfl (lv_at hl 2 rfl) ?_
      refine lv_iconst (v := 2) hx hb dX6_pardon_38 (by decide) ?_
      refine lv_iconst (v := 0) hx hb dX6_pardon_39 (by decide) ?_
      obtain ⟨st7, hv6, h⟩ := bd1_some h
      refine k_sets C hP hS hv6 (Nat.le_of_ble_eq_true rfl) hl.1 (Nat.le_of_ble_eq_true rfl) hcs dX6_pardon_40 (fun H locs hP hS => ?_)
      refine lv_aload_n hx hb dX6_pardon_43 rfl (lv_at hl 1 rfl) ?_
      refine lv_iload_n hx hb dX6_pardon_44 rfl (lv_at hl 2 rfl) ?_
      refine lv_iconst (v := 3) hx hb dX6_pardon_45 (by decide) ?_
      refine lv_iconst (v := 0) hx hb dX6_pardon_46 (by decide) ?_
      obtain ⟨st9, hv8, h⟩ := bd1_some h
      refine k_sets C hP hS hv8 (Nat.le_of_ble_eq_true rfl) hl.1 (Nat.le_of_ble_eq_true rfl) hcs dX6_pardon_47 (fun H locs hP hS => ?_)
      refine lv_aload_n hx hb dX6_pardon_50 rfl (lv_at hl 1 rfl) ?_
      refine lv_iload_n hx hb dX6_pardon_51 rfl (lv_at hl 2 rfl) ?_
      refine lv_iconst (v := 4) hx hb dX6_pardon_52 (by decide) ?_
      refine lv_iconst (v := 0) hx hb dX6_pardon_53 (by decide) ?_
      obtain ⟨st11, hv10, h⟩ := bd1_some h
      refine k_sets C hP hS hv10 (Nat.le_of_ble_eq_true rfl) hl.1 (Nat.le_of_ble_eq_true rfl) hcs dX6_pardon_54 (fun H locs hP hS => ?_)
      refine lv_iload_n hx hb dX6_pardon_57 rfl (lv_at hl 0 rfl) ?_
      exact mm_viret hx hb hr hlk h hP hS dX6_pardon_58
    · have h := if_some_t h c4
      refine lv_aload_n hx hb dX6_pardon_23 rfl (lv_at hl 0 rfl) ?_
      refine lv_iconst (v := 3) hx hb dX6_pardon_24 (by decide) ?_
      obtain ⟨v12, st13, hv12, h⟩ := bd2_some h
      refine k_finds C hP hS hv12 (Nat.le_of_ble_eq_true rfl) hl.1 (Nat.le_of_ble_eq_true rfl) hcs dX6_pardon_25 (fun H locs hP hS => ?_)
      exact mm_viret hx hb hr hlk h hP hS dX6_pardon_28
  · have h := if_some_t h c2
    refine lv_aload_n hx hb dX6_pardon_8 rfl (lv_at hl 0 rfl) ?_
    refine lv_iconst (v := 1) hx hb dX6_pardon_9 (by decide) ?_
    obtain ⟨v14, st15, hv14, h⟩ := bd2_some h
    refine k_finds C hP hS hv14 (Nat.le_of_ble_eq_true rfl) hl.1 (Nat.le_of_ble_eq_true rfl) hcs dX6_pardon_10 (fun H locs hP hS => ?_)
    exact mm_viret hx hb hr hlk h hP hS dX6_pardon_13
abbrev cX6_drawn : ByteArray := prog_30_method_59_code
def yX6_drawn : MethodName := ⟨RX6, "drawn", "()I"⟩
theorem dX6_drawn_0 : decode cX6_drawn 0 = .ok (.aload_n 0, 1) := by decide +kernel
theorem dX6_drawn_1 : decode cX6_drawn 1 = .ok (.getfield 7, 3) := by decide +kernel
theorem dX6_drawn_4 : decode cX6_drawn 4 = .ok (.iconst 4, 1) := by decide +kernel
theorem dX6_drawn_5 : decode cX6_drawn 5 = .ok (.aload_n 0, 1) := by decide +kernel
theorem dX6_drawn_6 : decode cX6_drawn 6 = .ok (.getfield 7, 3) := by decide +kernel
theorem dX6_drawn_9 : decode cX6_drawn 9 = .ok (.iconst 4, 1) := by decide +kernel
theorem dX6_drawn_10 : decode cX6_drawn 10 = .ok (.iaload, 1) := by decide +kernel
theorem dX6_drawn_11 : decode cX6_drawn 11 = .ok (.ldc 223, 2) := by decide +kernel
theorem dX6_drawn_13 : decode cX6_drawn 13 = .ok (.imul, 1) := by decide +kernel
theorem dX6_drawn_14 : decode cX6_drawn 14 = .ok (.sipush 12345, 3) := by decide +kernel
theorem dX6_drawn_17 : decode cX6_drawn 17 = .ok (.iadd, 1) := by decide +kernel
theorem dX6_drawn_18 : decode cX6_drawn 18 = .ok (.iastore, 1) := by decide +kernel
theorem dX6_drawn_19 : decode cX6_drawn 19 = .ok (.aload_n 0, 1) := by decide +kernel
theorem dX6_drawn_20 : decode cX6_drawn 20 = .ok (.getfield 7, 3) := by decide +kernel
theorem dX6_drawn_23 : decode cX6_drawn 23 = .ok (.iconst 4, 1) := by decide +kernel
theorem dX6_drawn_24 : decode cX6_drawn 24 = .ok (.iaload, 1) := by decide +kernel
theorem dX6_drawn_25 : decode cX6_drawn 25 = .ok (.bipush 8, 2) := by decide +kernel
theorem dX6_drawn_27 : decode cX6_drawn 27 = .ok (.iushr, 1) := by decide +kernel
theorem dX6_drawn_28 : decode cX6_drawn 28 = .ok (.ireturn, 1) := by decide +kernel
theorem q1818 : (Jvm.Cond.constant "ChapterLoanModel" (223 : Nat) (1103515245 : Int32)) ∈ lw_all := lw_g (lw_at lw_m8 54 rfl) rfl
theorem w_drawn {l : Launch} {D : va_G} {cI : ClassId} {ad : Nat → Nat} (hI : kInj 15 ad) {st st' : MSt} {r0 : Int32} (h : M_drawn st = some (r0, st')) : mV l yX6_drawn cX6_drawn 1 (some .int) 0 D cI ad st [] (some (.int r0)) st' := by
  refine mm_ofV hI (by decide) rfl (Nat.le_of_ble_eq_true rfl) (fun p e s m below meth c R args ls C hr hlk hP hS hl hcs => ?_)
  have hx := C.1
  have hb := C.2.1
  have hown := C.2.2.2.1
  have hl : lv_has ls 1 [(0, .ref (ad 0))] := hl
  have hP : mW D cI ad st s.heap := hP
  rw [M_drawn] at h
  refine lv_aload_n hx hb dX6_drawn_0 rfl (lv_at hl 0 rfl) ?_
  refine g_d C hP dX6_drawn_1 ?_
  refine lv_iconst (v := 4) hx hb dX6_drawn_4 (by decide) ?_
  refine lv_aload_n hx hb dX6_drawn_5 rfl (lv_at hl 0 rfl) ?_
  refine g_d C hP dX6_drawn_6 ?_
  refine lv_iconst (v := 4) hx hb dX6_drawn_9 (by decide) ?_
  obtain ⟨v1, hv1, h⟩ := bd1_some h
  refine mm_ld C hP 1 (by decide) rfl hv1 dX6_drawn_10 ?_
  refine lv_ldc hx hb hown (C.2.2.2.2.1 _ q1818) dX6_drawn_11 ?_
  refine lv_imul hx hb dX6_drawn_13 ?_
  refine lv_sipush (v := 12345) hx hb dX6_drawn_14 (by decide) ?_
  refine lv_iadd hx hb dX6_drawn_17 ?_
  obtain ⟨b2, hb2, h⟩ := bd1_some h
  refine mm_st C hP hS 1 (by decide) rfl hb2 dX6_drawn_18 (fun H locs hP hS => ?_)
  refine lv_aload_n hx hb dX6_drawn_19 rfl (lv_at hl 0 rfl) ?_
  refine g_d C hP dX6_drawn_20 ?_
  refine lv_iconst (v := 4) hx hb dX6_drawn_23 (by decide) ?_
  obtain ⟨v3, hv3, h⟩ := bd1_some h
  refine mm_ld C hP 1 (by decide) rfl hv3 dX6_drawn_24 ?_
  refine lv_bipush (v := 8) hx hb dX6_drawn_25 (by decide) ?_
  refine lv_iushr (v := (v3.toUInt32 >>> ((8 : Int32).toUInt32 &&& Int32.toUInt32 31)).toInt32) hx hb dX6_drawn_27 rfl ?_
  exact mm_viret hx hb hr hlk h hP hS dX6_drawn_28
theorem q1814 : (Jvm.Cond.methodLink "ChapterLoanModel" (226 : Nat) ({ cls := "ChapterLoanModel", name := "drawn", desc := "()I" } : Jvm.MethodName)) ∈ lw_all := lw_g (lw_at lw_m8 50 rfl) rfl
theorem q1817 : (Jvm.Cond.code ({ cls := "ChapterLoanModel", name := "drawn", desc := "()I" } : Jvm.MethodName) prog_30_method_59_code (1 : Nat) (Option.some Jvm.ClassFile.FieldType.int)) ∈ lw_all := lw_g (lw_at lw_m8 53 rfl) rfl
theorem q1816 : (Jvm.Cond.instanceMethod ({ cls := "ChapterLoanModel", name := "drawn", desc := "()I" } : Jvm.MethodName)) ∈ lw_all := lw_g (lw_at lw_m8 52 rfl) rfl
theorem k_drawn {v : Int32} {st' : MSt} (C : mC p R d s m args c cc nL D cI ad) (hP : mW D cI ad st H) (hS : va_S (kF 15 ad) H0 H locs) (h : M_drawn st = some (v, st')) (hd : 0 + 1 ≤ d) (hsz : ls.size = nL) (hW : (rest.map fun v => v.category).sum ≤ 8) (hcs : cells ≤ R.cells ∧ slots ≤ R.slots) (hdg : decode cc pc = .ok (.invokevirtual 226, 3)) (kk : ∀ (H1 : Heap) (locs1 : List Loc), mW D cI ad st' H1 → va_S (kF 15 ad) H0 H1 locs1 → W p l e R s m args below meth c H1 locs1 cells slots Q (F0 m (pc + 3) ls (.int v :: rest))) : W p l e R s m args below meth c H locs cells slots Q (F0 m pc ls (.ref (ad 0) :: rest)) :=
  mm_cV (As := []) C hP hS (w_drawn C.2.2.2.2.2.2.1 h) (cwV 0 C.2.2.2.2.1 (lw_V q1814 q1816 qs62 q94 q1817) rfl rfl rfl (by decide +kernel) (mr_ C.2.2.2.2.2.2.2 hd (by decide))) rfl hsz rfl hW hdg hcs kk
abbrev cX6_isOverdue : ByteArray := prog_30_method_42_code
def yX6_isOverdue : MethodName := ⟨RX6, "isOverdue", "(I)Z"⟩
theorem dX6_isOverdue_0 : decode cX6_isOverdue 0 = .ok (.aload_n 0, 1) := by decide +kernel
theorem dX6_isOverdue_1 : decode cX6_isOverdue 1 = .ok (.iload_n 1, 1) := by decide +kernel
theorem dX6_isOverdue_2 : decode cX6_isOverdue 2 = .ok (.invokevirtual 153, 3) := by decide +kernel
theorem dX6_isOverdue_5 : decode cX6_isOverdue 5 = .ok (.istore_n 2, 1) := by decide +kernel
theorem dX6_isOverdue_6 : decode cX6_isOverdue 6 = .ok (.iconst 0, 1) := by decide +kernel
theorem dX6_isOverdue_7 : decode cX6_isOverdue 7 = .ok (.istore_n 3, 1) := by decide +kernel
theorem dX6_isOverdue_8 : decode cX6_isOverdue 8 = .ok (.iconst 0, 1) := by decide +kernel
theorem dX6_isOverdue_9 : decode cX6_isOverdue 9 = .ok (.istore 4, 2) := by decide +kernel
theorem dX6_isOverdue_11 : decode cX6_isOverdue 11 = .ok (.iload 4, 2) := by decide +kernel
theorem dX6_isOverdue_13 : decode cX6_isOverdue 13 = .ok (.aload_n 0, 1) := by decide +kernel
theorem dX6_isOverdue_14 : decode cX6_isOverdue 14 = .ok (.iload_n 1, 1) := by decide +kernel
theorem dX6_isOverdue_15 : decode cX6_isOverdue 15 = .ok (.iconst 4, 1) := by decide +kernel
theorem dX6_isOverdue_16 : decode cX6_isOverdue 16 = .ok (.invokevirtual 150, 3) := by decide +kernel
theorem dX6_isOverdue_19 : decode cX6_isOverdue 19 = .ok (.if_icmp .ge 67, 3) := by decide +kernel
theorem dX6_isOverdue_22 : decode cX6_isOverdue 22 = .ok (.aload_n 0, 1) := by decide +kernel
theorem dX6_isOverdue_23 : decode cX6_isOverdue 23 = .ok (.iload_n 1, 1) := by decide +kernel
theorem dX6_isOverdue_24 : decode cX6_isOverdue 24 = .ok (.iconst 5, 1) := by decide +kernel
theorem dX6_isOverdue_25 : decode cX6_isOverdue 25 = .ok (.iload 4, 2) := by decide +kernel
theorem dX6_isOverdue_27 : decode cX6_isOverdue 27 = .ok (.iadd, 1) := by decide +kernel
theorem dX6_isOverdue_28 : decode cX6_isOverdue 28 = .ok (.invokevirtual 150, 3) := by decide +kernel
theorem dX6_isOverdue_31 : decode cX6_isOverdue 31 = .ok (.istore 5, 2) := by decide +kernel
theorem dX6_isOverdue_33 : decode cX6_isOverdue 33 = .ok (.iload_n 3, 1) := by decide +kernel
theorem dX6_isOverdue_34 : decode cX6_isOverdue 34 = .ok (.ifCond .ne 40, 3) := by decide +kernel
theorem dX6_isOverdue_37 : decode cX6_isOverdue 37 = .ok (.aload_n 0, 1) := by decide +kernel
theorem dX6_isOverdue_38 : decode cX6_isOverdue 38 = .ok (.iload 5, 2) := by decide +kernel
theorem dX6_isOverdue_40 : decode cX6_isOverdue 40 = .ok (.iload_n 2, 1) := by decide +kernel
theorem dX6_isOverdue_41 : decode cX6_isOverdue 41 = .ok (.invokevirtual 171, 3) := by decide +kernel
theorem dX6_isOverdue_44 : decode cX6_isOverdue 44 = .ok (.ifCond .eq 34, 3) := by decide +kernel
theorem dX6_isOverdue_47 : decode cX6_isOverdue 47 = .ok (.aload_n 0, 1) := by decide +kernel
theorem dX6_isOverdue_48 : decode cX6_isOverdue 48 = .ok (.getfield 7, 3) := by decide +kernel
theorem dX6_isOverdue_51 : decode cX6_isOverdue 51 = .ok (.iconst 3, 1) := by decide +kernel
theorem dX6_isOverdue_52 : decode cX6_isOverdue 52 = .ok (.iaload, 1) := by decide +kernel
theorem dX6_isOverdue_53 : decode cX6_isOverdue 53 = .ok (.aload_n 0, 1) := by decide +kernel
theorem dX6_isOverdue_54 : decode cX6_isOverdue 54 = .ok (.iload_n 1, 1) := by decide +kernel
theorem dX6_isOverdue_55 : decode cX6_isOverdue 55 = .ok (.bipush 13, 2) := by decide +kernel
theorem dX6_isOverdue_57 : decode cX6_isOverdue 57 = .ok (.iload 4, 2) := by decide +kernel
theorem dX6_isOverdue_59 : decode cX6_isOverdue 59 = .ok (.iadd, 1) := by decide +kernel
theorem dX6_isOverdue_60 : decode cX6_isOverdue 60 = .ok (.invokevirtual 150, 3) := by decide +kernel
theorem dX6_isOverdue_63 : decode cX6_isOverdue 63 = .ok (.aload_n 0, 1) := by decide +kernel
theorem dX6_isOverdue_64 : decode cX6_isOverdue 64 = .ok (.iload 5, 2) := by decide +kernel
theorem dX6_isOverdue_66 : decode cX6_isOverdue 66 = .ok (.iconst 2, 1) := by decide +kernel
theorem dX6_isOverdue_67 : decode cX6_isOverdue 67 = .ok (.invokevirtual 144, 3) := by decide +kernel
theorem dX6_isOverdue_70 : decode cX6_isOverdue 70 = .ok (.iadd, 1) := by decide +kernel
theorem dX6_isOverdue_71 : decode cX6_isOverdue 71 = .ok (.if_icmp .lt 7, 3) := by decide +kernel
theorem dX6_isOverdue_74 : decode cX6_isOverdue 74 = .ok (.iconst 1, 1) := by decide +kernel
theorem dX6_isOverdue_75 : decode cX6_isOverdue 75 = .ok (.goto 4, 3) := by decide +kernel
theorem dX6_isOverdue_78 : decode cX6_isOverdue 78 = .ok (.iconst 0, 1) := by decide +kernel
theorem dX6_isOverdue_79 : decode cX6_isOverdue 79 = .ok (.istore_n 3, 1) := by decide +kernel
theorem dX6_isOverdue_80 : decode cX6_isOverdue 80 = .ok (.iinc 4 1, 3) := by decide +kernel
theorem dX6_isOverdue_83 : decode cX6_isOverdue 83 = .ok (.goto (-72), 3) := by decide +kernel
theorem dX6_isOverdue_86 : decode cX6_isOverdue 86 = .ok (.iload_n 3, 1) := by decide +kernel
theorem dX6_isOverdue_87 : decode cX6_isOverdue 87 = .ok (.ireturn, 1) := by decide +kernel
theorem w_isOverdue {l : Launch} {D : va_G} {cI : ClassId} {ad : Nat → Nat} (hI : kInj 15 ad) {st : MSt} {N : Nat} {x1 : Int32} {r : Int32} (h : M_isOverdue  N st x1 = some r) : mR l yX6_isOverdue cX6_isOverdue 6 (some .boolean) 2 D cI ad st [.int x1] r := by
  refine mm_ofR hI (by decide) rfl (Nat.le_of_ble_eq_true rfl) (fun p e s m below meth c R args ls C hr hlk hP hl hcs => ?_)
  have hx := C.1
  have hb := C.2.1
  have hown := C.2.2.2.1
  have hl : lv_has ls 6 [(0, .ref (ad 0)), (1, .int x1)] := hl
  have L11 : ∀ (x1 : Int32), ∀ (x2 : Int32), ∀ (n : Nat) (x3 : Int32) (x4 : Int32) (z3 : Int32), M_isOverdue_L11 N st x1 x2 n x3 x4 = some z3 → ∀ ls : Array Slot, lv_has ls 6 [(0, .ref (ad 0)), (1, .int x1), (2, .int x2), (3, .int x3), (4, .int x4)] → (∀ ls : Array Slot, lv_has ls 6 [(3, .int z3)] → mWR p l e R s m args below meth c r (F0 m 86 ls [])) → mWR p l e R s m args below meth c r (F0 m 11 ls []) := by
    intro x1 x2 n
    induction n with
    | zero =>
      intro x3 x4 z3 h
      exact non_some h
    | succ n ih =>
      intro x3 x4 z3 h ls hl kx
      rw [M_isOverdue_L11] at h
      refine lv_iload hx hb dX6_isOverdue_11 (lv_at hl 4 rfl) ?_
      refine lv_aload_n hx hb dX6_isOverdue_13 rfl (lv_at hl 0 rfl) ?_
      refine lv_iload_n hx hb dX6_isOverdue_14 rfl (lv_at hl 1 rfl) ?_
      refine lv_iconst (v := 4) hx hb dX6_isOverdue_15 (by decide) ?_
      obtain ⟨v2, hv2, h⟩ := bd1_some h
      refine k_of C hP hv2 (Nat.le_of_ble_eq_true rfl) hl.1 (Nat.le_of_ble_eq_true rfl) hcs dX6_isOverdue_16 ?_
      refine lv_icmp_ge (tgt := 86) hx hb dX6_isOverdue_19 rfl (fun c3 => ?_) (fun c3 => ?_)
      · have h := if_some_t h c3
        cases h
        exact kx ls (lv_sub hl [3] rfl)
      · have h := if_some_f h c3
        refine lv_aload_n hx hb dX6_isOverdue_22 rfl (lv_at hl 0 rfl) ?_
        refine lv_iload_n hx hb dX6_isOverdue_23 rfl (lv_at hl 1 rfl) ?_
        refine lv_iconst (v := 5) hx hb dX6_isOverdue_24 (by decide) ?_
        refine lv_iload hx hb dX6_isOverdue_25 (lv_at hl 4 rfl) ?_
        refine lv_iadd hx hb dX6_isOverdue_27 ?_
        obtain ⟨v4, hv4, h⟩ := bd1_some h
        refine k_of C hP hv4 (Nat.le_of_ble_eq_true rfl) hl.1 (Nat.le_of_ble_eq_true rfl) hcs dX6_isOverdue_28 ?_
        refine lv_istore (lv' := [(5, .int v4), (0, .ref (ad 0)), (1, .int x1), (2, .int x2), (3, .int x3), (4, .int x4)]) hx hb dX6_isOverdue_31 hl (by decide) rfl (fun ls hl => ?_)
        refine lv_iload_n hx hb dX6_isOverdue_33 rfl (lv_at hl 4 rfl) ?_
        refine lv_if_ne (tgt := 74) hx hb dX6_isOverdue_34 rfl (fun c5 => ?_) (fun c5 => ?_)
        · have h := if_some_f h c5
          refine lv_iconst (v := 1) hx hb dX6_isOverdue_74 (by decide) ?_
          refine lv_goto (tgt := 79) hx hb dX6_isOverdue_75 rfl ?_
          refine lv_istore_n (lv' := [(3, .int 1), (5, .int v4), (0, .ref (ad 0)), (1, .int x1), (2, .int x2), (4, .int x4)]) hx hb dX6_isOverdue_79 rfl hl (by decide) rfl (fun ls hl => ?_)
          refine lv_iinc (v := x4 + 1) (lv' := [(4, .int (x4 + 1)), (3, .int 1), (5, .int v4), (0, .ref (ad 0)), (1, .int x1), (2, .int x2)]) hx hb dX6_isOverdue_80 hl (k := 5) rfl rfl (by decide) rfl (fun ls hl => ?_)
          refine lv_goto (tgt := 11) hx hb dX6_isOverdue_83 rfl ?_
          exact ih 1 (x4 + 1) _ h ls (lv_sub hl [3, 4, 5, 1, 0] rfl) kx
        · have h := if_some_t h c5
          refine lv_aload_n hx hb dX6_isOverdue_37 rfl (lv_at hl 1 rfl) ?_
          refine lv_iload hx hb dX6_isOverdue_38 (lv_at hl 0 rfl) ?_
          refine lv_iload_n hx hb dX6_isOverdue_40 rfl (lv_at hl 3 rfl) ?_
          obtain ⟨v6, hv6, h⟩ := bd1_some h
          refine k_isOpen C hP hv6 (Nat.le_of_ble_eq_true rfl) hl.1 (Nat.le_of_ble_eq_true rfl) hcs dX6_isOverdue_41 ?_
          refine lv_if_eq (tgt := 78) hx hb dX6_isOverdue_44 rfl (fun c7 => ?_) (fun c7 => ?_)
          · have h := if_some_t h c7
            refine lv_iconst (v := 0) hx hb dX6_isOverdue_78 (by decide) ?_
            refine lv_istore_n (lv' := [(3, .int 0), (5, .int v4), (0, .ref (ad 0)), (1, .int x1), (2, .int x2), (4, .int x4)]) hx hb dX6_isOverdue_79 rfl hl (by decide) rfl (fun ls hl => ?_)
            refine lv_iinc (v := x4 + 1) (lv' := [(4, .int (x4 + 1)), (3, .int 0), (5, .int v4), (0, .ref (ad 0)), (1, .int x1), (2, .int x2)]) hx hb dX6_isOverdue_80 hl (k := 5) rfl rfl (by decide) rfl (fun ls hl => ?_)
            refine lv_goto (tgt := 11) hx hb dX6_isOverdue_83 rfl ?_
            exact ih 0 (x4 + 1) _ h ls (lv_sub hl [3, 4, 5, 1, 0] rfl) kx
          · have h := if_some_f h c7
            refine lv_aload_n hx hb dX6_isOverdue_47 rfl (lv_at hl 1 rfl) ?_
            refine g_d C hP dX6_isOverdue_48 ?_
            refine lv_iconst (v := 3) hx hb dX6_isOverdue_51 (by decide) ?_
            obtain ⟨v8, hv8, h⟩ := bd1_some h
            refine mm_ld C hP 1 (by decide) rfl hv8 dX6_isOverdue_52 ?_
            refine lv_aload_n hx hb dX6_isOverdue_53 rfl (lv_at hl 1 rfl) ?_
            refine lv_iload_n hx hb dX6_isOverdue_54 rfl (lv_at hl 2 rfl) ?_
            refine lv_bipush (v := 13) hx hb dX6_isOverdue_55 (by decide) ?_
            refine lv_iload hx hb dX6_isOverdue_57 (lv_at hl 5 rfl) ?_
            refine lv_iadd hx hb dX6_isOverdue_59 ?_
            obtain ⟨v9, hv9, h⟩ := bd1_some h
            refine k_of C hP hv9 (Nat.le_of_ble_eq_true rfl) hl.1 (Nat.le_of_ble_eq_true rfl) hcs dX6_isOverdue_60 ?_
            refine lv_aload_n hx hb dX6_isOverdue_63 rfl (lv_at hl 1 rfl) ?_
            refine lv_iload hx hb dX6_isOverdue_64 (lv_at hl 0 rfl) ?_
            refine lv_iconst (v := 2) hx hb dX6_isOverdue_66 (by decide) ?_
            obtain ⟨v10, hv10, h⟩ := bd1_some h
            refine k_its C hP hv10 (Nat.le_of_ble_eq_true rfl) hl.1 (Nat.le_of_ble_eq_true rfl) hcs dX6_isOverdue_67 ?_
            refine lv_iadd hx hb dX6_isOverdue_70 ?_
            refine lv_icmp_lt (tgt := 78) hx hb dX6_isOverdue_71 rfl (fun c11 => ?_) (fun c11 => ?_)
            · have h := if_some_t h c11
              refine lv_iconst (v := 0) hx hb dX6_isOverdue_78 (by decide) ?_
              refine lv_istore_n (lv' := [(3, .int 0), (5, .int v4), (0, .ref (ad 0)), (1, .int x1), (2, .int x2), (4, .int x4)]) hx hb dX6_isOverdue_79 rfl hl (by decide) rfl (fun ls hl => ?_)
              refine lv_iinc (v := x4 + 1) (lv' := [(4, .int (x4 + 1)), (3, .int 0), (5, .int v4), (0, .ref (ad 0)), (1, .int x1), (2, .int x2)]) hx hb dX6_isOverdue_80 hl (k := 5) rfl rfl (by decide) rfl (fun ls hl => ?_)
              refine lv_goto (tgt := 11) hx hb dX6_isOverdue_83 rfl ?_
              exact ih 0 (x4 + 1) _ h ls (lv_sub hl [3, 4, 5, 1, 0] rfl) kx
            · have h := if_some_f h c11
              refine lv_iconst (v := 1) hx hb dX6_isOverdue_74 (by decide) ?_
              refine lv_goto (tgt := 79) hx hb dX6_isOverdue_75 rfl ?_
              refine lv_istore_n (lv' := [(3, .int 1), (5, .int v4), (0, .ref (ad 0)), (1, .int x1), (2, .int x2), (4, .int x4)]) hx hb dX6_isOverdue_79 rfl hl (by decide) rfl (fun ls hl => ?_)
              refine lv_iinc (v := x4 + 1) (lv' := [(4, .int (x4 + 1)), (3, .int 1), (5, .int v4), (0, .ref (ad 0)), (1, .int x1), (2, .int x2)]) hx hb dX6_isOverdue_80 hl (k := 5) rfl rfl (by decide) rfl (fun ls hl => ?_)
              refine lv_goto (tgt := 11) hx hb dX6_isOverdue_83 rfl ?_
              exact ih 1 (x4 + 1) _ h ls (lv_sub hl [3, 4, 5, 1, 0] rfl) kx
  rw [M_isOverdue] at h
  refine lv_aload_n hx hb dX6_isOverdue_0 rfl (lv_at hl 0 rfl) ?_
  refine lv_iload_n hx hb dX6_isOverdue_1 rfl (lv_at hl 1 rfl) ?_
  obtain ⟨v1, hv1, h⟩ := bd1_some h
  refine k_bookOf C hP hv1 (Nat.le_of_ble_eq_true rfl) hl.1 (Nat.le_of_ble_eq_true rfl) hcs dX6_isOverdue_2 ?_
  refine lv_istore_n (lv' := [(2, .int v1), (0, .ref (ad 0)), (1, .int x1)]) hx hb dX6_isOverdue_5 rfl hl (by decide) rfl (fun ls hl => ?_)
  refine lv_iconst (v := 0) hx hb dX6_isOverdue_6 (by decide) ?_
  refine lv_istore_n (lv' := [(3, .int 0), (2, .int v1), (0, .ref (ad 0)), (1, .int x1)]) hx hb dX6_isOverdue_7 rfl hl (by decide) rfl (fun ls hl => ?_)
  refine lv_iconst (v := 0) hx hb dX6_isOverdue_8 (by decide) ?_
  refine lv_istore (lv' := [(4, .int 0), (3, .int 0), (2, .int v1), (0, .ref (ad 0)), (1, .int x1)]) hx hb dX6_isOverdue_9 hl (by decide) rfl (fun ls hl => ?_)
  obtain ⟨z12, hz13, h⟩ := bd1_some h
  refine L11 x1 v1 N 0 0 _ hz13 ls (lv_sub hl [3, 4, 2, 1, 0] rfl) (fun ls hl => ?_)
  refine lv_iload_n hx hb dX6_isOverdue_86 rfl (lv_at hl 0 rfl) ?_
  exact mm_zretV hx hb hr hlk h dX6_isOverdue_87
theorem q1827 : (Jvm.Cond.methodLink "ChapterLoanModel" (216 : Nat) ({ cls := "ChapterLoanModel", name := "isOverdue", desc := "(I)Z" } : Jvm.MethodName)) ∈ lw_all := lw_g (lw_at lw_m8 63 rfl) rfl
theorem q1830 : (Jvm.Cond.code ({ cls := "ChapterLoanModel", name := "isOverdue", desc := "(I)Z" } : Jvm.MethodName) prog_30_method_42_code (6 : Nat) (Option.some Jvm.ClassFile.FieldType.boolean)) ∈ lw_all := lw_g (lw_at lw_m8 66 rfl) rfl
theorem q1829 : (Jvm.Cond.instanceMethod ({ cls := "ChapterLoanModel", name := "isOverdue", desc := "(I)Z" } : Jvm.MethodName)) ∈ lw_all := lw_g (lw_at lw_m8 65 rfl) rfl
theorem k_isOverdue {N : Nat} {a0 : Int32} {v : Int32} (C : mC p R d s m args c cc nL D cI ad) (hP : mW D cI ad st H) (h : M_isOverdue N st a0 = some v) (hd : 2 + 1 ≤ d) (hsz : ls.size = nL) (hW : (rest.map fun v => v.category).sum ≤ 8) (hcs : cells ≤ R.cells ∧ slots ≤ R.slots) (hdg : decode cc pc = .ok (.invokevirtual 216, 3)) (kk : W p l e R s m args below meth c H locs cells slots Q (F0 m (pc + 3) ls (.int v :: rest))) : W p l e R s m args below meth c H locs cells slots Q (F0 m pc ls (.int a0 :: .ref (ad 0) :: rest)) :=
  mm_cR (As := [.int a0]) C hP (w_isOverdue C.2.2.2.2.2.2.1 h) (cwV 1 C.2.2.2.2.1 (lw_V q1827 q1829 qs65 q94 q1830) rfl rfl rfl (by decide +kernel) (mr_ C.2.2.2.2.2.2.2 hd (by decide))) rfl hsz rfl hW hdg hcs kk
abbrev cX6_brokenMany : ByteArray := prog_30_method_58_code
def yX6_brokenMany : MethodName := ⟨RX6, "brokenMany", "()I"⟩
theorem dX6_brokenMany_0 : decode cX6_brokenMany 0 = .ok (.iconst 0, 1) := by decide +kernel
theorem dX6_brokenMany_1 : decode cX6_brokenMany 1 = .ok (.istore_n 1, 1) := by decide +kernel
theorem dX6_brokenMany_2 : decode cX6_brokenMany 2 = .ok (.iconst 0, 1) := by decide +kernel
theorem dX6_brokenMany_3 : decode cX6_brokenMany 3 = .ok (.istore_n 2, 1) := by decide +kernel
theorem dX6_brokenMany_4 : decode cX6_brokenMany 4 = .ok (.iload_n 2, 1) := by decide +kernel
theorem dX6_brokenMany_5 : decode cX6_brokenMany 5 = .ok (.aload_n 0, 1) := by decide +kernel
theorem dX6_brokenMany_6 : decode cX6_brokenMany 6 = .ok (.getfield 7, 3) := by decide +kernel
theorem dX6_brokenMany_9 : decode cX6_brokenMany 9 = .ok (.iconst 1, 1) := by decide +kernel
theorem dX6_brokenMany_10 : decode cX6_brokenMany 10 = .ok (.iaload, 1) := by decide +kernel
theorem dX6_brokenMany_11 : decode cX6_brokenMany 11 = .ok (.if_icmp .ge 18, 3) := by decide +kernel
theorem dX6_brokenMany_14 : decode cX6_brokenMany 14 = .ok (.iload_n 1, 1) := by decide +kernel
theorem dX6_brokenMany_15 : decode cX6_brokenMany 15 = .ok (.aload_n 0, 1) := by decide +kernel
theorem dX6_brokenMany_16 : decode cX6_brokenMany 16 = .ok (.iload_n 2, 1) := by decide +kernel
theorem dX6_brokenMany_17 : decode cX6_brokenMany 17 = .ok (.iconst 3, 1) := by decide +kernel
theorem dX6_brokenMany_18 : decode cX6_brokenMany 18 = .ok (.invokevirtual 150, 3) := by decide +kernel
theorem dX6_brokenMany_21 : decode cX6_brokenMany 21 = .ok (.iadd, 1) := by decide +kernel
theorem dX6_brokenMany_22 : decode cX6_brokenMany 22 = .ok (.istore_n 1, 1) := by decide +kernel
theorem dX6_brokenMany_23 : decode cX6_brokenMany 23 = .ok (.iinc 2 1, 3) := by decide +kernel
theorem dX6_brokenMany_26 : decode cX6_brokenMany 26 = .ok (.goto (-22), 3) := by decide +kernel
theorem dX6_brokenMany_29 : decode cX6_brokenMany 29 = .ok (.iload_n 1, 1) := by decide +kernel
theorem dX6_brokenMany_30 : decode cX6_brokenMany 30 = .ok (.ireturn, 1) := by decide +kernel
theorem w_brokenMany {l : Launch} {D : va_G} {cI : ClassId} {ad : Nat → Nat} (hI : kInj 15 ad) {st : MSt} {N : Nat} {r : Int32} (h : M_brokenMany  N st = some r) : mR l yX6_brokenMany cX6_brokenMany 3 (some .int) 1 D cI ad st [] r := by
  refine mm_ofR hI (by decide) rfl (Nat.le_of_ble_eq_true rfl) (fun p e s m below meth c R args ls C hr hlk hP hl hcs => ?_)
  have hx := C.1
  have hb := C.2.1
  have hown := C.2.2.2.1
  have hl : lv_has ls 3 [(0, .ref (ad 0))] := hl
  have L4 : ∀ (n : Nat) (x1 : Int32) (x2 : Int32) (z1 : Int32), M_brokenMany_L4 N st n x1 x2 = some z1 → ∀ ls : Array Slot, lv_has ls 3 [(0, .ref (ad 0)), (1, .int x1), (2, .int x2)] → (∀ ls : Array Slot, lv_has ls 3 [(1, .int z1)] → mWR p l e R s m args below meth c r (F0 m 29 ls [])) → mWR p l e R s m args below meth c r (F0 m 4 ls []) := by
    intro n
    induction n with
    | zero =>
      intro x1 x2 z1 h
      exact non_some h
    | succ n ih =>
      intro x1 x2 z1 h ls hl kx
      rw [M_brokenMany_L4] at h
      refine lv_iload_n hx hb dX6_brokenMany_4 rfl (lv_at hl 2 rfl) ?_
      refine lv_aload_n hx hb dX6_brokenMany_5 rfl (lv_at hl 0 rfl) ?_
      refine g_d C hP dX6_brokenMany_6 ?_
      refine lv_iconst (v := 1) hx hb dX6_brokenMany_9 (by decide) ?_
      obtain ⟨v1, hv1, h⟩ := bd1_some h
      refine mm_ld C hP 1 (by decide) rfl hv1 dX6_brokenMany_10 ?_
      refine lv_icmp_ge (tgt := 29) hx hb dX6_brokenMany_11 rfl (fun c2 => ?_) (fun c2 => ?_)
      · have h := if_some_t h c2
        cases h
        exact kx ls (lv_sub hl [1] rfl)
      · have h := if_some_f h c2
        refine lv_iload_n hx hb dX6_brokenMany_14 rfl (lv_at hl 1 rfl) ?_
        refine lv_aload_n hx hb dX6_brokenMany_15 rfl (lv_at hl 0 rfl) ?_
        refine lv_iload_n hx hb dX6_brokenMany_16 rfl (lv_at hl 2 rfl) ?_
        refine lv_iconst (v := 3) hx hb dX6_brokenMany_17 (by decide) ?_
        obtain ⟨v3, hv3, h⟩ := bd1_some h
        refine k_of C hP hv3 (Nat.le_of_ble_eq_true rfl) hl.1 (Nat.le_of_ble_eq_true rfl) hcs dX6_brokenMany_18 ?_
        refine lv_iadd hx hb dX6_brokenMany_21 ?_
        refine lv_istore_n (lv' := [(1, .int (x1 + v3)), (0, .ref (ad 0)), (2, .int x2)]) hx hb dX6_brokenMany_22 rfl hl (by decide) rfl (fun ls hl => ?_)
        refine lv_iinc (v := x2 + 1) (lv' := [(2, .int (x2 + 1)), (1, .int (x1 + v3)), (0, .ref (ad 0))]) hx hb dX6_brokenMany_23 hl (k := 2) rfl rfl (by decide) rfl (fun ls hl => ?_)
        refine lv_goto (tgt := 4) hx hb dX6_brokenMany_26 rfl ?_
        exact ih (x1 + v3) (x2 + 1) _ h ls (lv_sub hl [2, 1, 0] rfl) kx
  rw [M_brokenMany] at h
  refine lv_iconst (v := 0) hx hb dX6_brokenMany_0 (by decide) ?_
  refine lv_istore_n (lv' := [(1, .int 0), (0, .ref (ad 0))]) hx hb dX6_brokenMany_1 rfl hl (by decide) rfl (fun ls hl => ?_)
  refine lv_iconst (v := 0) hx hb dX6_brokenMany_2 (by decide) ?_
  refine lv_istore_n (lv' := [(2, .int 0), (1, .int 0), (0, .ref (ad 0))]) hx hb dX6_brokenMany_3 rfl hl (by decide) rfl (fun ls hl => ?_)
  obtain ⟨z4, hz5, h⟩ := bd1_some h
  refine L4  N 0 0 _ hz5 ls (lv_sub hl [2, 1, 0] rfl) (fun ls hl => ?_)
  refine lv_iload_n hx hb dX6_brokenMany_29 rfl (lv_at hl 0 rfl) ?_
  exact mm_iret hx hb hr hlk h dX6_brokenMany_30
theorem q1831 : (Jvm.Cond.methodLink "ChapterLoanModel" (232 : Nat) ({ cls := "ChapterLoanModel", name := "brokenMany", desc := "()I" } : Jvm.MethodName)) ∈ lw_all := lw_g (lw_at lw_m8 67 rfl) rfl
theorem q1834 : (Jvm.Cond.code ({ cls := "ChapterLoanModel", name := "brokenMany", desc := "()I" } : Jvm.MethodName) prog_30_method_58_code (3 : Nat) (Option.some Jvm.ClassFile.FieldType.int)) ∈ lw_all := lw_g (lw_at lw_m8 70 rfl) rfl
theorem q1833 : (Jvm.Cond.instanceMethod ({ cls := "ChapterLoanModel", name := "brokenMany", desc := "()I" } : Jvm.MethodName)) ∈ lw_all := lw_g (lw_at lw_m8 69 rfl) rfl
theorem k_brokenMany {N : Nat} {v : Int32} (C : mC p R d s m args c cc nL D cI ad) (hP : mW D cI ad st H) (h : M_brokenMany N st = some v) (hd : 1 + 1 ≤ d) (hsz : ls.size = nL) (hW : (rest.map fun v => v.category).sum ≤ 8) (hcs : cells ≤ R.cells ∧ slots ≤ R.slots) (hdg : decode cc pc = .ok (.invokevirtual 232, 3)) (kk : W p l e R s m args below meth c H locs cells slots Q (F0 m (pc + 3) ls (.int v :: rest))) : W p l e R s m args below meth c H locs cells slots Q (F0 m pc ls (.ref (ad 0) :: rest)) :=
  mm_cR (As := []) C hP (w_brokenMany C.2.2.2.2.2.2.1 h) (cwV 0 C.2.2.2.2.1 (lw_V q1831 q1833 qs66 q94 q1834) rfl rfl rfl (by decide +kernel) (mr_ C.2.2.2.2.2.2.2 hd (by decide))) rfl hsz rfl hW hdg hcs kk
abbrev cX6_keepAside : ByteArray := prog_30_method_13_code
def yX6_keepAside : MethodName := ⟨RX6, "keepAside", "()V"⟩
theorem dX6_keepAside_0 : decode cX6_keepAside 0 = .ok (.iconst 0, 1) := by decide +kernel
theorem dX6_keepAside_1 : decode cX6_keepAside 1 = .ok (.istore_n 1, 1) := by decide +kernel
theorem dX6_keepAside_2 : decode cX6_keepAside 2 = .ok (.iload_n 1, 1) := by decide +kernel
theorem dX6_keepAside_3 : decode cX6_keepAside 3 = .ok (.sipush 170, 3) := by decide +kernel
theorem dX6_keepAside_6 : decode cX6_keepAside 6 = .ok (.if_icmp .ge 21, 3) := by decide +kernel
theorem dX6_keepAside_9 : decode cX6_keepAside 9 = .ok (.aload_n 0, 1) := by decide +kernel
theorem dX6_keepAside_10 : decode cX6_keepAside 10 = .ok (.getfield 16, 3) := by decide +kernel
theorem dX6_keepAside_13 : decode cX6_keepAside 13 = .ok (.iload_n 1, 1) := by decide +kernel
theorem dX6_keepAside_14 : decode cX6_keepAside 14 = .ok (.aload_n 0, 1) := by decide +kernel
theorem dX6_keepAside_15 : decode cX6_keepAside 15 = .ok (.getfield 7, 3) := by decide +kernel
theorem dX6_keepAside_18 : decode cX6_keepAside 18 = .ok (.iload_n 1, 1) := by decide +kernel
theorem dX6_keepAside_19 : decode cX6_keepAside 19 = .ok (.iaload, 1) := by decide +kernel
theorem dX6_keepAside_20 : decode cX6_keepAside 20 = .ok (.iastore, 1) := by decide +kernel
theorem dX6_keepAside_21 : decode cX6_keepAside 21 = .ok (.iinc 1 1, 3) := by decide +kernel
theorem dX6_keepAside_24 : decode cX6_keepAside 24 = .ok (.goto (-22), 3) := by decide +kernel
theorem dX6_keepAside_27 : decode cX6_keepAside 27 = .ok (.return_, 1) := by decide +kernel
theorem w_keepAside {l : Launch} {D : va_G} {cI : ClassId} {ad : Nat → Nat} (hI : kInj 15 ad) {st st' : MSt} {N : Nat} (h : M_keepAside  N st = some st') : mV l yX6_keepAside cX6_keepAside 2 none 0 D cI ad st [] none st' := by
  refine mm_ofV hI (by decide) rfl (Nat.le_of_ble_eq_true rfl) (fun p e s m below meth c R args ls C hr hlk hP hS hl hcs => ?_)
  have hx := C.1
  have hb := C.2.1
  have hown := C.2.2.2.1
  have hl : lv_has ls 2 [(0, .ref (ad 0))] := hl
  have hP : mW D cI ad st s.heap := hP
  have L2 : ∀ (n : Nat) (st : MSt) (x1 : Int32) (st2 : MSt), M_keepAside_L2 N n st x1 = some st2 → ∀ (H : Heap) (locs : List Loc), mW D cI ad st H → va_S (kF 15 ad) s.heap H locs → ∀ ls : Array Slot, lv_has ls 2 [(0, .ref (ad 0)), (1, .int x1)] → (∀ (H : Heap) (locs : List Loc), mW D cI ad st2 H → va_S (kF 15 ad) s.heap H locs → ∀ ls : Array Slot, lv_has ls 2 [] → mWV p l e R s m args below meth c D cI ad none st' H locs (F0 m 27 ls [])) → mWV p l e R s m args below meth c D cI ad none st' H locs (F0 m 2 ls []) := by
    intro n
    induction n with
    | zero =>
      intro st x1 st2 h
      exact non_some h
    | succ n ih =>
      intro st x1 st2 h H locs hP hS ls hl kx
      rw [M_keepAside_L2] at h
      refine lv_iload_n hx hb dX6_keepAside_2 rfl (lv_at hl 1 rfl) ?_
      refine lv_sipush (v := 170) hx hb dX6_keepAside_3 (by decide) ?_
      refine lv_icmp_ge (tgt := 27) hx hb dX6_keepAside_6 rfl (fun c1 => ?_) (fun c1 => ?_)
      · have h := if_some_t h c1
        cases h
        exact kx _ _ hP hS ls (lv_sub hl [] rfl)
      · have h := if_some_f h c1
        refine lv_aload_n hx hb dX6_keepAside_9 rfl (lv_at hl 0 rfl) ?_
        refine g_aside C hP dX6_keepAside_10 ?_
        refine lv_iload_n hx hb dX6_keepAside_13 rfl (lv_at hl 1 rfl) ?_
        refine lv_aload_n hx hb dX6_keepAside_14 rfl (lv_at hl 0 rfl) ?_
        refine g_d C hP dX6_keepAside_15 ?_
        refine lv_iload_n hx hb dX6_keepAside_18 rfl (lv_at hl 1 rfl) ?_
        obtain ⟨v2, hv2, h⟩ := bd1_some h
        refine mm_ld C hP 1 (by decide) rfl hv2 dX6_keepAside_19 ?_
        obtain ⟨b3, hb3, h⟩ := bd1_some h
        refine mm_st C hP hS 3 (by decide) rfl hb3 dX6_keepAside_20 (fun H locs hP hS => ?_)
        refine lv_iinc (v := x1 + 1) (lv' := [(1, .int (x1 + 1)), (0, .ref (ad 0))]) hx hb dX6_keepAside_21 hl (k := 1) rfl rfl (by decide) rfl (fun ls hl => ?_)
        refine lv_goto (tgt := 2) hx hb dX6_keepAside_24 rfl ?_
        exact ih (sa st 3 b3) (x1 + 1) _ h _ _ hP hS ls (lv_sub hl [1, 0] rfl) kx
  rw [M_keepAside] at h
  refine lv_iconst (v := 0) hx hb dX6_keepAside_0 (by decide) ?_
  refine lv_istore_n (lv' := [(1, .int 0), (0, .ref (ad 0))]) hx hb dX6_keepAside_1 rfl hl (by decide) rfl (fun ls hl => ?_)
  obtain ⟨st4, hz5, h⟩ := bd1_some h
  refine L2  N _ 0 _ hz5 _ _ hP hS ls (lv_sub hl [1, 0] rfl) (fun H locs hP hS ls hl => ?_)
  exact mm_vret hx hb hr hlk h hP hS dX6_keepAside_27
theorem q1845 : (Jvm.Cond.methodLink "ChapterLoanModel" (243 : Nat) ({ cls := "ChapterLoanModel", name := "keepAside", desc := "()V" } : Jvm.MethodName)) ∈ lw_all := lw_g (lw_at lw_m8 81 rfl) rfl
theorem q1848 : (Jvm.Cond.code ({ cls := "ChapterLoanModel", name := "keepAside", desc := "()V" } : Jvm.MethodName) prog_30_method_13_code (2 : Nat) (Option.none : Option Jvm.ClassFile.FieldType)) ∈ lw_all := lw_g (lw_at lw_m8 84 rfl) rfl
theorem q1847 : (Jvm.Cond.instanceMethod ({ cls := "ChapterLoanModel", name := "keepAside", desc := "()V" } : Jvm.MethodName)) ∈ lw_all := lw_g (lw_at lw_m8 83 rfl) rfl
theorem k_keepAside {N : Nat} {st' : MSt} (C : mC p R d s m args c cc nL D cI ad) (hP : mW D cI ad st H) (hS : va_S (kF 15 ad) H0 H locs) (h : M_keepAside N st = some st') (hd : 0 + 1 ≤ d) (hsz : ls.size = nL) (hW : (rest.map fun v => v.category).sum ≤ 8) (hcs : cells ≤ R.cells ∧ slots ≤ R.slots) (hdg : decode cc pc = .ok (.invokevirtual 243, 3)) (kk : ∀ (H1 : Heap) (locs1 : List Loc), mW D cI ad st' H1 → va_S (kF 15 ad) H0 H1 locs1 → W p l e R s m args below meth c H1 locs1 cells slots Q (F0 m (pc + 3) ls (rest))) : W p l e R s m args below meth c H locs cells slots Q (F0 m pc ls (.ref (ad 0) :: rest)) :=
  mm_cV (As := []) C hP hS (w_keepAside C.2.2.2.2.2.2.1 h) (cwV 0 C.2.2.2.2.1 (lw_V q1845 q1847 qs67 q94 q1848) rfl rfl rfl (by decide +kernel) (mr_ C.2.2.2.2.2.2.2 hd (by decide))) rfl hsz rfl hW hdg hcs kk
abbrev cX6_putBack : ByteArray := prog_30_method_14_code
def yX6_putBack : MethodName := ⟨RX6, "putBack", "()V"⟩
theorem dX6_putBack_0 : decode cX6_putBack 0 = .ok (.iconst 0, 1) := by decide +kernel
theorem dX6_putBack_1 : decode cX6_putBack 1 = .ok (.istore_n 1, 1) := by decide +kernel
theorem dX6_putBack_2 : decode cX6_putBack 2 = .ok (.iload_n 1, 1) := by decide +kernel
theorem dX6_putBack_3 : decode cX6_putBack 3 = .ok (.sipush 170, 3) := by decide +kernel
theorem dX6_putBack_6 : decode cX6_putBack 6 = .ok (.if_icmp .ge 21, 3) := by decide +kernel
theorem dX6_putBack_9 : decode cX6_putBack 9 = .ok (.aload_n 0, 1) := by decide +kernel
theorem dX6_putBack_10 : decode cX6_putBack 10 = .ok (.getfield 7, 3) := by decide +kernel
theorem dX6_putBack_13 : decode cX6_putBack 13 = .ok (.iload_n 1, 1) := by decide +kernel
theorem dX6_putBack_14 : decode cX6_putBack 14 = .ok (.aload_n 0, 1) := by decide +kernel
theorem dX6_putBack_15 : decode cX6_putBack 15 = .ok (.getfield 16, 3) := by decide +kernel
theorem dX6_putBack_18 : decode cX6_putBack 18 = .ok (.iload_n 1, 1) := by decide +kernel
theorem dX6_putBack_19 : decode cX6_putBack 19 = .ok (.iaload, 1) := by decide +kernel
theorem dX6_putBack_20 : decode cX6_putBack 20 = .ok (.iastore, 1) := by decide +kernel
theorem dX6_putBack_21 : decode cX6_putBack 21 = .ok (.iinc 1 1, 3) := by decide +kernel
theorem dX6_putBack_24 : decode cX6_putBack 24 = .ok (.goto (-22), 3) := by decide +kernel
theorem dX6_putBack_27 : decode cX6_putBack 27 = .ok (.return_, 1) := by decide +kernel
theorem w_putBack {l : Launch} {D : va_G} {cI : ClassId} {ad : Nat → Nat} (hI : kInj 15 ad) {st st' : MSt} {N : Nat} (h : M_putBack  N st = some st') : mV l yX6_putBack cX6_putBack 2 none 0 D cI ad st [] none st' := by
  refine mm_ofV hI (by decide) rfl (Nat.le_of_ble_eq_true rfl) (fun p e s m below meth c R args ls C hr hlk hP hS hl hcs => ?_)
  have hx := C.1
  have hb := C.2.1
  have hown := C.2.2.2.1
  have hl : lv_has ls 2 [(0, .ref (ad 0))] := hl
  have hP : mW D cI ad st s.heap := hP
  have L2 : ∀ (n : Nat) (st : MSt) (x1 : Int32) (st2 : MSt), M_putBack_L2 N n st x1 = some st2 → ∀ (H : Heap) (locs : List Loc), mW D cI ad st H → va_S (kF 15 ad) s.heap H locs → ∀ ls : Array Slot, lv_has ls 2 [(0, .ref (ad 0)), (1, .int x1)] → (∀ (H : Heap) (locs : List Loc), mW D cI ad st2 H → va_S (kF 15 ad) s.heap H locs → ∀ ls : Array Slot, lv_has ls 2 [] → mWV p l e R s m args below meth c D cI ad none st' H locs (F0 m 27 ls [])) → mWV p l e R s m args below meth c D cI ad none st' H locs (F0 m 2 ls []) := by
    intro n
    induction n with
    | zero =>
      intro st x1 st2 h
      exact non_some h
    | succ n ih =>
      intro st x1 st2 h H locs hP hS ls hl kx
      rw [M_putBack_L2] at h
      refine lv_iload_n hx hb dX6_putBack_2 rfl (lv_at hl 1 rfl) ?_
      refine lv_sipush (v := 170) hx hb dX6_putBack_3 (by decide) ?_
      refine lv_icmp_ge (tgt := 27) hx hb dX6_putBack_6 rfl (fun c1 => ?_) (fun c1 => ?_)
      · have h := if_some_t h c1
        cases h
        exact kx _ _ hP hS ls (lv_sub hl [] rfl)
      · have h := if_some_f h c1
        refine lv_aload_n hx hb dX6_putBack_9 rfl (lv_at hl 0 rfl) ?_
        refine g_d C hP dX6_putBack_10 ?_
        refine lv_iload_n hx hb dX6_putBack_13 rfl (lv_at hl 1 rfl) ?_
        refine lv_aload_n hx hb dX6_putBack_14 rfl (lv_at hl 0 rfl) ?_
        refine g_aside C hP dX6_putBack_15 ?_
        refine lv_iload_n hx hb dX6_putBack_18 rfl (lv_at hl 1 rfl) ?_
        obtain ⟨v2, hv2, h⟩ := bd1_some h
        refine mm_ld C hP 3 (by decide) rfl hv2 dX6_putBack_19 ?_
        obtain ⟨b3, hb3, h⟩ := bd1_some h
        refine mm_st C hP hS 1 (by decide) rfl hb3 dX6_putBack_20 (fun H locs hP hS => ?_)
        refine lv_iinc (v := x1 + 1) (lv' := [(1, .int (x1 + 1)), (0, .ref (ad 0))]) hx hb dX6_putBack_21 hl (k := 1) rfl rfl (by decide) rfl (fun ls hl => ?_)
        refine lv_goto (tgt := 2) hx hb dX6_putBack_24 rfl ?_
        exact ih (sa st 1 b3) (x1 + 1) _ h _ _ hP hS ls (lv_sub hl [1, 0] rfl) kx
  rw [M_putBack] at h
  refine lv_iconst (v := 0) hx hb dX6_putBack_0 (by decide) ?_
  refine lv_istore_n (lv' := [(1, .int 0), (0, .ref (ad 0))]) hx hb dX6_putBack_1 rfl hl (by decide) rfl (fun ls hl => ?_)
  obtain ⟨st4, hz5, h⟩ := bd1_some h
  refine L2  N _ 0 _ hz5 _ _ hP hS ls (lv_sub hl [1, 0] rfl) (fun H locs hP hS ls hl => ?_)
  exact mm_vret hx hb hr hlk h hP hS dX6_putBack_27
theorem q1849 : (Jvm.Cond.methodLink "ChapterLoanModel" (246 : Nat) ({ cls := "ChapterLoanModel", name := "putBack", desc := "()V" } : Jvm.MethodName)) ∈ lw_all := lw_g (lw_at lw_m8 85 rfl) rfl
theorem q1852 : (Jvm.Cond.code ({ cls := "ChapterLoanModel", name := "putBack", desc := "()V" } : Jvm.MethodName) prog_30_method_14_code (2 : Nat) (Option.none : Option Jvm.ClassFile.FieldType)) ∈ lw_all := lw_g (lw_at lw_m8 88 rfl) rfl
theorem q1851 : (Jvm.Cond.instanceMethod ({ cls := "ChapterLoanModel", name := "putBack", desc := "()V" } : Jvm.MethodName)) ∈ lw_all := lw_g (lw_at lw_m8 87 rfl) rfl
theorem k_putBack {N : Nat} {st' : MSt} (C : mC p R d s m args c cc nL D cI ad) (hP : mW D cI ad st H) (hS : va_S (kF 15 ad) H0 H locs) (h : M_putBack N st = some st') (hd : 0 + 1 ≤ d) (hsz : ls.size = nL) (hW : (rest.map fun v => v.category).sum ≤ 8) (hcs : cells ≤ R.cells ∧ slots ≤ R.slots) (hdg : decode cc pc = .ok (.invokevirtual 246, 3)) (kk : ∀ (H1 : Heap) (locs1 : List Loc), mW D cI ad st' H1 → va_S (kF 15 ad) H0 H1 locs1 → W p l e R s m args below meth c H1 locs1 cells slots Q (F0 m (pc + 3) ls (rest))) : W p l e R s m args below meth c H locs cells slots Q (F0 m pc ls (.ref (ad 0) :: rest)) :=
  mm_cV (As := []) C hP hS (w_putBack C.2.2.2.2.2.2.1 h) (cwV 0 C.2.2.2.2.1 (lw_V q1849 q1851 qs68 q94 q1852) rfl rfl rfl (by decide +kernel) (mr_ C.2.2.2.2.2.2.2 hd (by decide))) rfl hsz rfl hW hdg hcs kk
abbrev cX6_looksAt : ByteArray := prog_30_method_65_code
def yX6_looksAt : MethodName := ⟨RX6, "looksAt", "(IIZ)V"⟩
theorem dX6_looksAt_0 : decode cX6_looksAt 0 = .ok (.iload_n 3, 1) := by decide +kernel
theorem dX6_looksAt_1 : decode cX6_looksAt 1 = .ok (.ifCond .eq 34, 3) := by decide +kernel
theorem dX6_looksAt_4 : decode cX6_looksAt 4 = .ok (.aload_n 0, 1) := by decide +kernel
theorem dX6_looksAt_5 : decode cX6_looksAt 5 = .ok (.iload_n 1, 1) := by decide +kernel
theorem dX6_looksAt_6 : decode cX6_looksAt 6 = .ok (.invokevirtual 191, 3) := by decide +kernel
theorem dX6_looksAt_9 : decode cX6_looksAt 9 = .ok (.ifCond .ne 22, 3) := by decide +kernel
theorem dX6_looksAt_12 : decode cX6_looksAt 12 = .ok (.aload_n 0, 1) := by decide +kernel
theorem dX6_looksAt_13 : decode cX6_looksAt 13 = .ok (.getfield 249, 3) := by decide +kernel
theorem dX6_looksAt_16 : decode cX6_looksAt 16 = .ok (.ifCond .lt 11, 3) := by decide +kernel
theorem dX6_looksAt_19 : decode cX6_looksAt 19 = .ok (.iload_n 2, 1) := by decide +kernel
theorem dX6_looksAt_20 : decode cX6_looksAt 20 = .ok (.aload_n 0, 1) := by decide +kernel
theorem dX6_looksAt_21 : decode cX6_looksAt 21 = .ok (.getfield 249, 3) := by decide +kernel
theorem dX6_looksAt_24 : decode cX6_looksAt 24 = .ok (.if_icmp .ge 7, 3) := by decide +kernel
theorem dX6_looksAt_27 : decode cX6_looksAt 27 = .ok (.iconst 1, 1) := by decide +kernel
theorem dX6_looksAt_28 : decode cX6_looksAt 28 = .ok (.goto 20, 3) := by decide +kernel
theorem dX6_looksAt_31 : decode cX6_looksAt 31 = .ok (.iconst 0, 1) := by decide +kernel
theorem dX6_looksAt_32 : decode cX6_looksAt 32 = .ok (.goto 16, 3) := by decide +kernel
theorem dX6_looksAt_35 : decode cX6_looksAt 35 = .ok (.iload_n 2, 1) := by decide +kernel
theorem dX6_looksAt_36 : decode cX6_looksAt 36 = .ok (.aload_n 0, 1) := by decide +kernel
theorem dX6_looksAt_37 : decode cX6_looksAt 37 = .ok (.getfield 249, 3) := by decide +kernel
theorem dX6_looksAt_40 : decode cX6_looksAt 40 = .ok (.if_icmp .le 7, 3) := by decide +kernel
theorem dX6_looksAt_43 : decode cX6_looksAt 43 = .ok (.iconst 1, 1) := by decide +kernel
theorem dX6_looksAt_44 : decode cX6_looksAt 44 = .ok (.goto 4, 3) := by decide +kernel
theorem dX6_looksAt_47 : decode cX6_looksAt 47 = .ok (.iconst 0, 1) := by decide +kernel
theorem dX6_looksAt_48 : decode cX6_looksAt 48 = .ok (.istore 4, 2) := by decide +kernel
theorem dX6_looksAt_50 : decode cX6_looksAt 50 = .ok (.iload 4, 2) := by decide +kernel
theorem dX6_looksAt_52 : decode cX6_looksAt 52 = .ok (.ifCond .eq 37, 3) := by decide +kernel
theorem dX6_looksAt_55 : decode cX6_looksAt 55 = .ok (.aload_n 0, 1) := by decide +kernel
theorem dX6_looksAt_56 : decode cX6_looksAt 56 = .ok (.iload_n 2, 1) := by decide +kernel
theorem dX6_looksAt_57 : decode cX6_looksAt 57 = .ok (.putfield 249, 3) := by decide +kernel
theorem dX6_looksAt_60 : decode cX6_looksAt 60 = .ok (.iconst 0, 1) := by decide +kernel
theorem dX6_looksAt_61 : decode cX6_looksAt 61 = .ok (.istore 5, 2) := by decide +kernel
theorem dX6_looksAt_63 : decode cX6_looksAt 63 = .ok (.iload 5, 2) := by decide +kernel
theorem dX6_looksAt_65 : decode cX6_looksAt 65 = .ok (.iload_n 2, 1) := by decide +kernel
theorem dX6_looksAt_66 : decode cX6_looksAt 66 = .ok (.if_icmp .ge 23, 3) := by decide +kernel
theorem dX6_looksAt_69 : decode cX6_looksAt 69 = .ok (.aload_n 0, 1) := by decide +kernel
theorem dX6_looksAt_70 : decode cX6_looksAt 70 = .ok (.getfield 35, 3) := by decide +kernel
theorem dX6_looksAt_73 : decode cX6_looksAt 73 = .ok (.iload 5, 2) := by decide +kernel
theorem dX6_looksAt_75 : decode cX6_looksAt 75 = .ok (.aload_n 0, 1) := by decide +kernel
theorem dX6_looksAt_76 : decode cX6_looksAt 76 = .ok (.getfield 32, 3) := by decide +kernel
theorem dX6_looksAt_79 : decode cX6_looksAt 79 = .ok (.iload 5, 2) := by decide +kernel
theorem dX6_looksAt_81 : decode cX6_looksAt 81 = .ok (.iaload, 1) := by decide +kernel
theorem dX6_looksAt_82 : decode cX6_looksAt 82 = .ok (.iastore, 1) := by decide +kernel
theorem dX6_looksAt_83 : decode cX6_looksAt 83 = .ok (.iinc 5 1, 3) := by decide +kernel
theorem dX6_looksAt_86 : decode cX6_looksAt 86 = .ok (.goto (-23), 3) := by decide +kernel
theorem dX6_looksAt_89 : decode cX6_looksAt 89 = .ok (.return_, 1) := by decide +kernel
theorem w_looksAt {l : Launch} {D : va_G} {cI : ClassId} {ad : Nat → Nat} (hI : kInj 15 ad) {st st' : MSt} {N : Nat} {x1 : Int32} {x2 : Int32} {x3 : Int32} (h : M_looksAt  N st x1 x2 x3 = some st') : mV l yX6_looksAt cX6_looksAt 6 none 3 D cI ad st [.int x1, .int x2, .int x3] none st' := by
  refine mm_ofV hI (by decide) rfl (Nat.le_of_ble_eq_true rfl) (fun p e s m below meth c R args ls C hr hlk hP hS hl hcs => ?_)
  have hx := C.1
  have hb := C.2.1
  have hown := C.2.2.2.1
  have hl : lv_has ls 6 [(0, .ref (ad 0)), (1, .int x1), (2, .int x2), (3, .int x3)] := hl
  have hP : mW D cI ad st s.heap := hP
  have L63 : ∀ (x2 : Int32), ∀ (n : Nat) (st : MSt) (x5 : Int32) (st2 : MSt), M_looksAt_L63 N x2 n st x5 = some st2 → ∀ (H : Heap) (locs : List Loc), mW D cI ad st H → va_S (kF 15 ad) s.heap H locs → ∀ ls : Array Slot, lv_has ls 6 [(0, .ref (ad 0)), (2, .int x2), (5, .int x5)] → (∀ (H : Heap) (locs : List Loc), mW D cI ad st2 H → va_S (kF 15 ad) s.heap H locs → ∀ ls : Array Slot, lv_has ls 6 [] → mWV p l e R s m args below meth c D cI ad none st' H locs (F0 m 89 ls [])) → mWV p l e R s m args below meth c D cI ad none st' H locs (F0 m 63 ls []) := by
    intro x2 n
    induction n with
    | zero =>
      intro st x5 st2 h
      exact non_some h
    | succ n ih =>
      intro st x5 st2 h H locs hP hS ls hl kx
      rw [M_looksAt_L63] at h
      refine lv_iload hx hb dX6_looksAt_63 (lv_at hl 2 rfl) ?_
      refine lv_iload_n hx hb dX6_looksAt_65 rfl (lv_at hl 1 rfl) ?_
      refine lv_icmp_ge (tgt := 89) hx hb dX6_looksAt_66 rfl (fun c3 => ?_) (fun c3 => ?_)
      · have h := if_some_t h c3
        cases h
        exact kx _ _ hP hS ls (lv_sub hl [] rfl)
      · have h := if_some_f h c3
        refine lv_aload_n hx hb dX6_looksAt_69 rfl (lv_at hl 0 rfl) ?_
        refine g_bestRow C hP dX6_looksAt_70 ?_
        refine lv_iload hx hb dX6_looksAt_73 (lv_at hl 2 rfl) ?_
        refine lv_aload_n hx hb dX6_looksAt_75 rfl (lv_at hl 0 rfl) ?_
        refine g_row C hP dX6_looksAt_76 ?_
        refine lv_iload hx hb dX6_looksAt_79 (lv_at hl 2 rfl) ?_
        obtain ⟨v4, hv4, h⟩ := bd1_some h
        refine mm_ld C hP 7 (by decide) rfl hv4 dX6_looksAt_81 ?_
        obtain ⟨b5, hb5, h⟩ := bd1_some h
        refine mm_st C hP hS 8 (by decide) rfl hb5 dX6_looksAt_82 (fun H locs hP hS => ?_)
        refine lv_iinc (v := x5 + 1) (lv' := [(5, .int (x5 + 1)), (0, .ref (ad 0)), (2, .int x2)]) hx hb dX6_looksAt_83 hl (k := 2) rfl rfl (by decide) rfl (fun ls hl => ?_)
        refine lv_goto (tgt := 63) hx hb dX6_looksAt_86 rfl ?_
        exact ih (sa st 8 b5) (x5 + 1) _ h _ _ hP hS ls (lv_sub hl [1, 2, 0] rfl) kx
  rw [M_looksAt] at h
  refine lv_iload_n hx hb dX6_looksAt_0 rfl (lv_at hl 3 rfl) ?_
  refine lv_if_eq (tgt := 35) hx hb dX6_looksAt_1 rfl (fun c1 => ?_) (fun c1 => ?_)
  · have h := if_some_t h c1
    refine lv_iload_n hx hb dX6_looksAt_35 rfl (lv_at hl 2 rfl) ?_
    refine lv_aload_n hx hb dX6_looksAt_36 rfl (lv_at hl 0 rfl) ?_
    refine g_bestMany C hP dX6_looksAt_37 ?_
    refine lv_icmp_le (tgt := 47) hx hb dX6_looksAt_40 rfl (fun c2 => ?_) (fun c2 => ?_)
    · have h := if_some_t h c2
      refine lv_iconst (v := 0) hx hb dX6_looksAt_47 (by decide) ?_
      refine lv_istore (lv' := [(4, .int 0), (0, .ref (ad 0)), (1, .int x1), (2, .int x2), (3, .int x3)]) hx hb dX6_looksAt_48 hl (by decide) rfl (fun ls hl => ?_)
      refine lv_iload hx hb dX6_looksAt_50 (lv_at hl 0 rfl) ?_
      refine lv_if_eq (tgt := 89) hx hb dX6_looksAt_52 rfl (fun _ => ?_) (fun c => absurd c (by decide))
      exact mm_vret hx hb hr hlk h hP hS dX6_looksAt_89
    · have h := if_some_f h c2
      refine lv_iconst (v := 1) hx hb dX6_looksAt_43 (by decide) ?_
      refine lv_goto (tgt := 48) hx hb dX6_looksAt_44 rfl ?_
      refine lv_istore (lv' := [(4, .int 1), (0, .ref (ad 0)), (1, .int x1), (2, .int x2), (3, .int x3)]) hx hb dX6_looksAt_48 hl (by decide) rfl (fun ls hl => ?_)
      refine lv_iload hx hb dX6_looksAt_50 (lv_at hl 0 rfl) ?_
      refine lv_if_eq (tgt := 89) hx hb dX6_looksAt_52 rfl (fun c => absurd c (by decide)) (fun _ => ?_)
      refine lv_aload_n hx hb dX6_looksAt_55 rfl (lv_at hl 1 rfl) ?_
      refine lv_iload_n hx hb dX6_looksAt_56 rfl (lv_at hl 3 rfl) ?_
      refine p_bestMany C hP hS dX6_looksAt_57 (fun H locs hP hS => ?_)
      refine lv_iconst (v := 0) hx hb dX6_looksAt_60 (by decide) ?_
      refine lv_istore (lv' := [(5, .int 0), (4, .int 1), (0, .ref (ad 0)), (1, .int x1), (2, .int x2), (3, .int x3)]) hx hb dX6_looksAt_61 hl (by decide) rfl (fun ls hl => ?_)
      obtain ⟨st6, hz7, h⟩ := bd1_some h
      refine L63 x2 N _ 0 _ hz7 _ _ hP hS ls (lv_sub hl [2, 4, 0] rfl) (fun H locs hP hS ls hl => ?_)
      exact mm_vret hx hb hr hlk h hP hS dX6_looksAt_89
  · have h := if_some_f h c1
    refine lv_aload_n hx hb dX6_looksAt_4 rfl (lv_at hl 0 rfl) ?_
    refine lv_iload_n hx hb dX6_looksAt_5 rfl (lv_at hl 1 rfl) ?_
    obtain ⟨v8, hv8, h⟩ := bd1_some h
    refine k_openOf C hP hv8 (Nat.le_of_ble_eq_true rfl) hl.1 (Nat.le_of_ble_eq_true rfl) hcs dX6_looksAt_6 ?_
    refine lv_if_ne (tgt := 31) hx hb dX6_looksAt_9 rfl (fun c9 => ?_) (fun c9 => ?_)
    · have h := if_some_f h c9
      refine lv_iconst (v := 0) hx hb dX6_looksAt_31 (by decide) ?_
      refine lv_goto (tgt := 48) hx hb dX6_looksAt_32 rfl ?_
      refine lv_istore (lv' := [(4, .int 0), (0, .ref (ad 0)), (1, .int x1), (2, .int x2), (3, .int x3)]) hx hb dX6_looksAt_48 hl (by decide) rfl (fun ls hl => ?_)
      refine lv_iload hx hb dX6_looksAt_50 (lv_at hl 0 rfl) ?_
      refine lv_if_eq (tgt := 89) hx hb dX6_looksAt_52 rfl (fun _ => ?_) (fun c => absurd c (by decide))
      exact mm_vret hx hb hr hlk h hP hS dX6_looksAt_89
    · have h := if_some_t h c9
      refine lv_aload_n hx hb dX6_looksAt_12 rfl (lv_at hl 0 rfl) ?_
      refine g_bestMany C hP dX6_looksAt_13 ?_
      refine lv_if_lt (tgt := 27) hx hb dX6_looksAt_16 rfl (fun c10 => ?_) (fun c10 => ?_)
      · have h := if_some_t h c10
        refine lv_iconst (v := 1) hx hb dX6_looksAt_27 (by decide) ?_
        refine lv_goto (tgt := 48) hx hb dX6_looksAt_28 rfl ?_
        refine lv_istore (lv' := [(4, .int 1), (0, .ref (ad 0)), (1, .int x1), (2, .int x2), (3, .int x3)]) hx hb dX6_looksAt_48 hl (by decide) rfl (fun ls hl => ?_)
        refine lv_iload hx hb dX6_looksAt_50 (lv_at hl 0 rfl) ?_
        refine lv_if_eq (tgt := 89) hx hb dX6_looksAt_52 rfl (fun c => absurd c (by decide)) (fun _ => ?_)
        refine lv_aload_n hx hb dX6_looksAt_55 rfl (lv_at hl 1 rfl) ?_
        refine lv_iload_n hx hb dX6_looksAt_56 rfl (lv_at hl 3 rfl) ?_
        refine p_bestMany C hP hS dX6_looksAt_57 (fun H locs hP hS => ?_)
        refine lv_iconst (v := 0) hx hb dX6_looksAt_60 (by decide) ?_
        refine lv_istore (lv' := [(5, .int 0), (4, .int 1), (0, .ref (ad 0)), (1, .int x1), (2, .int x2), (3, .int x3)]) hx hb dX6_looksAt_61 hl (by decide) rfl (fun ls hl => ?_)
        obtain ⟨st11, hz12, h⟩ := bd1_some h
        refine L63 x2 N _ 0 _ hz12 _ _ hP hS ls (lv_sub hl [2, 4, 0] rfl) (fun H locs hP hS ls hl => ?_)
        exact mm_vret hx hb hr hlk h hP hS dX6_looksAt_89
      · have h := if_some_f h c10
        refine lv_iload_n hx hb dX6_looksAt_19 rfl (lv_at hl 2 rfl) ?_
        refine lv_aload_n hx hb dX6_looksAt_20 rfl (lv_at hl 0 rfl) ?_
        refine g_bestMany C hP dX6_looksAt_21 ?_
        refine lv_icmp_ge (tgt := 31) hx hb dX6_looksAt_24 rfl (fun c13 => ?_) (fun c13 => ?_)
        · have h := if_some_t h c13
          refine lv_iconst (v := 0) hx hb dX6_looksAt_31 (by decide) ?_
          refine lv_goto (tgt := 48) hx hb dX6_looksAt_32 rfl ?_
          refine lv_istore (lv' := [(4, .int 0), (0, .ref (ad 0)), (1, .int x1), (2, .int x2), (3, .int x3)]) hx hb dX6_looksAt_48 hl (by decide) rfl (fun ls hl => ?_)
          refine lv_iload hx hb dX6_looksAt_50 (lv_at hl 0 rfl) ?_
          refine lv_if_eq (tgt := 89) hx hb dX6_looksAt_52 rfl (fun _ => ?_) (fun c => absurd c (by decide))
          exact mm_vret hx hb hr hlk h hP hS dX6_looksAt_89
        · have h := if_some_f h c13
          refine lv_iconst (v := 1) hx hb dX6_looksAt_27 (by decide) ?_
          refine lv_goto (tgt := 48) hx hb dX6_looksAt_28 rfl ?_
          refine lv_istore (lv' := [(4, .int 1), (0, .ref (ad 0)), (1, .int x1), (2, .int x2), (3, .int x3)]) hx hb dX6_looksAt_48 hl (by decide) rfl (fun ls hl => ?_)
          refine lv_iload hx hb dX6_looksAt_50 (lv_at hl 0 rfl) ?_
          refine lv_if_eq (tgt := 89) hx hb dX6_looksAt_52 rfl (fun c => absurd c (by decide)) (fun _ => ?_)
          refine lv_aload_n hx hb dX6_looksAt_55 rfl (lv_at hl 1 rfl) ?_
          refine lv_iload_n hx hb dX6_looksAt_56 rfl (lv_at hl 3 rfl) ?_
          refine p_bestMany C hP hS dX6_looksAt_57 (fun H locs hP hS => ?_)
          refine lv_iconst (v := 0) hx hb dX6_looksAt_60 (by decide) ?_
          refine lv_istore (lv' := [(5, .int 0), (4, .int 1), (0, .ref (ad 0)), (1, .int x1), (2, .int x2), (3, .int x3)]) hx hb dX6_looksAt_61 hl (by decide) rfl (fun ls hl => ?_)
          obtain ⟨st14, hz15, h⟩ := bd1_some h
          refine L63 x2 N _ 0 _ hz15 _ _ hP hS ls (lv_sub hl [2, 4, 0] rfl) (fun H locs hP hS ls hl => ?_)
          exact mm_vret hx hb hr hlk h hP hS dX6_looksAt_89
theorem q1866 : (Jvm.Cond.methodLink "ChapterLoanModel" (252 : Nat) ({ cls := "ChapterLoanModel", name := "looksAt", desc := "(IIZ)V" } : Jvm.MethodName)) ∈ lw_all := lw_g (lw_at lw_m8 102 rfl) rfl
theorem q1869 : (Jvm.Cond.code ({ cls := "ChapterLoanModel", name := "looksAt", desc := "(IIZ)V" } : Jvm.MethodName) prog_30_method_65_code (6 : Nat) (Option.none : Option Jvm.ClassFile.FieldType)) ∈ lw_all := lw_g (lw_at lw_m8 105 rfl) rfl
theorem q1868 : (Jvm.Cond.instanceMethod ({ cls := "ChapterLoanModel", name := "looksAt", desc := "(IIZ)V" } : Jvm.MethodName)) ∈ lw_all := lw_g (lw_at lw_m8 104 rfl) rfl
theorem k_looksAt {N : Nat} {a0 : Int32} {a1 : Int32} {a2 : Int32} {st' : MSt} (C : mC p R d s m args c cc nL D cI ad) (hP : mW D cI ad st H) (hS : va_S (kF 15 ad) H0 H locs) (h : M_looksAt N st a0 a1 a2 = some st') (hd : 3 + 1 ≤ d) (hsz : ls.size = nL) (hW : (rest.map fun v => v.category).sum ≤ 8) (hcs : cells ≤ R.cells ∧ slots ≤ R.slots) (hdg : decode cc pc = .ok (.invokevirtual 252, 3)) (kk : ∀ (H1 : Heap) (locs1 : List Loc), mW D cI ad st' H1 → va_S (kF 15 ad) H0 H1 locs1 → W p l e R s m args below meth c H1 locs1 cells slots Q (F0 m (pc + 3) ls (rest))) : W p l e R s m args below meth c H locs cells slots Q (F0 m pc ls (.int a2 :: .int a1 :: .int a0 :: .ref (ad 0) :: rest)) :=
  mm_cV (As := [.int a0, .int a1, .int a2]) C hP hS (w_looksAt C.2.2.2.2.2.2.1 h) (cwV 3 C.2.2.2.2.1 (lw_V q1866 q1868 qs71 q94 q1869) rfl rfl rfl (by decide +kernel) (mr_ C.2.2.2.2.2.2.2 hd (by decide))) rfl hsz rfl hW hdg hcs kk
abbrev cX6_takes_2 : ByteArray := prog_30_method_64_code
def yX6_takes_2 : MethodName := ⟨RX6, "takes", "(II)Z"⟩
theorem dX6_takes_2_0 : decode cX6_takes_2 0 = .ok (.aload_n 0, 1) := by decide +kernel
theorem dX6_takes_2_1 : decode cX6_takes_2 1 = .ok (.iload_n 1, 1) := by decide +kernel
theorem dX6_takes_2_2 : decode cX6_takes_2 2 = .ok (.iload_n 2, 1) := by decide +kernel
theorem dX6_takes_2_3 : decode cX6_takes_2 3 = .ok (.invokevirtual 164, 3) := by decide +kernel
theorem dX6_takes_2_6 : decode cX6_takes_2 6 = .ok (.ifCond .ne 5, 3) := by decide +kernel
theorem dX6_takes_2_9 : decode cX6_takes_2 9 = .ok (.iconst 0, 1) := by decide +kernel
theorem dX6_takes_2_10 : decode cX6_takes_2 10 = .ok (.ireturn, 1) := by decide +kernel
theorem dX6_takes_2_11 : decode cX6_takes_2 11 = .ok (.aload_n 0, 1) := by decide +kernel
theorem dX6_takes_2_12 : decode cX6_takes_2 12 = .ok (.iload_n 1, 1) := by decide +kernel
theorem dX6_takes_2_13 : decode cX6_takes_2 13 = .ok (.iload_n 2, 1) := by decide +kernel
theorem dX6_takes_2_14 : decode cX6_takes_2 14 = .ok (.invokevirtual 180, 3) := by decide +kernel
theorem dX6_takes_2_17 : decode cX6_takes_2 17 = .ok (.aload_n 0, 1) := by decide +kernel
theorem dX6_takes_2_18 : decode cX6_takes_2 18 = .ok (.iload_n 1, 1) := by decide +kernel
theorem dX6_takes_2_19 : decode cX6_takes_2 19 = .ok (.invokevirtual 216, 3) := by decide +kernel
theorem dX6_takes_2_22 : decode cX6_takes_2 22 = .ok (.ifCond .eq 19, 3) := by decide +kernel
theorem dX6_takes_2_25 : decode cX6_takes_2 25 = .ok (.aload_n 0, 1) := by decide +kernel
theorem dX6_takes_2_26 : decode cX6_takes_2 26 = .ok (.iload_n 1, 1) := by decide +kernel
theorem dX6_takes_2_27 : decode cX6_takes_2 27 = .ok (.iconst 4, 1) := by decide +kernel
theorem dX6_takes_2_28 : decode cX6_takes_2 28 = .ok (.aload_n 0, 1) := by decide +kernel
theorem dX6_takes_2_29 : decode cX6_takes_2 29 = .ok (.iload_n 1, 1) := by decide +kernel
theorem dX6_takes_2_30 : decode cX6_takes_2 30 = .ok (.iconst 4, 1) := by decide +kernel
theorem dX6_takes_2_31 : decode cX6_takes_2 31 = .ok (.invokevirtual 150, 3) := by decide +kernel
theorem dX6_takes_2_34 : decode cX6_takes_2 34 = .ok (.iconst 1, 1) := by decide +kernel
theorem dX6_takes_2_35 : decode cX6_takes_2 35 = .ok (.isub, 1) := by decide +kernel
theorem dX6_takes_2_36 : decode cX6_takes_2 36 = .ok (.invokevirtual 174, 3) := by decide +kernel
theorem dX6_takes_2_39 : decode cX6_takes_2 39 = .ok (.iconst 0, 1) := by decide +kernel
theorem dX6_takes_2_40 : decode cX6_takes_2 40 = .ok (.ireturn, 1) := by decide +kernel
theorem dX6_takes_2_41 : decode cX6_takes_2 41 = .ok (.iconst 1, 1) := by decide +kernel
theorem dX6_takes_2_42 : decode cX6_takes_2 42 = .ok (.ireturn, 1) := by decide +kernel
theorem w_takes_2 {l : Launch} {D : va_G} {cI : ClassId} {ad : Nat → Nat} (hI : kInj 15 ad) {st st' : MSt} {N : Nat} {x1 : Int32} {x2 : Int32} {r0 : Int32} (h : M_takes_2  N st x1 x2 = some (r0, st')) : mV l yX6_takes_2 cX6_takes_2 3 (some .boolean) 4 D cI ad st [.int x1, .int x2] (some (.int r0)) st' := by
  refine mm_ofV hI (by decide) rfl (Nat.le_of_ble_eq_true rfl) (fun p e s m below meth c R args ls C hr hlk hP hS hl hcs => ?_)
  have hx := C.1
  have hb := C.2.1
  have hown := C.2.2.2.1
  have hl : lv_has ls 3 [(0, .ref (ad 0)), (1, .int x1), (2, .int x2)] := hl
  have hP : mW D cI ad st s.heap := hP
  rw [M_takes_2] at h
  refine lv_aload_n hx hb dX6_takes_2_0 rfl (lv_at hl 0 rfl) ?_
  refine lv_iload_n hx hb dX6_takes_2_1 rfl (lv_at hl 1 rfl) ?_
  refine lv_iload_n hx hb dX6_takes_2_2 rfl (lv_at hl 2 rfl) ?_
  obtain ⟨v1, hv1, h⟩ := bd1_some h
  refine k_mayTell C hP hv1 (Nat.le_of_ble_eq_true rfl) hl.1 (Nat.le_of_ble_eq_true rfl) hcs dX6_takes_2_3 ?_
  refine lv_if_ne (tgt := 11) hx hb dX6_takes_2_6 rfl (fun c2 => ?_) (fun c2 => ?_)
  · have h := if_some_f h c2
    refine lv_aload_n hx hb dX6_takes_2_11 rfl (lv_at hl 0 rfl) ?_
    refine lv_iload_n hx hb dX6_takes_2_12 rfl (lv_at hl 1 rfl) ?_
    refine lv_iload_n hx hb dX6_takes_2_13 rfl (lv_at hl 2 rfl) ?_
    obtain ⟨st4, hv3, h⟩ := bd1_some h
    refine k_writes C hP hS hv3 (Nat.le_of_ble_eq_true rfl) hl.1 (Nat.le_of_ble_eq_true rfl) hcs dX6_takes_2_14 (fun H locs hP hS => ?_)
    refine lv_aload_n hx hb dX6_takes_2_17 rfl (lv_at hl 0 rfl) ?_
    refine lv_iload_n hx hb dX6_takes_2_18 rfl (lv_at hl 1 rfl) ?_
    obtain ⟨v5, hv5, h⟩ := bd1_some h
    refine k_isOverdue C hP hv5 (Nat.le_of_ble_eq_true rfl) hl.1 (Nat.le_of_ble_eq_true rfl) hcs dX6_takes_2_19 ?_
    refine lv_if_eq (tgt := 41) hx hb dX6_takes_2_22 rfl (fun c6 => ?_) (fun c6 => ?_)
    · have h := if_some_t h c6
      refine lv_iconst (v := 1) hx hb dX6_takes_2_41 (by decide) ?_
      exact mm_vzret hx hb hr hlk rfl h hP hS dX6_takes_2_42
    · have h := if_some_f h c6
      refine lv_aload_n hx hb dX6_takes_2_25 rfl (lv_at hl 0 rfl) ?_
      refine lv_iload_n hx hb dX6_takes_2_26 rfl (lv_at hl 1 rfl) ?_
      refine lv_iconst (v := 4) hx hb dX6_takes_2_27 (by decide) ?_
      refine lv_aload_n hx hb dX6_takes_2_28 rfl (lv_at hl 0 rfl) ?_
      refine lv_iload_n hx hb dX6_takes_2_29 rfl (lv_at hl 1 rfl) ?_
      refine lv_iconst (v := 4) hx hb dX6_takes_2_30 (by decide) ?_
      obtain ⟨v7, hv7, h⟩ := bd1_some h
      refine k_of C hP hv7 (Nat.le_of_ble_eq_true rfl) hl.1 (Nat.le_of_ble_eq_true rfl) hcs dX6_takes_2_31 ?_
      refine lv_iconst (v := 1) hx hb dX6_takes_2_34 (by decide) ?_
      refine lv_isub hx hb dX6_takes_2_35 ?_
      obtain ⟨st9, hv8, h⟩ := bd1_some h
      refine k_sets C hP hS hv8 (Nat.le_of_ble_eq_true rfl) hl.1 (Nat.le_of_ble_eq_true rfl) hcs dX6_takes_2_36 (fun H locs hP hS => ?_)
      refine lv_iconst (v := 0) hx hb dX6_takes_2_39 (by decide) ?_
      exact mm_vzret hx hb hr hlk rfl h hP hS dX6_takes_2_40
  · have h := if_some_t h c2
    refine lv_iconst (v := 0) hx hb dX6_takes_2_9 (by decide) ?_
    exact mm_vzret hx hb hr hlk rfl h hP hS dX6_takes_2_10
theorem q1870 : (Jvm.Cond.methodLink "ChapterLoanModel" (256 : Nat) ({ cls := "ChapterLoanModel", name := "takes", desc := "(II)Z" } : Jvm.MethodName)) ∈ lw_all := lw_g (lw_at lw_m8 106 rfl) rfl
theorem q1873 : (Jvm.Cond.code ({ cls := "ChapterLoanModel", name := "takes", desc := "(II)Z" } : Jvm.MethodName) prog_30_method_64_code (3 : Nat) (Option.some Jvm.ClassFile.FieldType.boolean)) ∈ lw_all := lw_g (lw_at lw_m8 109 rfl) rfl
theorem q1872 : (Jvm.Cond.instanceMethod ({ cls := "ChapterLoanModel", name := "takes", desc := "(II)Z" } : Jvm.MethodName)) ∈ lw_all := lw_g (lw_at lw_m8 108 rfl) rfl
theorem k_takes_2 {N : Nat} {a0 : Int32} {a1 : Int32} {v : Int32} {st' : MSt} (C : mC p R d s m args c cc nL D cI ad) (hP : mW D cI ad st H) (hS : va_S (kF 15 ad) H0 H locs) (h : M_takes_2 N st a0 a1 = some (v, st')) (hd : 4 + 1 ≤ d) (hsz : ls.size = nL) (hW : (rest.map fun v => v.category).sum ≤ 8) (hcs : cells ≤ R.cells ∧ slots ≤ R.slots) (hdg : decode cc pc = .ok (.invokevirtual 256, 3)) (kk : ∀ (H1 : Heap) (locs1 : List Loc), mW D cI ad st' H1 → va_S (kF 15 ad) H0 H1 locs1 → W p l e R s m args below meth c H1 locs1 cells slots Q (F0 m (pc + 3) ls (.int v :: rest))) : W p l e R s m args below meth c H locs cells slots Q (F0 m pc ls (.int a1 :: .int a0 :: .ref (ad 0) :: rest)) :=
  mm_cV (As := [.int a0, .int a1]) C hP hS (w_takes_2 C.2.2.2.2.2.2.1 h) (cwV 2 C.2.2.2.2.1 (lw_V q1870 q1872 qs72 q94 q1873) rfl rfl rfl (by decide +kernel) (mr_ C.2.2.2.2.2.2.2 hd (by decide))) rfl hsz rfl hW hdg hcs kk
abbrev cX6_findRow : ByteArray := prog_30_method_66_code
def yX6_findRow : MethodName := ⟨RX6, "findRow", "(IZ)V"⟩
theorem dX6_findRow_0 : decode cX6_findRow 0 = .ok (.aload_n 0, 1) := by decide +kernel
theorem dX6_findRow_1 : decode cX6_findRow 1 = .ok (.invokevirtual 243, 3) := by decide +kernel
theorem dX6_findRow_4 : decode cX6_findRow 4 = .ok (.aload_n 0, 1) := by decide +kernel
theorem dX6_findRow_5 : decode cX6_findRow 5 = .ok (.iconst (-1), 1) := by decide +kernel
theorem dX6_findRow_6 : decode cX6_findRow 6 = .ok (.putfield 249, 3) := by decide +kernel
theorem dX6_findRow_9 : decode cX6_findRow 9 = .ok (.iconst 0, 1) := by decide +kernel
theorem dX6_findRow_10 : decode cX6_findRow 10 = .ok (.istore_n 3, 1) := by decide +kernel
theorem dX6_findRow_11 : decode cX6_findRow 11 = .ok (.aload_n 0, 1) := by decide +kernel
theorem dX6_findRow_12 : decode cX6_findRow 12 = .ok (.getfield 29, 3) := by decide +kernel
theorem dX6_findRow_15 : decode cX6_findRow 15 = .ok (.iconst 0, 1) := by decide +kernel
theorem dX6_findRow_16 : decode cX6_findRow 16 = .ok (.iconst (-1), 1) := by decide +kernel
theorem dX6_findRow_17 : decode cX6_findRow 17 = .ok (.iastore, 1) := by decide +kernel
theorem dX6_findRow_18 : decode cX6_findRow 18 = .ok (.aload_n 0, 1) := by decide +kernel
theorem dX6_findRow_19 : decode cX6_findRow 19 = .ok (.iload_n 1, 1) := by decide +kernel
theorem dX6_findRow_20 : decode cX6_findRow 20 = .ok (.iconst 0, 1) := by decide +kernel
theorem dX6_findRow_21 : decode cX6_findRow 21 = .ok (.iload_n 2, 1) := by decide +kernel
theorem dX6_findRow_22 : decode cX6_findRow 22 = .ok (.invokevirtual 252, 3) := by decide +kernel
theorem dX6_findRow_25 : decode cX6_findRow 25 = .ok (.iload_n 3, 1) := by decide +kernel
theorem dX6_findRow_26 : decode cX6_findRow 26 = .ok (.ifCond .lt 131, 3) := by decide +kernel
theorem dX6_findRow_29 : decode cX6_findRow 29 = .ok (.aload_n 0, 1) := by decide +kernel
theorem dX6_findRow_30 : decode cX6_findRow 30 = .ok (.getfield 29, 3) := by decide +kernel
theorem dX6_findRow_33 : decode cX6_findRow 33 = .ok (.iload_n 3, 1) := by decide +kernel
theorem dX6_findRow_34 : decode cX6_findRow 34 = .ok (.iaload, 1) := by decide +kernel
theorem dX6_findRow_35 : decode cX6_findRow 35 = .ok (.iconst 1, 1) := by decide +kernel
theorem dX6_findRow_36 : decode cX6_findRow 36 = .ok (.iadd, 1) := by decide +kernel
theorem dX6_findRow_37 : decode cX6_findRow 37 = .ok (.istore 4, 2) := by decide +kernel
theorem dX6_findRow_39 : decode cX6_findRow 39 = .ok (.iload 4, 2) := by decide +kernel
theorem dX6_findRow_41 : decode cX6_findRow 41 = .ok (.aload_n 0, 1) := by decide +kernel
theorem dX6_findRow_42 : decode cX6_findRow 42 = .ok (.getfield 7, 3) := by decide +kernel
theorem dX6_findRow_45 : decode cX6_findRow 45 = .ok (.iconst 0, 1) := by decide +kernel
theorem dX6_findRow_46 : decode cX6_findRow 46 = .ok (.iaload, 1) := by decide +kernel
theorem dX6_findRow_47 : decode cX6_findRow 47 = .ok (.if_icmp .ge 19, 3) := by decide +kernel
theorem dX6_findRow_50 : decode cX6_findRow 50 = .ok (.aload_n 0, 1) := by decide +kernel
theorem dX6_findRow_51 : decode cX6_findRow 51 = .ok (.iload_n 1, 1) := by decide +kernel
theorem dX6_findRow_52 : decode cX6_findRow 52 = .ok (.iload 4, 2) := by decide +kernel
theorem dX6_findRow_54 : decode cX6_findRow 54 = .ok (.invokevirtual 256, 3) := by decide +kernel
theorem dX6_findRow_57 : decode cX6_findRow 57 = .ok (.ifCond .ne 9, 3) := by decide +kernel
theorem dX6_findRow_60 : decode cX6_findRow 60 = .ok (.iinc 4 1, 3) := by decide +kernel
theorem dX6_findRow_63 : decode cX6_findRow 63 = .ok (.goto (-24), 3) := by decide +kernel
theorem dX6_findRow_66 : decode cX6_findRow 66 = .ok (.aload_n 0, 1) := by decide +kernel
theorem dX6_findRow_67 : decode cX6_findRow 67 = .ok (.getfield 29, 3) := by decide +kernel
theorem dX6_findRow_70 : decode cX6_findRow 70 = .ok (.iload_n 3, 1) := by decide +kernel
theorem dX6_findRow_71 : decode cX6_findRow 71 = .ok (.iload 4, 2) := by decide +kernel
theorem dX6_findRow_73 : decode cX6_findRow 73 = .ok (.iastore, 1) := by decide +kernel
theorem dX6_findRow_74 : decode cX6_findRow 74 = .ok (.iload 4, 2) := by decide +kernel
theorem dX6_findRow_76 : decode cX6_findRow 76 = .ok (.aload_n 0, 1) := by decide +kernel
theorem dX6_findRow_77 : decode cX6_findRow 77 = .ok (.getfield 7, 3) := by decide +kernel
theorem dX6_findRow_80 : decode cX6_findRow 80 = .ok (.iconst 0, 1) := by decide +kernel
theorem dX6_findRow_81 : decode cX6_findRow 81 = .ok (.iaload, 1) := by decide +kernel
theorem dX6_findRow_82 : decode cX6_findRow 82 = .ok (.if_icmp .ge 41, 3) := by decide +kernel
theorem dX6_findRow_85 : decode cX6_findRow 85 = .ok (.aload_n 0, 1) := by decide +kernel
theorem dX6_findRow_86 : decode cX6_findRow 86 = .ok (.getfield 32, 3) := by decide +kernel
theorem dX6_findRow_89 : decode cX6_findRow 89 = .ok (.iload_n 3, 1) := by decide +kernel
theorem dX6_findRow_90 : decode cX6_findRow 90 = .ok (.iload 4, 2) := by decide +kernel
theorem dX6_findRow_92 : decode cX6_findRow 92 = .ok (.iastore, 1) := by decide +kernel
theorem dX6_findRow_93 : decode cX6_findRow 93 = .ok (.iinc 3 1, 3) := by decide +kernel
theorem dX6_findRow_96 : decode cX6_findRow 96 = .ok (.aload_n 0, 1) := by decide +kernel
theorem dX6_findRow_97 : decode cX6_findRow 97 = .ok (.getfield 7, 3) := by decide +kernel
theorem dX6_findRow_100 : decode cX6_findRow 100 = .ok (.iconst 3, 1) := by decide +kernel
theorem dX6_findRow_101 : decode cX6_findRow 101 = .ok (.dup2, 1) := by decide +kernel
theorem dX6_findRow_102 : decode cX6_findRow 102 = .ok (.iaload, 1) := by decide +kernel
theorem dX6_findRow_103 : decode cX6_findRow 103 = .ok (.iconst 1, 1) := by decide +kernel
theorem dX6_findRow_104 : decode cX6_findRow 104 = .ok (.iadd, 1) := by decide +kernel
theorem dX6_findRow_105 : decode cX6_findRow 105 = .ok (.iastore, 1) := by decide +kernel
theorem dX6_findRow_106 : decode cX6_findRow 106 = .ok (.aload_n 0, 1) := by decide +kernel
theorem dX6_findRow_107 : decode cX6_findRow 107 = .ok (.getfield 29, 3) := by decide +kernel
theorem dX6_findRow_110 : decode cX6_findRow 110 = .ok (.iload_n 3, 1) := by decide +kernel
theorem dX6_findRow_111 : decode cX6_findRow 111 = .ok (.iconst (-1), 1) := by decide +kernel
theorem dX6_findRow_112 : decode cX6_findRow 112 = .ok (.iastore, 1) := by decide +kernel
theorem dX6_findRow_113 : decode cX6_findRow 113 = .ok (.aload_n 0, 1) := by decide +kernel
theorem dX6_findRow_114 : decode cX6_findRow 114 = .ok (.iload_n 1, 1) := by decide +kernel
theorem dX6_findRow_115 : decode cX6_findRow 115 = .ok (.iload_n 3, 1) := by decide +kernel
theorem dX6_findRow_116 : decode cX6_findRow 116 = .ok (.iload_n 2, 1) := by decide +kernel
theorem dX6_findRow_117 : decode cX6_findRow 117 = .ok (.invokevirtual 252, 3) := by decide +kernel
theorem dX6_findRow_120 : decode cX6_findRow 120 = .ok (.goto 34, 3) := by decide +kernel
theorem dX6_findRow_123 : decode cX6_findRow 123 = .ok (.iinc 3 (-1), 3) := by decide +kernel
theorem dX6_findRow_126 : decode cX6_findRow 126 = .ok (.iload_n 3, 1) := by decide +kernel
theorem dX6_findRow_127 : decode cX6_findRow 127 = .ok (.ifCond .lt 27, 3) := by decide +kernel
theorem dX6_findRow_130 : decode cX6_findRow 130 = .ok (.aload_n 0, 1) := by decide +kernel
theorem dX6_findRow_131 : decode cX6_findRow 131 = .ok (.iload_n 1, 1) := by decide +kernel
theorem dX6_findRow_132 : decode cX6_findRow 132 = .ok (.iconst 4, 1) := by decide +kernel
theorem dX6_findRow_133 : decode cX6_findRow 133 = .ok (.aload_n 0, 1) := by decide +kernel
theorem dX6_findRow_134 : decode cX6_findRow 134 = .ok (.iload_n 1, 1) := by decide +kernel
theorem dX6_findRow_135 : decode cX6_findRow 135 = .ok (.iconst 4, 1) := by decide +kernel
theorem dX6_findRow_136 : decode cX6_findRow 136 = .ok (.invokevirtual 150, 3) := by decide +kernel
theorem dX6_findRow_139 : decode cX6_findRow 139 = .ok (.iconst 1, 1) := by decide +kernel
theorem dX6_findRow_140 : decode cX6_findRow 140 = .ok (.isub, 1) := by decide +kernel
theorem dX6_findRow_141 : decode cX6_findRow 141 = .ok (.invokevirtual 174, 3) := by decide +kernel
theorem dX6_findRow_144 : decode cX6_findRow 144 = .ok (.aload_n 0, 1) := by decide +kernel
theorem dX6_findRow_145 : decode cX6_findRow 145 = .ok (.getfield 7, 3) := by decide +kernel
theorem dX6_findRow_148 : decode cX6_findRow 148 = .ok (.iconst 3, 1) := by decide +kernel
theorem dX6_findRow_149 : decode cX6_findRow 149 = .ok (.dup2, 1) := by decide +kernel
theorem dX6_findRow_150 : decode cX6_findRow 150 = .ok (.iaload, 1) := by decide +kernel
theorem dX6_findRow_151 : decode cX6_findRow 151 = .ok (.iconst 1, 1) := by decide +kernel
theorem dX6_findRow_152 : decode cX6_findRow 152 = .ok (.isub, 1) := by decide +kernel
theorem dX6_findRow_153 : decode cX6_findRow 153 = .ok (.iastore, 1) := by decide +kernel
theorem dX6_findRow_154 : decode cX6_findRow 154 = .ok (.goto (-129), 3) := by decide +kernel
theorem dX6_findRow_157 : decode cX6_findRow 157 = .ok (.aload_n 0, 1) := by decide +kernel
theorem dX6_findRow_158 : decode cX6_findRow 158 = .ok (.invokevirtual 246, 3) := by decide +kernel
theorem dX6_findRow_161 : decode cX6_findRow 161 = .ok (.return_, 1) := by decide +kernel
theorem w_findRow {l : Launch} {D : va_G} {cI : ClassId} {ad : Nat → Nat} (hI : kInj 15 ad) {st st' : MSt} {N : Nat} {x1 : Int32} {x2 : Int32} (h : M_findRow  N st x1 x2 = some st') : mV l yX6_findRow cX6_findRow 5 none 5 D cI ad st [.int x1, .int x2] none st' := by
  refine mm_ofV hI (by decide) rfl (Nat.le_of_ble_eq_true rfl) (fun p e s m below meth c R args ls C hr hlk hP hS hl hcs => ?_)
  have hx := C.1
  have hb := C.2.1
  have hown := C.2.2.2.1
  have hl : lv_has ls 5 [(0, .ref (ad 0)), (1, .int x1), (2, .int x2)] := hl
  have hP : mW D cI ad st s.heap := hP
  have L39 : ∀ (x1 : Int32), ∀ (x2 : Int32), ∀ (x3 : Int32), ∀ (n : Nat) (st : MSt) (x4 : Int32) (st2 : MSt) (z4 : Int32), M_findRow_L39 N x1 x2 x3 n st x4 = some (st2, z4) → ∀ (H : Heap) (locs : List Loc), mW D cI ad st H → va_S (kF 15 ad) s.heap H locs → ∀ ls : Array Slot, lv_has ls 5 [(0, .ref (ad 0)), (1, .int x1), (2, .int x2), (3, .int x3), (4, .int x4)] → (∀ (H : Heap) (locs : List Loc), mW D cI ad st2 H → va_S (kF 15 ad) s.heap H locs → ∀ ls : Array Slot, lv_has ls 5 [(0, .ref (ad 0)), (1, .int x1), (2, .int x2), (3, .int x3), (4, .int z4)] → mWV p l e R s m args below meth c D cI ad none st' H locs (F0 m 66 ls [])) → mWV p l e R s m args below meth c D cI ad none st' H locs (F0 m 39 ls []) := by
    intro x1 x2 x3 n
    induction n with
    | zero =>
      intro st x4 st2 z4 h
      exact non_some h
    | succ n ih =>
      intro st x4 st2 z4 h H locs hP hS ls hl kx
      rw [M_findRow_L39] at h
      refine lv_iload hx hb dX6_findRow_39 (lv_at hl 4 rfl) ?_
      refine lv_aload_n hx hb dX6_findRow_41 rfl (lv_at hl 0 rfl) ?_
      refine g_d C hP dX6_findRow_42 ?_
      refine lv_iconst (v := 0) hx hb dX6_findRow_45 (by decide) ?_
      obtain ⟨v8, hv8, h⟩ := bd1_some h
      refine mm_ld C hP 1 (by decide) rfl hv8 dX6_findRow_46 ?_
      refine lv_icmp_ge (tgt := 66) hx hb dX6_findRow_47 rfl (fun c9 => ?_) (fun c9 => ?_)
      · have h := if_some_t h c9
        cases h
        exact kx _ _ hP hS ls (lv_sub hl [0, 1, 2, 3, 4] rfl)
      · have h := if_some_f h c9
        refine lv_aload_n hx hb dX6_findRow_50 rfl (lv_at hl 0 rfl) ?_
        refine lv_iload_n hx hb dX6_findRow_51 rfl (lv_at hl 1 rfl) ?_
        refine lv_iload hx hb dX6_findRow_52 (lv_at hl 4 rfl) ?_
        obtain ⟨v10, st11, hv10, h⟩ := bd2_some h
        refine k_takes_2 C hP hS hv10 (Nat.le_of_ble_eq_true rfl) hl.1 (Nat.le_of_ble_eq_true rfl) hcs dX6_findRow_54 (fun H locs hP hS => ?_)
        refine lv_if_ne (tgt := 66) hx hb dX6_findRow_57 rfl (fun c12 => ?_) (fun c12 => ?_)
        · have h := if_some_f h c12
          cases h
          exact kx _ _ hP hS ls (lv_sub hl [0, 1, 2, 3, 4] rfl)
        · have h := if_some_t h c12
          refine lv_iinc (v := x4 + 1) (lv' := [(4, .int (x4 + 1)), (0, .ref (ad 0)), (1, .int x1), (2, .int x2), (3, .int x3)]) hx hb dX6_findRow_60 hl (k := 4) rfl rfl (by decide) rfl (fun ls hl => ?_)
          refine lv_goto (tgt := 39) hx hb dX6_findRow_63 rfl ?_
          exact ih st11 (x4 + 1) _ _ h _ _ hP hS ls (lv_sub hl [1, 2, 3, 4, 0] rfl) kx
  have L25 : ∀ (x1 : Int32), ∀ (x2 : Int32), ∀ (n : Nat) (st : MSt) (x3 : Int32) (st2 : MSt), M_findRow_L25 N x1 x2 n st x3 = some st2 → ∀ (H : Heap) (locs : List Loc), mW D cI ad st H → va_S (kF 15 ad) s.heap H locs → ∀ ls : Array Slot, lv_has ls 5 [(0, .ref (ad 0)), (1, .int x1), (2, .int x2), (3, .int x3)] → (∀ (H : Heap) (locs : List Loc), mW D cI ad st2 H → va_S (kF 15 ad) s.heap H locs → ∀ ls : Array Slot, lv_has ls 5 [(0, .ref (ad 0))] → mWV p l e R s m args below meth c D cI ad none st' H locs (F0 m 157 ls [])) → mWV p l e R s m args below meth c D cI ad none st' H locs (F0 m 25 ls []) := by
    intro x1 x2 n
    induction n with
    | zero =>
      intro st x3 st2 h
      exact non_some h
    | succ n ih =>
      intro st x3 st2 h H locs hP hS ls hl kx
      rw [M_findRow_L25] at h
      refine lv_iload_n hx hb dX6_findRow_25 rfl (lv_at hl 3 rfl) ?_
      refine lv_if_lt (tgt := 157) hx hb dX6_findRow_26 rfl (fun c6 => ?_) (fun c6 => ?_)
      · have h := if_some_t h c6
        cases h
        exact kx _ _ hP hS ls (lv_sub hl [0] rfl)
      · have h := if_some_f h c6
        refine lv_aload_n hx hb dX6_findRow_29 rfl (lv_at hl 0 rfl) ?_
        refine g_triedAt C hP dX6_findRow_30 ?_
        refine lv_iload_n hx hb dX6_findRow_33 rfl (lv_at hl 3 rfl) ?_
        obtain ⟨v7, hv7, h⟩ := bd1_some h
        refine mm_ld C hP 6 (by decide) rfl hv7 dX6_findRow_34 ?_
        refine lv_iconst (v := 1) hx hb dX6_findRow_35 (by decide) ?_
        refine lv_iadd hx hb dX6_findRow_36 ?_
        refine lv_istore (lv' := [(4, .int (v7 + 1)), (0, .ref (ad 0)), (1, .int x1), (2, .int x2), (3, .int x3)]) hx hb dX6_findRow_37 hl (by decide) rfl (fun ls hl => ?_)
        obtain ⟨st13, z14, hz30, h⟩ := bd2_some h
        refine L39 x1 x2 x3 N _ (v7 + 1) _ _ hz30 _ _ hP hS ls (lv_sub hl [1, 2, 3, 4, 0] rfl) (fun H locs hP hS ls hl => ?_)
        refine lv_aload_n hx hb dX6_findRow_66 rfl (lv_at hl 0 rfl) ?_
        refine g_triedAt C hP dX6_findRow_67 ?_
        refine lv_iload_n hx hb dX6_findRow_70 rfl (lv_at hl 3 rfl) ?_
        refine lv_iload hx hb dX6_findRow_71 (lv_at hl 4 rfl) ?_
        obtain ⟨b15, hb15, h⟩ := bd1_some h
        refine mm_st C hP hS 6 (by decide) rfl hb15 dX6_findRow_73 (fun H locs hP hS => ?_)
        refine lv_iload hx hb dX6_findRow_74 (lv_at hl 4 rfl) ?_
        refine lv_aload_n hx hb dX6_findRow_76 rfl (lv_at hl 0 rfl) ?_
        refine g_d C hP dX6_findRow_77 ?_
        refine lv_iconst (v := 0) hx hb dX6_findRow_80 (by decide) ?_
        obtain ⟨v16, hv16, h⟩ := bd1_some h
        refine mm_ld C hP 1 (by decide) rfl hv16 dX6_findRow_81 ?_
        refine lv_icmp_ge (tgt := 123) hx hb dX6_findRow_82 rfl (fun c17 => ?_) (fun c17 => ?_)
        · have h := if_some_t h c17
          refine lv_iinc (v := x3 + (-1)) (lv' := [(3, .int (x3 + (-1))), (0, .ref (ad 0)), (1, .int x1), (2, .int x2), (4, .int z14)]) hx hb dX6_findRow_123 hl (k := 3) rfl rfl (by decide) rfl (fun ls hl => ?_)
          refine lv_iload_n hx hb dX6_findRow_126 rfl (lv_at hl 0 rfl) ?_
          refine lv_if_lt (tgt := 154) hx hb dX6_findRow_127 rfl (fun c18 => ?_) (fun c18 => ?_)
          · have h := if_some_t h c18
            refine lv_goto (tgt := 25) hx hb dX6_findRow_154 rfl ?_
            exact ih (sa st13 6 b15) (x3 + (-1)) _ h _ _ hP hS ls (lv_sub hl [1, 2, 3, 0] rfl) kx
          · have h := if_some_f h c18
            refine lv_aload_n hx hb dX6_findRow_130 rfl (lv_at hl 1 rfl) ?_
            refine lv_iload_n hx hb dX6_findRow_131 rfl (lv_at hl 2 rfl) ?_
            refine lv_iconst (v := 4) hx hb dX6_findRow_132 (by decide) ?_
            refine lv_aload_n hx hb dX6_findRow_133 rfl (lv_at hl 1 rfl) ?_
            refine lv_iload_n hx hb dX6_findRow_134 rfl (lv_at hl 2 rfl) ?_
            refine lv_iconst (v := 4) hx hb dX6_findRow_135 (by decide) ?_
            obtain ⟨v19, hv19, h⟩ := bd1_some h
            refine k_of C hP hv19 (Nat.le_of_ble_eq_true rfl) hl.1 (Nat.le_of_ble_eq_true rfl) hcs dX6_findRow_136 ?_
            refine lv_iconst (v := 1) hx hb dX6_findRow_139 (by decide) ?_
            refine lv_isub hx hb dX6_findRow_140 ?_
            obtain ⟨st21, hv20, h⟩ := bd1_some h
            refine k_sets C hP hS hv20 (Nat.le_of_ble_eq_true rfl) hl.1 (Nat.le_of_ble_eq_true rfl) hcs dX6_findRow_141 (fun H locs hP hS => ?_)
            refine lv_aload_n hx hb dX6_findRow_144 rfl (lv_at hl 1 rfl) ?_
            refine g_d C hP dX6_findRow_145 ?_
            refine lv_iconst (v := 3) hx hb dX6_findRow_148 (by decide) ?_
            refine lv_dup2_11 hx hb dX6_findRow_149 rfl rfl ?_
            obtain ⟨v22, hv22, h⟩ := bd1_some h
            refine mm_ld C hP 1 (by decide) rfl hv22 dX6_findRow_150 ?_
            refine lv_iconst (v := 1) hx hb dX6_findRow_151 (by decide) ?_
            refine lv_isub hx hb dX6_findRow_152 ?_
            obtain ⟨b23, hb23, h⟩ := bd1_some h
            refine mm_st C hP hS 1 (by decide) rfl hb23 dX6_findRow_153 (fun H locs hP hS => ?_)
            refine lv_goto (tgt := 25) hx hb dX6_findRow_154 rfl ?_
            exact ih (sa st21 1 b23) (x3 + (-1)) _ h _ _ hP hS ls (lv_sub hl [1, 2, 3, 0] rfl) kx
        · have h := if_some_f h c17
          refine lv_aload_n hx hb dX6_findRow_85 rfl (lv_at hl 0 rfl) ?_
          refine g_row C hP dX6_findRow_86 ?_
          refine lv_iload_n hx hb dX6_findRow_89 rfl (lv_at hl 3 rfl) ?_
          refine lv_iload hx hb dX6_findRow_90 (lv_at hl 4 rfl) ?_
          obtain ⟨b24, hb24, h⟩ := bd1_some h
          refine mm_st C hP hS 7 (by decide) rfl hb24 dX6_findRow_92 (fun H locs hP hS => ?_)
          refine lv_iinc (v := x3 + 1) (lv' := [(3, .int (x3 + 1)), (0, .ref (ad 0)), (1, .int x1), (2, .int x2), (4, .int z14)]) hx hb dX6_findRow_93 hl (k := 3) rfl rfl (by decide) rfl (fun ls hl => ?_)
          refine lv_aload_n hx hb dX6_findRow_96 rfl (lv_at hl 1 rfl) ?_
          refine g_d C hP dX6_findRow_97 ?_
          refine lv_iconst (v := 3) hx hb dX6_findRow_100 (by decide) ?_
          refine lv_dup2_11 hx hb dX6_findRow_101 rfl rfl ?_
          obtain ⟨v25, hv25, h⟩ := bd1_some h
          refine mm_ld C hP 1 (by decide) rfl hv25 dX6_findRow_102 ?_
          refine lv_iconst (v := 1) hx hb dX6_findRow_103 (by decide) ?_
          refine lv_iadd hx hb dX6_findRow_104 ?_
          obtain ⟨b26, hb26, h⟩ := bd1_some h
          refine mm_st C hP hS 1 (by decide) rfl hb26 dX6_findRow_105 (fun H locs hP hS => ?_)
          refine lv_aload_n hx hb dX6_findRow_106 rfl (lv_at hl 1 rfl) ?_
          refine g_triedAt C hP dX6_findRow_107 ?_
          refine lv_iload_n hx hb dX6_findRow_110 rfl (lv_at hl 0 rfl) ?_
          refine lv_iconst (v := (-1)) hx hb dX6_findRow_111 (by decide) ?_
          obtain ⟨b27, hb27, h⟩ := bd1_some h
          refine mm_st C hP hS 6 (by decide) rfl hb27 dX6_findRow_112 (fun H locs hP hS => ?_)
          refine lv_aload_n hx hb dX6_findRow_113 rfl (lv_at hl 1 rfl) ?_
          refine lv_iload_n hx hb dX6_findRow_114 rfl (lv_at hl 2 rfl) ?_
          refine lv_iload_n hx hb dX6_findRow_115 rfl (lv_at hl 0 rfl) ?_
          refine lv_iload_n hx hb dX6_findRow_116 rfl (lv_at hl 3 rfl) ?_
          obtain ⟨st29, hv28, h⟩ := bd1_some h
          refine k_looksAt C hP hS hv28 (Nat.le_of_ble_eq_true rfl) hl.1 (Nat.le_of_ble_eq_true rfl) hcs dX6_findRow_117 (fun H locs hP hS => ?_)
          refine lv_goto (tgt := 154) hx hb dX6_findRow_120 rfl ?_
          refine lv_goto (tgt := 25) hx hb dX6_findRow_154 rfl ?_
          exact ih st29 (x3 + 1) _ h _ _ hP hS ls (lv_sub hl [1, 2, 3, 0] rfl) kx
  rw [M_findRow] at h
  refine lv_aload_n hx hb dX6_findRow_0 rfl (lv_at hl 0 rfl) ?_
  obtain ⟨st2, hv1, h⟩ := bd1_some h
  refine k_keepAside C hP hS hv1 (Nat.le_of_ble_eq_true rfl) hl.1 (Nat.le_of_ble_eq_true rfl) hcs dX6_findRow_1 (fun H locs hP hS => ?_)
  refine lv_aload_n hx hb dX6_findRow_4 rfl (lv_at hl 0 rfl) ?_
  refine lv_iconst (v := (-1)) hx hb dX6_findRow_5 (by decide) ?_
  refine p_bestMany C hP hS dX6_findRow_6 (fun H locs hP hS => ?_)
  refine lv_iconst (v := 0) hx hb dX6_findRow_9 (by decide) ?_
  refine lv_istore_n (lv' := [(3, .int 0), (0, .ref (ad 0)), (1, .int x1), (2, .int x2)]) hx hb dX6_findRow_10 rfl hl (by decide) rfl (fun ls hl => ?_)
  refine lv_aload_n hx hb dX6_findRow_11 rfl (lv_at hl 1 rfl) ?_
  refine g_triedAt C hP dX6_findRow_12 ?_
  refine lv_iconst (v := 0) hx hb dX6_findRow_15 (by decide) ?_
  refine lv_iconst (v := (-1)) hx hb dX6_findRow_16 (by decide) ?_
  obtain ⟨b3, hb3, h⟩ := bd1_some h
  refine mm_st C hP hS 6 (by decide) rfl hb3 dX6_findRow_17 (fun H locs hP hS => ?_)
  refine lv_aload_n hx hb dX6_findRow_18 rfl (lv_at hl 1 rfl) ?_
  refine lv_iload_n hx hb dX6_findRow_19 rfl (lv_at hl 2 rfl) ?_
  refine lv_iconst (v := 0) hx hb dX6_findRow_20 (by decide) ?_
  refine lv_iload_n hx hb dX6_findRow_21 rfl (lv_at hl 3 rfl) ?_
  obtain ⟨st5, hv4, h⟩ := bd1_some h
  refine k_looksAt C hP hS hv4 (Nat.le_of_ble_eq_true rfl) hl.1 (Nat.le_of_ble_eq_true rfl) hcs dX6_findRow_22 (fun H locs hP hS => ?_)
  obtain ⟨st31, hz34, h⟩ := bd1_some h
  refine L25 x1 x2 N _ 0 _ hz34 _ _ hP hS ls (lv_sub hl [1, 2, 3, 0] rfl) (fun H locs hP hS ls hl => ?_)
  refine lv_aload_n hx hb dX6_findRow_157 rfl (lv_at hl 0 rfl) ?_
  obtain ⟨st33, hv32, h⟩ := bd1_some h
  refine k_putBack C hP hS hv32 (Nat.le_of_ble_eq_true rfl) hl.1 (Nat.le_of_ble_eq_true rfl) hcs dX6_findRow_158 (fun H locs hP hS => ?_)
  exact mm_vret hx hb hr hlk h hP hS dX6_findRow_161
theorem q1862 : (Jvm.Cond.methodLink "ChapterLoanModel" (260 : Nat) ({ cls := "ChapterLoanModel", name := "findRow", desc := "(IZ)V" } : Jvm.MethodName)) ∈ lw_all := lw_g (lw_at lw_m8 98 rfl) rfl
theorem q1865 : (Jvm.Cond.code ({ cls := "ChapterLoanModel", name := "findRow", desc := "(IZ)V" } : Jvm.MethodName) prog_30_method_66_code (5 : Nat) (Option.none : Option Jvm.ClassFile.FieldType)) ∈ lw_all := lw_g (lw_at lw_m8 101 rfl) rfl
theorem q1864 : (Jvm.Cond.instanceMethod ({ cls := "ChapterLoanModel", name := "findRow", desc := "(IZ)V" } : Jvm.MethodName)) ∈ lw_all := lw_g (lw_at lw_m8 100 rfl) rfl
theorem k_findRow {N : Nat} {a0 : Int32} {a1 : Int32} {st' : MSt} (C : mC p R d s m args c cc nL D cI ad) (hP : mW D cI ad st H) (hS : va_S (kF 15 ad) H0 H locs) (h : M_findRow N st a0 a1 = some st') (hd : 5 + 1 ≤ d) (hsz : ls.size = nL) (hW : (rest.map fun v => v.category).sum ≤ 8) (hcs : cells ≤ R.cells ∧ slots ≤ R.slots) (hdg : decode cc pc = .ok (.invokevirtual 260, 3)) (kk : ∀ (H1 : Heap) (locs1 : List Loc), mW D cI ad st' H1 → va_S (kF 15 ad) H0 H1 locs1 → W p l e R s m args below meth c H1 locs1 cells slots Q (F0 m (pc + 3) ls (rest))) : W p l e R s m args below meth c H locs cells slots Q (F0 m pc ls (.int a1 :: .int a0 :: .ref (ad 0) :: rest)) :=
  mm_cV (As := [.int a0, .int a1]) C hP hS (w_findRow C.2.2.2.2.2.2.1 h) (cwV 2 C.2.2.2.2.1 (lw_V q1862 q1864 qs70 q94 q1865) rfl rfl rfl (by decide +kernel) (mr_ C.2.2.2.2.2.2.2 hd (by decide))) rfl hsz rfl hW hdg hcs kk
abbrev cX6_rowTold : ByteArray := prog_30_method_67_code
def yX6_rowTold : MethodName := ⟨RX6, "rowTold", "(IIZ)I"⟩
theorem dX6_rowTold_0 : decode cX6_rowTold 0 = .ok (.aload_n 0, 1) := by decide +kernel
theorem dX6_rowTold_1 : decode cX6_rowTold 1 = .ok (.iload_n 1, 1) := by decide +kernel
theorem dX6_rowTold_2 : decode cX6_rowTold 2 = .ok (.invokevirtual 197, 3) := by decide +kernel
theorem dX6_rowTold_5 : decode cX6_rowTold 5 = .ok (.ifCond .eq 17, 3) := by decide +kernel
theorem dX6_rowTold_8 : decode cX6_rowTold 8 = .ok (.iload_n 2, 1) := by decide +kernel
theorem dX6_rowTold_9 : decode cX6_rowTold 9 = .ok (.i2l, 1) := by decide +kernel
theorem dX6_rowTold_10 : decode cX6_rowTold 10 = .ok (.ldc2_w 258, 3) := by decide +kernel
theorem dX6_rowTold_13 : decode cX6_rowTold 13 = .ok (.ldc2_w 241, 3) := by decide +kernel
theorem dX6_rowTold_16 : decode cX6_rowTold 16 = .ok (.invokestatic 57, 3) := by decide +kernel
theorem dX6_rowTold_19 : decode cX6_rowTold 19 = .ok (.ifCond .ne 9, 3) := by decide +kernel
theorem dX6_rowTold_22 : decode cX6_rowTold 22 = .ok (.aload_n 0, 1) := by decide +kernel
theorem dX6_rowTold_23 : decode cX6_rowTold 23 = .ok (.iconst 1, 1) := by decide +kernel
theorem dX6_rowTold_24 : decode cX6_rowTold 24 = .ok (.invokevirtual 119, 3) := by decide +kernel
theorem dX6_rowTold_27 : decode cX6_rowTold 27 = .ok (.ireturn, 1) := by decide +kernel
theorem dX6_rowTold_28 : decode cX6_rowTold 28 = .ok (.aload_n 0, 1) := by decide +kernel
theorem dX6_rowTold_29 : decode cX6_rowTold 29 = .ok (.iload_n 1, 1) := by decide +kernel
theorem dX6_rowTold_30 : decode cX6_rowTold 30 = .ok (.iconst 3, 1) := by decide +kernel
theorem dX6_rowTold_31 : decode cX6_rowTold 31 = .ok (.invokevirtual 150, 3) := by decide +kernel
theorem dX6_rowTold_34 : decode cX6_rowTold 34 = .ok (.iconst 1, 1) := by decide +kernel
theorem dX6_rowTold_35 : decode cX6_rowTold 35 = .ok (.if_icmp .ne 9, 3) := by decide +kernel
theorem dX6_rowTold_38 : decode cX6_rowTold 38 = .ok (.aload_n 0, 1) := by decide +kernel
theorem dX6_rowTold_39 : decode cX6_rowTold 39 = .ok (.iconst 3, 1) := by decide +kernel
theorem dX6_rowTold_40 : decode cX6_rowTold 40 = .ok (.invokevirtual 119, 3) := by decide +kernel
theorem dX6_rowTold_43 : decode cX6_rowTold 43 = .ok (.ireturn, 1) := by decide +kernel
theorem dX6_rowTold_44 : decode cX6_rowTold 44 = .ok (.aload_n 0, 1) := by decide +kernel
theorem dX6_rowTold_45 : decode cX6_rowTold 45 = .ok (.iload_n 1, 1) := by decide +kernel
theorem dX6_rowTold_46 : decode cX6_rowTold 46 = .ok (.iload_n 3, 1) := by decide +kernel
theorem dX6_rowTold_47 : decode cX6_rowTold 47 = .ok (.invokevirtual 260, 3) := by decide +kernel
theorem dX6_rowTold_50 : decode cX6_rowTold 50 = .ok (.aload_n 0, 1) := by decide +kernel
theorem dX6_rowTold_51 : decode cX6_rowTold 51 = .ok (.getfield 249, 3) := by decide +kernel
theorem dX6_rowTold_54 : decode cX6_rowTold 54 = .ok (.ifCond .lt 11, 3) := by decide +kernel
theorem dX6_rowTold_57 : decode cX6_rowTold 57 = .ok (.iload_n 2, 1) := by decide +kernel
theorem dX6_rowTold_58 : decode cX6_rowTold 58 = .ok (.aload_n 0, 1) := by decide +kernel
theorem dX6_rowTold_59 : decode cX6_rowTold 59 = .ok (.getfield 249, 3) := by decide +kernel
theorem dX6_rowTold_62 : decode cX6_rowTold 62 = .ok (.if_icmp .lt 9, 3) := by decide +kernel
theorem dX6_rowTold_65 : decode cX6_rowTold 65 = .ok (.aload_n 0, 1) := by decide +kernel
theorem dX6_rowTold_66 : decode cX6_rowTold 66 = .ok (.iconst 2, 1) := by decide +kernel
theorem dX6_rowTold_67 : decode cX6_rowTold 67 = .ok (.invokevirtual 119, 3) := by decide +kernel
theorem dX6_rowTold_70 : decode cX6_rowTold 70 = .ok (.ireturn, 1) := by decide +kernel
theorem dX6_rowTold_71 : decode cX6_rowTold 71 = .ok (.iload_n 2, 1) := by decide +kernel
theorem dX6_rowTold_72 : decode cX6_rowTold 72 = .ok (.ifCond .ge 10, 3) := by decide +kernel
theorem dX6_rowTold_75 : decode cX6_rowTold 75 = .ok (.aload_n 0, 1) := by decide +kernel
theorem dX6_rowTold_76 : decode cX6_rowTold 76 = .ok (.getfield 249, 3) := by decide +kernel
theorem dX6_rowTold_79 : decode cX6_rowTold 79 = .ok (.goto 9, 3) := by decide +kernel
theorem dX6_rowTold_82 : decode cX6_rowTold 82 = .ok (.aload_n 0, 1) := by decide +kernel
theorem dX6_rowTold_83 : decode cX6_rowTold 83 = .ok (.getfield 35, 3) := by decide +kernel
theorem dX6_rowTold_86 : decode cX6_rowTold 86 = .ok (.iload_n 2, 1) := by decide +kernel
theorem dX6_rowTold_87 : decode cX6_rowTold 87 = .ok (.iaload, 1) := by decide +kernel
theorem dX6_rowTold_88 : decode cX6_rowTold 88 = .ok (.ireturn, 1) := by decide +kernel
theorem q1844 : (Jvm.Cond.constantLong "ChapterLoanModel" (241 : Nat) (7 : Int64)) ∈ lw_all := lw_g (lw_at lw_m8 80 rfl) rfl
theorem q1861 : (Jvm.Cond.constantLong "ChapterLoanModel" (258 : Nat) (-1 : Int64)) ∈ lw_all := lw_g (lw_at lw_m8 97 rfl) rfl
theorem w_rowTold {l : Launch} {D : va_G} {cI : ClassId} {ad : Nat → Nat} (hI : kInj 15 ad) {st st' : MSt} {N : Nat} {x1 : Int32} {x2 : Int32} {x3 : Int32} {r0 : Int32} (h : M_rowTold  N st x1 x2 x3 = some (r0, st')) : mV l yX6_rowTold cX6_rowTold 4 (some .int) 6 D cI ad st [.int x1, .int x2, .int x3] (some (.int r0)) st' := by
  refine mm_ofV hI (by decide) rfl (Nat.le_of_ble_eq_true rfl) (fun p e s m below meth c R args ls C hr hlk hP hS hl hcs => ?_)
  have hx := C.1
  have hb := C.2.1
  have hown := C.2.2.2.1
  have hl : lv_has ls 4 [(0, .ref (ad 0)), (1, .int x1), (2, .int x2), (3, .int x3)] := hl
  have hP : mW D cI ad st s.heap := hP
  rw [M_rowTold] at h
  refine lv_aload_n hx hb dX6_rowTold_0 rfl (lv_at hl 0 rfl) ?_
  refine lv_iload_n hx hb dX6_rowTold_1 rfl (lv_at hl 1 rfl) ?_
  obtain ⟨v1, hv1, h⟩ := bd1_some h
  refine k_isDebtor C hP hv1 (Nat.le_of_ble_eq_true rfl) hl.1 (Nat.le_of_ble_eq_true rfl) hcs dX6_rowTold_2 ?_
  refine lv_if_eq (tgt := 22) hx hb dX6_rowTold_5 rfl (fun c2 => ?_) (fun c2 => ?_)
  · have h := if_some_t h c2
    refine lv_aload_n hx hb dX6_rowTold_22 rfl (lv_at hl 0 rfl) ?_
    refine lv_iconst (v := 1) hx hb dX6_rowTold_23 (by decide) ?_
    obtain ⟨v3, st4, hv3, h⟩ := bd2_some h
    refine k_finds C hP hS hv3 (Nat.le_of_ble_eq_true rfl) hl.1 (Nat.le_of_ble_eq_true rfl) hcs dX6_rowTold_24 (fun H locs hP hS => ?_)
    exact mm_viret hx hb hr hlk h hP hS dX6_rowTold_27
  · have h := if_some_f h c2
    refine lv_iload_n hx hb dX6_rowTold_8 rfl (lv_at hl 2 rfl) ?_
    refine lv_i2l (v := x2.toInt64) hx hb dX6_rowTold_9 rfl ?_
    refine lv_ldc2 hx hb hown (C.2.2.2.2.1 _ q1861) dX6_rowTold_10 ?_
    refine lv_ldc2 hx hb hown (C.2.2.2.2.1 _ q1844) dX6_rowTold_13 ?_
    obtain ⟨v5, hv5, h⟩ := bd1_some h
    refine k_in hx hb C.2.2.1 hown C.2.2.2.2.1 C.2.2.2.2.2.2.2 hv5 (Nat.le_of_ble_eq_true rfl) hl.1 (Nat.le_of_ble_eq_true rfl) hcs dX6_rowTold_16 ?_
    refine lv_if_ne (tgt := 28) hx hb dX6_rowTold_19 rfl (fun c6 => ?_) (fun c6 => ?_)
    · have h := if_some_f h c6
      refine lv_aload_n hx hb dX6_rowTold_28 rfl (lv_at hl 0 rfl) ?_
      refine lv_iload_n hx hb dX6_rowTold_29 rfl (lv_at hl 1 rfl) ?_
      refine lv_iconst (v := 3) hx hb dX6_rowTold_30 (by decide) ?_
      obtain ⟨v7, hv7, h⟩ := bd1_some h
      refine k_of C hP hv7 (Nat.le_of_ble_eq_true rfl) hl.1 (Nat.le_of_ble_eq_true rfl) hcs dX6_rowTold_31 ?_
      refine lv_iconst (v := 1) hx hb dX6_rowTold_34 (by decide) ?_
      refine lv_icmp_ne (tgt := 44) hx hb dX6_rowTold_35 rfl (fun c8 => ?_) (fun c8 => ?_)
      · have h := if_some_f h c8
        refine lv_aload_n hx hb dX6_rowTold_44 rfl (lv_at hl 0 rfl) ?_
        refine lv_iload_n hx hb dX6_rowTold_45 rfl (lv_at hl 1 rfl) ?_
        refine lv_iload_n hx hb dX6_rowTold_46 rfl (lv_at hl 3 rfl) ?_
        obtain ⟨st10, hv9, h⟩ := bd1_some h
        refine k_findRow C hP hS hv9 (Nat.le_of_ble_eq_true rfl) hl.1 (Nat.le_of_ble_eq_true rfl) hcs dX6_rowTold_47 (fun H locs hP hS => ?_)
        refine lv_aload_n hx hb dX6_rowTold_50 rfl (lv_at hl 0 rfl) ?_
        refine g_bestMany C hP dX6_rowTold_51 ?_
        refine lv_if_lt (tgt := 65) hx hb dX6_rowTold_54 rfl (fun c11 => ?_) (fun c11 => ?_)
        · have h := if_some_t h c11
          refine lv_aload_n hx hb dX6_rowTold_65 rfl (lv_at hl 0 rfl) ?_
          refine lv_iconst (v := 2) hx hb dX6_rowTold_66 (by decide) ?_
          obtain ⟨v12, st13, hv12, h⟩ := bd2_some h
          refine k_finds C hP hS hv12 (Nat.le_of_ble_eq_true rfl) hl.1 (Nat.le_of_ble_eq_true rfl) hcs dX6_rowTold_67 (fun H locs hP hS => ?_)
          exact mm_viret hx hb hr hlk h hP hS dX6_rowTold_70
        · have h := if_some_f h c11
          refine lv_iload_n hx hb dX6_rowTold_57 rfl (lv_at hl 2 rfl) ?_
          refine lv_aload_n hx hb dX6_rowTold_58 rfl (lv_at hl 0 rfl) ?_
          refine g_bestMany C hP dX6_rowTold_59 ?_
          refine lv_icmp_lt (tgt := 71) hx hb dX6_rowTold_62 rfl (fun c14 => ?_) (fun c14 => ?_)
          · have h := if_some_t h c14
            refine lv_iload_n hx hb dX6_rowTold_71 rfl (lv_at hl 2 rfl) ?_
            refine lv_if_ge (tgt := 82) hx hb dX6_rowTold_72 rfl (fun c15 => ?_) (fun c15 => ?_)
            · have h := if_some_t h c15
              refine lv_aload_n hx hb dX6_rowTold_82 rfl (lv_at hl 0 rfl) ?_
              refine g_bestRow C hP dX6_rowTold_83 ?_
              refine lv_iload_n hx hb dX6_rowTold_86 rfl (lv_at hl 2 rfl) ?_
              obtain ⟨v16, hv16, h⟩ := bd1_some h
              refine mm_ld C hP 8 (by decide) rfl hv16 dX6_rowTold_87 ?_
              exact mm_viret hx hb hr hlk h hP hS dX6_rowTold_88
            · have h := if_some_f h c15
              refine lv_aload_n hx hb dX6_rowTold_75 rfl (lv_at hl 0 rfl) ?_
              refine g_bestMany C hP dX6_rowTold_76 ?_
              refine lv_goto (tgt := 88) hx hb dX6_rowTold_79 rfl ?_
              exact mm_viret hx hb hr hlk h hP hS dX6_rowTold_88
          · have h := if_some_f h c14
            refine lv_aload_n hx hb dX6_rowTold_65 rfl (lv_at hl 0 rfl) ?_
            refine lv_iconst (v := 2) hx hb dX6_rowTold_66 (by decide) ?_
            obtain ⟨v17, st18, hv17, h⟩ := bd2_some h
            refine k_finds C hP hS hv17 (Nat.le_of_ble_eq_true rfl) hl.1 (Nat.le_of_ble_eq_true rfl) hcs dX6_rowTold_67 (fun H locs hP hS => ?_)
            exact mm_viret hx hb hr hlk h hP hS dX6_rowTold_70
      · have h := if_some_t h c8
        refine lv_aload_n hx hb dX6_rowTold_38 rfl (lv_at hl 0 rfl) ?_
        refine lv_iconst (v := 3) hx hb dX6_rowTold_39 (by decide) ?_
        obtain ⟨v19, st20, hv19, h⟩ := bd2_some h
        refine k_finds C hP hS hv19 (Nat.le_of_ble_eq_true rfl) hl.1 (Nat.le_of_ble_eq_true rfl) hcs dX6_rowTold_40 (fun H locs hP hS => ?_)
        exact mm_viret hx hb hr hlk h hP hS dX6_rowTold_43
    · have h := if_some_t h c6
      refine lv_aload_n hx hb dX6_rowTold_22 rfl (lv_at hl 0 rfl) ?_
      refine lv_iconst (v := 1) hx hb dX6_rowTold_23 (by decide) ?_
      obtain ⟨v21, st22, hv21, h⟩ := bd2_some h
      refine k_finds C hP hS hv21 (Nat.le_of_ble_eq_true rfl) hl.1 (Nat.le_of_ble_eq_true rfl) hcs dX6_rowTold_24 (fun H locs hP hS => ?_)
      exact mm_viret hx hb hr hlk h hP hS dX6_rowTold_27
theorem q1857 : (Jvm.Cond.methodLink "ChapterLoanModel" (264 : Nat) ({ cls := "ChapterLoanModel", name := "rowTold", desc := "(IIZ)I" } : Jvm.MethodName)) ∈ lw_all := lw_g (lw_at lw_m8 93 rfl) rfl
theorem q1860 : (Jvm.Cond.code ({ cls := "ChapterLoanModel", name := "rowTold", desc := "(IIZ)I" } : Jvm.MethodName) prog_30_method_67_code (4 : Nat) (Option.some Jvm.ClassFile.FieldType.int)) ∈ lw_all := lw_g (lw_at lw_m8 96 rfl) rfl
theorem q1859 : (Jvm.Cond.instanceMethod ({ cls := "ChapterLoanModel", name := "rowTold", desc := "(IIZ)I" } : Jvm.MethodName)) ∈ lw_all := lw_g (lw_at lw_m8 95 rfl) rfl
theorem k_rowTold {N : Nat} {a0 : Int32} {a1 : Int32} {a2 : Int32} {v : Int32} {st' : MSt} (C : mC p R d s m args c cc nL D cI ad) (hP : mW D cI ad st H) (hS : va_S (kF 15 ad) H0 H locs) (h : M_rowTold N st a0 a1 a2 = some (v, st')) (hd : 6 + 1 ≤ d) (hsz : ls.size = nL) (hW : (rest.map fun v => v.category).sum ≤ 8) (hcs : cells ≤ R.cells ∧ slots ≤ R.slots) (hdg : decode cc pc = .ok (.invokevirtual 264, 3)) (kk : ∀ (H1 : Heap) (locs1 : List Loc), mW D cI ad st' H1 → va_S (kF 15 ad) H0 H1 locs1 → W p l e R s m args below meth c H1 locs1 cells slots Q (F0 m (pc + 3) ls (.int v :: rest))) : W p l e R s m args below meth c H locs cells slots Q (F0 m pc ls (.int a2 :: .int a1 :: .int a0 :: .ref (ad 0) :: rest)) :=
  mm_cV (As := [.int a0, .int a1, .int a2]) C hP hS (w_rowTold C.2.2.2.2.2.2.1 h) (cwV 3 C.2.2.2.2.1 (lw_V q1857 q1859 qs69 q94 q1860) rfl rfl rfl (by decide +kernel) (mr_ C.2.2.2.2.2.2.2 hd (by decide))) rfl hsz rfl hW hdg hcs kk
abbrev cX6_served : ByteArray := prog_30_method_68_code
def yX6_served : MethodName := ⟨RX6, "served", "(II)I"⟩
theorem dX6_served_0 : decode cX6_served 0 = .ok (.aload_n 0, 1) := by decide +kernel
theorem dX6_served_1 : decode cX6_served 1 = .ok (.iload_n 1, 1) := by decide +kernel
theorem dX6_served_2 : decode cX6_served 2 = .ok (.iload_n 2, 1) := by decide +kernel
theorem dX6_served_3 : decode cX6_served 3 = .ok (.iconst 0, 1) := by decide +kernel
theorem dX6_served_4 : decode cX6_served 4 = .ok (.invokevirtual 264, 3) := by decide +kernel
theorem dX6_served_7 : decode cX6_served 7 = .ok (.ireturn, 1) := by decide +kernel
theorem w_served {l : Launch} {D : va_G} {cI : ClassId} {ad : Nat → Nat} (hI : kInj 15 ad) {st st' : MSt} {N : Nat} {x1 : Int32} {x2 : Int32} {r0 : Int32} (h : M_served  N st x1 x2 = some (r0, st')) : mV l yX6_served cX6_served 3 (some .int) 7 D cI ad st [.int x1, .int x2] (some (.int r0)) st' := by
  refine mm_ofV hI (by decide) rfl (Nat.le_of_ble_eq_true rfl) (fun p e s m below meth c R args ls C hr hlk hP hS hl hcs => ?_)
  have hx := C.1
  have hb := C.2.1
  have hown := C.2.2.2.1
  have hl : lv_has ls 3 [(0, .ref (ad 0)), (1, .int x1), (2, .int x2)] := hl
  have hP : mW D cI ad st s.heap := hP
  rw [M_served] at h
  refine lv_aload_n hx hb dX6_served_0 rfl (lv_at hl 0 rfl) ?_
  refine lv_iload_n hx hb dX6_served_1 rfl (lv_at hl 1 rfl) ?_
  refine lv_iload_n hx hb dX6_served_2 rfl (lv_at hl 2 rfl) ?_
  refine lv_iconst (v := 0) hx hb dX6_served_3 (by decide) ?_
  obtain ⟨v1, st2, hv1, h⟩ := bd2_some h
  refine k_rowTold C hP hS hv1 (Nat.le_of_ble_eq_true rfl) hl.1 (Nat.le_of_ble_eq_true rfl) hcs dX6_served_4 (fun H locs hP hS => ?_)
  exact mm_viret hx hb hr hlk h hP hS dX6_served_7
abbrev cX6_closed : ByteArray := prog_30_method_69_code
def yX6_closed : MethodName := ⟨RX6, "closed", "(II)I"⟩
theorem dX6_closed_0 : decode cX6_closed 0 = .ok (.aload_n 0, 1) := by decide +kernel
theorem dX6_closed_1 : decode cX6_closed 1 = .ok (.iload_n 1, 1) := by decide +kernel
theorem dX6_closed_2 : decode cX6_closed 2 = .ok (.iload_n 2, 1) := by decide +kernel
theorem dX6_closed_3 : decode cX6_closed 3 = .ok (.iconst 1, 1) := by decide +kernel
theorem dX6_closed_4 : decode cX6_closed 4 = .ok (.invokevirtual 264, 3) := by decide +kernel
theorem dX6_closed_7 : decode cX6_closed 7 = .ok (.ireturn, 1) := by decide +kernel
theorem w_closed {l : Launch} {D : va_G} {cI : ClassId} {ad : Nat → Nat} (hI : kInj 15 ad) {st st' : MSt} {N : Nat} {x1 : Int32} {x2 : Int32} {r0 : Int32} (h : M_closed  N st x1 x2 = some (r0, st')) : mV l yX6_closed cX6_closed 3 (some .int) 7 D cI ad st [.int x1, .int x2] (some (.int r0)) st' := by
  refine mm_ofV hI (by decide) rfl (Nat.le_of_ble_eq_true rfl) (fun p e s m below meth c R args ls C hr hlk hP hS hl hcs => ?_)
  have hx := C.1
  have hb := C.2.1
  have hown := C.2.2.2.1
  have hl : lv_has ls 3 [(0, .ref (ad 0)), (1, .int x1), (2, .int x2)] := hl
  have hP : mW D cI ad st s.heap := hP
  rw [M_closed] at h
  refine lv_aload_n hx hb dX6_closed_0 rfl (lv_at hl 0 rfl) ?_
  refine lv_iload_n hx hb dX6_closed_1 rfl (lv_at hl 1 rfl) ?_
  refine lv_iload_n hx hb dX6_closed_2 rfl (lv_at hl 2 rfl) ?_
  refine lv_iconst (v := 1) hx hb dX6_closed_3 (by decide) ?_
  obtain ⟨v1, st2, hv1, h⟩ := bd2_some h
  refine k_rowTold C hP hS hv1 (Nat.le_of_ble_eq_true rfl) hl.1 (Nat.le_of_ble_eq_true rfl) hcs dX6_closed_4 (fun H locs hP hS => ?_)
  exact mm_viret hx hb hr hlk h hP hS dX6_closed_7
abbrev cX6_clashOf : ByteArray := prog_30_method_70_code
def yX6_clashOf : MethodName := ⟨RX6, "clashOf", "(I)I"⟩
theorem dX6_clashOf_0 : decode cX6_clashOf 0 = .ok (.iload_n 1, 1) := by decide +kernel
theorem dX6_clashOf_1 : decode cX6_clashOf 1 = .ok (.i2l, 1) := by decide +kernel
theorem dX6_clashOf_2 : decode cX6_clashOf 2 = .ok (.lconst 0, 1) := by decide +kernel
theorem dX6_clashOf_3 : decode cX6_clashOf 3 = .ok (.iconst 1, 1) := by decide +kernel
theorem dX6_clashOf_4 : decode cX6_clashOf 4 = .ok (.aload_n 0, 1) := by decide +kernel
theorem dX6_clashOf_5 : decode cX6_clashOf 5 = .ok (.getfield 7, 3) := by decide +kernel
theorem dX6_clashOf_8 : decode cX6_clashOf 8 = .ok (.iconst 0, 1) := by decide +kernel
theorem dX6_clashOf_9 : decode cX6_clashOf 9 = .ok (.iaload, 1) := by decide +kernel
theorem dX6_clashOf_10 : decode cX6_clashOf 10 = .ok (.ishl, 1) := by decide +kernel
theorem dX6_clashOf_11 : decode cX6_clashOf 11 = .ok (.iconst 1, 1) := by decide +kernel
theorem dX6_clashOf_12 : decode cX6_clashOf 12 = .ok (.isub, 1) := by decide +kernel
theorem dX6_clashOf_13 : decode cX6_clashOf 13 = .ok (.i2l, 1) := by decide +kernel
theorem dX6_clashOf_14 : decode cX6_clashOf 14 = .ok (.invokestatic 57, 3) := by decide +kernel
theorem dX6_clashOf_17 : decode cX6_clashOf 17 = .ok (.ifCond .ne 9, 3) := by decide +kernel
theorem dX6_clashOf_20 : decode cX6_clashOf 20 = .ok (.aload_n 0, 1) := by decide +kernel
theorem dX6_clashOf_21 : decode cX6_clashOf 21 = .ok (.iconst 1, 1) := by decide +kernel
theorem dX6_clashOf_22 : decode cX6_clashOf 22 = .ok (.invokevirtual 119, 3) := by decide +kernel
theorem dX6_clashOf_25 : decode cX6_clashOf 25 = .ok (.ireturn, 1) := by decide +kernel
theorem dX6_clashOf_26 : decode cX6_clashOf 26 = .ok (.iconst 0, 1) := by decide +kernel
theorem dX6_clashOf_27 : decode cX6_clashOf 27 = .ok (.istore_n 2, 1) := by decide +kernel
theorem dX6_clashOf_28 : decode cX6_clashOf 28 = .ok (.iload_n 2, 1) := by decide +kernel
theorem dX6_clashOf_29 : decode cX6_clashOf 29 = .ok (.aload_n 0, 1) := by decide +kernel
theorem dX6_clashOf_30 : decode cX6_clashOf 30 = .ok (.getfield 7, 3) := by decide +kernel
theorem dX6_clashOf_33 : decode cX6_clashOf 33 = .ok (.iconst 0, 1) := by decide +kernel
theorem dX6_clashOf_34 : decode cX6_clashOf 34 = .ok (.iaload, 1) := by decide +kernel
theorem dX6_clashOf_35 : decode cX6_clashOf 35 = .ok (.if_icmp .ge 68, 3) := by decide +kernel
theorem dX6_clashOf_38 : decode cX6_clashOf 38 = .ok (.iload_n 2, 1) := by decide +kernel
theorem dX6_clashOf_39 : decode cX6_clashOf 39 = .ok (.iconst 1, 1) := by decide +kernel
theorem dX6_clashOf_40 : decode cX6_clashOf 40 = .ok (.iadd, 1) := by decide +kernel
theorem dX6_clashOf_41 : decode cX6_clashOf 41 = .ok (.istore_n 3, 1) := by decide +kernel
theorem dX6_clashOf_42 : decode cX6_clashOf 42 = .ok (.iload_n 3, 1) := by decide +kernel
theorem dX6_clashOf_43 : decode cX6_clashOf 43 = .ok (.aload_n 0, 1) := by decide +kernel
theorem dX6_clashOf_44 : decode cX6_clashOf 44 = .ok (.getfield 7, 3) := by decide +kernel
theorem dX6_clashOf_47 : decode cX6_clashOf 47 = .ok (.iconst 0, 1) := by decide +kernel
theorem dX6_clashOf_48 : decode cX6_clashOf 48 = .ok (.iaload, 1) := by decide +kernel
theorem dX6_clashOf_49 : decode cX6_clashOf 49 = .ok (.if_icmp .ge 48, 3) := by decide +kernel
theorem dX6_clashOf_52 : decode cX6_clashOf 52 = .ok (.iload_n 1, 1) := by decide +kernel
theorem dX6_clashOf_53 : decode cX6_clashOf 53 = .ok (.iload_n 2, 1) := by decide +kernel
theorem dX6_clashOf_54 : decode cX6_clashOf 54 = .ok (.ishr, 1) := by decide +kernel
theorem dX6_clashOf_55 : decode cX6_clashOf 55 = .ok (.iconst 1, 1) := by decide +kernel
theorem dX6_clashOf_56 : decode cX6_clashOf 56 = .ok (.iand, 1) := by decide +kernel
theorem dX6_clashOf_57 : decode cX6_clashOf 57 = .ok (.iconst 1, 1) := by decide +kernel
theorem dX6_clashOf_58 : decode cX6_clashOf 58 = .ok (.if_icmp .ne 33, 3) := by decide +kernel
theorem dX6_clashOf_61 : decode cX6_clashOf 61 = .ok (.iload_n 1, 1) := by decide +kernel
theorem dX6_clashOf_62 : decode cX6_clashOf 62 = .ok (.iload_n 3, 1) := by decide +kernel
theorem dX6_clashOf_63 : decode cX6_clashOf 63 = .ok (.ishr, 1) := by decide +kernel
theorem dX6_clashOf_64 : decode cX6_clashOf 64 = .ok (.iconst 1, 1) := by decide +kernel
theorem dX6_clashOf_65 : decode cX6_clashOf 65 = .ok (.iand, 1) := by decide +kernel
theorem dX6_clashOf_66 : decode cX6_clashOf 66 = .ok (.iconst 1, 1) := by decide +kernel
theorem dX6_clashOf_67 : decode cX6_clashOf 67 = .ok (.if_icmp .ne 24, 3) := by decide +kernel
theorem dX6_clashOf_70 : decode cX6_clashOf 70 = .ok (.aload_n 0, 1) := by decide +kernel
theorem dX6_clashOf_71 : decode cX6_clashOf 71 = .ok (.iload_n 2, 1) := by decide +kernel
theorem dX6_clashOf_72 : decode cX6_clashOf 72 = .ok (.iconst 1, 1) := by decide +kernel
theorem dX6_clashOf_73 : decode cX6_clashOf 73 = .ok (.invokevirtual 144, 3) := by decide +kernel
theorem dX6_clashOf_76 : decode cX6_clashOf 76 = .ok (.iload_n 3, 1) := by decide +kernel
theorem dX6_clashOf_77 : decode cX6_clashOf 77 = .ok (.ishr, 1) := by decide +kernel
theorem dX6_clashOf_78 : decode cX6_clashOf 78 = .ok (.iconst 1, 1) := by decide +kernel
theorem dX6_clashOf_79 : decode cX6_clashOf 79 = .ok (.iand, 1) := by decide +kernel
theorem dX6_clashOf_80 : decode cX6_clashOf 80 = .ok (.iconst 1, 1) := by decide +kernel
theorem dX6_clashOf_81 : decode cX6_clashOf 81 = .ok (.if_icmp .ne 10, 3) := by decide +kernel
theorem dX6_clashOf_84 : decode cX6_clashOf 84 = .ok (.bipush 10, 2) := by decide +kernel
theorem dX6_clashOf_86 : decode cX6_clashOf 86 = .ok (.iload_n 2, 1) := by decide +kernel
theorem dX6_clashOf_87 : decode cX6_clashOf 87 = .ok (.imul, 1) := by decide +kernel
theorem dX6_clashOf_88 : decode cX6_clashOf 88 = .ok (.iload_n 3, 1) := by decide +kernel
theorem dX6_clashOf_89 : decode cX6_clashOf 89 = .ok (.iadd, 1) := by decide +kernel
theorem dX6_clashOf_90 : decode cX6_clashOf 90 = .ok (.ireturn, 1) := by decide +kernel
theorem dX6_clashOf_91 : decode cX6_clashOf 91 = .ok (.iinc 3 1, 3) := by decide +kernel
theorem dX6_clashOf_94 : decode cX6_clashOf 94 = .ok (.goto (-52), 3) := by decide +kernel
theorem dX6_clashOf_97 : decode cX6_clashOf 97 = .ok (.iinc 2 1, 3) := by decide +kernel
theorem dX6_clashOf_100 : decode cX6_clashOf 100 = .ok (.goto (-72), 3) := by decide +kernel
theorem dX6_clashOf_103 : decode cX6_clashOf 103 = .ok (.aload_n 0, 1) := by decide +kernel
theorem dX6_clashOf_104 : decode cX6_clashOf 104 = .ok (.iconst 2, 1) := by decide +kernel
theorem dX6_clashOf_105 : decode cX6_clashOf 105 = .ok (.invokevirtual 119, 3) := by decide +kernel
theorem dX6_clashOf_108 : decode cX6_clashOf 108 = .ok (.ireturn, 1) := by decide +kernel
theorem w_clashOf {l : Launch} {D : va_G} {cI : ClassId} {ad : Nat → Nat} (hI : kInj 15 ad) {st st' : MSt} {N : Nat} {x1 : Int32} {r0 : Int32} (h : M_clashOf  N st x1 = some (r0, st')) : mV l yX6_clashOf cX6_clashOf 4 (some .int) 1 D cI ad st [.int x1] (some (.int r0)) st' := by
  refine mm_ofV hI (by decide) rfl (Nat.le_of_ble_eq_true rfl) (fun p e s m below meth c R args ls C hr hlk hP hS hl hcs => ?_)
  have hx := C.1
  have hb := C.2.1
  have hown := C.2.2.2.1
  have hl : lv_has ls 4 [(0, .ref (ad 0)), (1, .int x1)] := hl
  have hP : mW D cI ad st s.heap := hP
  have L42 : ∀ (st : MSt), ∀ (x1 : Int32), ∀ (x2 : Int32), ∀ (k : Option (Int32 × MSt)), ∀ (n : Nat) (x3 : Int32), M_clashOf_L42 N st x1 x2 k n x3 = some (r0, st') → ∀ (H : Heap) (locs : List Loc), mW D cI ad st H → va_S (kF 15 ad) s.heap H locs → ∀ ls : Array Slot, lv_has ls 4 [(0, .ref (ad 0)), (1, .int x1), (2, .int x2), (3, .int x3)] → (k  = some (r0, st') → ∀ ls : Array Slot, lv_has ls 4 [(0, .ref (ad 0)), (1, .int x1), (2, .int x2)] → mWV p l e R s m args below meth c D cI ad (some (.int r0)) st' H locs (F0 m 97 ls [])) → mWV p l e R s m args below meth c D cI ad (some (.int r0)) st' H locs (F0 m 42 ls []) := by
    intro st x1 x2 k n
    induction n with
    | zero =>
      intro x3  h
      exact non_some h
    | succ n ih =>
      intro x3  h H locs hP hS ls hl kx
      rw [M_clashOf_L42] at h
      refine lv_iload_n hx hb dX6_clashOf_42 rfl (lv_at hl 3 rfl) ?_
      refine lv_aload_n hx hb dX6_clashOf_43 rfl (lv_at hl 0 rfl) ?_
      refine g_d C hP dX6_clashOf_44 ?_
      refine lv_iconst (v := 0) hx hb dX6_clashOf_47 (by decide) ?_
      obtain ⟨v6, hv6, h⟩ := bd1_some h
      refine mm_ld C hP 1 (by decide) rfl hv6 dX6_clashOf_48 ?_
      refine lv_icmp_ge (tgt := 97) hx hb dX6_clashOf_49 rfl (fun c7 => ?_) (fun c7 => ?_)
      · have h := if_some_t h c7
        exact kx  h ls (lv_sub hl [0, 1, 2] rfl)
      · have h := if_some_f h c7
        refine lv_iload_n hx hb dX6_clashOf_52 rfl (lv_at hl 1 rfl) ?_
        refine lv_iload_n hx hb dX6_clashOf_53 rfl (lv_at hl 2 rfl) ?_
        refine lv_ishr hx hb dX6_clashOf_54 ?_
        refine lv_iconst (v := 1) hx hb dX6_clashOf_55 (by decide) ?_
        refine lv_iand hx hb dX6_clashOf_56 ?_
        refine lv_iconst (v := 1) hx hb dX6_clashOf_57 (by decide) ?_
        refine lv_icmp_ne (tgt := 91) hx hb dX6_clashOf_58 rfl (fun c8 => ?_) (fun c8 => ?_)
        · have h := if_some_f h c8
          refine lv_iinc (v := x3 + 1) (lv' := [(3, .int (x3 + 1)), (0, .ref (ad 0)), (1, .int x1), (2, .int x2)]) hx hb dX6_clashOf_91 hl (k := 3) rfl rfl (by decide) rfl (fun ls hl => ?_)
          refine lv_goto (tgt := 42) hx hb dX6_clashOf_94 rfl ?_
          exact ih (x3 + 1) h _ _ hP hS ls (lv_sub hl [1, 2, 3, 0] rfl) kx
        · have h := if_some_t h c8
          refine lv_iload_n hx hb dX6_clashOf_61 rfl (lv_at hl 1 rfl) ?_
          refine lv_iload_n hx hb dX6_clashOf_62 rfl (lv_at hl 3 rfl) ?_
          refine lv_ishr hx hb dX6_clashOf_63 ?_
          refine lv_iconst (v := 1) hx hb dX6_clashOf_64 (by decide) ?_
          refine lv_iand hx hb dX6_clashOf_65 ?_
          refine lv_iconst (v := 1) hx hb dX6_clashOf_66 (by decide) ?_
          refine lv_icmp_ne (tgt := 91) hx hb dX6_clashOf_67 rfl (fun c9 => ?_) (fun c9 => ?_)
          · have h := if_some_f h c9
            refine lv_iinc (v := x3 + 1) (lv' := [(3, .int (x3 + 1)), (0, .ref (ad 0)), (1, .int x1), (2, .int x2)]) hx hb dX6_clashOf_91 hl (k := 3) rfl rfl (by decide) rfl (fun ls hl => ?_)
            refine lv_goto (tgt := 42) hx hb dX6_clashOf_94 rfl ?_
            exact ih (x3 + 1) h _ _ hP hS ls (lv_sub hl [1, 2, 3, 0] rfl) kx
          · have h := if_some_t h c9
            refine lv_aload_n hx hb dX6_clashOf_70 rfl (lv_at hl 0 rfl) ?_
            refine lv_iload_n hx hb dX6_clashOf_71 rfl (lv_at hl 2 rfl) ?_
            refine lv_iconst (v := 1) hx hb dX6_clashOf_72 (by decide) ?_
            obtain ⟨v10, hv10, h⟩ := bd1_some h
            refine k_its C hP hv10 (Nat.le_of_ble_eq_true rfl) hl.1 (Nat.le_of_ble_eq_true rfl) hcs dX6_clashOf_73 ?_
            refine lv_iload_n hx hb dX6_clashOf_76 rfl (lv_at hl 3 rfl) ?_
            refine lv_ishr hx hb dX6_clashOf_77 ?_
            refine lv_iconst (v := 1) hx hb dX6_clashOf_78 (by decide) ?_
            refine lv_iand hx hb dX6_clashOf_79 ?_
            refine lv_iconst (v := 1) hx hb dX6_clashOf_80 (by decide) ?_
            refine lv_icmp_ne (tgt := 91) hx hb dX6_clashOf_81 rfl (fun c11 => ?_) (fun c11 => ?_)
            · have h := if_some_f h c11
              refine lv_iinc (v := x3 + 1) (lv' := [(3, .int (x3 + 1)), (0, .ref (ad 0)), (1, .int x1), (2, .int x2)]) hx hb dX6_clashOf_91 hl (k := 3) rfl rfl (by decide) rfl (fun ls hl => ?_)
              refine lv_goto (tgt := 42) hx hb dX6_clashOf_94 rfl ?_
              exact ih (x3 + 1) h _ _ hP hS ls (lv_sub hl [1, 2, 3, 0] rfl) kx
            · have h := if_some_t h c11
              refine lv_bipush (v := 10) hx hb dX6_clashOf_84 (by decide) ?_
              refine lv_iload_n hx hb dX6_clashOf_86 rfl (lv_at hl 2 rfl) ?_
              refine lv_imul hx hb dX6_clashOf_87 ?_
              refine lv_iload_n hx hb dX6_clashOf_88 rfl (lv_at hl 3 rfl) ?_
              refine lv_iadd hx hb dX6_clashOf_89 ?_
              exact mm_viret hx hb hr hlk h hP hS dX6_clashOf_90
  have L28 : ∀ (st : MSt), ∀ (x1 : Int32), ∀ (k : Option (Int32 × MSt)), ∀ (n : Nat) (x2 : Int32), M_clashOf_L28 N st x1 k n x2 = some (r0, st') → ∀ (H : Heap) (locs : List Loc), mW D cI ad st H → va_S (kF 15 ad) s.heap H locs → ∀ ls : Array Slot, lv_has ls 4 [(0, .ref (ad 0)), (1, .int x1), (2, .int x2)] → (k  = some (r0, st') → ∀ ls : Array Slot, lv_has ls 4 [(0, .ref (ad 0))] → mWV p l e R s m args below meth c D cI ad (some (.int r0)) st' H locs (F0 m 103 ls [])) → mWV p l e R s m args below meth c D cI ad (some (.int r0)) st' H locs (F0 m 28 ls []) := by
    intro st x1 k n
    induction n with
    | zero =>
      intro x2  h
      exact non_some h
    | succ n ih =>
      intro x2  h H locs hP hS ls hl kx
      rw [M_clashOf_L28] at h
      refine lv_iload_n hx hb dX6_clashOf_28 rfl (lv_at hl 2 rfl) ?_
      refine lv_aload_n hx hb dX6_clashOf_29 rfl (lv_at hl 0 rfl) ?_
      refine g_d C hP dX6_clashOf_30 ?_
      refine lv_iconst (v := 0) hx hb dX6_clashOf_33 (by decide) ?_
      obtain ⟨v4, hv4, h⟩ := bd1_some h
      refine mm_ld C hP 1 (by decide) rfl hv4 dX6_clashOf_34 ?_
      refine lv_icmp_ge (tgt := 103) hx hb dX6_clashOf_35 rfl (fun c5 => ?_) (fun c5 => ?_)
      · have h := if_some_t h c5
        exact kx  h ls (lv_sub hl [0] rfl)
      · have h := if_some_f h c5
        refine lv_iload_n hx hb dX6_clashOf_38 rfl (lv_at hl 2 rfl) ?_
        refine lv_iconst (v := 1) hx hb dX6_clashOf_39 (by decide) ?_
        refine lv_iadd hx hb dX6_clashOf_40 ?_
        refine lv_istore_n (lv' := [(3, .int (x2 + 1)), (0, .ref (ad 0)), (1, .int x1), (2, .int x2)]) hx hb dX6_clashOf_41 rfl hl (by decide) rfl (fun ls hl => ?_)
        refine L42 st x1 x2 _ N (x2 + 1) h _ _ hP hS ls (lv_sub hl [1, 2, 3, 0] rfl) (fun  h ls hl => ?_)
        refine lv_iinc (v := x2 + 1) (lv' := [(2, .int (x2 + 1)), (0, .ref (ad 0)), (1, .int x1)]) hx hb dX6_clashOf_97 hl (k := 2) rfl rfl (by decide) rfl (fun ls hl => ?_)
        refine lv_goto (tgt := 28) hx hb dX6_clashOf_100 rfl ?_
        exact ih (x2 + 1) h _ _ hP hS ls (lv_sub hl [1, 2, 0] rfl) kx
  rw [M_clashOf] at h
  refine lv_iload_n hx hb dX6_clashOf_0 rfl (lv_at hl 1 rfl) ?_
  refine lv_i2l (v := x1.toInt64) hx hb dX6_clashOf_1 rfl ?_
  refine lv_lconst (v := 0) hx hb dX6_clashOf_2 (by decide) ?_
  refine lv_iconst (v := 1) hx hb dX6_clashOf_3 (by decide) ?_
  refine lv_aload_n hx hb dX6_clashOf_4 rfl (lv_at hl 0 rfl) ?_
  refine g_d C hP dX6_clashOf_5 ?_
  refine lv_iconst (v := 0) hx hb dX6_clashOf_8 (by decide) ?_
  obtain ⟨v1, hv1, h⟩ := bd1_some h
  refine mm_ld C hP 1 (by decide) rfl hv1 dX6_clashOf_9 ?_
  refine lv_ishl hx hb dX6_clashOf_10 ?_
  refine lv_iconst (v := 1) hx hb dX6_clashOf_11 (by decide) ?_
  refine lv_isub hx hb dX6_clashOf_12 ?_
  refine lv_i2l (v := ((1 <<< (v1 &&& 31)) - 1).toInt64) hx hb dX6_clashOf_13 rfl ?_
  obtain ⟨v2, hv2, h⟩ := bd1_some h
  refine k_in hx hb C.2.2.1 hown C.2.2.2.2.1 C.2.2.2.2.2.2.2 hv2 (Nat.le_of_ble_eq_true rfl) hl.1 (Nat.le_of_ble_eq_true rfl) hcs dX6_clashOf_14 ?_
  refine lv_if_ne (tgt := 26) hx hb dX6_clashOf_17 rfl (fun c3 => ?_) (fun c3 => ?_)
  · have h := if_some_f h c3
    refine lv_iconst (v := 0) hx hb dX6_clashOf_26 (by decide) ?_
    refine lv_istore_n (lv' := [(2, .int 0), (0, .ref (ad 0)), (1, .int x1)]) hx hb dX6_clashOf_27 rfl hl (by decide) rfl (fun ls hl => ?_)
    refine L28 st x1 _ N 0 h _ _ hP hS ls (lv_sub hl [1, 2, 0] rfl) (fun  h ls hl => ?_)
    refine lv_aload_n hx hb dX6_clashOf_103 rfl (lv_at hl 0 rfl) ?_
    refine lv_iconst (v := 2) hx hb dX6_clashOf_104 (by decide) ?_
    obtain ⟨v12, st13, hv12, h⟩ := bd2_some h
    refine k_finds C hP hS hv12 (Nat.le_of_ble_eq_true rfl) hl.1 (Nat.le_of_ble_eq_true rfl) hcs dX6_clashOf_105 (fun H locs hP hS => ?_)
    exact mm_viret hx hb hr hlk h hP hS dX6_clashOf_108
  · have h := if_some_t h c3
    refine lv_aload_n hx hb dX6_clashOf_20 rfl (lv_at hl 0 rfl) ?_
    refine lv_iconst (v := 1) hx hb dX6_clashOf_21 (by decide) ?_
    obtain ⟨v14, st15, hv14, h⟩ := bd2_some h
    refine k_finds C hP hS hv14 (Nat.le_of_ble_eq_true rfl) hl.1 (Nat.le_of_ble_eq_true rfl) hcs dX6_clashOf_22 (fun H locs hP hS => ?_)
    exact mm_viret hx hb hr hlk h hP hS dX6_clashOf_25
abbrev cX6_joined : ByteArray := prog_30_method_71_code
def yX6_joined : MethodName := ⟨RX6, "joined", "(II)I"⟩
theorem dX6_joined_0 : decode cX6_joined 0 = .ok (.aload_n 0, 1) := by decide +kernel
theorem dX6_joined_1 : decode cX6_joined 1 = .ok (.iload_n 1, 1) := by decide +kernel
theorem dX6_joined_2 : decode cX6_joined 2 = .ok (.invokevirtual 197, 3) := by decide +kernel
theorem dX6_joined_5 : decode cX6_joined 5 = .ok (.ifCond .eq 16, 3) := by decide +kernel
theorem dX6_joined_8 : decode cX6_joined 8 = .ok (.aload_n 0, 1) := by decide +kernel
theorem dX6_joined_9 : decode cX6_joined 9 = .ok (.iload_n 2, 1) := by decide +kernel
theorem dX6_joined_10 : decode cX6_joined 10 = .ok (.invokevirtual 197, 3) := by decide +kernel
theorem dX6_joined_13 : decode cX6_joined 13 = .ok (.ifCond .eq 8, 3) := by decide +kernel
theorem dX6_joined_16 : decode cX6_joined 16 = .ok (.iload_n 1, 1) := by decide +kernel
theorem dX6_joined_17 : decode cX6_joined 17 = .ok (.iload_n 2, 1) := by decide +kernel
theorem dX6_joined_18 : decode cX6_joined 18 = .ok (.if_icmp .ne 9, 3) := by decide +kernel
theorem dX6_joined_21 : decode cX6_joined 21 = .ok (.aload_n 0, 1) := by decide +kernel
theorem dX6_joined_22 : decode cX6_joined 22 = .ok (.iconst 1, 1) := by decide +kernel
theorem dX6_joined_23 : decode cX6_joined 23 = .ok (.invokevirtual 119, 3) := by decide +kernel
theorem dX6_joined_26 : decode cX6_joined 26 = .ok (.ireturn, 1) := by decide +kernel
theorem dX6_joined_27 : decode cX6_joined 27 = .ok (.aload_n 0, 1) := by decide +kernel
theorem dX6_joined_28 : decode cX6_joined 28 = .ok (.iload_n 1, 1) := by decide +kernel
theorem dX6_joined_29 : decode cX6_joined 29 = .ok (.invokevirtual 153, 3) := by decide +kernel
theorem dX6_joined_32 : decode cX6_joined 32 = .ok (.istore_n 3, 1) := by decide +kernel
theorem dX6_joined_33 : decode cX6_joined 33 = .ok (.aload_n 0, 1) := by decide +kernel
theorem dX6_joined_34 : decode cX6_joined 34 = .ok (.iload_n 2, 1) := by decide +kernel
theorem dX6_joined_35 : decode cX6_joined 35 = .ok (.invokevirtual 153, 3) := by decide +kernel
theorem dX6_joined_38 : decode cX6_joined 38 = .ok (.istore 4, 2) := by decide +kernel
theorem dX6_joined_40 : decode cX6_joined 40 = .ok (.iconst 0, 1) := by decide +kernel
theorem dX6_joined_41 : decode cX6_joined 41 = .ok (.istore 5, 2) := by decide +kernel
theorem dX6_joined_43 : decode cX6_joined 43 = .ok (.iload 5, 2) := by decide +kernel
theorem dX6_joined_45 : decode cX6_joined 45 = .ok (.aload_n 0, 1) := by decide +kernel
theorem dX6_joined_46 : decode cX6_joined 46 = .ok (.getfield 7, 3) := by decide +kernel
theorem dX6_joined_49 : decode cX6_joined 49 = .ok (.iconst 0, 1) := by decide +kernel
theorem dX6_joined_50 : decode cX6_joined 50 = .ok (.iaload, 1) := by decide +kernel
theorem dX6_joined_51 : decode cX6_joined 51 = .ok (.if_icmp .ge 38, 3) := by decide +kernel
theorem dX6_joined_54 : decode cX6_joined 54 = .ok (.iload_n 3, 1) := by decide +kernel
theorem dX6_joined_55 : decode cX6_joined 55 = .ok (.iload 5, 2) := by decide +kernel
theorem dX6_joined_57 : decode cX6_joined 57 = .ok (.ishr, 1) := by decide +kernel
theorem dX6_joined_58 : decode cX6_joined 58 = .ok (.iconst 1, 1) := by decide +kernel
theorem dX6_joined_59 : decode cX6_joined 59 = .ok (.iand, 1) := by decide +kernel
theorem dX6_joined_60 : decode cX6_joined 60 = .ok (.iconst 1, 1) := by decide +kernel
theorem dX6_joined_61 : decode cX6_joined 61 = .ok (.if_icmp .ne 22, 3) := by decide +kernel
theorem dX6_joined_64 : decode cX6_joined 64 = .ok (.aload_n 0, 1) := by decide +kernel
theorem dX6_joined_65 : decode cX6_joined 65 = .ok (.iload 5, 2) := by decide +kernel
theorem dX6_joined_67 : decode cX6_joined 67 = .ok (.iconst 1, 1) := by decide +kernel
theorem dX6_joined_68 : decode cX6_joined 68 = .ok (.invokevirtual 144, 3) := by decide +kernel
theorem dX6_joined_71 : decode cX6_joined 71 = .ok (.iload 4, 2) := by decide +kernel
theorem dX6_joined_73 : decode cX6_joined 73 = .ok (.iand, 1) := by decide +kernel
theorem dX6_joined_74 : decode cX6_joined 74 = .ok (.ifCond .eq 9, 3) := by decide +kernel
theorem dX6_joined_77 : decode cX6_joined 77 = .ok (.aload_n 0, 1) := by decide +kernel
theorem dX6_joined_78 : decode cX6_joined 78 = .ok (.iconst 2, 1) := by decide +kernel
theorem dX6_joined_79 : decode cX6_joined 79 = .ok (.invokevirtual 119, 3) := by decide +kernel
theorem dX6_joined_82 : decode cX6_joined 82 = .ok (.ireturn, 1) := by decide +kernel
theorem dX6_joined_83 : decode cX6_joined 83 = .ok (.iinc 5 1, 3) := by decide +kernel
theorem dX6_joined_86 : decode cX6_joined 86 = .ok (.goto (-43), 3) := by decide +kernel
theorem dX6_joined_89 : decode cX6_joined 89 = .ok (.iload_n 3, 1) := by decide +kernel
theorem dX6_joined_90 : decode cX6_joined 90 = .ok (.iload 4, 2) := by decide +kernel
theorem dX6_joined_92 : decode cX6_joined 92 = .ok (.ior, 1) := by decide +kernel
theorem dX6_joined_93 : decode cX6_joined 93 = .ok (.ireturn, 1) := by decide +kernel
theorem w_joined {l : Launch} {D : va_G} {cI : ClassId} {ad : Nat → Nat} (hI : kInj 15 ad) {st st' : MSt} {N : Nat} {x1 : Int32} {x2 : Int32} {r0 : Int32} (h : M_joined  N st x1 x2 = some (r0, st')) : mV l yX6_joined cX6_joined 6 (some .int) 2 D cI ad st [.int x1, .int x2] (some (.int r0)) st' := by
  refine mm_ofV hI (by decide) rfl (Nat.le_of_ble_eq_true rfl) (fun p e s m below meth c R args ls C hr hlk hP hS hl hcs => ?_)
  have hx := C.1
  have hb := C.2.1
  have hown := C.2.2.2.1
  have hl : lv_has ls 6 [(0, .ref (ad 0)), (1, .int x1), (2, .int x2)] := hl
  have hP : mW D cI ad st s.heap := hP
  have L43 : ∀ (st : MSt), ∀ (x3 : Int32), ∀ (x4 : Int32), ∀ (k : Option (Int32 × MSt)), ∀ (n : Nat) (x5 : Int32), M_joined_L43 N st x3 x4 k n x5 = some (r0, st') → ∀ (H : Heap) (locs : List Loc), mW D cI ad st H → va_S (kF 15 ad) s.heap H locs → ∀ ls : Array Slot, lv_has ls 6 [(0, .ref (ad 0)), (3, .int x3), (4, .int x4), (5, .int x5)] → (k  = some (r0, st') → ∀ ls : Array Slot, lv_has ls 6 [(3, .int x3), (4, .int x4)] → mWV p l e R s m args below meth c D cI ad (some (.int r0)) st' H locs (F0 m 89 ls [])) → mWV p l e R s m args below meth c D cI ad (some (.int r0)) st' H locs (F0 m 43 ls []) := by
    intro st x3 x4 k n
    induction n with
    | zero =>
      intro x5  h
      exact non_some h
    | succ n ih =>
      intro x5  h H locs hP hS ls hl kx
      rw [M_joined_L43] at h
      refine lv_iload hx hb dX6_joined_43 (lv_at hl 3 rfl) ?_
      refine lv_aload_n hx hb dX6_joined_45 rfl (lv_at hl 0 rfl) ?_
      refine g_d C hP dX6_joined_46 ?_
      refine lv_iconst (v := 0) hx hb dX6_joined_49 (by decide) ?_
      obtain ⟨v12, hv12, h⟩ := bd1_some h
      refine mm_ld C hP 1 (by decide) rfl hv12 dX6_joined_50 ?_
      refine lv_icmp_ge (tgt := 89) hx hb dX6_joined_51 rfl (fun c13 => ?_) (fun c13 => ?_)
      · have h := if_some_t h c13
        exact kx  h ls (lv_sub hl [1, 2] rfl)
      · have h := if_some_f h c13
        refine lv_iload_n hx hb dX6_joined_54 rfl (lv_at hl 1 rfl) ?_
        refine lv_iload hx hb dX6_joined_55 (lv_at hl 3 rfl) ?_
        refine lv_ishr hx hb dX6_joined_57 ?_
        refine lv_iconst (v := 1) hx hb dX6_joined_58 (by decide) ?_
        refine lv_iand hx hb dX6_joined_59 ?_
        refine lv_iconst (v := 1) hx hb dX6_joined_60 (by decide) ?_
        refine lv_icmp_ne (tgt := 83) hx hb dX6_joined_61 rfl (fun c14 => ?_) (fun c14 => ?_)
        · have h := if_some_f h c14
          refine lv_iinc (v := x5 + 1) (lv' := [(5, .int (x5 + 1)), (0, .ref (ad 0)), (3, .int x3), (4, .int x4)]) hx hb dX6_joined_83 hl (k := 3) rfl rfl (by decide) rfl (fun ls hl => ?_)
          refine lv_goto (tgt := 43) hx hb dX6_joined_86 rfl ?_
          exact ih (x5 + 1) h _ _ hP hS ls (lv_sub hl [1, 2, 3, 0] rfl) kx
        · have h := if_some_t h c14
          refine lv_aload_n hx hb dX6_joined_64 rfl (lv_at hl 0 rfl) ?_
          refine lv_iload hx hb dX6_joined_65 (lv_at hl 3 rfl) ?_
          refine lv_iconst (v := 1) hx hb dX6_joined_67 (by decide) ?_
          obtain ⟨v15, hv15, h⟩ := bd1_some h
          refine k_its C hP hv15 (Nat.le_of_ble_eq_true rfl) hl.1 (Nat.le_of_ble_eq_true rfl) hcs dX6_joined_68 ?_
          refine lv_iload hx hb dX6_joined_71 (lv_at hl 2 rfl) ?_
          refine lv_iand hx hb dX6_joined_73 ?_
          refine lv_if_eq (tgt := 83) hx hb dX6_joined_74 rfl (fun c16 => ?_) (fun c16 => ?_)
          · have h := if_some_t h c16
            refine lv_iinc (v := x5 + 1) (lv' := [(5, .int (x5 + 1)), (0, .ref (ad 0)), (3, .int x3), (4, .int x4)]) hx hb dX6_joined_83 hl (k := 3) rfl rfl (by decide) rfl (fun ls hl => ?_)
            refine lv_goto (tgt := 43) hx hb dX6_joined_86 rfl ?_
            exact ih (x5 + 1) h _ _ hP hS ls (lv_sub hl [1, 2, 3, 0] rfl) kx
          · have h := if_some_f h c16
            refine lv_aload_n hx hb dX6_joined_77 rfl (lv_at hl 0 rfl) ?_
            refine lv_iconst (v := 2) hx hb dX6_joined_78 (by decide) ?_
            obtain ⟨v17, st18, hv17, h⟩ := bd2_some h
            refine k_finds C hP hS hv17 (Nat.le_of_ble_eq_true rfl) hl.1 (Nat.le_of_ble_eq_true rfl) hcs dX6_joined_79 (fun H locs hP hS => ?_)
            exact mm_viret hx hb hr hlk h hP hS dX6_joined_82
  rw [M_joined] at h
  refine lv_aload_n hx hb dX6_joined_0 rfl (lv_at hl 0 rfl) ?_
  refine lv_iload_n hx hb dX6_joined_1 rfl (lv_at hl 1 rfl) ?_
  obtain ⟨v1, hv1, h⟩ := bd1_some h
  refine k_isDebtor C hP hv1 (Nat.le_of_ble_eq_true rfl) hl.1 (Nat.le_of_ble_eq_true rfl) hcs dX6_joined_2 ?_
  refine lv_if_eq (tgt := 21) hx hb dX6_joined_5 rfl (fun c2 => ?_) (fun c2 => ?_)
  · have h := if_some_t h c2
    refine lv_aload_n hx hb dX6_joined_21 rfl (lv_at hl 0 rfl) ?_
    refine lv_iconst (v := 1) hx hb dX6_joined_22 (by decide) ?_
    obtain ⟨v3, st4, hv3, h⟩ := bd2_some h
    refine k_finds C hP hS hv3 (Nat.le_of_ble_eq_true rfl) hl.1 (Nat.le_of_ble_eq_true rfl) hcs dX6_joined_23 (fun H locs hP hS => ?_)
    exact mm_viret hx hb hr hlk h hP hS dX6_joined_26
  · have h := if_some_f h c2
    refine lv_aload_n hx hb dX6_joined_8 rfl (lv_at hl 0 rfl) ?_
    refine lv_iload_n hx hb dX6_joined_9 rfl (lv_at hl 2 rfl) ?_
    obtain ⟨v5, hv5, h⟩ := bd1_some h
    refine k_isDebtor C hP hv5 (Nat.le_of_ble_eq_true rfl) hl.1 (Nat.le_of_ble_eq_true rfl) hcs dX6_joined_10 ?_
    refine lv_if_eq (tgt := 21) hx hb dX6_joined_13 rfl (fun c6 => ?_) (fun c6 => ?_)
    · have h := if_some_t h c6
      refine lv_aload_n hx hb dX6_joined_21 rfl (lv_at hl 0 rfl) ?_
      refine lv_iconst (v := 1) hx hb dX6_joined_22 (by decide) ?_
      obtain ⟨v7, st8, hv7, h⟩ := bd2_some h
      refine k_finds C hP hS hv7 (Nat.le_of_ble_eq_true rfl) hl.1 (Nat.le_of_ble_eq_true rfl) hcs dX6_joined_23 (fun H locs hP hS => ?_)
      exact mm_viret hx hb hr hlk h hP hS dX6_joined_26
    · have h := if_some_f h c6
      refine lv_iload_n hx hb dX6_joined_16 rfl (lv_at hl 1 rfl) ?_
      refine lv_iload_n hx hb dX6_joined_17 rfl (lv_at hl 2 rfl) ?_
      refine lv_icmp_ne (tgt := 27) hx hb dX6_joined_18 rfl (fun c9 => ?_) (fun c9 => ?_)
      · have h := if_some_f h c9
        refine lv_aload_n hx hb dX6_joined_27 rfl (lv_at hl 0 rfl) ?_
        refine lv_iload_n hx hb dX6_joined_28 rfl (lv_at hl 1 rfl) ?_
        obtain ⟨v10, hv10, h⟩ := bd1_some h
        refine k_bookOf C hP hv10 (Nat.le_of_ble_eq_true rfl) hl.1 (Nat.le_of_ble_eq_true rfl) hcs dX6_joined_29 ?_
        refine lv_istore_n (lv' := [(3, .int v10), (0, .ref (ad 0)), (1, .int x1), (2, .int x2)]) hx hb dX6_joined_32 rfl hl (by decide) rfl (fun ls hl => ?_)
        refine lv_aload_n hx hb dX6_joined_33 rfl (lv_at hl 1 rfl) ?_
        refine lv_iload_n hx hb dX6_joined_34 rfl (lv_at hl 3 rfl) ?_
        obtain ⟨v11, hv11, h⟩ := bd1_some h
        refine k_bookOf C hP hv11 (Nat.le_of_ble_eq_true rfl) hl.1 (Nat.le_of_ble_eq_true rfl) hcs dX6_joined_35 ?_
        refine lv_istore (lv' := [(4, .int v11), (3, .int v10), (0, .ref (ad 0)), (1, .int x1), (2, .int x2)]) hx hb dX6_joined_38 hl (by decide) rfl (fun ls hl => ?_)
        refine lv_iconst (v := 0) hx hb dX6_joined_40 (by decide) ?_
        refine lv_istore (lv' := [(5, .int 0), (4, .int v11), (3, .int v10), (0, .ref (ad 0)), (1, .int x1), (2, .int x2)]) hx hb dX6_joined_41 hl (by decide) rfl (fun ls hl => ?_)
        refine L43 st v10 v11 _ N 0 h _ _ hP hS ls (lv_sub hl [3, 2, 1, 0] rfl) (fun  h ls hl => ?_)
        refine lv_iload_n hx hb dX6_joined_89 rfl (lv_at hl 0 rfl) ?_
        refine lv_iload hx hb dX6_joined_90 (lv_at hl 1 rfl) ?_
        refine lv_ior hx hb dX6_joined_92 ?_
        exact mm_viret hx hb hr hlk h hP hS dX6_joined_93
      · have h := if_some_t h c9
        refine lv_aload_n hx hb dX6_joined_21 rfl (lv_at hl 0 rfl) ?_
        refine lv_iconst (v := 1) hx hb dX6_joined_22 (by decide) ?_
        obtain ⟨v19, st20, hv19, h⟩ := bd2_some h
        refine k_finds C hP hS hv19 (Nat.le_of_ble_eq_true rfl) hl.1 (Nat.le_of_ble_eq_true rfl) hcs dX6_joined_23 (fun H locs hP hS => ?_)
        exact mm_viret hx hb hr hlk h hP hS dX6_joined_26
abbrev cX6_isSheet : ByteArray := prog_30_method_91_code
def yX6_isSheet : MethodName := ⟨RX6, "isSheet", "(I)Z"⟩
theorem dX6_isSheet_0 : decode cX6_isSheet 0 = .ok (.iload_n 0, 1) := by decide +kernel
theorem dX6_isSheet_1 : decode cX6_isSheet 1 = .ok (.i2l, 1) := by decide +kernel
theorem dX6_isSheet_2 : decode cX6_isSheet 2 = .ok (.lconst 0, 1) := by decide +kernel
theorem dX6_isSheet_3 : decode cX6_isSheet 3 = .ok (.ldc2_w 309, 3) := by decide +kernel
theorem dX6_isSheet_6 : decode cX6_isSheet 6 = .ok (.invokestatic 57, 3) := by decide +kernel
theorem dX6_isSheet_9 : decode cX6_isSheet 9 = .ok (.ireturn, 1) := by decide +kernel
theorem q1902 : (Jvm.Cond.constantLong "ChapterLoanModel" (309 : Nat) (3 : Int64)) ∈ lw_all := lw_g (lw_at lw_m8 138 rfl) rfl
theorem w_isSheet {l : Launch} {x0 : Int32} {r : Int32} (h : M_isSheet x0 = some r) : mS l yX6_isSheet cX6_isSheet 1 (some .boolean) 1 [.int x0] r := by
  refine mm_ofS (by decide) (Nat.le_of_ble_eq_true rfl) (fun p e s m below meth c R args ls C hr hlk hl hcs => ?_)
  have hx := C.1
  have hb := C.2.1
  have hown := C.2.2.2.1
  have hl : lv_has ls 1 [(0, .int x0)] := hl
  rw [M_isSheet] at h
  refine lv_iload_n hx hb dX6_isSheet_0 rfl (lv_at hl 0 rfl) ?_
  refine lv_i2l (v := x0.toInt64) hx hb dX6_isSheet_1 rfl ?_
  refine lv_lconst (v := 0) hx hb dX6_isSheet_2 (by decide) ?_
  refine lv_ldc2 hx hb hown (C.2.2.2.2.1 _ q1902) dX6_isSheet_3 ?_
  obtain ⟨v1, hv1, h⟩ := bd1_some h
  refine k_in hx hb C.2.2.1 hown C.2.2.2.2.1 C.2.2.2.2.2 hv1 (Nat.le_of_ble_eq_true rfl) hl.1 (Nat.le_of_ble_eq_true rfl) hcs dX6_isSheet_6 ?_
  exact mm_zretV hx hb hr hlk h dX6_isSheet_9
theorem q1899 : (Jvm.Cond.methodLink "ChapterLoanModel" (273 : Nat) ({ cls := "ChapterLoanModel", name := "isSheet", desc := "(I)Z" } : Jvm.MethodName)) ∈ lw_all := lw_g (lw_at lw_m8 135 rfl) rfl
theorem q1901 : (Jvm.Cond.code ({ cls := "ChapterLoanModel", name := "isSheet", desc := "(I)Z" } : Jvm.MethodName) prog_30_method_91_code (1 : Nat) (Option.some Jvm.ClassFile.FieldType.boolean)) ∈ lw_all := lw_g (lw_at lw_m8 137 rfl) rfl
theorem q1900 : (Jvm.Cond.static ({ cls := "ChapterLoanModel", name := "isSheet", desc := "(I)Z" } : Jvm.MethodName)) ∈ lw_all := lw_g (lw_at lw_m8 136 rfl) rfl
theorem k_isSheet {a0 : Int32} {v : Int32} (hx : p.tables.exec = Jvm.exec) (hb : c.code = cc) (hml : c.maxLocals = nL) (hown : s.vm.findClass RX6 = some m.cls) (hts : ∀ w ∈ lw_all, w.before args s = true) (hR : d ≤ R.frames ∧ 40 * d ≤ R.locals) (h : M_isSheet a0 = some v) (hd : 1 + 1 ≤ d) (hsz : ls.size = nL) (hW : (rest.map fun v => v.category).sum ≤ 8) (hcs : cells ≤ R.cells ∧ slots ≤ R.slots) (hdg : decode cc pc = .ok (.invokestatic 273, 3)) (kk : W p l e R s m args below meth c H locs cells slots Q (F0 m (pc + 3) ls (.int v :: rest))) : W p l e R s m args below meth c H locs cells slots Q (F0 m pc ls (.int a0 :: rest)) :=
  W.callR (W.runS (As := [.int a0]) (rest := rest) ⟨hx, hb, hml, hown, hts⟩ (w_isSheet h) (va_cwS 1 hts (lw_S q1899 q1900 q94 q1901) rfl rfl rfl (by decide +kernel) (mr_ hR hd (by decide))) preEq rfl rfl hsz rfl (lv_room hW) hdg hcs) kk
abbrev cX6_meeting : ByteArray := prog_30_method_76_code
def yX6_meeting : MethodName := ⟨RX6, "meeting", "(III)I"⟩
theorem dX6_meeting_0 : decode cX6_meeting 0 = .ok (.iload_n 1, 1) := by decide +kernel
theorem dX6_meeting_1 : decode cX6_meeting 1 = .ok (.i2l, 1) := by decide +kernel
theorem dX6_meeting_2 : decode cX6_meeting 2 = .ok (.lconst 0, 1) := by decide +kernel
theorem dX6_meeting_3 : decode cX6_meeting 3 = .ok (.ldc2_w 208, 3) := by decide +kernel
theorem dX6_meeting_6 : decode cX6_meeting 6 = .ok (.invokestatic 57, 3) := by decide +kernel
theorem dX6_meeting_9 : decode cX6_meeting 9 = .ok (.ifCond .eq 32, 3) := by decide +kernel
theorem dX6_meeting_12 : decode cX6_meeting 12 = .ok (.iload_n 2, 1) := by decide +kernel
theorem dX6_meeting_13 : decode cX6_meeting 13 = .ok (.i2l, 1) := by decide +kernel
theorem dX6_meeting_14 : decode cX6_meeting 14 = .ok (.lconst 0, 1) := by decide +kernel
theorem dX6_meeting_15 : decode cX6_meeting 15 = .ok (.ldc2_w 268, 3) := by decide +kernel
theorem dX6_meeting_18 : decode cX6_meeting 18 = .ok (.invokestatic 57, 3) := by decide +kernel
theorem dX6_meeting_21 : decode cX6_meeting 21 = .ok (.ifCond .eq 20, 3) := by decide +kernel
theorem dX6_meeting_24 : decode cX6_meeting 24 = .ok (.iload_n 3, 1) := by decide +kernel
theorem dX6_meeting_25 : decode cX6_meeting 25 = .ok (.i2l, 1) := by decide +kernel
theorem dX6_meeting_26 : decode cX6_meeting 26 = .ok (.lconst 0, 1) := by decide +kernel
theorem dX6_meeting_27 : decode cX6_meeting 27 = .ok (.ldc2_w 268, 3) := by decide +kernel
theorem dX6_meeting_30 : decode cX6_meeting 30 = .ok (.invokestatic 57, 3) := by decide +kernel
theorem dX6_meeting_33 : decode cX6_meeting 33 = .ok (.ifCond .eq 8, 3) := by decide +kernel
theorem dX6_meeting_36 : decode cX6_meeting 36 = .ok (.iload_n 2, 1) := by decide +kernel
theorem dX6_meeting_37 : decode cX6_meeting 37 = .ok (.iload_n 3, 1) := by decide +kernel
theorem dX6_meeting_38 : decode cX6_meeting 38 = .ok (.if_icmp .ne 9, 3) := by decide +kernel
theorem dX6_meeting_41 : decode cX6_meeting 41 = .ok (.aload_n 0, 1) := by decide +kernel
theorem dX6_meeting_42 : decode cX6_meeting 42 = .ok (.iconst 1, 1) := by decide +kernel
theorem dX6_meeting_43 : decode cX6_meeting 43 = .ok (.invokevirtual 119, 3) := by decide +kernel
theorem dX6_meeting_46 : decode cX6_meeting 46 = .ok (.ireturn, 1) := by decide +kernel
theorem dX6_meeting_47 : decode cX6_meeting 47 = .ok (.aload_n 0, 1) := by decide +kernel
theorem dX6_meeting_48 : decode cX6_meeting 48 = .ok (.getfield 7, 3) := by decide +kernel
theorem dX6_meeting_51 : decode cX6_meeting 51 = .ok (.iconst 2, 1) := by decide +kernel
theorem dX6_meeting_52 : decode cX6_meeting 52 = .ok (.iaload, 1) := by decide +kernel
theorem dX6_meeting_53 : decode cX6_meeting 53 = .ok (.bipush 12, 2) := by decide +kernel
theorem dX6_meeting_55 : decode cX6_meeting 55 = .ok (.if_icmp .ne 9, 3) := by decide +kernel
theorem dX6_meeting_58 : decode cX6_meeting 58 = .ok (.aload_n 0, 1) := by decide +kernel
theorem dX6_meeting_59 : decode cX6_meeting 59 = .ok (.iconst 4, 1) := by decide +kernel
theorem dX6_meeting_60 : decode cX6_meeting 60 = .ok (.invokevirtual 119, 3) := by decide +kernel
theorem dX6_meeting_63 : decode cX6_meeting 63 = .ok (.ireturn, 1) := by decide +kernel
theorem dX6_meeting_64 : decode cX6_meeting 64 = .ok (.aload_n 0, 1) := by decide +kernel
theorem dX6_meeting_65 : decode cX6_meeting 65 = .ok (.getfield 7, 3) := by decide +kernel
theorem dX6_meeting_68 : decode cX6_meeting 68 = .ok (.iconst 2, 1) := by decide +kernel
theorem dX6_meeting_69 : decode cX6_meeting 69 = .ok (.iaload, 1) := by decide +kernel
theorem dX6_meeting_70 : decode cX6_meeting 70 = .ok (.istore 4, 2) := by decide +kernel
theorem dX6_meeting_72 : decode cX6_meeting 72 = .ok (.aload_n 0, 1) := by decide +kernel
theorem dX6_meeting_73 : decode cX6_meeting 73 = .ok (.getfield 7, 3) := by decide +kernel
theorem dX6_meeting_76 : decode cX6_meeting 76 = .ok (.iconst 2, 1) := by decide +kernel
theorem dX6_meeting_77 : decode cX6_meeting 77 = .ok (.dup2, 1) := by decide +kernel
theorem dX6_meeting_78 : decode cX6_meeting 78 = .ok (.iaload, 1) := by decide +kernel
theorem dX6_meeting_79 : decode cX6_meeting 79 = .ok (.iconst 1, 1) := by decide +kernel
theorem dX6_meeting_80 : decode cX6_meeting 80 = .ok (.iadd, 1) := by decide +kernel
theorem dX6_meeting_81 : decode cX6_meeting 81 = .ok (.iastore, 1) := by decide +kernel
theorem dX6_meeting_82 : decode cX6_meeting 82 = .ok (.aload_n 0, 1) := by decide +kernel
theorem dX6_meeting_83 : decode cX6_meeting 83 = .ok (.getfield 7, 3) := by decide +kernel
theorem dX6_meeting_86 : decode cX6_meeting 86 = .ok (.sipush 134, 3) := by decide +kernel
theorem dX6_meeting_89 : decode cX6_meeting 89 = .ok (.iconst 3, 1) := by decide +kernel
theorem dX6_meeting_90 : decode cX6_meeting 90 = .ok (.iload 4, 2) := by decide +kernel
theorem dX6_meeting_92 : decode cX6_meeting 92 = .ok (.imul, 1) := by decide +kernel
theorem dX6_meeting_93 : decode cX6_meeting 93 = .ok (.iadd, 1) := by decide +kernel
theorem dX6_meeting_94 : decode cX6_meeting 94 = .ok (.iload_n 1, 1) := by decide +kernel
theorem dX6_meeting_95 : decode cX6_meeting 95 = .ok (.iastore, 1) := by decide +kernel
theorem dX6_meeting_96 : decode cX6_meeting 96 = .ok (.aload_n 0, 1) := by decide +kernel
theorem dX6_meeting_97 : decode cX6_meeting 97 = .ok (.getfield 7, 3) := by decide +kernel
theorem dX6_meeting_100 : decode cX6_meeting 100 = .ok (.sipush 134, 3) := by decide +kernel
theorem dX6_meeting_103 : decode cX6_meeting 103 = .ok (.iconst 3, 1) := by decide +kernel
theorem dX6_meeting_104 : decode cX6_meeting 104 = .ok (.iload 4, 2) := by decide +kernel
theorem dX6_meeting_106 : decode cX6_meeting 106 = .ok (.imul, 1) := by decide +kernel
theorem dX6_meeting_107 : decode cX6_meeting 107 = .ok (.iadd, 1) := by decide +kernel
theorem dX6_meeting_108 : decode cX6_meeting 108 = .ok (.iconst 1, 1) := by decide +kernel
theorem dX6_meeting_109 : decode cX6_meeting 109 = .ok (.iadd, 1) := by decide +kernel
theorem dX6_meeting_110 : decode cX6_meeting 110 = .ok (.iload_n 2, 1) := by decide +kernel
theorem dX6_meeting_111 : decode cX6_meeting 111 = .ok (.iastore, 1) := by decide +kernel
theorem dX6_meeting_112 : decode cX6_meeting 112 = .ok (.aload_n 0, 1) := by decide +kernel
theorem dX6_meeting_113 : decode cX6_meeting 113 = .ok (.getfield 7, 3) := by decide +kernel
theorem dX6_meeting_116 : decode cX6_meeting 116 = .ok (.sipush 134, 3) := by decide +kernel
theorem dX6_meeting_119 : decode cX6_meeting 119 = .ok (.iconst 3, 1) := by decide +kernel
theorem dX6_meeting_120 : decode cX6_meeting 120 = .ok (.iload 4, 2) := by decide +kernel
theorem dX6_meeting_122 : decode cX6_meeting 122 = .ok (.imul, 1) := by decide +kernel
theorem dX6_meeting_123 : decode cX6_meeting 123 = .ok (.iadd, 1) := by decide +kernel
theorem dX6_meeting_124 : decode cX6_meeting 124 = .ok (.iconst 2, 1) := by decide +kernel
theorem dX6_meeting_125 : decode cX6_meeting 125 = .ok (.iadd, 1) := by decide +kernel
theorem dX6_meeting_126 : decode cX6_meeting 126 = .ok (.iload_n 3, 1) := by decide +kernel
theorem dX6_meeting_127 : decode cX6_meeting 127 = .ok (.iastore, 1) := by decide +kernel
theorem dX6_meeting_128 : decode cX6_meeting 128 = .ok (.iload 4, 2) := by decide +kernel
theorem dX6_meeting_130 : decode cX6_meeting 130 = .ok (.ireturn, 1) := by decide +kernel
theorem q1890 : (Jvm.Cond.constantLong "ChapterLoanModel" (268 : Nat) (4 : Int64)) ∈ lw_all := lw_g (lw_at lw_m8 126 rfl) rfl
theorem w_meeting {l : Launch} {D : va_G} {cI : ClassId} {ad : Nat → Nat} (hI : kInj 15 ad) {st st' : MSt} {x1 : Int32} {x2 : Int32} {x3 : Int32} {r0 : Int32} (h : M_meeting st x1 x2 x3 = some (r0, st')) : mV l yX6_meeting cX6_meeting 5 (some .int) 1 D cI ad st [.int x1, .int x2, .int x3] (some (.int r0)) st' := by
  refine mm_ofV hI (by decide) rfl (Nat.le_of_ble_eq_true rfl) (fun p e s m below meth c R args ls C hr hlk hP hS hl hcs => ?_)
  have hx := C.1
  have hb := C.2.1
  have hown := C.2.2.2.1
  have hl : lv_has ls 5 [(0, .ref (ad 0)), (1, .int x1), (2, .int x2), (3, .int x3)] := hl
  have hP : mW D cI ad st s.heap := hP
  rw [M_meeting] at h
  refine lv_iload_n hx hb dX6_meeting_0 rfl (lv_at hl 1 rfl) ?_
  refine lv_i2l (v := x1.toInt64) hx hb dX6_meeting_1 rfl ?_
  refine lv_lconst (v := 0) hx hb dX6_meeting_2 (by decide) ?_
  refine lv_ldc2 hx hb hown (C.2.2.2.2.1 _ q1780) dX6_meeting_3 ?_
  obtain ⟨v1, hv1, h⟩ := bd1_some h
  refine k_in hx hb C.2.2.1 hown C.2.2.2.2.1 C.2.2.2.2.2.2.2 hv1 (Nat.le_of_ble_eq_true rfl) hl.1 (Nat.le_of_ble_eq_true rfl) hcs dX6_meeting_6 ?_
  refine lv_if_eq (tgt := 41) hx hb dX6_meeting_9 rfl (fun c2 => ?_) (fun c2 => ?_)
  · have h := if_some_t h c2
    refine lv_aload_n hx hb dX6_meeting_41 rfl (lv_at hl 0 rfl) ?_
    refine lv_iconst (v := 1) hx hb dX6_meeting_42 (by decide) ?_
    obtain ⟨v3, st4, hv3, h⟩ := bd2_some h
    refine k_finds C hP hS hv3 (Nat.le_of_ble_eq_true rfl) hl.1 (Nat.le_of_ble_eq_true rfl) hcs dX6_meeting_43 (fun H locs hP hS => ?_)
    exact mm_viret hx hb hr hlk h hP hS dX6_meeting_46
  · have h := if_some_f h c2
    refine lv_iload_n hx hb dX6_meeting_12 rfl (lv_at hl 2 rfl) ?_
    refine lv_i2l (v := x2.toInt64) hx hb dX6_meeting_13 rfl ?_
    refine lv_lconst (v := 0) hx hb dX6_meeting_14 (by decide) ?_
    refine lv_ldc2 hx hb hown (C.2.2.2.2.1 _ q1890) dX6_meeting_15 ?_
    obtain ⟨v5, hv5, h⟩ := bd1_some h
    refine k_in hx hb C.2.2.1 hown C.2.2.2.2.1 C.2.2.2.2.2.2.2 hv5 (Nat.le_of_ble_eq_true rfl) hl.1 (Nat.le_of_ble_eq_true rfl) hcs dX6_meeting_18 ?_
    refine lv_if_eq (tgt := 41) hx hb dX6_meeting_21 rfl (fun c6 => ?_) (fun c6 => ?_)
    · have h := if_some_t h c6
      refine lv_aload_n hx hb dX6_meeting_41 rfl (lv_at hl 0 rfl) ?_
      refine lv_iconst (v := 1) hx hb dX6_meeting_42 (by decide) ?_
      obtain ⟨v7, st8, hv7, h⟩ := bd2_some h
      refine k_finds C hP hS hv7 (Nat.le_of_ble_eq_true rfl) hl.1 (Nat.le_of_ble_eq_true rfl) hcs dX6_meeting_43 (fun H locs hP hS => ?_)
      exact mm_viret hx hb hr hlk h hP hS dX6_meeting_46
    · have h := if_some_f h c6
      refine lv_iload_n hx hb dX6_meeting_24 rfl (lv_at hl 3 rfl) ?_
      refine lv_i2l (v := x3.toInt64) hx hb dX6_meeting_25 rfl ?_
      refine lv_lconst (v := 0) hx hb dX6_meeting_26 (by decide) ?_
      refine lv_ldc2 hx hb hown (C.2.2.2.2.1 _ q1890) dX6_meeting_27 ?_
      obtain ⟨v9, hv9, h⟩ := bd1_some h
      refine k_in hx hb C.2.2.1 hown C.2.2.2.2.1 C.2.2.2.2.2.2.2 hv9 (Nat.le_of_ble_eq_true rfl) hl.1 (Nat.le_of_ble_eq_true rfl) hcs dX6_meeting_30 ?_
      refine lv_if_eq (tgt := 41) hx hb dX6_meeting_33 rfl (fun c10 => ?_) (fun c10 => ?_)
      · have h := if_some_t h c10
        refine lv_aload_n hx hb dX6_meeting_41 rfl (lv_at hl 0 rfl) ?_
        refine lv_iconst (v := 1) hx hb dX6_meeting_42 (by decide) ?_
        obtain ⟨v11, st12, hv11, h⟩ := bd2_some h
        refine k_finds C hP hS hv11 (Nat.le_of_ble_eq_true rfl) hl.1 (Nat.le_of_ble_eq_true rfl) hcs dX6_meeting_43 (fun H locs hP hS => ?_)
        exact mm_viret hx hb hr hlk h hP hS dX6_meeting_46
      · have h := if_some_f h c10
        refine lv_iload_n hx hb dX6_meeting_36 rfl (lv_at hl 2 rfl) ?_
        refine lv_iload_n hx hb dX6_meeting_37 rfl (lv_at hl 3 rfl) ?_
        refine lv_icmp_ne (tgt := 47) hx hb dX6_meeting_38 rfl (fun c13 => ?_) (fun c13 => ?_)
        · have h := if_some_f h c13
          refine lv_aload_n hx hb dX6_meeting_47 rfl (lv_at hl 0 rfl) ?_
          refine g_d C hP dX6_meeting_48 ?_
          refine lv_iconst (v := 2) hx hb dX6_meeting_51 (by decide) ?_
          obtain ⟨v14, hv14, h⟩ := bd1_some h
          refine mm_ld C hP 1 (by decide) rfl hv14 dX6_meeting_52 ?_
          refine lv_bipush (v := 12) hx hb dX6_meeting_53 (by decide) ?_
          refine lv_icmp_ne (tgt := 64) hx hb dX6_meeting_55 rfl (fun c15 => ?_) (fun c15 => ?_)
          · have h := if_some_f h c15
            refine lv_aload_n hx hb dX6_meeting_64 rfl (lv_at hl 0 rfl) ?_
            refine g_d C hP dX6_meeting_65 ?_
            refine lv_iconst (v := 2) hx hb dX6_meeting_68 (by decide) ?_
            obtain ⟨v16, hv16, h⟩ := bd1_some h
            refine mm_ld C hP 1 (by decide) rfl hv16 dX6_meeting_69 ?_
            refine lv_istore (lv' := [(4, .int v16), (0, .ref (ad 0)), (1, .int x1), (2, .int x2), (3, .int x3)]) hx hb dX6_meeting_70 hl (by decide) rfl (fun ls hl => ?_)
            refine lv_aload_n hx hb dX6_meeting_72 rfl (lv_at hl 1 rfl) ?_
            refine g_d C hP dX6_meeting_73 ?_
            refine lv_iconst (v := 2) hx hb dX6_meeting_76 (by decide) ?_
            refine lv_dup2_11 hx hb dX6_meeting_77 rfl rfl ?_
            obtain ⟨v17, hv17, h⟩ := bd1_some h
            refine mm_ld C hP 1 (by decide) rfl hv17 dX6_meeting_78 ?_
            refine lv_iconst (v := 1) hx hb dX6_meeting_79 (by decide) ?_
            refine lv_iadd hx hb dX6_meeting_80 ?_
            obtain ⟨b18, hb18, h⟩ := bd1_some h
            refine mm_st C hP hS 1 (by decide) rfl hb18 dX6_meeting_81 (fun H locs hP hS => ?_)
            refine lv_aload_n hx hb dX6_meeting_82 rfl (lv_at hl 1 rfl) ?_
            refine g_d C hP dX6_meeting_83 ?_
            refine lv_sipush (v := 134) hx hb dX6_meeting_86 (by decide) ?_
            refine lv_iconst (v := 3) hx hb dX6_meeting_89 (by decide) ?_
            refine lv_iload hx hb dX6_meeting_90 (lv_at hl 0 rfl) ?_
            refine lv_imul hx hb dX6_meeting_92 ?_
            refine lv_iadd hx hb dX6_meeting_93 ?_
            refine lv_iload_n hx hb dX6_meeting_94 rfl (lv_at hl 2 rfl) ?_
            obtain ⟨b19, hb19, h⟩ := bd1_some h
            refine mm_st C hP hS 1 (by decide) rfl hb19 dX6_meeting_95 (fun H locs hP hS => ?_)
            refine lv_aload_n hx hb dX6_meeting_96 rfl (lv_at hl 1 rfl) ?_
            refine g_d C hP dX6_meeting_97 ?_
            refine lv_sipush (v := 134) hx hb dX6_meeting_100 (by decide) ?_
            refine lv_iconst (v := 3) hx hb dX6_meeting_103 (by decide) ?_
            refine lv_iload hx hb dX6_meeting_104 (lv_at hl 0 rfl) ?_
            refine lv_imul hx hb dX6_meeting_106 ?_
            refine lv_iadd hx hb dX6_meeting_107 ?_
            refine lv_iconst (v := 1) hx hb dX6_meeting_108 (by decide) ?_
            refine lv_iadd hx hb dX6_meeting_109 ?_
            refine lv_iload_n hx hb dX6_meeting_110 rfl (lv_at hl 3 rfl) ?_
            obtain ⟨b20, hb20, h⟩ := bd1_some h
            refine mm_st C hP hS 1 (by decide) rfl hb20 dX6_meeting_111 (fun H locs hP hS => ?_)
            refine lv_aload_n hx hb dX6_meeting_112 rfl (lv_at hl 1 rfl) ?_
            refine g_d C hP dX6_meeting_113 ?_
            refine lv_sipush (v := 134) hx hb dX6_meeting_116 (by decide) ?_
            refine lv_iconst (v := 3) hx hb dX6_meeting_119 (by decide) ?_
            refine lv_iload hx hb dX6_meeting_120 (lv_at hl 0 rfl) ?_
            refine lv_imul hx hb dX6_meeting_122 ?_
            refine lv_iadd hx hb dX6_meeting_123 ?_
            refine lv_iconst (v := 2) hx hb dX6_meeting_124 (by decide) ?_
            refine lv_iadd hx hb dX6_meeting_125 ?_
            refine lv_iload_n hx hb dX6_meeting_126 rfl (lv_at hl 4 rfl) ?_
            obtain ⟨b21, hb21, h⟩ := bd1_some h
            refine mm_st C hP hS 1 (by decide) rfl hb21 dX6_meeting_127 (fun H locs hP hS => ?_)
            refine lv_iload hx hb dX6_meeting_128 (lv_at hl 0 rfl) ?_
            exact mm_viret hx hb hr hlk h hP hS dX6_meeting_130
          · have h := if_some_t h c15
            refine lv_aload_n hx hb dX6_meeting_58 rfl (lv_at hl 0 rfl) ?_
            refine lv_iconst (v := 4) hx hb dX6_meeting_59 (by decide) ?_
            obtain ⟨v22, st23, hv22, h⟩ := bd2_some h
            refine k_finds C hP hS hv22 (Nat.le_of_ble_eq_true rfl) hl.1 (Nat.le_of_ble_eq_true rfl) hcs dX6_meeting_60 (fun H locs hP hS => ?_)
            exact mm_viret hx hb hr hlk h hP hS dX6_meeting_63
        · have h := if_some_t h c13
          refine lv_aload_n hx hb dX6_meeting_41 rfl (lv_at hl 0 rfl) ?_
          refine lv_iconst (v := 1) hx hb dX6_meeting_42 (by decide) ?_
          obtain ⟨v24, st25, hv24, h⟩ := bd2_some h
          refine k_finds C hP hS hv24 (Nat.le_of_ble_eq_true rfl) hl.1 (Nat.le_of_ble_eq_true rfl) hcs dX6_meeting_43 (fun H locs hP hS => ?_)
          exact mm_viret hx hb hr hlk h hP hS dX6_meeting_46
abbrev cX6_saw : ByteArray := prog_30_method_77_code
def yX6_saw : MethodName := ⟨RX6, "saw", "(II)I"⟩
theorem dX6_saw_0 : decode cX6_saw 0 = .ok (.iconst 0, 1) := by decide +kernel
theorem dX6_saw_1 : decode cX6_saw 1 = .ok (.istore_n 3, 1) := by decide +kernel
theorem dX6_saw_2 : decode cX6_saw 2 = .ok (.iconst 0, 1) := by decide +kernel
theorem dX6_saw_3 : decode cX6_saw 3 = .ok (.istore 4, 2) := by decide +kernel
theorem dX6_saw_5 : decode cX6_saw 5 = .ok (.iload 4, 2) := by decide +kernel
theorem dX6_saw_7 : decode cX6_saw 7 = .ok (.aload_n 0, 1) := by decide +kernel
theorem dX6_saw_8 : decode cX6_saw 8 = .ok (.getfield 7, 3) := by decide +kernel
theorem dX6_saw_11 : decode cX6_saw 11 = .ok (.iconst 1, 1) := by decide +kernel
theorem dX6_saw_12 : decode cX6_saw 12 = .ok (.iaload, 1) := by decide +kernel
theorem dX6_saw_13 : decode cX6_saw 13 = .ok (.if_icmp .ge 83, 3) := by decide +kernel
theorem dX6_saw_16 : decode cX6_saw 16 = .ok (.iconst 0, 1) := by decide +kernel
theorem dX6_saw_17 : decode cX6_saw 17 = .ok (.istore 5, 2) := by decide +kernel
theorem dX6_saw_19 : decode cX6_saw 19 = .ok (.iload 5, 2) := by decide +kernel
theorem dX6_saw_21 : decode cX6_saw 21 = .ok (.aload_n 0, 1) := by decide +kernel
theorem dX6_saw_22 : decode cX6_saw 22 = .ok (.iload 4, 2) := by decide +kernel
theorem dX6_saw_24 : decode cX6_saw 24 = .ok (.iconst 4, 1) := by decide +kernel
theorem dX6_saw_25 : decode cX6_saw 25 = .ok (.invokevirtual 150, 3) := by decide +kernel
theorem dX6_saw_28 : decode cX6_saw 28 = .ok (.if_icmp .ge 62, 3) := by decide +kernel
theorem dX6_saw_31 : decode cX6_saw 31 = .ok (.aload_n 0, 1) := by decide +kernel
theorem dX6_saw_32 : decode cX6_saw 32 = .ok (.iload 4, 2) := by decide +kernel
theorem dX6_saw_34 : decode cX6_saw 34 = .ok (.iconst 5, 1) := by decide +kernel
theorem dX6_saw_35 : decode cX6_saw 35 = .ok (.iload 5, 2) := by decide +kernel
theorem dX6_saw_37 : decode cX6_saw 37 = .ok (.iadd, 1) := by decide +kernel
theorem dX6_saw_38 : decode cX6_saw 38 = .ok (.invokevirtual 150, 3) := by decide +kernel
theorem dX6_saw_41 : decode cX6_saw 41 = .ok (.istore 6, 2) := by decide +kernel
theorem dX6_saw_43 : decode cX6_saw 43 = .ok (.iload_n 3, 1) := by decide +kernel
theorem dX6_saw_44 : decode cX6_saw 44 = .ok (.aload_n 0, 1) := by decide +kernel
theorem dX6_saw_45 : decode cX6_saw 45 = .ok (.iload 4, 2) := by decide +kernel
theorem dX6_saw_47 : decode cX6_saw 47 = .ok (.bipush 13, 2) := by decide +kernel
theorem dX6_saw_49 : decode cX6_saw 49 = .ok (.iload 5, 2) := by decide +kernel
theorem dX6_saw_51 : decode cX6_saw 51 = .ok (.iadd, 1) := by decide +kernel
theorem dX6_saw_52 : decode cX6_saw 52 = .ok (.invokevirtual 150, 3) := by decide +kernel
theorem dX6_saw_55 : decode cX6_saw 55 = .ok (.iload_n 2, 1) := by decide +kernel
theorem dX6_saw_56 : decode cX6_saw 56 = .ok (.if_icmp .gt 25, 3) := by decide +kernel
theorem dX6_saw_59 : decode cX6_saw 59 = .ok (.aload_n 0, 1) := by decide +kernel
theorem dX6_saw_60 : decode cX6_saw 60 = .ok (.iload 6, 2) := by decide +kernel
theorem dX6_saw_62 : decode cX6_saw 62 = .ok (.iconst 4, 1) := by decide +kernel
theorem dX6_saw_63 : decode cX6_saw 63 = .ok (.invokevirtual 144, 3) := by decide +kernel
theorem dX6_saw_66 : decode cX6_saw 66 = .ok (.iload_n 1, 1) := by decide +kernel
theorem dX6_saw_67 : decode cX6_saw 67 = .ok (.ishr, 1) := by decide +kernel
theorem dX6_saw_68 : decode cX6_saw 68 = .ok (.iconst 1, 1) := by decide +kernel
theorem dX6_saw_69 : decode cX6_saw 69 = .ok (.iand, 1) := by decide +kernel
theorem dX6_saw_70 : decode cX6_saw 70 = .ok (.iconst 1, 1) := by decide +kernel
theorem dX6_saw_71 : decode cX6_saw 71 = .ok (.if_icmp .ne 10, 3) := by decide +kernel
theorem dX6_saw_74 : decode cX6_saw 74 = .ok (.iconst 1, 1) := by decide +kernel
theorem dX6_saw_75 : decode cX6_saw 75 = .ok (.iload 6, 2) := by decide +kernel
theorem dX6_saw_77 : decode cX6_saw 77 = .ok (.ishl, 1) := by decide +kernel
theorem dX6_saw_78 : decode cX6_saw 78 = .ok (.goto 4, 3) := by decide +kernel
theorem dX6_saw_81 : decode cX6_saw 81 = .ok (.iconst 0, 1) := by decide +kernel
theorem dX6_saw_82 : decode cX6_saw 82 = .ok (.ior, 1) := by decide +kernel
theorem dX6_saw_83 : decode cX6_saw 83 = .ok (.istore_n 3, 1) := by decide +kernel
theorem dX6_saw_84 : decode cX6_saw 84 = .ok (.iinc 5 1, 3) := by decide +kernel
theorem dX6_saw_87 : decode cX6_saw 87 = .ok (.goto (-68), 3) := by decide +kernel
theorem dX6_saw_90 : decode cX6_saw 90 = .ok (.iinc 4 1, 3) := by decide +kernel
theorem dX6_saw_93 : decode cX6_saw 93 = .ok (.goto (-88), 3) := by decide +kernel
theorem dX6_saw_96 : decode cX6_saw 96 = .ok (.iload_n 3, 1) := by decide +kernel
theorem dX6_saw_97 : decode cX6_saw 97 = .ok (.ireturn, 1) := by decide +kernel
theorem w_saw {l : Launch} {D : va_G} {cI : ClassId} {ad : Nat → Nat} (hI : kInj 15 ad) {st : MSt} {N : Nat} {x1 : Int32} {x2 : Int32} {r : Int32} (h : M_saw  N st x1 x2 = some r) : mR l yX6_saw cX6_saw 7 (some .int) 1 D cI ad st [.int x1, .int x2] r := by
  refine mm_ofR hI (by decide) rfl (Nat.le_of_ble_eq_true rfl) (fun p e s m below meth c R args ls C hr hlk hP hl hcs => ?_)
  have hx := C.1
  have hb := C.2.1
  have hown := C.2.2.2.1
  have hl : lv_has ls 7 [(0, .ref (ad 0)), (1, .int x1), (2, .int x2)] := hl
  have L19 : ∀ (x1 : Int32), ∀ (x2 : Int32), ∀ (x4 : Int32), ∀ (n : Nat) (x3 : Int32) (x5 : Int32) (z3 : Int32), M_saw_L19 N st x1 x2 x4 n x3 x5 = some z3 → ∀ ls : Array Slot, lv_has ls 7 [(0, .ref (ad 0)), (1, .int x1), (2, .int x2), (3, .int x3), (4, .int x4), (5, .int x5)] → (∀ ls : Array Slot, lv_has ls 7 [(0, .ref (ad 0)), (1, .int x1), (2, .int x2), (3, .int z3), (4, .int x4)] → mWR p l e R s m args below meth c r (F0 m 90 ls [])) → mWR p l e R s m args below meth c r (F0 m 19 ls []) := by
    intro x1 x2 x4 n
    induction n with
    | zero =>
      intro x3 x5 z3 h
      exact non_some h
    | succ n ih =>
      intro x3 x5 z3 h ls hl kx
      rw [M_saw_L19] at h
      refine lv_iload hx hb dX6_saw_19 (lv_at hl 5 rfl) ?_
      refine lv_aload_n hx hb dX6_saw_21 rfl (lv_at hl 0 rfl) ?_
      refine lv_iload hx hb dX6_saw_22 (lv_at hl 4 rfl) ?_
      refine lv_iconst (v := 4) hx hb dX6_saw_24 (by decide) ?_
      obtain ⟨v3, hv3, h⟩ := bd1_some h
      refine k_of C hP hv3 (Nat.le_of_ble_eq_true rfl) hl.1 (Nat.le_of_ble_eq_true rfl) hcs dX6_saw_25 ?_
      refine lv_icmp_ge (tgt := 90) hx hb dX6_saw_28 rfl (fun c4 => ?_) (fun c4 => ?_)
      · have h := if_some_t h c4
        cases h
        exact kx ls (lv_sub hl [0, 1, 2, 3, 4] rfl)
      · have h := if_some_f h c4
        refine lv_aload_n hx hb dX6_saw_31 rfl (lv_at hl 0 rfl) ?_
        refine lv_iload hx hb dX6_saw_32 (lv_at hl 4 rfl) ?_
        refine lv_iconst (v := 5) hx hb dX6_saw_34 (by decide) ?_
        refine lv_iload hx hb dX6_saw_35 (lv_at hl 5 rfl) ?_
        refine lv_iadd hx hb dX6_saw_37 ?_
        obtain ⟨v5, hv5, h⟩ := bd1_some h
        refine k_of C hP hv5 (Nat.le_of_ble_eq_true rfl) hl.1 (Nat.le_of_ble_eq_true rfl) hcs dX6_saw_38 ?_
        refine lv_istore (lv' := [(6, .int v5), (0, .ref (ad 0)), (1, .int x1), (2, .int x2), (3, .int x3), (4, .int x4), (5, .int x5)]) hx hb dX6_saw_41 hl (by decide) rfl (fun ls hl => ?_)
        refine lv_iload_n hx hb dX6_saw_43 rfl (lv_at hl 4 rfl) ?_
        refine lv_aload_n hx hb dX6_saw_44 rfl (lv_at hl 1 rfl) ?_
        refine lv_iload hx hb dX6_saw_45 (lv_at hl 5 rfl) ?_
        refine lv_bipush (v := 13) hx hb dX6_saw_47 (by decide) ?_
        refine lv_iload hx hb dX6_saw_49 (lv_at hl 6 rfl) ?_
        refine lv_iadd hx hb dX6_saw_51 ?_
        obtain ⟨v6, hv6, h⟩ := bd1_some h
        refine k_of C hP hv6 (Nat.le_of_ble_eq_true rfl) hl.1 (Nat.le_of_ble_eq_true rfl) hcs dX6_saw_52 ?_
        refine lv_iload_n hx hb dX6_saw_55 rfl (lv_at hl 3 rfl) ?_
        refine lv_icmp_gt (tgt := 81) hx hb dX6_saw_56 rfl (fun c7 => ?_) (fun c7 => ?_)
        · have h := if_some_t h c7
          refine lv_iconst (v := 0) hx hb dX6_saw_81 (by decide) ?_
          refine lv_ior hx hb dX6_saw_82 ?_
          refine lv_istore_n (lv' := [(3, .int (x3 ||| 0)), (6, .int v5), (0, .ref (ad 0)), (1, .int x1), (2, .int x2), (4, .int x4), (5, .int x5)]) hx hb dX6_saw_83 rfl hl (by decide) rfl (fun ls hl => ?_)
          refine lv_iinc (v := x5 + 1) (lv' := [(5, .int (x5 + 1)), (3, .int (x3 ||| 0)), (6, .int v5), (0, .ref (ad 0)), (1, .int x1), (2, .int x2), (4, .int x4)]) hx hb dX6_saw_84 hl (k := 6) rfl rfl (by decide) rfl (fun ls hl => ?_)
          refine lv_goto (tgt := 19) hx hb dX6_saw_87 rfl ?_
          exact ih (x3 ||| 0) (x5 + 1) _ h ls (lv_sub hl [3, 4, 5, 1, 6, 0] rfl) kx
        · have h := if_some_f h c7
          refine lv_aload_n hx hb dX6_saw_59 rfl (lv_at hl 1 rfl) ?_
          refine lv_iload hx hb dX6_saw_60 (lv_at hl 0 rfl) ?_
          refine lv_iconst (v := 4) hx hb dX6_saw_62 (by decide) ?_
          obtain ⟨v8, hv8, h⟩ := bd1_some h
          refine k_its C hP hv8 (Nat.le_of_ble_eq_true rfl) hl.1 (Nat.le_of_ble_eq_true rfl) hcs dX6_saw_63 ?_
          refine lv_iload_n hx hb dX6_saw_66 rfl (lv_at hl 2 rfl) ?_
          refine lv_ishr hx hb dX6_saw_67 ?_
          refine lv_iconst (v := 1) hx hb dX6_saw_68 (by decide) ?_
          refine lv_iand hx hb dX6_saw_69 ?_
          refine lv_iconst (v := 1) hx hb dX6_saw_70 (by decide) ?_
          refine lv_icmp_ne (tgt := 81) hx hb dX6_saw_71 rfl (fun c9 => ?_) (fun c9 => ?_)
          · have h := if_some_f h c9
            refine lv_iconst (v := 0) hx hb dX6_saw_81 (by decide) ?_
            refine lv_ior hx hb dX6_saw_82 ?_
            refine lv_istore_n (lv' := [(3, .int (x3 ||| 0)), (6, .int v5), (0, .ref (ad 0)), (1, .int x1), (2, .int x2), (4, .int x4), (5, .int x5)]) hx hb dX6_saw_83 rfl hl (by decide) rfl (fun ls hl => ?_)
            refine lv_iinc (v := x5 + 1) (lv' := [(5, .int (x5 + 1)), (3, .int (x3 ||| 0)), (6, .int v5), (0, .ref (ad 0)), (1, .int x1), (2, .int x2), (4, .int x4)]) hx hb dX6_saw_84 hl (k := 6) rfl rfl (by decide) rfl (fun ls hl => ?_)
            refine lv_goto (tgt := 19) hx hb dX6_saw_87 rfl ?_
            exact ih (x3 ||| 0) (x5 + 1) _ h ls (lv_sub hl [3, 4, 5, 1, 6, 0] rfl) kx
          · have h := if_some_t h c9
            refine lv_iconst (v := 1) hx hb dX6_saw_74 (by decide) ?_
            refine lv_iload hx hb dX6_saw_75 (lv_at hl 0 rfl) ?_
            refine lv_ishl hx hb dX6_saw_77 ?_
            refine lv_goto (tgt := 82) hx hb dX6_saw_78 rfl ?_
            refine lv_ior hx hb dX6_saw_82 ?_
            refine lv_istore_n (lv' := [(3, .int (x3 ||| (1 <<< (v5 &&& 31)))), (6, .int v5), (0, .ref (ad 0)), (1, .int x1), (2, .int x2), (4, .int x4), (5, .int x5)]) hx hb dX6_saw_83 rfl hl (by decide) rfl (fun ls hl => ?_)
            refine lv_iinc (v := x5 + 1) (lv' := [(5, .int (x5 + 1)), (3, .int (x3 ||| (1 <<< (v5 &&& 31)))), (6, .int v5), (0, .ref (ad 0)), (1, .int x1), (2, .int x2), (4, .int x4)]) hx hb dX6_saw_84 hl (k := 6) rfl rfl (by decide) rfl (fun ls hl => ?_)
            refine lv_goto (tgt := 19) hx hb dX6_saw_87 rfl ?_
            exact ih (x3 ||| (1 <<< (v5 &&& 31))) (x5 + 1) _ h ls (lv_sub hl [3, 4, 5, 1, 6, 0] rfl) kx
  have L5 : ∀ (x1 : Int32), ∀ (x2 : Int32), ∀ (n : Nat) (x3 : Int32) (x4 : Int32) (z3 : Int32), M_saw_L5 N st x1 x2 n x3 x4 = some z3 → ∀ ls : Array Slot, lv_has ls 7 [(0, .ref (ad 0)), (1, .int x1), (2, .int x2), (3, .int x3), (4, .int x4)] → (∀ ls : Array Slot, lv_has ls 7 [(3, .int z3)] → mWR p l e R s m args below meth c r (F0 m 96 ls [])) → mWR p l e R s m args below meth c r (F0 m 5 ls []) := by
    intro x1 x2 n
    induction n with
    | zero =>
      intro x3 x4 z3 h
      exact non_some h
    | succ n ih =>
      intro x3 x4 z3 h ls hl kx
      rw [M_saw_L5] at h
      refine lv_iload hx hb dX6_saw_5 (lv_at hl 4 rfl) ?_
      refine lv_aload_n hx hb dX6_saw_7 rfl (lv_at hl 0 rfl) ?_
      refine g_d C hP dX6_saw_8 ?_
      refine lv_iconst (v := 1) hx hb dX6_saw_11 (by decide) ?_
      obtain ⟨v1, hv1, h⟩ := bd1_some h
      refine mm_ld C hP 1 (by decide) rfl hv1 dX6_saw_12 ?_
      refine lv_icmp_ge (tgt := 96) hx hb dX6_saw_13 rfl (fun c2 => ?_) (fun c2 => ?_)
      · have h := if_some_t h c2
        cases h
        exact kx ls (lv_sub hl [3] rfl)
      · have h := if_some_f h c2
        refine lv_iconst (v := 0) hx hb dX6_saw_16 (by decide) ?_
        refine lv_istore (lv' := [(5, .int 0), (0, .ref (ad 0)), (1, .int x1), (2, .int x2), (3, .int x3), (4, .int x4)]) hx hb dX6_saw_17 hl (by decide) rfl (fun ls hl => ?_)
        obtain ⟨z10, hz11, h⟩ := bd1_some h
        refine L19 x1 x2 x4 N x3 0 _ hz11 ls (lv_sub hl [1, 2, 3, 4, 5, 0] rfl) (fun ls hl => ?_)
        refine lv_iinc (v := x4 + 1) (lv' := [(4, .int (x4 + 1)), (0, .ref (ad 0)), (1, .int x1), (2, .int x2), (3, .int z10)]) hx hb dX6_saw_90 hl (k := 4) rfl rfl (by decide) rfl (fun ls hl => ?_)
        refine lv_goto (tgt := 5) hx hb dX6_saw_93 rfl ?_
        exact ih z10 (x4 + 1) _ h ls (lv_sub hl [1, 2, 3, 4, 0] rfl) kx
  rw [M_saw] at h
  refine lv_iconst (v := 0) hx hb dX6_saw_0 (by decide) ?_
  refine lv_istore_n (lv' := [(3, .int 0), (0, .ref (ad 0)), (1, .int x1), (2, .int x2)]) hx hb dX6_saw_1 rfl hl (by decide) rfl (fun ls hl => ?_)
  refine lv_iconst (v := 0) hx hb dX6_saw_2 (by decide) ?_
  refine lv_istore (lv' := [(4, .int 0), (3, .int 0), (0, .ref (ad 0)), (1, .int x1), (2, .int x2)]) hx hb dX6_saw_3 hl (by decide) rfl (fun ls hl => ?_)
  obtain ⟨z12, hz13, h⟩ := bd1_some h
  refine L5 x1 x2 N 0 0 _ hz13 ls (lv_sub hl [2, 3, 4, 1, 0] rfl) (fun ls hl => ?_)
  refine lv_iload_n hx hb dX6_saw_96 rfl (lv_at hl 0 rfl) ?_
  exact mm_iret hx hb hr hlk h dX6_saw_97
theorem q1919 : (Jvm.Cond.methodLink "ChapterLoanModel" (279 : Nat) ({ cls := "ChapterLoanModel", name := "saw", desc := "(II)I" } : Jvm.MethodName)) ∈ lw_all := lw_g (lw_at lw_m8 155 rfl) rfl
theorem q1922 : (Jvm.Cond.code ({ cls := "ChapterLoanModel", name := "saw", desc := "(II)I" } : Jvm.MethodName) prog_30_method_77_code (7 : Nat) (Option.some Jvm.ClassFile.FieldType.int)) ∈ lw_all := lw_g (lw_at lw_m8 158 rfl) rfl
theorem q1921 : (Jvm.Cond.instanceMethod ({ cls := "ChapterLoanModel", name := "saw", desc := "(II)I" } : Jvm.MethodName)) ∈ lw_all := lw_g (lw_at lw_m8 157 rfl) rfl
theorem k_saw {N : Nat} {a0 : Int32} {a1 : Int32} {v : Int32} (C : mC p R d s m args c cc nL D cI ad) (hP : mW D cI ad st H) (h : M_saw N st a0 a1 = some v) (hd : 1 + 1 ≤ d) (hsz : ls.size = nL) (hW : (rest.map fun v => v.category).sum ≤ 8) (hcs : cells ≤ R.cells ∧ slots ≤ R.slots) (hdg : decode cc pc = .ok (.invokevirtual 279, 3)) (kk : W p l e R s m args below meth c H locs cells slots Q (F0 m (pc + 3) ls (.int v :: rest))) : W p l e R s m args below meth c H locs cells slots Q (F0 m pc ls (.int a1 :: .int a0 :: .ref (ad 0) :: rest)) :=
  mm_cR (As := [.int a0, .int a1]) C hP (w_saw C.2.2.2.2.2.2.1 h) (cwV 2 C.2.2.2.2.1 (lw_V q1919 q1921 qs76 q94 q1922) rfl rfl rfl (by decide +kernel) (mr_ C.2.2.2.2.2.2.2 hd (by decide))) rfl hsz rfl hW hdg hcs kk
abbrev cX6_knownBy : ByteArray := prog_30_method_78_code
def yX6_knownBy : MethodName := ⟨RX6, "knownBy", "(II)I"⟩
theorem dX6_knownBy_0 : decode cX6_knownBy 0 = .ok (.iconst 0, 1) := by decide +kernel
theorem dX6_knownBy_1 : decode cX6_knownBy 1 = .ok (.istore_n 3, 1) := by decide +kernel
theorem dX6_knownBy_2 : decode cX6_knownBy 2 = .ok (.iload_n 3, 1) := by decide +kernel
theorem dX6_knownBy_3 : decode cX6_knownBy 3 = .ok (.iconst 5, 1) := by decide +kernel
theorem dX6_knownBy_4 : decode cX6_knownBy 4 = .ok (.if_icmp .ge 16, 3) := by decide +kernel
theorem dX6_knownBy_7 : decode cX6_knownBy 7 = .ok (.aload_n 0, 1) := by decide +kernel
theorem dX6_knownBy_8 : decode cX6_knownBy 8 = .ok (.getfield 38, 3) := by decide +kernel
theorem dX6_knownBy_11 : decode cX6_knownBy 11 = .ok (.iload_n 3, 1) := by decide +kernel
theorem dX6_knownBy_12 : decode cX6_knownBy 12 = .ok (.iconst 0, 1) := by decide +kernel
theorem dX6_knownBy_13 : decode cX6_knownBy 13 = .ok (.iastore, 1) := by decide +kernel
theorem dX6_knownBy_14 : decode cX6_knownBy 14 = .ok (.iinc 3 1, 3) := by decide +kernel
theorem dX6_knownBy_17 : decode cX6_knownBy 17 = .ok (.goto (-15), 3) := by decide +kernel
theorem dX6_knownBy_20 : decode cX6_knownBy 20 = .ok (.iconst (-1), 1) := by decide +kernel
theorem dX6_knownBy_21 : decode cX6_knownBy 21 = .ok (.istore_n 3, 1) := by decide +kernel
theorem dX6_knownBy_22 : decode cX6_knownBy 22 = .ok (.iconst 1, 1) := by decide +kernel
theorem dX6_knownBy_23 : decode cX6_knownBy 23 = .ok (.istore 4, 2) := by decide +kernel
theorem dX6_knownBy_25 : decode cX6_knownBy 25 = .ok (.iload 4, 2) := by decide +kernel
theorem dX6_knownBy_27 : decode cX6_knownBy 27 = .ok (.ifCond .eq 251, 3) := by decide +kernel
theorem dX6_knownBy_30 : decode cX6_knownBy 30 = .ok (.iconst (-1), 1) := by decide +kernel
theorem dX6_knownBy_31 : decode cX6_knownBy 31 = .ok (.istore 5, 2) := by decide +kernel
theorem dX6_knownBy_33 : decode cX6_knownBy 33 = .ok (.iconst 0, 1) := by decide +kernel
theorem dX6_knownBy_34 : decode cX6_knownBy 34 = .ok (.istore 6, 2) := by decide +kernel
theorem dX6_knownBy_36 : decode cX6_knownBy 36 = .ok (.iload 6, 2) := by decide +kernel
theorem dX6_knownBy_38 : decode cX6_knownBy 38 = .ok (.aload_n 0, 1) := by decide +kernel
theorem dX6_knownBy_39 : decode cX6_knownBy 39 = .ok (.getfield 7, 3) := by decide +kernel
theorem dX6_knownBy_42 : decode cX6_knownBy 42 = .ok (.iconst 2, 1) := by decide +kernel
theorem dX6_knownBy_43 : decode cX6_knownBy 43 = .ok (.iaload, 1) := by decide +kernel
theorem dX6_knownBy_44 : decode cX6_knownBy 44 = .ok (.if_icmp .ge 103, 3) := by decide +kernel
theorem dX6_knownBy_47 : decode cX6_knownBy 47 = .ok (.bipush 12, 2) := by decide +kernel
theorem dX6_knownBy_49 : decode cX6_knownBy 49 = .ok (.aload_n 0, 1) := by decide +kernel
theorem dX6_knownBy_50 : decode cX6_knownBy 50 = .ok (.getfield 7, 3) := by decide +kernel
theorem dX6_knownBy_53 : decode cX6_knownBy 53 = .ok (.sipush 134, 3) := by decide +kernel
theorem dX6_knownBy_56 : decode cX6_knownBy 56 = .ok (.iconst 3, 1) := by decide +kernel
theorem dX6_knownBy_57 : decode cX6_knownBy 57 = .ok (.iload 6, 2) := by decide +kernel
theorem dX6_knownBy_59 : decode cX6_knownBy 59 = .ok (.imul, 1) := by decide +kernel
theorem dX6_knownBy_60 : decode cX6_knownBy 60 = .ok (.iadd, 1) := by decide +kernel
theorem dX6_knownBy_61 : decode cX6_knownBy 61 = .ok (.iaload, 1) := by decide +kernel
theorem dX6_knownBy_62 : decode cX6_knownBy 62 = .ok (.imul, 1) := by decide +kernel
theorem dX6_knownBy_63 : decode cX6_knownBy 63 = .ok (.iload 6, 2) := by decide +kernel
theorem dX6_knownBy_65 : decode cX6_knownBy 65 = .ok (.iadd, 1) := by decide +kernel
theorem dX6_knownBy_66 : decode cX6_knownBy 66 = .ok (.istore 7, 2) := by decide +kernel
theorem dX6_knownBy_68 : decode cX6_knownBy 68 = .ok (.iload 5, 2) := by decide +kernel
theorem dX6_knownBy_70 : decode cX6_knownBy 70 = .ok (.ifCond .lt 27, 3) := by decide +kernel
theorem dX6_knownBy_73 : decode cX6_knownBy 73 = .ok (.iload 7, 2) := by decide +kernel
theorem dX6_knownBy_75 : decode cX6_knownBy 75 = .ok (.bipush 12, 2) := by decide +kernel
theorem dX6_knownBy_77 : decode cX6_knownBy 77 = .ok (.aload_n 0, 1) := by decide +kernel
theorem dX6_knownBy_78 : decode cX6_knownBy 78 = .ok (.getfield 7, 3) := by decide +kernel
theorem dX6_knownBy_81 : decode cX6_knownBy 81 = .ok (.sipush 134, 3) := by decide +kernel
theorem dX6_knownBy_84 : decode cX6_knownBy 84 = .ok (.iconst 3, 1) := by decide +kernel
theorem dX6_knownBy_85 : decode cX6_knownBy 85 = .ok (.iload 5, 2) := by decide +kernel
theorem dX6_knownBy_87 : decode cX6_knownBy 87 = .ok (.imul, 1) := by decide +kernel
theorem dX6_knownBy_88 : decode cX6_knownBy 88 = .ok (.iadd, 1) := by decide +kernel
theorem dX6_knownBy_89 : decode cX6_knownBy 89 = .ok (.iaload, 1) := by decide +kernel
theorem dX6_knownBy_90 : decode cX6_knownBy 90 = .ok (.imul, 1) := by decide +kernel
theorem dX6_knownBy_91 : decode cX6_knownBy 91 = .ok (.iload 5, 2) := by decide +kernel
theorem dX6_knownBy_93 : decode cX6_knownBy 93 = .ok (.iadd, 1) := by decide +kernel
theorem dX6_knownBy_94 : decode cX6_knownBy 94 = .ok (.if_icmp .ge 7, 3) := by decide +kernel
theorem dX6_knownBy_97 : decode cX6_knownBy 97 = .ok (.iconst 1, 1) := by decide +kernel
theorem dX6_knownBy_98 : decode cX6_knownBy 98 = .ok (.goto 4, 3) := by decide +kernel
theorem dX6_knownBy_101 : decode cX6_knownBy 101 = .ok (.iconst 0, 1) := by decide +kernel
theorem dX6_knownBy_102 : decode cX6_knownBy 102 = .ok (.istore 8, 2) := by decide +kernel
theorem dX6_knownBy_104 : decode cX6_knownBy 104 = .ok (.iload 7, 2) := by decide +kernel
theorem dX6_knownBy_106 : decode cX6_knownBy 106 = .ok (.iload_n 3, 1) := by decide +kernel
theorem dX6_knownBy_107 : decode cX6_knownBy 107 = .ok (.if_icmp .le 30, 3) := by decide +kernel
theorem dX6_knownBy_110 : decode cX6_knownBy 110 = .ok (.aload_n 0, 1) := by decide +kernel
theorem dX6_knownBy_111 : decode cX6_knownBy 111 = .ok (.getfield 7, 3) := by decide +kernel
theorem dX6_knownBy_114 : decode cX6_knownBy 114 = .ok (.sipush 134, 3) := by decide +kernel
theorem dX6_knownBy_117 : decode cX6_knownBy 117 = .ok (.iconst 3, 1) := by decide +kernel
theorem dX6_knownBy_118 : decode cX6_knownBy 118 = .ok (.iload 6, 2) := by decide +kernel
theorem dX6_knownBy_120 : decode cX6_knownBy 120 = .ok (.imul, 1) := by decide +kernel
theorem dX6_knownBy_121 : decode cX6_knownBy 121 = .ok (.iadd, 1) := by decide +kernel
theorem dX6_knownBy_122 : decode cX6_knownBy 122 = .ok (.iaload, 1) := by decide +kernel
theorem dX6_knownBy_123 : decode cX6_knownBy 123 = .ok (.iload_n 2, 1) := by decide +kernel
theorem dX6_knownBy_124 : decode cX6_knownBy 124 = .ok (.if_icmp .gt 13, 3) := by decide +kernel
theorem dX6_knownBy_127 : decode cX6_knownBy 127 = .ok (.iload 8, 2) := by decide +kernel
theorem dX6_knownBy_129 : decode cX6_knownBy 129 = .ok (.ifCond .eq 8, 3) := by decide +kernel
theorem dX6_knownBy_132 : decode cX6_knownBy 132 = .ok (.iload 6, 2) := by decide +kernel
theorem dX6_knownBy_134 : decode cX6_knownBy 134 = .ok (.goto 5, 3) := by decide +kernel
theorem dX6_knownBy_137 : decode cX6_knownBy 137 = .ok (.iload 5, 2) := by decide +kernel
theorem dX6_knownBy_139 : decode cX6_knownBy 139 = .ok (.istore 5, 2) := by decide +kernel
theorem dX6_knownBy_141 : decode cX6_knownBy 141 = .ok (.iinc 6 1, 3) := by decide +kernel
theorem dX6_knownBy_144 : decode cX6_knownBy 144 = .ok (.goto (-108), 3) := by decide +kernel
theorem dX6_knownBy_147 : decode cX6_knownBy 147 = .ok (.iload 5, 2) := by decide +kernel
theorem dX6_knownBy_149 : decode cX6_knownBy 149 = .ok (.ifCond .lt 7, 3) := by decide +kernel
theorem dX6_knownBy_152 : decode cX6_knownBy 152 = .ok (.iconst 1, 1) := by decide +kernel
theorem dX6_knownBy_153 : decode cX6_knownBy 153 = .ok (.goto 4, 3) := by decide +kernel
theorem dX6_knownBy_156 : decode cX6_knownBy 156 = .ok (.iconst 0, 1) := by decide +kernel
theorem dX6_knownBy_157 : decode cX6_knownBy 157 = .ok (.istore 4, 2) := by decide +kernel
theorem dX6_knownBy_159 : decode cX6_knownBy 159 = .ok (.iload 4, 2) := by decide +kernel
theorem dX6_knownBy_161 : decode cX6_knownBy 161 = .ok (.ifCond .eq 114, 3) := by decide +kernel
theorem dX6_knownBy_164 : decode cX6_knownBy 164 = .ok (.aload_n 0, 1) := by decide +kernel
theorem dX6_knownBy_165 : decode cX6_knownBy 165 = .ok (.getfield 7, 3) := by decide +kernel
theorem dX6_knownBy_168 : decode cX6_knownBy 168 = .ok (.sipush 134, 3) := by decide +kernel
theorem dX6_knownBy_171 : decode cX6_knownBy 171 = .ok (.iconst 3, 1) := by decide +kernel
theorem dX6_knownBy_172 : decode cX6_knownBy 172 = .ok (.iload 5, 2) := by decide +kernel
theorem dX6_knownBy_174 : decode cX6_knownBy 174 = .ok (.imul, 1) := by decide +kernel
theorem dX6_knownBy_175 : decode cX6_knownBy 175 = .ok (.iadd, 1) := by decide +kernel
theorem dX6_knownBy_176 : decode cX6_knownBy 176 = .ok (.iaload, 1) := by decide +kernel
theorem dX6_knownBy_177 : decode cX6_knownBy 177 = .ok (.istore 6, 2) := by decide +kernel
theorem dX6_knownBy_179 : decode cX6_knownBy 179 = .ok (.aload_n 0, 1) := by decide +kernel
theorem dX6_knownBy_180 : decode cX6_knownBy 180 = .ok (.getfield 7, 3) := by decide +kernel
theorem dX6_knownBy_183 : decode cX6_knownBy 183 = .ok (.sipush 134, 3) := by decide +kernel
theorem dX6_knownBy_186 : decode cX6_knownBy 186 = .ok (.iconst 3, 1) := by decide +kernel
theorem dX6_knownBy_187 : decode cX6_knownBy 187 = .ok (.iload 5, 2) := by decide +kernel
theorem dX6_knownBy_189 : decode cX6_knownBy 189 = .ok (.imul, 1) := by decide +kernel
theorem dX6_knownBy_190 : decode cX6_knownBy 190 = .ok (.iadd, 1) := by decide +kernel
theorem dX6_knownBy_191 : decode cX6_knownBy 191 = .ok (.iconst 1, 1) := by decide +kernel
theorem dX6_knownBy_192 : decode cX6_knownBy 192 = .ok (.iadd, 1) := by decide +kernel
theorem dX6_knownBy_193 : decode cX6_knownBy 193 = .ok (.iaload, 1) := by decide +kernel
theorem dX6_knownBy_194 : decode cX6_knownBy 194 = .ok (.istore 7, 2) := by decide +kernel
theorem dX6_knownBy_196 : decode cX6_knownBy 196 = .ok (.aload_n 0, 1) := by decide +kernel
theorem dX6_knownBy_197 : decode cX6_knownBy 197 = .ok (.getfield 7, 3) := by decide +kernel
theorem dX6_knownBy_200 : decode cX6_knownBy 200 = .ok (.sipush 134, 3) := by decide +kernel
theorem dX6_knownBy_203 : decode cX6_knownBy 203 = .ok (.iconst 3, 1) := by decide +kernel
theorem dX6_knownBy_204 : decode cX6_knownBy 204 = .ok (.iload 5, 2) := by decide +kernel
theorem dX6_knownBy_206 : decode cX6_knownBy 206 = .ok (.imul, 1) := by decide +kernel
theorem dX6_knownBy_207 : decode cX6_knownBy 207 = .ok (.iadd, 1) := by decide +kernel
theorem dX6_knownBy_208 : decode cX6_knownBy 208 = .ok (.iconst 2, 1) := by decide +kernel
theorem dX6_knownBy_209 : decode cX6_knownBy 209 = .ok (.iadd, 1) := by decide +kernel
theorem dX6_knownBy_210 : decode cX6_knownBy 210 = .ok (.iaload, 1) := by decide +kernel
theorem dX6_knownBy_211 : decode cX6_knownBy 211 = .ok (.istore 8, 2) := by decide +kernel
theorem dX6_knownBy_213 : decode cX6_knownBy 213 = .ok (.aload_n 0, 1) := by decide +kernel
theorem dX6_knownBy_214 : decode cX6_knownBy 214 = .ok (.getfield 38, 3) := by decide +kernel
theorem dX6_knownBy_217 : decode cX6_knownBy 217 = .ok (.iload 7, 2) := by decide +kernel
theorem dX6_knownBy_219 : decode cX6_knownBy 219 = .ok (.iaload, 1) := by decide +kernel
theorem dX6_knownBy_220 : decode cX6_knownBy 220 = .ok (.aload_n 0, 1) := by decide +kernel
theorem dX6_knownBy_221 : decode cX6_knownBy 221 = .ok (.getfield 38, 3) := by decide +kernel
theorem dX6_knownBy_224 : decode cX6_knownBy 224 = .ok (.iload 8, 2) := by decide +kernel
theorem dX6_knownBy_226 : decode cX6_knownBy 226 = .ok (.iaload, 1) := by decide +kernel
theorem dX6_knownBy_227 : decode cX6_knownBy 227 = .ok (.ior, 1) := by decide +kernel
theorem dX6_knownBy_228 : decode cX6_knownBy 228 = .ok (.aload_n 0, 1) := by decide +kernel
theorem dX6_knownBy_229 : decode cX6_knownBy 229 = .ok (.iload 7, 2) := by decide +kernel
theorem dX6_knownBy_231 : decode cX6_knownBy 231 = .ok (.iload 6, 2) := by decide +kernel
theorem dX6_knownBy_233 : decode cX6_knownBy 233 = .ok (.invokevirtual 279, 3) := by decide +kernel
theorem dX6_knownBy_236 : decode cX6_knownBy 236 = .ok (.ior, 1) := by decide +kernel
theorem dX6_knownBy_237 : decode cX6_knownBy 237 = .ok (.aload_n 0, 1) := by decide +kernel
theorem dX6_knownBy_238 : decode cX6_knownBy 238 = .ok (.iload 8, 2) := by decide +kernel
theorem dX6_knownBy_240 : decode cX6_knownBy 240 = .ok (.iload 6, 2) := by decide +kernel
theorem dX6_knownBy_242 : decode cX6_knownBy 242 = .ok (.invokevirtual 279, 3) := by decide +kernel
theorem dX6_knownBy_245 : decode cX6_knownBy 245 = .ok (.ior, 1) := by decide +kernel
theorem dX6_knownBy_246 : decode cX6_knownBy 246 = .ok (.istore 9, 2) := by decide +kernel
theorem dX6_knownBy_248 : decode cX6_knownBy 248 = .ok (.aload_n 0, 1) := by decide +kernel
theorem dX6_knownBy_249 : decode cX6_knownBy 249 = .ok (.getfield 38, 3) := by decide +kernel
theorem dX6_knownBy_252 : decode cX6_knownBy 252 = .ok (.iload 7, 2) := by decide +kernel
theorem dX6_knownBy_254 : decode cX6_knownBy 254 = .ok (.iload 9, 2) := by decide +kernel
theorem dX6_knownBy_256 : decode cX6_knownBy 256 = .ok (.iastore, 1) := by decide +kernel
theorem dX6_knownBy_257 : decode cX6_knownBy 257 = .ok (.aload_n 0, 1) := by decide +kernel
theorem dX6_knownBy_258 : decode cX6_knownBy 258 = .ok (.getfield 38, 3) := by decide +kernel
theorem dX6_knownBy_261 : decode cX6_knownBy 261 = .ok (.iload 8, 2) := by decide +kernel
theorem dX6_knownBy_263 : decode cX6_knownBy 263 = .ok (.iload 9, 2) := by decide +kernel
theorem dX6_knownBy_265 : decode cX6_knownBy 265 = .ok (.iastore, 1) := by decide +kernel
theorem dX6_knownBy_266 : decode cX6_knownBy 266 = .ok (.bipush 12, 2) := by decide +kernel
theorem dX6_knownBy_268 : decode cX6_knownBy 268 = .ok (.iload 6, 2) := by decide +kernel
theorem dX6_knownBy_270 : decode cX6_knownBy 270 = .ok (.imul, 1) := by decide +kernel
theorem dX6_knownBy_271 : decode cX6_knownBy 271 = .ok (.iload 5, 2) := by decide +kernel
theorem dX6_knownBy_273 : decode cX6_knownBy 273 = .ok (.iadd, 1) := by decide +kernel
theorem dX6_knownBy_274 : decode cX6_knownBy 274 = .ok (.istore_n 3, 1) := by decide +kernel
theorem dX6_knownBy_275 : decode cX6_knownBy 275 = .ok (.goto (-250), 3) := by decide +kernel
theorem dX6_knownBy_278 : decode cX6_knownBy 278 = .ok (.aload_n 0, 1) := by decide +kernel
theorem dX6_knownBy_279 : decode cX6_knownBy 279 = .ok (.getfield 38, 3) := by decide +kernel
theorem dX6_knownBy_282 : decode cX6_knownBy 282 = .ok (.iload_n 1, 1) := by decide +kernel
theorem dX6_knownBy_283 : decode cX6_knownBy 283 = .ok (.iaload, 1) := by decide +kernel
theorem dX6_knownBy_284 : decode cX6_knownBy 284 = .ok (.aload_n 0, 1) := by decide +kernel
theorem dX6_knownBy_285 : decode cX6_knownBy 285 = .ok (.iload_n 1, 1) := by decide +kernel
theorem dX6_knownBy_286 : decode cX6_knownBy 286 = .ok (.iload_n 2, 1) := by decide +kernel
theorem dX6_knownBy_287 : decode cX6_knownBy 287 = .ok (.invokevirtual 279, 3) := by decide +kernel
theorem dX6_knownBy_290 : decode cX6_knownBy 290 = .ok (.ior, 1) := by decide +kernel
theorem dX6_knownBy_291 : decode cX6_knownBy 291 = .ok (.ireturn, 1) := by decide +kernel
theorem w_knownBy {l : Launch} {D : va_G} {cI : ClassId} {ad : Nat → Nat} (hI : kInj 15 ad) {st st' : MSt} {N : Nat} {x1 : Int32} {x2 : Int32} {r0 : Int32} (h : M_knownBy  N st x1 x2 = some (r0, st')) : mV l yX6_knownBy cX6_knownBy 10 (some .int) 2 D cI ad st [.int x1, .int x2] (some (.int r0)) st' := by
  refine mm_ofV hI (by decide) rfl (Nat.le_of_ble_eq_true rfl) (fun p e s m below meth c R args ls C hr hlk hP hS hl hcs => ?_)
  have hx := C.1
  have hb := C.2.1
  have hown := C.2.2.2.1
  have hl : lv_has ls 10 [(0, .ref (ad 0)), (1, .int x1), (2, .int x2)] := hl
  have hP : mW D cI ad st s.heap := hP
  have L2 : ∀ (x1 : Int32), ∀ (x2 : Int32), ∀ (n : Nat) (st : MSt) (x3 : Int32) (st2 : MSt), M_knownBy_L2 N x1 x2 n st x3 = some st2 → ∀ (H : Heap) (locs : List Loc), mW D cI ad st H → va_S (kF 15 ad) s.heap H locs → ∀ ls : Array Slot, lv_has ls 10 [(0, .ref (ad 0)), (1, .int x1), (2, .int x2), (3, .int x3)] → (∀ (H : Heap) (locs : List Loc), mW D cI ad st2 H → va_S (kF 15 ad) s.heap H locs → ∀ ls : Array Slot, lv_has ls 10 [(0, .ref (ad 0)), (1, .int x1), (2, .int x2)] → mWV p l e R s m args below meth c D cI ad (some (.int r0)) st' H locs (F0 m 20 ls [])) → mWV p l e R s m args below meth c D cI ad (some (.int r0)) st' H locs (F0 m 2 ls []) := by
    intro x1 x2 n
    induction n with
    | zero =>
      intro st x3 st2 h
      exact non_some h
    | succ n ih =>
      intro st x3 st2 h H locs hP hS ls hl kx
      rw [M_knownBy_L2] at h
      refine lv_iload_n hx hb dX6_knownBy_2 rfl (lv_at hl 3 rfl) ?_
      refine lv_iconst (v := 5) hx hb dX6_knownBy_3 (by decide) ?_
      refine lv_icmp_ge (tgt := 20) hx hb dX6_knownBy_4 rfl (fun c1 => ?_) (fun c1 => ?_)
      · have h := if_some_t h c1
        cases h
        exact kx _ _ hP hS ls (lv_sub hl [0, 1, 2] rfl)
      · have h := if_some_f h c1
        refine lv_aload_n hx hb dX6_knownBy_7 rfl (lv_at hl 0 rfl) ?_
        refine g_heard C hP dX6_knownBy_8 ?_
        refine lv_iload_n hx hb dX6_knownBy_11 rfl (lv_at hl 3 rfl) ?_
        refine lv_iconst (v := 0) hx hb dX6_knownBy_12 (by decide) ?_
        obtain ⟨b2, hb2, h⟩ := bd1_some h
        refine mm_st C hP hS 9 (by decide) rfl hb2 dX6_knownBy_13 (fun H locs hP hS => ?_)
        refine lv_iinc (v := x3 + 1) (lv' := [(3, .int (x3 + 1)), (0, .ref (ad 0)), (1, .int x1), (2, .int x2)]) hx hb dX6_knownBy_14 hl (k := 3) rfl rfl (by decide) rfl (fun ls hl => ?_)
        refine lv_goto (tgt := 2) hx hb dX6_knownBy_17 rfl ?_
        exact ih (sa st 9 b2) (x3 + 1) _ h _ _ hP hS ls (lv_sub hl [1, 2, 3, 0] rfl) kx
  have L36 : ∀ (st : MSt), ∀ (x1 : Int32), ∀ (x2 : Int32), ∀ (x3 : Int32), ∀ (n : Nat) (x5 : Int32) (x6 : Int32) (z5 : Int32), M_knownBy_L36 N st x1 x2 x3 n x5 x6 = some z5 → ∀ (H : Heap) (locs : List Loc), mW D cI ad st H → va_S (kF 15 ad) s.heap H locs → ∀ ls : Array Slot, lv_has ls 10 [(0, .ref (ad 0)), (1, .int x1), (2, .int x2), (3, .int x3), (5, .int x5), (6, .int x6)] → (∀ ls : Array Slot, lv_has ls 10 [(0, .ref (ad 0)), (1, .int x1), (2, .int x2), (3, .int x3), (5, .int z5)] → mWV p l e R s m args below meth c D cI ad (some (.int r0)) st' H locs (F0 m 147 ls [])) → mWV p l e R s m args below meth c D cI ad (some (.int r0)) st' H locs (F0 m 36 ls []) := by
    intro st x1 x2 x3 n
    induction n with
    | zero =>
      intro x5 x6 z5 h
      exact non_some h
    | succ n ih =>
      intro x5 x6 z5 h H locs hP hS ls hl kx
      rw [M_knownBy_L36] at h
      refine lv_iload hx hb dX6_knownBy_36 (lv_at hl 5 rfl) ?_
      refine lv_aload_n hx hb dX6_knownBy_38 rfl (lv_at hl 0 rfl) ?_
      refine g_d C hP dX6_knownBy_39 ?_
      refine lv_iconst (v := 2) hx hb dX6_knownBy_42 (by decide) ?_
      obtain ⟨v5, hv5, h⟩ := bd1_some h
      refine mm_ld C hP 1 (by decide) rfl hv5 dX6_knownBy_43 ?_
      refine lv_icmp_ge (tgt := 147) hx hb dX6_knownBy_44 rfl (fun c6 => ?_) (fun c6 => ?_)
      · have h := if_some_t h c6
        cases h
        exact kx ls (lv_sub hl [0, 1, 2, 3, 4] rfl)
      · have h := if_some_f h c6
        refine lv_bipush (v := 12) hx hb dX6_knownBy_47 (by decide) ?_
        refine lv_aload_n hx hb dX6_knownBy_49 rfl (lv_at hl 0 rfl) ?_
        refine g_d C hP dX6_knownBy_50 ?_
        refine lv_sipush (v := 134) hx hb dX6_knownBy_53 (by decide) ?_
        refine lv_iconst (v := 3) hx hb dX6_knownBy_56 (by decide) ?_
        refine lv_iload hx hb dX6_knownBy_57 (lv_at hl 5 rfl) ?_
        refine lv_imul hx hb dX6_knownBy_59 ?_
        refine lv_iadd hx hb dX6_knownBy_60 ?_
        obtain ⟨v7, hv7, h⟩ := bd1_some h
        refine mm_ld C hP 1 (by decide) rfl hv7 dX6_knownBy_61 ?_
        refine lv_imul hx hb dX6_knownBy_62 ?_
        refine lv_iload hx hb dX6_knownBy_63 (lv_at hl 5 rfl) ?_
        refine lv_iadd hx hb dX6_knownBy_65 ?_
        refine lv_istore (lv' := [(7, .int ((12 * v7) + x6)), (0, .ref (ad 0)), (1, .int x1), (2, .int x2), (3, .int x3), (5, .int x5), (6, .int x6)]) hx hb dX6_knownBy_66 hl (by decide) rfl (fun ls hl => ?_)
        refine lv_iload hx hb dX6_knownBy_68 (lv_at hl 5 rfl) ?_
        refine lv_if_lt (tgt := 97) hx hb dX6_knownBy_70 rfl (fun c8 => ?_) (fun c8 => ?_)
        · have h := if_some_t h c8
          refine lv_iconst (v := 1) hx hb dX6_knownBy_97 (by decide) ?_
          refine lv_goto (tgt := 102) hx hb dX6_knownBy_98 rfl ?_
          refine lv_istore (lv' := [(8, .int 1), (7, .int ((12 * v7) + x6)), (0, .ref (ad 0)), (1, .int x1), (2, .int x2), (3, .int x3), (5, .int x5), (6, .int x6)]) hx hb dX6_knownBy_102 hl (by decide) rfl (fun ls hl => ?_)
          refine lv_iload hx hb dX6_knownBy_104 (lv_at hl 1 rfl) ?_
          refine lv_iload_n hx hb dX6_knownBy_106 rfl (lv_at hl 5 rfl) ?_
          refine lv_icmp_le (tgt := 137) hx hb dX6_knownBy_107 rfl (fun c9 => ?_) (fun c9 => ?_)
          · have h := if_some_t h c9
            refine lv_iload hx hb dX6_knownBy_137 (lv_at hl 6 rfl) ?_
            refine lv_istore (lv' := [(5, .int x5), (8, .int 1), (7, .int ((12 * v7) + x6)), (0, .ref (ad 0)), (1, .int x1), (2, .int x2), (3, .int x3), (6, .int x6)]) hx hb dX6_knownBy_139 hl (by decide) rfl (fun ls hl => ?_)
            refine lv_iinc (v := x6 + 1) (lv' := [(6, .int (x6 + 1)), (5, .int x5), (8, .int 1), (7, .int ((12 * v7) + x6)), (0, .ref (ad 0)), (1, .int x1), (2, .int x2), (3, .int x3)]) hx hb dX6_knownBy_141 hl (k := 7) rfl rfl (by decide) rfl (fun ls hl => ?_)
            refine lv_goto (tgt := 36) hx hb dX6_knownBy_144 rfl ?_
            exact ih x5 (x6 + 1) _ h _ _ hP hS ls (lv_sub hl [4, 5, 6, 7, 1, 0] rfl) kx
          · have h := if_some_f h c9
            refine lv_aload_n hx hb dX6_knownBy_110 rfl (lv_at hl 2 rfl) ?_
            refine g_d C hP dX6_knownBy_111 ?_
            refine lv_sipush (v := 134) hx hb dX6_knownBy_114 (by decide) ?_
            refine lv_iconst (v := 3) hx hb dX6_knownBy_117 (by decide) ?_
            refine lv_iload hx hb dX6_knownBy_118 (lv_at hl 7 rfl) ?_
            refine lv_imul hx hb dX6_knownBy_120 ?_
            refine lv_iadd hx hb dX6_knownBy_121 ?_
            obtain ⟨v10, hv10, h⟩ := bd1_some h
            refine mm_ld C hP 1 (by decide) rfl hv10 dX6_knownBy_122 ?_
            refine lv_iload_n hx hb dX6_knownBy_123 rfl (lv_at hl 4 rfl) ?_
            refine lv_icmp_gt (tgt := 137) hx hb dX6_knownBy_124 rfl (fun c11 => ?_) (fun c11 => ?_)
            · have h := if_some_t h c11
              refine lv_iload hx hb dX6_knownBy_137 (lv_at hl 6 rfl) ?_
              refine lv_istore (lv' := [(5, .int x5), (8, .int 1), (7, .int ((12 * v7) + x6)), (0, .ref (ad 0)), (1, .int x1), (2, .int x2), (3, .int x3), (6, .int x6)]) hx hb dX6_knownBy_139 hl (by decide) rfl (fun ls hl => ?_)
              refine lv_iinc (v := x6 + 1) (lv' := [(6, .int (x6 + 1)), (5, .int x5), (8, .int 1), (7, .int ((12 * v7) + x6)), (0, .ref (ad 0)), (1, .int x1), (2, .int x2), (3, .int x3)]) hx hb dX6_knownBy_141 hl (k := 7) rfl rfl (by decide) rfl (fun ls hl => ?_)
              refine lv_goto (tgt := 36) hx hb dX6_knownBy_144 rfl ?_
              exact ih x5 (x6 + 1) _ h _ _ hP hS ls (lv_sub hl [4, 5, 6, 7, 1, 0] rfl) kx
            · have h := if_some_f h c11
              refine lv_iload hx hb dX6_knownBy_127 (lv_at hl 0 rfl) ?_
              refine lv_if_eq (tgt := 137) hx hb dX6_knownBy_129 rfl (fun c => absurd c (by decide)) (fun _ => ?_)
              refine lv_iload hx hb dX6_knownBy_132 (lv_at hl 7 rfl) ?_
              refine lv_goto (tgt := 139) hx hb dX6_knownBy_134 rfl ?_
              refine lv_istore (lv' := [(5, .int x6), (8, .int 1), (7, .int ((12 * v7) + x6)), (0, .ref (ad 0)), (1, .int x1), (2, .int x2), (3, .int x3), (6, .int x6)]) hx hb dX6_knownBy_139 hl (by decide) rfl (fun ls hl => ?_)
              refine lv_iinc (v := x6 + 1) (lv' := [(6, .int (x6 + 1)), (5, .int x6), (8, .int 1), (7, .int ((12 * v7) + x6)), (0, .ref (ad 0)), (1, .int x1), (2, .int x2), (3, .int x3)]) hx hb dX6_knownBy_141 hl (k := 7) rfl rfl (by decide) rfl (fun ls hl => ?_)
              refine lv_goto (tgt := 36) hx hb dX6_knownBy_144 rfl ?_
              exact ih x6 (x6 + 1) _ h _ _ hP hS ls (lv_sub hl [4, 5, 6, 7, 1, 0] rfl) kx
        · have h := if_some_f h c8
          refine lv_iload hx hb dX6_knownBy_73 (lv_at hl 0 rfl) ?_
          refine lv_bipush (v := 12) hx hb dX6_knownBy_75 (by decide) ?_
          refine lv_aload_n hx hb dX6_knownBy_77 rfl (lv_at hl 1 rfl) ?_
          refine g_d C hP dX6_knownBy_78 ?_
          refine lv_sipush (v := 134) hx hb dX6_knownBy_81 (by decide) ?_
          refine lv_iconst (v := 3) hx hb dX6_knownBy_84 (by decide) ?_
          refine lv_iload hx hb dX6_knownBy_85 (lv_at hl 5 rfl) ?_
          refine lv_imul hx hb dX6_knownBy_87 ?_
          refine lv_iadd hx hb dX6_knownBy_88 ?_
          obtain ⟨v12, hv12, h⟩ := bd1_some h
          refine mm_ld C hP 1 (by decide) rfl hv12 dX6_knownBy_89 ?_
          refine lv_imul hx hb dX6_knownBy_90 ?_
          refine lv_iload hx hb dX6_knownBy_91 (lv_at hl 5 rfl) ?_
          refine lv_iadd hx hb dX6_knownBy_93 ?_
          refine lv_icmp_ge (tgt := 101) hx hb dX6_knownBy_94 rfl (fun c13 => ?_) (fun c13 => ?_)
          · have h := if_some_t h c13
            refine lv_iconst (v := 0) hx hb dX6_knownBy_101 (by decide) ?_
            refine lv_istore (lv' := [(8, .int 0), (7, .int ((12 * v7) + x6)), (0, .ref (ad 0)), (1, .int x1), (2, .int x2), (3, .int x3), (5, .int x5), (6, .int x6)]) hx hb dX6_knownBy_102 hl (by decide) rfl (fun ls hl => ?_)
            refine lv_iload hx hb dX6_knownBy_104 (lv_at hl 1 rfl) ?_
            refine lv_iload_n hx hb dX6_knownBy_106 rfl (lv_at hl 5 rfl) ?_
            refine lv_icmp_le (tgt := 137) hx hb dX6_knownBy_107 rfl (fun c14 => ?_) (fun c14 => ?_)
            · have h := if_some_t h c14
              refine lv_iload hx hb dX6_knownBy_137 (lv_at hl 6 rfl) ?_
              refine lv_istore (lv' := [(5, .int x5), (8, .int 0), (7, .int ((12 * v7) + x6)), (0, .ref (ad 0)), (1, .int x1), (2, .int x2), (3, .int x3), (6, .int x6)]) hx hb dX6_knownBy_139 hl (by decide) rfl (fun ls hl => ?_)
              refine lv_iinc (v := x6 + 1) (lv' := [(6, .int (x6 + 1)), (5, .int x5), (8, .int 0), (7, .int ((12 * v7) + x6)), (0, .ref (ad 0)), (1, .int x1), (2, .int x2), (3, .int x3)]) hx hb dX6_knownBy_141 hl (k := 7) rfl rfl (by decide) rfl (fun ls hl => ?_)
              refine lv_goto (tgt := 36) hx hb dX6_knownBy_144 rfl ?_
              exact ih x5 (x6 + 1) _ h _ _ hP hS ls (lv_sub hl [4, 5, 6, 7, 1, 0] rfl) kx
            · have h := if_some_f h c14
              refine lv_aload_n hx hb dX6_knownBy_110 rfl (lv_at hl 2 rfl) ?_
              refine g_d C hP dX6_knownBy_111 ?_
              refine lv_sipush (v := 134) hx hb dX6_knownBy_114 (by decide) ?_
              refine lv_iconst (v := 3) hx hb dX6_knownBy_117 (by decide) ?_
              refine lv_iload hx hb dX6_knownBy_118 (lv_at hl 7 rfl) ?_
              refine lv_imul hx hb dX6_knownBy_120 ?_
              refine lv_iadd hx hb dX6_knownBy_121 ?_
              obtain ⟨v15, hv15, h⟩ := bd1_some h
              refine mm_ld C hP 1 (by decide) rfl hv15 dX6_knownBy_122 ?_
              refine lv_iload_n hx hb dX6_knownBy_123 rfl (lv_at hl 4 rfl) ?_
              refine lv_icmp_gt (tgt := 137) hx hb dX6_knownBy_124 rfl (fun c16 => ?_) (fun c16 => ?_)
              · have h := if_some_t h c16
                refine lv_iload hx hb dX6_knownBy_137 (lv_at hl 6 rfl) ?_
                refine lv_istore (lv' := [(5, .int x5), (8, .int 0), (7, .int ((12 * v7) + x6)), (0, .ref (ad 0)), (1, .int x1), (2, .int x2), (3, .int x3), (6, .int x6)]) hx hb dX6_knownBy_139 hl (by decide) rfl (fun ls hl => ?_)
                refine lv_iinc (v := x6 + 1) (lv' := [(6, .int (x6 + 1)), (5, .int x5), (8, .int 0), (7, .int ((12 * v7) + x6)), (0, .ref (ad 0)), (1, .int x1), (2, .int x2), (3, .int x3)]) hx hb dX6_knownBy_141 hl (k := 7) rfl rfl (by decide) rfl (fun ls hl => ?_)
                refine lv_goto (tgt := 36) hx hb dX6_knownBy_144 rfl ?_
                exact ih x5 (x6 + 1) _ h _ _ hP hS ls (lv_sub hl [4, 5, 6, 7, 1, 0] rfl) kx
              · have h := if_some_f h c16
                refine lv_iload hx hb dX6_knownBy_127 (lv_at hl 0 rfl) ?_
                refine lv_if_eq (tgt := 137) hx hb dX6_knownBy_129 rfl (fun _ => ?_) (fun c => absurd c (by decide))
                refine lv_iload hx hb dX6_knownBy_137 (lv_at hl 6 rfl) ?_
                refine lv_istore (lv' := [(5, .int x5), (8, .int 0), (7, .int ((12 * v7) + x6)), (0, .ref (ad 0)), (1, .int x1), (2, .int x2), (3, .int x3), (6, .int x6)]) hx hb dX6_knownBy_139 hl (by decide) rfl (fun ls hl => ?_)
                refine lv_iinc (v := x6 + 1) (lv' := [(6, .int (x6 + 1)), (5, .int x5), (8, .int 0), (7, .int ((12 * v7) + x6)), (0, .ref (ad 0)), (1, .int x1), (2, .int x2), (3, .int x3)]) hx hb dX6_knownBy_141 hl (k := 7) rfl rfl (by decide) rfl (fun ls hl => ?_)
                refine lv_goto (tgt := 36) hx hb dX6_knownBy_144 rfl ?_
                exact ih x5 (x6 + 1) _ h _ _ hP hS ls (lv_sub hl [4, 5, 6, 7, 1, 0] rfl) kx
          · have h := if_some_f h c13
            refine lv_iconst (v := 1) hx hb dX6_knownBy_97 (by decide) ?_
            refine lv_goto (tgt := 102) hx hb dX6_knownBy_98 rfl ?_
            refine lv_istore (lv' := [(8, .int 1), (7, .int ((12 * v7) + x6)), (0, .ref (ad 0)), (1, .int x1), (2, .int x2), (3, .int x3), (5, .int x5), (6, .int x6)]) hx hb dX6_knownBy_102 hl (by decide) rfl (fun ls hl => ?_)
            refine lv_iload hx hb dX6_knownBy_104 (lv_at hl 1 rfl) ?_
            refine lv_iload_n hx hb dX6_knownBy_106 rfl (lv_at hl 5 rfl) ?_
            refine lv_icmp_le (tgt := 137) hx hb dX6_knownBy_107 rfl (fun c17 => ?_) (fun c17 => ?_)
            · have h := if_some_t h c17
              refine lv_iload hx hb dX6_knownBy_137 (lv_at hl 6 rfl) ?_
              refine lv_istore (lv' := [(5, .int x5), (8, .int 1), (7, .int ((12 * v7) + x6)), (0, .ref (ad 0)), (1, .int x1), (2, .int x2), (3, .int x3), (6, .int x6)]) hx hb dX6_knownBy_139 hl (by decide) rfl (fun ls hl => ?_)
              refine lv_iinc (v := x6 + 1) (lv' := [(6, .int (x6 + 1)), (5, .int x5), (8, .int 1), (7, .int ((12 * v7) + x6)), (0, .ref (ad 0)), (1, .int x1), (2, .int x2), (3, .int x3)]) hx hb dX6_knownBy_141 hl (k := 7) rfl rfl (by decide) rfl (fun ls hl => ?_)
              refine lv_goto (tgt := 36) hx hb dX6_knownBy_144 rfl ?_
              exact ih x5 (x6 + 1) _ h _ _ hP hS ls (lv_sub hl [4, 5, 6, 7, 1, 0] rfl) kx
            · have h := if_some_f h c17
              refine lv_aload_n hx hb dX6_knownBy_110 rfl (lv_at hl 2 rfl) ?_
              refine g_d C hP dX6_knownBy_111 ?_
              refine lv_sipush (v := 134) hx hb dX6_knownBy_114 (by decide) ?_
              refine lv_iconst (v := 3) hx hb dX6_knownBy_117 (by decide) ?_
              refine lv_iload hx hb dX6_knownBy_118 (lv_at hl 7 rfl) ?_
              refine lv_imul hx hb dX6_knownBy_120 ?_
              refine lv_iadd hx hb dX6_knownBy_121 ?_
              obtain ⟨v18, hv18, h⟩ := bd1_some h
              refine mm_ld C hP 1 (by decide) rfl hv18 dX6_knownBy_122 ?_
              refine lv_iload_n hx hb dX6_knownBy_123 rfl (lv_at hl 4 rfl) ?_
              refine lv_icmp_gt (tgt := 137) hx hb dX6_knownBy_124 rfl (fun c19 => ?_) (fun c19 => ?_)
              · have h := if_some_t h c19
                refine lv_iload hx hb dX6_knownBy_137 (lv_at hl 6 rfl) ?_
                refine lv_istore (lv' := [(5, .int x5), (8, .int 1), (7, .int ((12 * v7) + x6)), (0, .ref (ad 0)), (1, .int x1), (2, .int x2), (3, .int x3), (6, .int x6)]) hx hb dX6_knownBy_139 hl (by decide) rfl (fun ls hl => ?_)
                refine lv_iinc (v := x6 + 1) (lv' := [(6, .int (x6 + 1)), (5, .int x5), (8, .int 1), (7, .int ((12 * v7) + x6)), (0, .ref (ad 0)), (1, .int x1), (2, .int x2), (3, .int x3)]) hx hb dX6_knownBy_141 hl (k := 7) rfl rfl (by decide) rfl (fun ls hl => ?_)
                refine lv_goto (tgt := 36) hx hb dX6_knownBy_144 rfl ?_
                exact ih x5 (x6 + 1) _ h _ _ hP hS ls (lv_sub hl [4, 5, 6, 7, 1, 0] rfl) kx
              · have h := if_some_f h c19
                refine lv_iload hx hb dX6_knownBy_127 (lv_at hl 0 rfl) ?_
                refine lv_if_eq (tgt := 137) hx hb dX6_knownBy_129 rfl (fun c => absurd c (by decide)) (fun _ => ?_)
                refine lv_iload hx hb dX6_knownBy_132 (lv_at hl 7 rfl) ?_
                refine lv_goto (tgt := 139) hx hb dX6_knownBy_134 rfl ?_
                refine lv_istore (lv' := [(5, .int x6), (8, .int 1), (7, .int ((12 * v7) + x6)), (0, .ref (ad 0)), (1, .int x1), (2, .int x2), (3, .int x3), (6, .int x6)]) hx hb dX6_knownBy_139 hl (by decide) rfl (fun ls hl => ?_)
                refine lv_iinc (v := x6 + 1) (lv' := [(6, .int (x6 + 1)), (5, .int x6), (8, .int 1), (7, .int ((12 * v7) + x6)), (0, .ref (ad 0)), (1, .int x1), (2, .int x2), (3, .int x3)]) hx hb dX6_knownBy_141 hl (k := 7) rfl rfl (by decide) rfl (fun ls hl => ?_)
                refine lv_goto (tgt := 36) hx hb dX6_knownBy_144 rfl ?_
                exact ih x6 (x6 + 1) _ h _ _ hP hS ls (lv_sub hl [4, 5, 6, 7, 1, 0] rfl) kx
  have L25 : ∀ (x1 : Int32), ∀ (x2 : Int32), ∀ (n : Nat) (st : MSt) (x3 : Int32) (x4 : Int32) (st2 : MSt), M_knownBy_L25 N x1 x2 n st x3 x4 = some st2 → ∀ (H : Heap) (locs : List Loc), mW D cI ad st H → va_S (kF 15 ad) s.heap H locs → ∀ ls : Array Slot, lv_has ls 10 [(0, .ref (ad 0)), (1, .int x1), (2, .int x2), (3, .int x3), (4, .int x4)] → (∀ (H : Heap) (locs : List Loc), mW D cI ad st2 H → va_S (kF 15 ad) s.heap H locs → ∀ ls : Array Slot, lv_has ls 10 [(0, .ref (ad 0)), (1, .int x1), (2, .int x2)] → mWV p l e R s m args below meth c D cI ad (some (.int r0)) st' H locs (F0 m 278 ls [])) → mWV p l e R s m args below meth c D cI ad (some (.int r0)) st' H locs (F0 m 25 ls []) := by
    intro x1 x2 n
    induction n with
    | zero =>
      intro st x3 x4 st2 h
      exact non_some h
    | succ n ih =>
      intro st x3 x4 st2 h H locs hP hS ls hl kx
      rw [M_knownBy_L25] at h
      refine lv_iload hx hb dX6_knownBy_25 (lv_at hl 4 rfl) ?_
      refine lv_if_eq (tgt := 278) hx hb dX6_knownBy_27 rfl (fun c4 => ?_) (fun c4 => ?_)
      · have h := if_some_t h c4
        cases h
        exact kx _ _ hP hS ls (lv_sub hl [0, 1, 2] rfl)
      · have h := if_some_f h c4
        refine lv_iconst (v := (-1)) hx hb dX6_knownBy_30 (by decide) ?_
        refine lv_istore (lv' := [(5, .int (-1)), (0, .ref (ad 0)), (1, .int x1), (2, .int x2), (3, .int x3), (4, .int x4)]) hx hb dX6_knownBy_31 hl (by decide) rfl (fun ls hl => ?_)
        refine lv_iconst (v := 0) hx hb dX6_knownBy_33 (by decide) ?_
        refine lv_istore (lv' := [(6, .int 0), (5, .int (-1)), (0, .ref (ad 0)), (1, .int x1), (2, .int x2), (3, .int x3), (4, .int x4)]) hx hb dX6_knownBy_34 hl (by decide) rfl (fun ls hl => ?_)
        obtain ⟨z20, hz31, h⟩ := bd1_some h
        refine L36 st x1 x2 x3 N (-1) 0 _ hz31 _ _ hP hS ls (lv_sub hl [2, 3, 4, 5, 1, 0] rfl) (fun ls hl => ?_)
        refine lv_iload hx hb dX6_knownBy_147 (lv_at hl 4 rfl) ?_
        refine lv_if_lt (tgt := 156) hx hb dX6_knownBy_149 rfl (fun c21 => ?_) (fun c21 => ?_)
        · have h := if_some_t h c21
          refine lv_iconst (v := 0) hx hb dX6_knownBy_156 (by decide) ?_
          refine lv_istore (lv' := [(4, .int 0), (0, .ref (ad 0)), (1, .int x1), (2, .int x2), (3, .int x3), (5, .int z20)]) hx hb dX6_knownBy_157 hl (by decide) rfl (fun ls hl => ?_)
          refine lv_iload hx hb dX6_knownBy_159 (lv_at hl 0 rfl) ?_
          refine lv_if_eq (tgt := 275) hx hb dX6_knownBy_161 rfl (fun _ => ?_) (fun c => absurd c (by decide))
          refine lv_goto (tgt := 25) hx hb dX6_knownBy_275 rfl ?_
          exact ih st x3 0 _ h _ _ hP hS ls (lv_sub hl [1, 2, 3, 4, 0] rfl) kx
        · have h := if_some_f h c21
          refine lv_iconst (v := 1) hx hb dX6_knownBy_152 (by decide) ?_
          refine lv_goto (tgt := 157) hx hb dX6_knownBy_153 rfl ?_
          refine lv_istore (lv' := [(4, .int 1), (0, .ref (ad 0)), (1, .int x1), (2, .int x2), (3, .int x3), (5, .int z20)]) hx hb dX6_knownBy_157 hl (by decide) rfl (fun ls hl => ?_)
          refine lv_iload hx hb dX6_knownBy_159 (lv_at hl 0 rfl) ?_
          refine lv_if_eq (tgt := 275) hx hb dX6_knownBy_161 rfl (fun c => absurd c (by decide)) (fun _ => ?_)
          refine lv_aload_n hx hb dX6_knownBy_164 rfl (lv_at hl 1 rfl) ?_
          refine g_d C hP dX6_knownBy_165 ?_
          refine lv_sipush (v := 134) hx hb dX6_knownBy_168 (by decide) ?_
          refine lv_iconst (v := 3) hx hb dX6_knownBy_171 (by decide) ?_
          refine lv_iload hx hb dX6_knownBy_172 (lv_at hl 5 rfl) ?_
          refine lv_imul hx hb dX6_knownBy_174 ?_
          refine lv_iadd hx hb dX6_knownBy_175 ?_
          obtain ⟨v22, hv22, h⟩ := bd1_some h
          refine mm_ld C hP 1 (by decide) rfl hv22 dX6_knownBy_176 ?_
          refine lv_istore (lv' := [(6, .int v22), (4, .int 1), (0, .ref (ad 0)), (1, .int x1), (2, .int x2), (3, .int x3), (5, .int z20)]) hx hb dX6_knownBy_177 hl (by decide) rfl (fun ls hl => ?_)
          refine lv_aload_n hx hb dX6_knownBy_179 rfl (lv_at hl 2 rfl) ?_
          refine g_d C hP dX6_knownBy_180 ?_
          refine lv_sipush (v := 134) hx hb dX6_knownBy_183 (by decide) ?_
          refine lv_iconst (v := 3) hx hb dX6_knownBy_186 (by decide) ?_
          refine lv_iload hx hb dX6_knownBy_187 (lv_at hl 6 rfl) ?_
          refine lv_imul hx hb dX6_knownBy_189 ?_
          refine lv_iadd hx hb dX6_knownBy_190 ?_
          refine lv_iconst (v := 1) hx hb dX6_knownBy_191 (by decide) ?_
          refine lv_iadd hx hb dX6_knownBy_192 ?_
          obtain ⟨v23, hv23, h⟩ := bd1_some h
          refine mm_ld C hP 1 (by decide) rfl hv23 dX6_knownBy_193 ?_
          refine lv_istore (lv' := [(7, .int v23), (6, .int v22), (4, .int 1), (0, .ref (ad 0)), (1, .int x1), (2, .int x2), (3, .int x3), (5, .int z20)]) hx hb dX6_knownBy_194 hl (by decide) rfl (fun ls hl => ?_)
          refine lv_aload_n hx hb dX6_knownBy_196 rfl (lv_at hl 3 rfl) ?_
          refine g_d C hP dX6_knownBy_197 ?_
          refine lv_sipush (v := 134) hx hb dX6_knownBy_200 (by decide) ?_
          refine lv_iconst (v := 3) hx hb dX6_knownBy_203 (by decide) ?_
          refine lv_iload hx hb dX6_knownBy_204 (lv_at hl 7 rfl) ?_
          refine lv_imul hx hb dX6_knownBy_206 ?_
          refine lv_iadd hx hb dX6_knownBy_207 ?_
          refine lv_iconst (v := 2) hx hb dX6_knownBy_208 (by decide) ?_
          refine lv_iadd hx hb dX6_knownBy_209 ?_
          obtain ⟨v24, hv24, h⟩ := bd1_some h
          refine mm_ld C hP 1 (by decide) rfl hv24 dX6_knownBy_210 ?_
          refine lv_istore (lv' := [(8, .int v24), (7, .int v23), (6, .int v22), (4, .int 1), (0, .ref (ad 0)), (1, .int x1), (2, .int x2), (3, .int x3), (5, .int z20)]) hx hb dX6_knownBy_211 hl (by decide) rfl (fun ls hl => ?_)
          refine lv_aload_n hx hb dX6_knownBy_213 rfl (lv_at hl 4 rfl) ?_
          refine g_heard C hP dX6_knownBy_214 ?_
          refine lv_iload hx hb dX6_knownBy_217 (lv_at hl 1 rfl) ?_
          obtain ⟨v25, hv25, h⟩ := bd1_some h
          refine mm_ld C hP 9 (by decide) rfl hv25 dX6_knownBy_219 ?_
          refine lv_aload_n hx hb dX6_knownBy_220 rfl (lv_at hl 4 rfl) ?_
          refine g_heard C hP dX6_knownBy_221 ?_
          refine lv_iload hx hb dX6_knownBy_224 (lv_at hl 0 rfl) ?_
          obtain ⟨v26, hv26, h⟩ := bd1_some h
          refine mm_ld C hP 9 (by decide) rfl hv26 dX6_knownBy_226 ?_
          refine lv_ior hx hb dX6_knownBy_227 ?_
          refine lv_aload_n hx hb dX6_knownBy_228 rfl (lv_at hl 4 rfl) ?_
          refine lv_iload hx hb dX6_knownBy_229 (lv_at hl 1 rfl) ?_
          refine lv_iload hx hb dX6_knownBy_231 (lv_at hl 2 rfl) ?_
          obtain ⟨v27, hv27, h⟩ := bd1_some h
          refine k_saw C hP hv27 (Nat.le_of_ble_eq_true rfl) hl.1 (Nat.le_of_ble_eq_true rfl) hcs dX6_knownBy_233 ?_
          refine lv_ior hx hb dX6_knownBy_236 ?_
          refine lv_aload_n hx hb dX6_knownBy_237 rfl (lv_at hl 4 rfl) ?_
          refine lv_iload hx hb dX6_knownBy_238 (lv_at hl 0 rfl) ?_
          refine lv_iload hx hb dX6_knownBy_240 (lv_at hl 2 rfl) ?_
          obtain ⟨v28, hv28, h⟩ := bd1_some h
          refine k_saw C hP hv28 (Nat.le_of_ble_eq_true rfl) hl.1 (Nat.le_of_ble_eq_true rfl) hcs dX6_knownBy_242 ?_
          refine lv_ior hx hb dX6_knownBy_245 ?_
          refine lv_istore (lv' := [(9, .int (((v25 ||| v26) ||| v27) ||| v28)), (8, .int v24), (7, .int v23), (6, .int v22), (4, .int 1), (0, .ref (ad 0)), (1, .int x1), (2, .int x2), (3, .int x3), (5, .int z20)]) hx hb dX6_knownBy_246 hl (by decide) rfl (fun ls hl => ?_)
          refine lv_aload_n hx hb dX6_knownBy_248 rfl (lv_at hl 5 rfl) ?_
          refine g_heard C hP dX6_knownBy_249 ?_
          refine lv_iload hx hb dX6_knownBy_252 (lv_at hl 2 rfl) ?_
          refine lv_iload hx hb dX6_knownBy_254 (lv_at hl 0 rfl) ?_
          obtain ⟨b29, hb29, h⟩ := bd1_some h
          refine mm_st C hP hS 9 (by decide) rfl hb29 dX6_knownBy_256 (fun H locs hP hS => ?_)
          refine lv_aload_n hx hb dX6_knownBy_257 rfl (lv_at hl 5 rfl) ?_
          refine g_heard C hP dX6_knownBy_258 ?_
          refine lv_iload hx hb dX6_knownBy_261 (lv_at hl 1 rfl) ?_
          refine lv_iload hx hb dX6_knownBy_263 (lv_at hl 0 rfl) ?_
          obtain ⟨b30, hb30, h⟩ := bd1_some h
          refine mm_st C hP hS 9 (by decide) rfl hb30 dX6_knownBy_265 (fun H locs hP hS => ?_)
          refine lv_bipush (v := 12) hx hb dX6_knownBy_266 (by decide) ?_
          refine lv_iload hx hb dX6_knownBy_268 (lv_at hl 3 rfl) ?_
          refine lv_imul hx hb dX6_knownBy_270 ?_
          refine lv_iload hx hb dX6_knownBy_271 (lv_at hl 9 rfl) ?_
          refine lv_iadd hx hb dX6_knownBy_273 ?_
          refine lv_istore_n (lv' := [(3, .int ((12 * v22) + z20)), (9, .int (((v25 ||| v26) ||| v27) ||| v28)), (8, .int v24), (7, .int v23), (6, .int v22), (4, .int 1), (0, .ref (ad 0)), (1, .int x1), (2, .int x2), (5, .int z20)]) hx hb dX6_knownBy_274 rfl hl (by decide) rfl (fun ls hl => ?_)
          refine lv_goto (tgt := 25) hx hb dX6_knownBy_275 rfl ?_
          exact ih (sa (sa st 9 b29) 9 b30) ((12 * v22) + z20) 1 _ h _ _ hP hS ls (lv_sub hl [6, 7, 8, 0, 5] rfl) kx
  rw [M_knownBy] at h
  refine lv_iconst (v := 0) hx hb dX6_knownBy_0 (by decide) ?_
  refine lv_istore_n (lv' := [(3, .int 0), (0, .ref (ad 0)), (1, .int x1), (2, .int x2)]) hx hb dX6_knownBy_1 rfl hl (by decide) rfl (fun ls hl => ?_)
  obtain ⟨st3, hz36, h⟩ := bd1_some h
  refine L2 x1 x2 N _ 0 _ hz36 _ _ hP hS ls (lv_sub hl [1, 2, 3, 0] rfl) (fun H locs hP hS ls hl => ?_)
  refine lv_iconst (v := (-1)) hx hb dX6_knownBy_20 (by decide) ?_
  refine lv_istore_n (lv' := [(3, .int (-1)), (0, .ref (ad 0)), (1, .int x1), (2, .int x2)]) hx hb dX6_knownBy_21 rfl hl (by decide) rfl (fun ls hl => ?_)
  refine lv_iconst (v := 1) hx hb dX6_knownBy_22 (by decide) ?_
  refine lv_istore (lv' := [(4, .int 1), (3, .int (-1)), (0, .ref (ad 0)), (1, .int x1), (2, .int x2)]) hx hb dX6_knownBy_23 hl (by decide) rfl (fun ls hl => ?_)
  obtain ⟨st32, hz35, h⟩ := bd1_some h
  refine L25 x1 x2 N _ (-1) 1 _ hz35 _ _ hP hS ls (lv_sub hl [2, 3, 4, 1, 0] rfl) (fun H locs hP hS ls hl => ?_)
  refine lv_aload_n hx hb dX6_knownBy_278 rfl (lv_at hl 0 rfl) ?_
  refine g_heard C hP dX6_knownBy_279 ?_
  refine lv_iload_n hx hb dX6_knownBy_282 rfl (lv_at hl 1 rfl) ?_
  obtain ⟨v33, hv33, h⟩ := bd1_some h
  refine mm_ld C hP 9 (by decide) rfl hv33 dX6_knownBy_283 ?_
  refine lv_aload_n hx hb dX6_knownBy_284 rfl (lv_at hl 0 rfl) ?_
  refine lv_iload_n hx hb dX6_knownBy_285 rfl (lv_at hl 1 rfl) ?_
  refine lv_iload_n hx hb dX6_knownBy_286 rfl (lv_at hl 2 rfl) ?_
  obtain ⟨v34, hv34, h⟩ := bd1_some h
  refine k_saw C hP hv34 (Nat.le_of_ble_eq_true rfl) hl.1 (Nat.le_of_ble_eq_true rfl) hcs dX6_knownBy_287 ?_
  refine lv_ior hx hb dX6_knownBy_290 ?_
  exact mm_viret hx hb hr hlk h hP hS dX6_knownBy_291
theorem q1915 : (Jvm.Cond.methodLink "ChapterLoanModel" (282 : Nat) ({ cls := "ChapterLoanModel", name := "knownBy", desc := "(II)I" } : Jvm.MethodName)) ∈ lw_all := lw_g (lw_at lw_m8 151 rfl) rfl
theorem q1918 : (Jvm.Cond.code ({ cls := "ChapterLoanModel", name := "knownBy", desc := "(II)I" } : Jvm.MethodName) prog_30_method_78_code (10 : Nat) (Option.some Jvm.ClassFile.FieldType.int)) ∈ lw_all := lw_g (lw_at lw_m8 154 rfl) rfl
theorem q1917 : (Jvm.Cond.instanceMethod ({ cls := "ChapterLoanModel", name := "knownBy", desc := "(II)I" } : Jvm.MethodName)) ∈ lw_all := lw_g (lw_at lw_m8 153 rfl) rfl
theorem k_knownBy {N : Nat} {a0 : Int32} {a1 : Int32} {v : Int32} {st' : MSt} (C : mC p R d s m args c cc nL D cI ad) (hP : mW D cI ad st H) (hS : va_S (kF 15 ad) H0 H locs) (h : M_knownBy N st a0 a1 = some (v, st')) (hd : 2 + 1 ≤ d) (hsz : ls.size = nL) (hW : (rest.map fun v => v.category).sum ≤ 8) (hcs : cells ≤ R.cells ∧ slots ≤ R.slots) (hdg : decode cc pc = .ok (.invokevirtual 282, 3)) (kk : ∀ (H1 : Heap) (locs1 : List Loc), mW D cI ad st' H1 → va_S (kF 15 ad) H0 H1 locs1 → W p l e R s m args below meth c H1 locs1 cells slots Q (F0 m (pc + 3) ls (.int v :: rest))) : W p l e R s m args below meth c H locs cells slots Q (F0 m pc ls (.int a1 :: .int a0 :: .ref (ad 0) :: rest)) :=
  mm_cV (As := [.int a0, .int a1]) C hP hS (w_knownBy C.2.2.2.2.2.2.1 h) (cwV 2 C.2.2.2.2.1 (lw_V q1915 q1917 qs75 q94 q1918) rfl rfl rfl (by decide +kernel) (mr_ C.2.2.2.2.2.2.2 hd (by decide))) rfl hsz rfl hW hdg hcs kk
abbrev cX6_knows : ByteArray := prog_30_method_79_code
def yX6_knows : MethodName := ⟨RX6, "knows", "(II)I"⟩
theorem dX6_knows_0 : decode cX6_knows 0 = .ok (.iload_n 1, 1) := by decide +kernel
theorem dX6_knows_1 : decode cX6_knows 1 = .ok (.i2l, 1) := by decide +kernel
theorem dX6_knows_2 : decode cX6_knows 2 = .ok (.lconst 0, 1) := by decide +kernel
theorem dX6_knows_3 : decode cX6_knows 3 = .ok (.ldc2_w 268, 3) := by decide +kernel
theorem dX6_knows_6 : decode cX6_knows 6 = .ok (.invokestatic 57, 3) := by decide +kernel
theorem dX6_knows_9 : decode cX6_knows 9 = .ok (.ifCond .eq 24, 3) := by decide +kernel
theorem dX6_knows_12 : decode cX6_knows 12 = .ok (.iload_n 2, 1) := by decide +kernel
theorem dX6_knows_13 : decode cX6_knows 13 = .ok (.i2l, 1) := by decide +kernel
theorem dX6_knows_14 : decode cX6_knows 14 = .ok (.lconst 0, 1) := by decide +kernel
theorem dX6_knows_15 : decode cX6_knows 15 = .ok (.ldc2_w 208, 3) := by decide +kernel
theorem dX6_knows_18 : decode cX6_knows 18 = .ok (.invokestatic 57, 3) := by decide +kernel
theorem dX6_knows_21 : decode cX6_knows 21 = .ok (.ifCond .eq 12, 3) := by decide +kernel
theorem dX6_knows_24 : decode cX6_knows 24 = .ok (.aload_n 0, 1) := by decide +kernel
theorem dX6_knows_25 : decode cX6_knows 25 = .ok (.iload_n 1, 1) := by decide +kernel
theorem dX6_knows_26 : decode cX6_knows 26 = .ok (.iload_n 2, 1) := by decide +kernel
theorem dX6_knows_27 : decode cX6_knows 27 = .ok (.invokevirtual 282, 3) := by decide +kernel
theorem dX6_knows_30 : decode cX6_knows 30 = .ok (.goto 8, 3) := by decide +kernel
theorem dX6_knows_33 : decode cX6_knows 33 = .ok (.aload_n 0, 1) := by decide +kernel
theorem dX6_knows_34 : decode cX6_knows 34 = .ok (.iconst 1, 1) := by decide +kernel
theorem dX6_knows_35 : decode cX6_knows 35 = .ok (.invokevirtual 119, 3) := by decide +kernel
theorem dX6_knows_38 : decode cX6_knows 38 = .ok (.ireturn, 1) := by decide +kernel
theorem w_knows {l : Launch} {D : va_G} {cI : ClassId} {ad : Nat → Nat} (hI : kInj 15 ad) {st st' : MSt} {N : Nat} {x1 : Int32} {x2 : Int32} {r0 : Int32} (h : M_knows  N st x1 x2 = some (r0, st')) : mV l yX6_knows cX6_knows 3 (some .int) 3 D cI ad st [.int x1, .int x2] (some (.int r0)) st' := by
  refine mm_ofV hI (by decide) rfl (Nat.le_of_ble_eq_true rfl) (fun p e s m below meth c R args ls C hr hlk hP hS hl hcs => ?_)
  have hx := C.1
  have hb := C.2.1
  have hown := C.2.2.2.1
  have hl : lv_has ls 3 [(0, .ref (ad 0)), (1, .int x1), (2, .int x2)] := hl
  have hP : mW D cI ad st s.heap := hP
  rw [M_knows] at h
  refine lv_iload_n hx hb dX6_knows_0 rfl (lv_at hl 1 rfl) ?_
  refine lv_i2l (v := x1.toInt64) hx hb dX6_knows_1 rfl ?_
  refine lv_lconst (v := 0) hx hb dX6_knows_2 (by decide) ?_
  refine lv_ldc2 hx hb hown (C.2.2.2.2.1 _ q1890) dX6_knows_3 ?_
  obtain ⟨v1, hv1, h⟩ := bd1_some h
  refine k_in hx hb C.2.2.1 hown C.2.2.2.2.1 C.2.2.2.2.2.2.2 hv1 (Nat.le_of_ble_eq_true rfl) hl.1 (Nat.le_of_ble_eq_true rfl) hcs dX6_knows_6 ?_
  refine lv_if_eq (tgt := 33) hx hb dX6_knows_9 rfl (fun c2 => ?_) (fun c2 => ?_)
  · have h := if_some_t h c2
    refine lv_aload_n hx hb dX6_knows_33 rfl (lv_at hl 0 rfl) ?_
    refine lv_iconst (v := 1) hx hb dX6_knows_34 (by decide) ?_
    obtain ⟨v3, st4, hv3, h⟩ := bd2_some h
    refine k_finds C hP hS hv3 (Nat.le_of_ble_eq_true rfl) hl.1 (Nat.le_of_ble_eq_true rfl) hcs dX6_knows_35 (fun H locs hP hS => ?_)
    exact mm_viret hx hb hr hlk h hP hS dX6_knows_38
  · have h := if_some_f h c2
    refine lv_iload_n hx hb dX6_knows_12 rfl (lv_at hl 2 rfl) ?_
    refine lv_i2l (v := x2.toInt64) hx hb dX6_knows_13 rfl ?_
    refine lv_lconst (v := 0) hx hb dX6_knows_14 (by decide) ?_
    refine lv_ldc2 hx hb hown (C.2.2.2.2.1 _ q1780) dX6_knows_15 ?_
    obtain ⟨v5, hv5, h⟩ := bd1_some h
    refine k_in hx hb C.2.2.1 hown C.2.2.2.2.1 C.2.2.2.2.2.2.2 hv5 (Nat.le_of_ble_eq_true rfl) hl.1 (Nat.le_of_ble_eq_true rfl) hcs dX6_knows_18 ?_
    refine lv_if_eq (tgt := 33) hx hb dX6_knows_21 rfl (fun c6 => ?_) (fun c6 => ?_)
    · have h := if_some_t h c6
      refine lv_aload_n hx hb dX6_knows_33 rfl (lv_at hl 0 rfl) ?_
      refine lv_iconst (v := 1) hx hb dX6_knows_34 (by decide) ?_
      obtain ⟨v7, st8, hv7, h⟩ := bd2_some h
      refine k_finds C hP hS hv7 (Nat.le_of_ble_eq_true rfl) hl.1 (Nat.le_of_ble_eq_true rfl) hcs dX6_knows_35 (fun H locs hP hS => ?_)
      exact mm_viret hx hb hr hlk h hP hS dX6_knows_38
    · have h := if_some_f h c6
      refine lv_aload_n hx hb dX6_knows_24 rfl (lv_at hl 0 rfl) ?_
      refine lv_iload_n hx hb dX6_knows_25 rfl (lv_at hl 1 rfl) ?_
      refine lv_iload_n hx hb dX6_knows_26 rfl (lv_at hl 2 rfl) ?_
      obtain ⟨v9, st10, hv9, h⟩ := bd2_some h
      refine k_knownBy C hP hS hv9 (Nat.le_of_ble_eq_true rfl) hl.1 (Nat.le_of_ble_eq_true rfl) hcs dX6_knows_27 (fun H locs hP hS => ?_)
      refine lv_goto (tgt := 38) hx hb dX6_knows_30 rfl ?_
      exact mm_viret hx hb hr hlk h hP hS dX6_knows_38
abbrev cX6_common : ByteArray := prog_30_method_80_code
def yX6_common : MethodName := ⟨RX6, "common", "(II)I"⟩
theorem dX6_common_0 : decode cX6_common 0 = .ok (.iload_n 1, 1) := by decide +kernel
theorem dX6_common_1 : decode cX6_common 1 = .ok (.i2l, 1) := by decide +kernel
theorem dX6_common_2 : decode cX6_common 2 = .ok (.lconst 1, 1) := by decide +kernel
theorem dX6_common_3 : decode cX6_common 3 = .ok (.ldc2_w 135, 3) := by decide +kernel
theorem dX6_common_6 : decode cX6_common 6 = .ok (.invokestatic 57, 3) := by decide +kernel
theorem dX6_common_9 : decode cX6_common 9 = .ok (.ifCond .eq 15, 3) := by decide +kernel
theorem dX6_common_12 : decode cX6_common 12 = .ok (.iload_n 2, 1) := by decide +kernel
theorem dX6_common_13 : decode cX6_common 13 = .ok (.i2l, 1) := by decide +kernel
theorem dX6_common_14 : decode cX6_common 14 = .ok (.lconst 0, 1) := by decide +kernel
theorem dX6_common_15 : decode cX6_common 15 = .ok (.ldc2_w 208, 3) := by decide +kernel
theorem dX6_common_18 : decode cX6_common 18 = .ok (.invokestatic 57, 3) := by decide +kernel
theorem dX6_common_21 : decode cX6_common 21 = .ok (.ifCond .ne 9, 3) := by decide +kernel
theorem dX6_common_24 : decode cX6_common 24 = .ok (.aload_n 0, 1) := by decide +kernel
theorem dX6_common_25 : decode cX6_common 25 = .ok (.iconst 1, 1) := by decide +kernel
theorem dX6_common_26 : decode cX6_common 26 = .ok (.invokevirtual 119, 3) := by decide +kernel
theorem dX6_common_29 : decode cX6_common 29 = .ok (.ireturn, 1) := by decide +kernel
theorem dX6_common_30 : decode cX6_common 30 = .ok (.sipush 255, 3) := by decide +kernel
theorem dX6_common_33 : decode cX6_common 33 = .ok (.istore_n 3, 1) := by decide +kernel
theorem dX6_common_34 : decode cX6_common 34 = .ok (.iconst 0, 1) := by decide +kernel
theorem dX6_common_35 : decode cX6_common 35 = .ok (.istore 4, 2) := by decide +kernel
theorem dX6_common_37 : decode cX6_common 37 = .ok (.iload 4, 2) := by decide +kernel
theorem dX6_common_39 : decode cX6_common 39 = .ok (.iconst 5, 1) := by decide +kernel
theorem dX6_common_40 : decode cX6_common 40 = .ok (.if_icmp .ge 35, 3) := by decide +kernel
theorem dX6_common_43 : decode cX6_common 43 = .ok (.iload_n 3, 1) := by decide +kernel
theorem dX6_common_44 : decode cX6_common 44 = .ok (.iload_n 1, 1) := by decide +kernel
theorem dX6_common_45 : decode cX6_common 45 = .ok (.iload 4, 2) := by decide +kernel
theorem dX6_common_47 : decode cX6_common 47 = .ok (.ishr, 1) := by decide +kernel
theorem dX6_common_48 : decode cX6_common 48 = .ok (.iconst 1, 1) := by decide +kernel
theorem dX6_common_49 : decode cX6_common 49 = .ok (.iand, 1) := by decide +kernel
theorem dX6_common_50 : decode cX6_common 50 = .ok (.iconst 1, 1) := by decide +kernel
theorem dX6_common_51 : decode cX6_common 51 = .ok (.if_icmp .ne 13, 3) := by decide +kernel
theorem dX6_common_54 : decode cX6_common 54 = .ok (.aload_n 0, 1) := by decide +kernel
theorem dX6_common_55 : decode cX6_common 55 = .ok (.iload 4, 2) := by decide +kernel
theorem dX6_common_57 : decode cX6_common 57 = .ok (.iload_n 2, 1) := by decide +kernel
theorem dX6_common_58 : decode cX6_common 58 = .ok (.invokevirtual 282, 3) := by decide +kernel
theorem dX6_common_61 : decode cX6_common 61 = .ok (.goto 6, 3) := by decide +kernel
theorem dX6_common_64 : decode cX6_common 64 = .ok (.sipush 255, 3) := by decide +kernel
theorem dX6_common_67 : decode cX6_common 67 = .ok (.iand, 1) := by decide +kernel
theorem dX6_common_68 : decode cX6_common 68 = .ok (.istore_n 3, 1) := by decide +kernel
theorem dX6_common_69 : decode cX6_common 69 = .ok (.iinc 4 1, 3) := by decide +kernel
theorem dX6_common_72 : decode cX6_common 72 = .ok (.goto (-35), 3) := by decide +kernel
theorem dX6_common_75 : decode cX6_common 75 = .ok (.iload_n 3, 1) := by decide +kernel
theorem dX6_common_76 : decode cX6_common 76 = .ok (.ireturn, 1) := by decide +kernel
theorem w_common {l : Launch} {D : va_G} {cI : ClassId} {ad : Nat → Nat} (hI : kInj 15 ad) {st st' : MSt} {N : Nat} {x1 : Int32} {x2 : Int32} {r0 : Int32} (h : M_common  N st x1 x2 = some (r0, st')) : mV l yX6_common cX6_common 5 (some .int) 3 D cI ad st [.int x1, .int x2] (some (.int r0)) st' := by
  refine mm_ofV hI (by decide) rfl (Nat.le_of_ble_eq_true rfl) (fun p e s m below meth c R args ls C hr hlk hP hS hl hcs => ?_)
  have hx := C.1
  have hb := C.2.1
  have hown := C.2.2.2.1
  have hl : lv_has ls 5 [(0, .ref (ad 0)), (1, .int x1), (2, .int x2)] := hl
  have hP : mW D cI ad st s.heap := hP
  have L37 : ∀ (x1 : Int32), ∀ (x2 : Int32), ∀ (n : Nat) (st : MSt) (x3 : Int32) (x4 : Int32) (st2 : MSt) (z3 : Int32), M_common_L37 N x1 x2 n st x3 x4 = some (st2, z3) → ∀ (H : Heap) (locs : List Loc), mW D cI ad st H → va_S (kF 15 ad) s.heap H locs → ∀ ls : Array Slot, lv_has ls 5 [(0, .ref (ad 0)), (1, .int x1), (2, .int x2), (3, .int x3), (4, .int x4)] → (∀ (H : Heap) (locs : List Loc), mW D cI ad st2 H → va_S (kF 15 ad) s.heap H locs → ∀ ls : Array Slot, lv_has ls 5 [(3, .int z3)] → mWV p l e R s m args below meth c D cI ad (some (.int r0)) st' H locs (F0 m 75 ls [])) → mWV p l e R s m args below meth c D cI ad (some (.int r0)) st' H locs (F0 m 37 ls []) := by
    intro x1 x2 n
    induction n with
    | zero =>
      intro st x3 x4 st2 z3 h
      exact non_some h
    | succ n ih =>
      intro st x3 x4 st2 z3 h H locs hP hS ls hl kx
      rw [M_common_L37] at h
      refine lv_iload hx hb dX6_common_37 (lv_at hl 4 rfl) ?_
      refine lv_iconst (v := 5) hx hb dX6_common_39 (by decide) ?_
      refine lv_icmp_ge (tgt := 75) hx hb dX6_common_40 rfl (fun c7 => ?_) (fun c7 => ?_)
      · have h := if_some_t h c7
        cases h
        exact kx _ _ hP hS ls (lv_sub hl [3] rfl)
      · have h := if_some_f h c7
        refine lv_iload_n hx hb dX6_common_43 rfl (lv_at hl 3 rfl) ?_
        refine lv_iload_n hx hb dX6_common_44 rfl (lv_at hl 1 rfl) ?_
        refine lv_iload hx hb dX6_common_45 (lv_at hl 4 rfl) ?_
        refine lv_ishr hx hb dX6_common_47 ?_
        refine lv_iconst (v := 1) hx hb dX6_common_48 (by decide) ?_
        refine lv_iand hx hb dX6_common_49 ?_
        refine lv_iconst (v := 1) hx hb dX6_common_50 (by decide) ?_
        refine lv_icmp_ne (tgt := 64) hx hb dX6_common_51 rfl (fun c8 => ?_) (fun c8 => ?_)
        · have h := if_some_f h c8
          refine lv_sipush (v := 255) hx hb dX6_common_64 (by decide) ?_
          refine lv_iand hx hb dX6_common_67 ?_
          refine lv_istore_n (lv' := [(3, .int (x3 &&& 255)), (0, .ref (ad 0)), (1, .int x1), (2, .int x2), (4, .int x4)]) hx hb dX6_common_68 rfl hl (by decide) rfl (fun ls hl => ?_)
          refine lv_iinc (v := x4 + 1) (lv' := [(4, .int (x4 + 1)), (3, .int (x3 &&& 255)), (0, .ref (ad 0)), (1, .int x1), (2, .int x2)]) hx hb dX6_common_69 hl (k := 4) rfl rfl (by decide) rfl (fun ls hl => ?_)
          refine lv_goto (tgt := 37) hx hb dX6_common_72 rfl ?_
          exact ih st (x3 &&& 255) (x4 + 1) _ _ h _ _ hP hS ls (lv_sub hl [2, 3, 4, 1, 0] rfl) kx
        · have h := if_some_t h c8
          refine lv_aload_n hx hb dX6_common_54 rfl (lv_at hl 0 rfl) ?_
          refine lv_iload hx hb dX6_common_55 (lv_at hl 4 rfl) ?_
          refine lv_iload_n hx hb dX6_common_57 rfl (lv_at hl 2 rfl) ?_
          obtain ⟨v9, st10, hv9, h⟩ := bd2_some h
          refine k_knownBy C hP hS hv9 (Nat.le_of_ble_eq_true rfl) hl.1 (Nat.le_of_ble_eq_true rfl) hcs dX6_common_58 (fun H locs hP hS => ?_)
          refine lv_goto (tgt := 67) hx hb dX6_common_61 rfl ?_
          refine lv_iand hx hb dX6_common_67 ?_
          refine lv_istore_n (lv' := [(3, .int (x3 &&& v9)), (0, .ref (ad 0)), (1, .int x1), (2, .int x2), (4, .int x4)]) hx hb dX6_common_68 rfl hl (by decide) rfl (fun ls hl => ?_)
          refine lv_iinc (v := x4 + 1) (lv' := [(4, .int (x4 + 1)), (3, .int (x3 &&& v9)), (0, .ref (ad 0)), (1, .int x1), (2, .int x2)]) hx hb dX6_common_69 hl (k := 4) rfl rfl (by decide) rfl (fun ls hl => ?_)
          refine lv_goto (tgt := 37) hx hb dX6_common_72 rfl ?_
          exact ih st10 (x3 &&& v9) (x4 + 1) _ _ h _ _ hP hS ls (lv_sub hl [2, 3, 4, 1, 0] rfl) kx
  rw [M_common] at h
  refine lv_iload_n hx hb dX6_common_0 rfl (lv_at hl 1 rfl) ?_
  refine lv_i2l (v := x1.toInt64) hx hb dX6_common_1 rfl ?_
  refine lv_lconst (v := 1) hx hb dX6_common_2 (by decide) ?_
  refine lv_ldc2 hx hb hown (C.2.2.2.2.1 _ q1676) dX6_common_3 ?_
  obtain ⟨v1, hv1, h⟩ := bd1_some h
  refine k_in hx hb C.2.2.1 hown C.2.2.2.2.1 C.2.2.2.2.2.2.2 hv1 (Nat.le_of_ble_eq_true rfl) hl.1 (Nat.le_of_ble_eq_true rfl) hcs dX6_common_6 ?_
  refine lv_if_eq (tgt := 24) hx hb dX6_common_9 rfl (fun c2 => ?_) (fun c2 => ?_)
  · have h := if_some_t h c2
    refine lv_aload_n hx hb dX6_common_24 rfl (lv_at hl 0 rfl) ?_
    refine lv_iconst (v := 1) hx hb dX6_common_25 (by decide) ?_
    obtain ⟨v3, st4, hv3, h⟩ := bd2_some h
    refine k_finds C hP hS hv3 (Nat.le_of_ble_eq_true rfl) hl.1 (Nat.le_of_ble_eq_true rfl) hcs dX6_common_26 (fun H locs hP hS => ?_)
    exact mm_viret hx hb hr hlk h hP hS dX6_common_29
  · have h := if_some_f h c2
    refine lv_iload_n hx hb dX6_common_12 rfl (lv_at hl 2 rfl) ?_
    refine lv_i2l (v := x2.toInt64) hx hb dX6_common_13 rfl ?_
    refine lv_lconst (v := 0) hx hb dX6_common_14 (by decide) ?_
    refine lv_ldc2 hx hb hown (C.2.2.2.2.1 _ q1780) dX6_common_15 ?_
    obtain ⟨v5, hv5, h⟩ := bd1_some h
    refine k_in hx hb C.2.2.1 hown C.2.2.2.2.1 C.2.2.2.2.2.2.2 hv5 (Nat.le_of_ble_eq_true rfl) hl.1 (Nat.le_of_ble_eq_true rfl) hcs dX6_common_18 ?_
    refine lv_if_ne (tgt := 30) hx hb dX6_common_21 rfl (fun c6 => ?_) (fun c6 => ?_)
    · have h := if_some_f h c6
      refine lv_sipush (v := 255) hx hb dX6_common_30 (by decide) ?_
      refine lv_istore_n (lv' := [(3, .int 255), (0, .ref (ad 0)), (1, .int x1), (2, .int x2)]) hx hb dX6_common_33 rfl hl (by decide) rfl (fun ls hl => ?_)
      refine lv_iconst (v := 0) hx hb dX6_common_34 (by decide) ?_
      refine lv_istore (lv' := [(4, .int 0), (3, .int 255), (0, .ref (ad 0)), (1, .int x1), (2, .int x2)]) hx hb dX6_common_35 hl (by decide) rfl (fun ls hl => ?_)
      obtain ⟨st11, z12, hz13, h⟩ := bd2_some h
      refine L37 x1 x2 N _ 255 0 _ _ hz13 _ _ hP hS ls (lv_sub hl [2, 3, 4, 1, 0] rfl) (fun H locs hP hS ls hl => ?_)
      refine lv_iload_n hx hb dX6_common_75 rfl (lv_at hl 0 rfl) ?_
      exact mm_viret hx hb hr hlk h hP hS dX6_common_76
    · have h := if_some_t h c6
      refine lv_aload_n hx hb dX6_common_24 rfl (lv_at hl 0 rfl) ?_
      refine lv_iconst (v := 1) hx hb dX6_common_25 (by decide) ?_
      obtain ⟨v14, st15, hv14, h⟩ := bd2_some h
      refine k_finds C hP hS hv14 (Nat.le_of_ble_eq_true rfl) hl.1 (Nat.le_of_ble_eq_true rfl) hcs dX6_common_26 (fun H locs hP hS => ?_)
      exact mm_viret hx hb hr hlk h hP hS dX6_common_29
abbrev cX6_since : ByteArray := prog_30_method_81_code
def yX6_since : MethodName := ⟨RX6, "since", "(II)I"⟩
theorem dX6_since_0 : decode cX6_since 0 = .ok (.iload_n 1, 1) := by decide +kernel
theorem dX6_since_1 : decode cX6_since 1 = .ok (.i2l, 1) := by decide +kernel
theorem dX6_since_2 : decode cX6_since 2 = .ok (.lconst 0, 1) := by decide +kernel
theorem dX6_since_3 : decode cX6_since 3 = .ok (.ldc2_w 268, 3) := by decide +kernel
theorem dX6_since_6 : decode cX6_since 6 = .ok (.invokestatic 57, 3) := by decide +kernel
theorem dX6_since_9 : decode cX6_since 9 = .ok (.ifCond .eq 11, 3) := by decide +kernel
theorem dX6_since_12 : decode cX6_since 12 = .ok (.aload_n 0, 1) := by decide +kernel
theorem dX6_since_13 : decode cX6_since 13 = .ok (.iload_n 2, 1) := by decide +kernel
theorem dX6_since_14 : decode cX6_since 14 = .ok (.invokevirtual 141, 3) := by decide +kernel
theorem dX6_since_17 : decode cX6_since 17 = .ok (.ifCond .ne 9, 3) := by decide +kernel
theorem dX6_since_20 : decode cX6_since 20 = .ok (.aload_n 0, 1) := by decide +kernel
theorem dX6_since_21 : decode cX6_since 21 = .ok (.iconst 1, 1) := by decide +kernel
theorem dX6_since_22 : decode cX6_since 22 = .ok (.invokevirtual 119, 3) := by decide +kernel
theorem dX6_since_25 : decode cX6_since 25 = .ok (.ireturn, 1) := by decide +kernel
theorem dX6_since_26 : decode cX6_since 26 = .ok (.iconst 0, 1) := by decide +kernel
theorem dX6_since_27 : decode cX6_since 27 = .ok (.istore_n 3, 1) := by decide +kernel
theorem dX6_since_28 : decode cX6_since 28 = .ok (.iload_n 3, 1) := by decide +kernel
theorem dX6_since_29 : decode cX6_since 29 = .ok (.sipush 999, 3) := by decide +kernel
theorem dX6_since_32 : decode cX6_since 32 = .ok (.if_icmp .gt 25, 3) := by decide +kernel
theorem dX6_since_35 : decode cX6_since 35 = .ok (.aload_n 0, 1) := by decide +kernel
theorem dX6_since_36 : decode cX6_since 36 = .ok (.iload_n 1, 1) := by decide +kernel
theorem dX6_since_37 : decode cX6_since 37 = .ok (.iload_n 3, 1) := by decide +kernel
theorem dX6_since_38 : decode cX6_since 38 = .ok (.invokevirtual 282, 3) := by decide +kernel
theorem dX6_since_41 : decode cX6_since 41 = .ok (.iload_n 2, 1) := by decide +kernel
theorem dX6_since_42 : decode cX6_since 42 = .ok (.ishr, 1) := by decide +kernel
theorem dX6_since_43 : decode cX6_since 43 = .ok (.iconst 1, 1) := by decide +kernel
theorem dX6_since_44 : decode cX6_since 44 = .ok (.iand, 1) := by decide +kernel
theorem dX6_since_45 : decode cX6_since 45 = .ok (.iconst 1, 1) := by decide +kernel
theorem dX6_since_46 : decode cX6_since 46 = .ok (.if_icmp .ne 5, 3) := by decide +kernel
theorem dX6_since_49 : decode cX6_since 49 = .ok (.iload_n 3, 1) := by decide +kernel
theorem dX6_since_50 : decode cX6_since 50 = .ok (.ireturn, 1) := by decide +kernel
theorem dX6_since_51 : decode cX6_since 51 = .ok (.iinc 3 1, 3) := by decide +kernel
theorem dX6_since_54 : decode cX6_since 54 = .ok (.goto (-26), 3) := by decide +kernel
theorem dX6_since_57 : decode cX6_since 57 = .ok (.aload_n 0, 1) := by decide +kernel
theorem dX6_since_58 : decode cX6_since 58 = .ok (.iconst 2, 1) := by decide +kernel
theorem dX6_since_59 : decode cX6_since 59 = .ok (.invokevirtual 119, 3) := by decide +kernel
theorem dX6_since_62 : decode cX6_since 62 = .ok (.ireturn, 1) := by decide +kernel
theorem w_since {l : Launch} {D : va_G} {cI : ClassId} {ad : Nat → Nat} (hI : kInj 15 ad) {st st' : MSt} {N : Nat} {x1 : Int32} {x2 : Int32} {r0 : Int32} (h : M_since  N st x1 x2 = some (r0, st')) : mV l yX6_since cX6_since 4 (some .int) 3 D cI ad st [.int x1, .int x2] (some (.int r0)) st' := by
  refine mm_ofV hI (by decide) rfl (Nat.le_of_ble_eq_true rfl) (fun p e s m below meth c R args ls C hr hlk hP hS hl hcs => ?_)
  have hx := C.1
  have hb := C.2.1
  have hown := C.2.2.2.1
  have hl : lv_has ls 4 [(0, .ref (ad 0)), (1, .int x1), (2, .int x2)] := hl
  have hP : mW D cI ad st s.heap := hP
  have L28 : ∀ (x1 : Int32), ∀ (x2 : Int32), ∀ (k : MSt → Option (Int32 × MSt)), ∀ (n : Nat) (st : MSt) (x3 : Int32), M_since_L28 N x1 x2 k n st x3 = some (r0, st') → ∀ (H : Heap) (locs : List Loc), mW D cI ad st H → va_S (kF 15 ad) s.heap H locs → ∀ ls : Array Slot, lv_has ls 4 [(0, .ref (ad 0)), (1, .int x1), (2, .int x2), (3, .int x3)] → (∀ (st2 : MSt), k st2 = some (r0, st') → ∀ (H : Heap) (locs : List Loc), mW D cI ad st2 H → va_S (kF 15 ad) s.heap H locs → ∀ ls : Array Slot, lv_has ls 4 [(0, .ref (ad 0))] → mWV p l e R s m args below meth c D cI ad (some (.int r0)) st' H locs (F0 m 57 ls [])) → mWV p l e R s m args below meth c D cI ad (some (.int r0)) st' H locs (F0 m 28 ls []) := by
    intro x1 x2 k n
    induction n with
    | zero =>
      intro st x3  h
      exact non_some h
    | succ n ih =>
      intro st x3  h H locs hP hS ls hl kx
      rw [M_since_L28] at h
      refine lv_iload_n hx hb dX6_since_28 rfl (lv_at hl 3 rfl) ?_
      refine lv_sipush (v := 999) hx hb dX6_since_29 (by decide) ?_
      refine lv_icmp_gt (tgt := 57) hx hb dX6_since_32 rfl (fun c7 => ?_) (fun c7 => ?_)
      · have h := if_some_t h c7
        exact kx _ h _ _ hP hS ls (lv_sub hl [0] rfl)
      · have h := if_some_f h c7
        refine lv_aload_n hx hb dX6_since_35 rfl (lv_at hl 0 rfl) ?_
        refine lv_iload_n hx hb dX6_since_36 rfl (lv_at hl 1 rfl) ?_
        refine lv_iload_n hx hb dX6_since_37 rfl (lv_at hl 3 rfl) ?_
        obtain ⟨v8, st9, hv8, h⟩ := bd2_some h
        refine k_knownBy C hP hS hv8 (Nat.le_of_ble_eq_true rfl) hl.1 (Nat.le_of_ble_eq_true rfl) hcs dX6_since_38 (fun H locs hP hS => ?_)
        refine lv_iload_n hx hb dX6_since_41 rfl (lv_at hl 2 rfl) ?_
        refine lv_ishr hx hb dX6_since_42 ?_
        refine lv_iconst (v := 1) hx hb dX6_since_43 (by decide) ?_
        refine lv_iand hx hb dX6_since_44 ?_
        refine lv_iconst (v := 1) hx hb dX6_since_45 (by decide) ?_
        refine lv_icmp_ne (tgt := 51) hx hb dX6_since_46 rfl (fun c10 => ?_) (fun c10 => ?_)
        · have h := if_some_f h c10
          refine lv_iinc (v := x3 + 1) (lv' := [(3, .int (x3 + 1)), (0, .ref (ad 0)), (1, .int x1), (2, .int x2)]) hx hb dX6_since_51 hl (k := 3) rfl rfl (by decide) rfl (fun ls hl => ?_)
          refine lv_goto (tgt := 28) hx hb dX6_since_54 rfl ?_
          exact ih st9 (x3 + 1) h _ _ hP hS ls (lv_sub hl [1, 2, 3, 0] rfl) kx
        · have h := if_some_t h c10
          refine lv_iload_n hx hb dX6_since_49 rfl (lv_at hl 3 rfl) ?_
          exact mm_viret hx hb hr hlk h hP hS dX6_since_50
  rw [M_since] at h
  refine lv_iload_n hx hb dX6_since_0 rfl (lv_at hl 1 rfl) ?_
  refine lv_i2l (v := x1.toInt64) hx hb dX6_since_1 rfl ?_
  refine lv_lconst (v := 0) hx hb dX6_since_2 (by decide) ?_
  refine lv_ldc2 hx hb hown (C.2.2.2.2.1 _ q1890) dX6_since_3 ?_
  obtain ⟨v1, hv1, h⟩ := bd1_some h
  refine k_in hx hb C.2.2.1 hown C.2.2.2.2.1 C.2.2.2.2.2.2.2 hv1 (Nat.le_of_ble_eq_true rfl) hl.1 (Nat.le_of_ble_eq_true rfl) hcs dX6_since_6 ?_
  refine lv_if_eq (tgt := 20) hx hb dX6_since_9 rfl (fun c2 => ?_) (fun c2 => ?_)
  · have h := if_some_t h c2
    refine lv_aload_n hx hb dX6_since_20 rfl (lv_at hl 0 rfl) ?_
    refine lv_iconst (v := 1) hx hb dX6_since_21 (by decide) ?_
    obtain ⟨v3, st4, hv3, h⟩ := bd2_some h
    refine k_finds C hP hS hv3 (Nat.le_of_ble_eq_true rfl) hl.1 (Nat.le_of_ble_eq_true rfl) hcs dX6_since_22 (fun H locs hP hS => ?_)
    exact mm_viret hx hb hr hlk h hP hS dX6_since_25
  · have h := if_some_f h c2
    refine lv_aload_n hx hb dX6_since_12 rfl (lv_at hl 0 rfl) ?_
    refine lv_iload_n hx hb dX6_since_13 rfl (lv_at hl 2 rfl) ?_
    obtain ⟨v5, hv5, h⟩ := bd1_some h
    refine k_isFact C hP hv5 (Nat.le_of_ble_eq_true rfl) hl.1 (Nat.le_of_ble_eq_true rfl) hcs dX6_since_14 ?_
    refine lv_if_ne (tgt := 26) hx hb dX6_since_17 rfl (fun c6 => ?_) (fun c6 => ?_)
    · have h := if_some_f h c6
      refine lv_iconst (v := 0) hx hb dX6_since_26 (by decide) ?_
      refine lv_istore_n (lv' := [(3, .int 0), (0, .ref (ad 0)), (1, .int x1), (2, .int x2)]) hx hb dX6_since_27 rfl hl (by decide) rfl (fun ls hl => ?_)
      refine L28 x1 x2 _ N _ 0 h _ _ hP hS ls (lv_sub hl [1, 2, 3, 0] rfl) (fun st11 h H locs hP hS ls hl => ?_)
      refine lv_aload_n hx hb dX6_since_57 rfl (lv_at hl 0 rfl) ?_
      refine lv_iconst (v := 2) hx hb dX6_since_58 (by decide) ?_
      obtain ⟨v12, st13, hv12, h⟩ := bd2_some h
      refine k_finds C hP hS hv12 (Nat.le_of_ble_eq_true rfl) hl.1 (Nat.le_of_ble_eq_true rfl) hcs dX6_since_59 (fun H locs hP hS => ?_)
      exact mm_viret hx hb hr hlk h hP hS dX6_since_62
    · have h := if_some_t h c6
      refine lv_aload_n hx hb dX6_since_20 rfl (lv_at hl 0 rfl) ?_
      refine lv_iconst (v := 1) hx hb dX6_since_21 (by decide) ?_
      obtain ⟨v14, st15, hv14, h⟩ := bd2_some h
      refine k_finds C hP hS hv14 (Nat.le_of_ble_eq_true rfl) hl.1 (Nat.le_of_ble_eq_true rfl) hcs dX6_since_22 (fun H locs hP hS => ?_)
      exact mm_viret hx hb hr hlk h hP hS dX6_since_25
abbrev cX6_seed : ByteArray := prog_30_method_82_code
def yX6_seed : MethodName := ⟨RX6, "seed", "(I)I"⟩
theorem dX6_seed_0 : decode cX6_seed 0 = .ok (.aload_n 0, 1) := by decide +kernel
theorem dX6_seed_1 : decode cX6_seed 1 = .ok (.getfield 7, 3) := by decide +kernel
theorem dX6_seed_4 : decode cX6_seed 4 = .ok (.iconst 4, 1) := by decide +kernel
theorem dX6_seed_5 : decode cX6_seed 5 = .ok (.iaload, 1) := by decide +kernel
theorem dX6_seed_6 : decode cX6_seed 6 = .ok (.istore_n 2, 1) := by decide +kernel
theorem dX6_seed_7 : decode cX6_seed 7 = .ok (.aload_n 0, 1) := by decide +kernel
theorem dX6_seed_8 : decode cX6_seed 8 = .ok (.getfield 7, 3) := by decide +kernel
theorem dX6_seed_11 : decode cX6_seed 11 = .ok (.iconst 4, 1) := by decide +kernel
theorem dX6_seed_12 : decode cX6_seed 12 = .ok (.iload_n 1, 1) := by decide +kernel
theorem dX6_seed_13 : decode cX6_seed 13 = .ok (.iastore, 1) := by decide +kernel
theorem dX6_seed_14 : decode cX6_seed 14 = .ok (.iload_n 2, 1) := by decide +kernel
theorem dX6_seed_15 : decode cX6_seed 15 = .ok (.ireturn, 1) := by decide +kernel
theorem w_seed {l : Launch} {D : va_G} {cI : ClassId} {ad : Nat → Nat} (hI : kInj 15 ad) {st st' : MSt} {x1 : Int32} {r0 : Int32} (h : M_seed st x1 = some (r0, st')) : mV l yX6_seed cX6_seed 3 (some .int) 0 D cI ad st [.int x1] (some (.int r0)) st' := by
  refine mm_ofV hI (by decide) rfl (Nat.le_of_ble_eq_true rfl) (fun p e s m below meth c R args ls C hr hlk hP hS hl hcs => ?_)
  have hx := C.1
  have hb := C.2.1
  have hown := C.2.2.2.1
  have hl : lv_has ls 3 [(0, .ref (ad 0)), (1, .int x1)] := hl
  have hP : mW D cI ad st s.heap := hP
  rw [M_seed] at h
  refine lv_aload_n hx hb dX6_seed_0 rfl (lv_at hl 0 rfl) ?_
  refine g_d C hP dX6_seed_1 ?_
  refine lv_iconst (v := 4) hx hb dX6_seed_4 (by decide) ?_
  obtain ⟨v1, hv1, h⟩ := bd1_some h
  refine mm_ld C hP 1 (by decide) rfl hv1 dX6_seed_5 ?_
  refine lv_istore_n (lv' := [(2, .int v1), (0, .ref (ad 0)), (1, .int x1)]) hx hb dX6_seed_6 rfl hl (by decide) rfl (fun ls hl => ?_)
  refine lv_aload_n hx hb dX6_seed_7 rfl (lv_at hl 1 rfl) ?_
  refine g_d C hP dX6_seed_8 ?_
  refine lv_iconst (v := 4) hx hb dX6_seed_11 (by decide) ?_
  refine lv_iload_n hx hb dX6_seed_12 rfl (lv_at hl 2 rfl) ?_
  obtain ⟨b2, hb2, h⟩ := bd1_some h
  refine mm_st C hP hS 1 (by decide) rfl hb2 dX6_seed_13 (fun H locs hP hS => ?_)
  refine lv_iload_n hx hb dX6_seed_14 rfl (lv_at hl 0 rfl) ?_
  exact mm_viret hx hb hr hlk h hP hS dX6_seed_15
abbrev cX6_own : ByteArray := prog_30_method_84_code
def yX6_own : MethodName := ⟨RX6, "own", "()I"⟩
theorem dX6_own_0 : decode cX6_own 0 = .ok (.aload_n 0, 1) := by decide +kernel
theorem dX6_own_1 : decode cX6_own 1 = .ok (.aload_n 0, 1) := by decide +kernel
theorem dX6_own_2 : decode cX6_own 2 = .ok (.getfield 288, 3) := by decide +kernel
theorem dX6_own_5 : decode cX6_own 5 = .ok (.iconst 0, 1) := by decide +kernel
theorem dX6_own_6 : decode cX6_own 6 = .ok (.invokevirtual 150, 3) := by decide +kernel
theorem dX6_own_9 : decode cX6_own 9 = .ok (.ireturn, 1) := by decide +kernel
theorem w_own {l : Launch} {D : va_G} {cI : ClassId} {ad : Nat → Nat} (hI : kInj 15 ad) {st : MSt} {r : Int32} (h : M_own st = some r) : mR l yX6_own cX6_own 1 (some .int) 1 D cI ad st [] r := by
  refine mm_ofR hI (by decide) rfl (Nat.le_of_ble_eq_true rfl) (fun p e s m below meth c R args ls C hr hlk hP hl hcs => ?_)
  have hx := C.1
  have hb := C.2.1
  have hown := C.2.2.2.1
  have hl : lv_has ls 1 [(0, .ref (ad 0))] := hl
  rw [M_own] at h
  refine lv_aload_n hx hb dX6_own_0 rfl (lv_at hl 0 rfl) ?_
  refine lv_aload_n hx hb dX6_own_1 rfl (lv_at hl 0 rfl) ?_
  refine g_who C hP dX6_own_2 ?_
  refine lv_iconst (v := 0) hx hb dX6_own_5 (by decide) ?_
  obtain ⟨v1, hv1, h⟩ := bd1_some h
  refine k_of C hP hv1 (Nat.le_of_ble_eq_true rfl) hl.1 (Nat.le_of_ble_eq_true rfl) hcs dX6_own_6 ?_
  exact mm_iret hx hb hr hlk h dX6_own_9
theorem q1939 : (Jvm.Cond.methodLink "ChapterLoanModel" (297 : Nat) ({ cls := "ChapterLoanModel", name := "own", desc := "()I" } : Jvm.MethodName)) ∈ lw_all := lw_g (lw_at lw_m8 175 rfl) rfl
theorem q1942 : (Jvm.Cond.code ({ cls := "ChapterLoanModel", name := "own", desc := "()I" } : Jvm.MethodName) prog_30_method_84_code (1 : Nat) (Option.some Jvm.ClassFile.FieldType.int)) ∈ lw_all := lw_g (lw_at lw_m8 178 rfl) rfl
theorem q1941 : (Jvm.Cond.instanceMethod ({ cls := "ChapterLoanModel", name := "own", desc := "()I" } : Jvm.MethodName)) ∈ lw_all := lw_g (lw_at lw_m8 177 rfl) rfl
theorem k_own {v : Int32} (C : mC p R d s m args c cc nL D cI ad) (hP : mW D cI ad st H) (h : M_own st = some v) (hd : 1 + 1 ≤ d) (hsz : ls.size = nL) (hW : (rest.map fun v => v.category).sum ≤ 8) (hcs : cells ≤ R.cells ∧ slots ≤ R.slots) (hdg : decode cc pc = .ok (.invokevirtual 297, 3)) (kk : W p l e R s m args below meth c H locs cells slots Q (F0 m (pc + 3) ls (.int v :: rest))) : W p l e R s m args below meth c H locs cells slots Q (F0 m pc ls (.ref (ad 0) :: rest)) :=
  mm_cR (As := []) C hP (w_own C.2.2.2.2.2.2.1 h) (cwV 0 C.2.2.2.2.1 (lw_V q1939 q1941 qs77 q94 q1942) rfl rfl rfl (by decide +kernel) (mr_ C.2.2.2.2.2.2.2 hd (by decide))) rfl hsz rfl hW hdg hcs kk
abbrev cX6_ran : ByteArray := prog_30_method_83_code
def yX6_ran : MethodName := ⟨RX6, "ran", "(I)V"⟩
theorem dX6_ran_0 : decode cX6_ran 0 = .ok (.aload_n 0, 1) := by decide +kernel
theorem dX6_ran_1 : decode cX6_ran 1 = .ok (.getfield 285, 3) := by decide +kernel
theorem dX6_ran_4 : decode cX6_ran 4 = .ok (.bipush 40, 2) := by decide +kernel
theorem dX6_ran_6 : decode cX6_ran 6 = .ok (.if_icmp .ge 23, 3) := by decide +kernel
theorem dX6_ran_9 : decode cX6_ran 9 = .ok (.aload_n 0, 1) := by decide +kernel
theorem dX6_ran_10 : decode cX6_ran 10 = .ok (.getfield 41, 3) := by decide +kernel
theorem dX6_ran_13 : decode cX6_ran 13 = .ok (.aload_n 0, 1) := by decide +kernel
theorem dX6_ran_14 : decode cX6_ran 14 = .ok (.getfield 285, 3) := by decide +kernel
theorem dX6_ran_17 : decode cX6_ran 17 = .ok (.iload_n 1, 1) := by decide +kernel
theorem dX6_ran_18 : decode cX6_ran 18 = .ok (.iastore, 1) := by decide +kernel
theorem dX6_ran_19 : decode cX6_ran 19 = .ok (.aload_n 0, 1) := by decide +kernel
theorem dX6_ran_20 : decode cX6_ran 20 = .ok (.dup, 1) := by decide +kernel
theorem dX6_ran_21 : decode cX6_ran 21 = .ok (.getfield 285, 3) := by decide +kernel
theorem dX6_ran_24 : decode cX6_ran 24 = .ok (.iconst 1, 1) := by decide +kernel
theorem dX6_ran_25 : decode cX6_ran 25 = .ok (.iadd, 1) := by decide +kernel
theorem dX6_ran_26 : decode cX6_ran 26 = .ok (.putfield 285, 3) := by decide +kernel
theorem dX6_ran_29 : decode cX6_ran 29 = .ok (.return_, 1) := by decide +kernel
theorem w_ran {l : Launch} {D : va_G} {cI : ClassId} {ad : Nat → Nat} (hI : kInj 15 ad) {st st' : MSt} {x1 : Int32} (h : M_ran st x1 = some st') : mV l yX6_ran cX6_ran 2 none 0 D cI ad st [.int x1] none st' := by
  refine mm_ofV hI (by decide) rfl (Nat.le_of_ble_eq_true rfl) (fun p e s m below meth c R args ls C hr hlk hP hS hl hcs => ?_)
  have hx := C.1
  have hb := C.2.1
  have hown := C.2.2.2.1
  have hl : lv_has ls 2 [(0, .ref (ad 0)), (1, .int x1)] := hl
  have hP : mW D cI ad st s.heap := hP
  rw [M_ran] at h
  refine lv_aload_n hx hb dX6_ran_0 rfl (lv_at hl 0 rfl) ?_
  refine g_traceMany C hP dX6_ran_1 ?_
  refine lv_bipush (v := 40) hx hb dX6_ran_4 (by decide) ?_
  refine lv_icmp_ge (tgt := 29) hx hb dX6_ran_6 rfl (fun c1 => ?_) (fun c1 => ?_)
  · have h := if_some_t h c1
    exact mm_vret hx hb hr hlk h hP hS dX6_ran_29
  · have h := if_some_f h c1
    refine lv_aload_n hx hb dX6_ran_9 rfl (lv_at hl 0 rfl) ?_
    refine g_traced C hP dX6_ran_10 ?_
    refine lv_aload_n hx hb dX6_ran_13 rfl (lv_at hl 0 rfl) ?_
    refine g_traceMany C hP dX6_ran_14 ?_
    refine lv_iload_n hx hb dX6_ran_17 rfl (lv_at hl 1 rfl) ?_
    obtain ⟨b2, hb2, h⟩ := bd1_some h
    refine mm_st C hP hS 10 (by decide) rfl hb2 dX6_ran_18 (fun H locs hP hS => ?_)
    refine lv_aload_n hx hb dX6_ran_19 rfl (lv_at hl 0 rfl) ?_
    refine lv_dup hx hb dX6_ran_20 rfl ?_
    refine g_traceMany C hP dX6_ran_21 ?_
    refine lv_iconst (v := 1) hx hb dX6_ran_24 (by decide) ?_
    refine lv_iadd hx hb dX6_ran_25 ?_
    refine p_traceMany C hP hS dX6_ran_26 (fun H locs hP hS => ?_)
    exact mm_vret hx hb hr hlk h hP hS dX6_ran_29
theorem q1947 : (Jvm.Cond.methodLink "ChapterLoanModel" (291 : Nat) ({ cls := "ChapterLoanModel", name := "ran", desc := "(I)V" } : Jvm.MethodName)) ∈ lw_all := lw_g (lw_at lw_m8 183 rfl) rfl
theorem q1950 : (Jvm.Cond.code ({ cls := "ChapterLoanModel", name := "ran", desc := "(I)V" } : Jvm.MethodName) prog_30_method_83_code (2 : Nat) (Option.none : Option Jvm.ClassFile.FieldType)) ∈ lw_all := lw_g (lw_at lw_m8 186 rfl) rfl
theorem q1949 : (Jvm.Cond.instanceMethod ({ cls := "ChapterLoanModel", name := "ran", desc := "(I)V" } : Jvm.MethodName)) ∈ lw_all := lw_g (lw_at lw_m8 185 rfl) rfl
theorem k_ran {a0 : Int32} {st' : MSt} (C : mC p R d s m args c cc nL D cI ad) (hP : mW D cI ad st H) (hS : va_S (kF 15 ad) H0 H locs) (h : M_ran st a0 = some st') (hd : 0 + 1 ≤ d) (hsz : ls.size = nL) (hW : (rest.map fun v => v.category).sum ≤ 8) (hcs : cells ≤ R.cells ∧ slots ≤ R.slots) (hdg : decode cc pc = .ok (.invokevirtual 291, 3)) (kk : ∀ (H1 : Heap) (locs1 : List Loc), mW D cI ad st' H1 → va_S (kF 15 ad) H0 H1 locs1 → W p l e R s m args below meth c H1 locs1 cells slots Q (F0 m (pc + 3) ls (rest))) : W p l e R s m args below meth c H locs cells slots Q (F0 m pc ls (.int a0 :: .ref (ad 0) :: rest)) :=
  mm_cV (As := [.int a0]) C hP hS (w_ran C.2.2.2.2.2.2.1 h) (cwV 1 C.2.2.2.2.1 (lw_V q1947 q1949 qs79 q94 q1950) rfl rfl rfl (by decide +kernel) (mr_ C.2.2.2.2.2.2.2 hd (by decide))) rfl hsz rfl hW hdg hcs kk
abbrev cX6_trace : ByteArray := prog_30_method_90_code
def yX6_trace : MethodName := ⟨RX6, "trace", "(I)I"⟩
theorem dX6_trace_0 : decode cX6_trace 0 = .ok (.iload_n 1, 1) := by decide +kernel
theorem dX6_trace_1 : decode cX6_trace 1 = .ok (.i2l, 1) := by decide +kernel
theorem dX6_trace_2 : decode cX6_trace 2 = .ok (.lconst 0, 1) := by decide +kernel
theorem dX6_trace_3 : decode cX6_trace 3 = .ok (.aload_n 0, 1) := by decide +kernel
theorem dX6_trace_4 : decode cX6_trace 4 = .ok (.getfield 285, 3) := by decide +kernel
theorem dX6_trace_7 : decode cX6_trace 7 = .ok (.iconst 1, 1) := by decide +kernel
theorem dX6_trace_8 : decode cX6_trace 8 = .ok (.isub, 1) := by decide +kernel
theorem dX6_trace_9 : decode cX6_trace 9 = .ok (.i2l, 1) := by decide +kernel
theorem dX6_trace_10 : decode cX6_trace 10 = .ok (.invokestatic 57, 3) := by decide +kernel
theorem dX6_trace_13 : decode cX6_trace 13 = .ok (.ifCond .eq 12, 3) := by decide +kernel
theorem dX6_trace_16 : decode cX6_trace 16 = .ok (.aload_n 0, 1) := by decide +kernel
theorem dX6_trace_17 : decode cX6_trace 17 = .ok (.getfield 41, 3) := by decide +kernel
theorem dX6_trace_20 : decode cX6_trace 20 = .ok (.iload_n 1, 1) := by decide +kernel
theorem dX6_trace_21 : decode cX6_trace 21 = .ok (.iaload, 1) := by decide +kernel
theorem dX6_trace_22 : decode cX6_trace 22 = .ok (.goto 8, 3) := by decide +kernel
theorem dX6_trace_25 : decode cX6_trace 25 = .ok (.aload_n 0, 1) := by decide +kernel
theorem dX6_trace_26 : decode cX6_trace 26 = .ok (.iconst 2, 1) := by decide +kernel
theorem dX6_trace_27 : decode cX6_trace 27 = .ok (.invokevirtual 119, 3) := by decide +kernel
theorem dX6_trace_30 : decode cX6_trace 30 = .ok (.ireturn, 1) := by decide +kernel
theorem w_trace {l : Launch} {D : va_G} {cI : ClassId} {ad : Nat → Nat} (hI : kInj 15 ad) {st st' : MSt} {x1 : Int32} {r0 : Int32} (h : M_trace st x1 = some (r0, st')) : mV l yX6_trace cX6_trace 2 (some .int) 1 D cI ad st [.int x1] (some (.int r0)) st' := by
  refine mm_ofV hI (by decide) rfl (Nat.le_of_ble_eq_true rfl) (fun p e s m below meth c R args ls C hr hlk hP hS hl hcs => ?_)
  have hx := C.1
  have hb := C.2.1
  have hown := C.2.2.2.1
  have hl : lv_has ls 2 [(0, .ref (ad 0)), (1, .int x1)] := hl
  have hP : mW D cI ad st s.heap := hP
  rw [M_trace] at h
  refine lv_iload_n hx hb dX6_trace_0 rfl (lv_at hl 1 rfl) ?_
  refine lv_i2l (v := x1.toInt64) hx hb dX6_trace_1 rfl ?_
  refine lv_lconst (v := 0) hx hb dX6_trace_2 (by decide) ?_
  refine lv_aload_n hx hb dX6_trace_3 rfl (lv_at hl 0 rfl) ?_
  refine g_traceMany C hP dX6_trace_4 ?_
  refine lv_iconst (v := 1) hx hb dX6_trace_7 (by decide) ?_
  refine lv_isub hx hb dX6_trace_8 ?_
  refine lv_i2l (v := ((st.1 20) - 1).toInt64) hx hb dX6_trace_9 rfl ?_
  obtain ⟨v1, hv1, h⟩ := bd1_some h
  refine k_in hx hb C.2.2.1 hown C.2.2.2.2.1 C.2.2.2.2.2.2.2 hv1 (Nat.le_of_ble_eq_true rfl) hl.1 (Nat.le_of_ble_eq_true rfl) hcs dX6_trace_10 ?_
  refine lv_if_eq (tgt := 25) hx hb dX6_trace_13 rfl (fun c2 => ?_) (fun c2 => ?_)
  · have h := if_some_t h c2
    refine lv_aload_n hx hb dX6_trace_25 rfl (lv_at hl 0 rfl) ?_
    refine lv_iconst (v := 2) hx hb dX6_trace_26 (by decide) ?_
    obtain ⟨v3, st4, hv3, h⟩ := bd2_some h
    refine k_finds C hP hS hv3 (Nat.le_of_ble_eq_true rfl) hl.1 (Nat.le_of_ble_eq_true rfl) hcs dX6_trace_27 (fun H locs hP hS => ?_)
    exact mm_viret hx hb hr hlk h hP hS dX6_trace_30
  · have h := if_some_f h c2
    refine lv_aload_n hx hb dX6_trace_16 rfl (lv_at hl 0 rfl) ?_
    refine g_traced C hP dX6_trace_17 ?_
    refine lv_iload_n hx hb dX6_trace_20 rfl (lv_at hl 1 rfl) ?_
    obtain ⟨v5, hv5, h⟩ := bd1_some h
    refine mm_ld C hP 10 (by decide) rfl hv5 dX6_trace_21 ?_
    refine lv_goto (tgt := 30) hx hb dX6_trace_22 rfl ?_
    exact mm_viret hx hb hr hlk h hP hS dX6_trace_30
abbrev cX6_sheet : ByteArray := prog_30_method_92_code
def yX6_sheet : MethodName := ⟨RX6, "sheet", "(III)I"⟩
theorem dX6_sheet_0 : decode cX6_sheet 0 = .ok (.iload_n 1, 1) := by decide +kernel
theorem dX6_sheet_1 : decode cX6_sheet 1 = .ok (.invokestatic 273, 3) := by decide +kernel
theorem dX6_sheet_4 : decode cX6_sheet 4 = .ok (.ifCond .eq 25, 3) := by decide +kernel
theorem dX6_sheet_7 : decode cX6_sheet 7 = .ok (.iload_n 2, 1) := by decide +kernel
theorem dX6_sheet_8 : decode cX6_sheet 8 = .ok (.ifCond .eq 27, 3) := by decide +kernel
theorem dX6_sheet_11 : decode cX6_sheet 11 = .ok (.iload_n 2, 1) := by decide +kernel
theorem dX6_sheet_12 : decode cX6_sheet 12 = .ok (.bipush 8, 2) := by decide +kernel
theorem dX6_sheet_14 : decode cX6_sheet 14 = .ok (.if_icmp .eq 21, 3) := by decide +kernel
theorem dX6_sheet_17 : decode cX6_sheet 17 = .ok (.iload_n 2, 1) := by decide +kernel
theorem dX6_sheet_18 : decode cX6_sheet 18 = .ok (.bipush 16, 2) := by decide +kernel
theorem dX6_sheet_20 : decode cX6_sheet 20 = .ok (.if_icmp .eq 15, 3) := by decide +kernel
theorem dX6_sheet_23 : decode cX6_sheet 23 = .ok (.iload_n 2, 1) := by decide +kernel
theorem dX6_sheet_24 : decode cX6_sheet 24 = .ok (.bipush 32, 2) := by decide +kernel
theorem dX6_sheet_26 : decode cX6_sheet 26 = .ok (.if_icmp .eq 9, 3) := by decide +kernel
theorem dX6_sheet_29 : decode cX6_sheet 29 = .ok (.aload_n 0, 1) := by decide +kernel
theorem dX6_sheet_30 : decode cX6_sheet 30 = .ok (.iconst 1, 1) := by decide +kernel
theorem dX6_sheet_31 : decode cX6_sheet 31 = .ok (.invokevirtual 119, 3) := by decide +kernel
theorem dX6_sheet_34 : decode cX6_sheet 34 = .ok (.ireturn, 1) := by decide +kernel
theorem dX6_sheet_35 : decode cX6_sheet 35 = .ok (.iload_n 2, 1) := by decide +kernel
theorem dX6_sheet_36 : decode cX6_sheet 36 = .ok (.ifCond .eq 13, 3) := by decide +kernel
theorem dX6_sheet_39 : decode cX6_sheet 39 = .ok (.iload_n 3, 1) := by decide +kernel
theorem dX6_sheet_40 : decode cX6_sheet 40 = .ok (.ifCond .ge 9, 3) := by decide +kernel
theorem dX6_sheet_43 : decode cX6_sheet 43 = .ok (.aload_n 0, 1) := by decide +kernel
theorem dX6_sheet_44 : decode cX6_sheet 44 = .ok (.iconst 3, 1) := by decide +kernel
theorem dX6_sheet_45 : decode cX6_sheet 45 = .ok (.invokevirtual 119, 3) := by decide +kernel
theorem dX6_sheet_48 : decode cX6_sheet 48 = .ok (.ireturn, 1) := by decide +kernel
theorem dX6_sheet_49 : decode cX6_sheet 49 = .ok (.iload_n 2, 1) := by decide +kernel
theorem dX6_sheet_50 : decode cX6_sheet 50 = .ok (.ifCond .eq 15, 3) := by decide +kernel
theorem dX6_sheet_53 : decode cX6_sheet 53 = .ok (.iload_n 3, 1) := by decide +kernel
theorem dX6_sheet_54 : decode cX6_sheet 54 = .ok (.bipush 40, 2) := by decide +kernel
theorem dX6_sheet_56 : decode cX6_sheet 56 = .ok (.if_icmp .le 9, 3) := by decide +kernel
theorem dX6_sheet_59 : decode cX6_sheet 59 = .ok (.aload_n 0, 1) := by decide +kernel
theorem dX6_sheet_60 : decode cX6_sheet 60 = .ok (.iconst 1, 1) := by decide +kernel
theorem dX6_sheet_61 : decode cX6_sheet 61 = .ok (.invokevirtual 119, 3) := by decide +kernel
theorem dX6_sheet_64 : decode cX6_sheet 64 = .ok (.ireturn, 1) := by decide +kernel
theorem dX6_sheet_65 : decode cX6_sheet 65 = .ok (.aload_n 0, 1) := by decide +kernel
theorem dX6_sheet_66 : decode cX6_sheet 66 = .ok (.getfield 44, 3) := by decide +kernel
theorem dX6_sheet_69 : decode cX6_sheet 69 = .ok (.iload_n 1, 1) := by decide +kernel
theorem dX6_sheet_70 : decode cX6_sheet 70 = .ok (.iload_n 2, 1) := by decide +kernel
theorem dX6_sheet_71 : decode cX6_sheet 71 = .ok (.iastore, 1) := by decide +kernel
theorem dX6_sheet_72 : decode cX6_sheet 72 = .ok (.aload_n 0, 1) := by decide +kernel
theorem dX6_sheet_73 : decode cX6_sheet 73 = .ok (.getfield 47, 3) := by decide +kernel
theorem dX6_sheet_76 : decode cX6_sheet 76 = .ok (.iload_n 1, 1) := by decide +kernel
theorem dX6_sheet_77 : decode cX6_sheet 77 = .ok (.iload_n 2, 1) := by decide +kernel
theorem dX6_sheet_78 : decode cX6_sheet 78 = .ok (.ifCond .ne 7, 3) := by decide +kernel
theorem dX6_sheet_81 : decode cX6_sheet 81 = .ok (.iconst 0, 1) := by decide +kernel
theorem dX6_sheet_82 : decode cX6_sheet 82 = .ok (.goto 4, 3) := by decide +kernel
theorem dX6_sheet_85 : decode cX6_sheet 85 = .ok (.iload_n 3, 1) := by decide +kernel
theorem dX6_sheet_86 : decode cX6_sheet 86 = .ok (.iastore, 1) := by decide +kernel
theorem dX6_sheet_87 : decode cX6_sheet 87 = .ok (.iconst 0, 1) := by decide +kernel
theorem dX6_sheet_88 : decode cX6_sheet 88 = .ok (.istore 4, 2) := by decide +kernel
theorem dX6_sheet_90 : decode cX6_sheet 90 = .ok (.iload 4, 2) := by decide +kernel
theorem dX6_sheet_92 : decode cX6_sheet 92 = .ok (.bipush 40, 2) := by decide +kernel
theorem dX6_sheet_94 : decode cX6_sheet 94 = .ok (.if_icmp .ge 22, 3) := by decide +kernel
theorem dX6_sheet_97 : decode cX6_sheet 97 = .ok (.aload_n 0, 1) := by decide +kernel
theorem dX6_sheet_98 : decode cX6_sheet 98 = .ok (.getfield 50, 3) := by decide +kernel
theorem dX6_sheet_101 : decode cX6_sheet 101 = .ok (.bipush 40, 2) := by decide +kernel
theorem dX6_sheet_103 : decode cX6_sheet 103 = .ok (.iload_n 1, 1) := by decide +kernel
theorem dX6_sheet_104 : decode cX6_sheet 104 = .ok (.imul, 1) := by decide +kernel
theorem dX6_sheet_105 : decode cX6_sheet 105 = .ok (.iload 4, 2) := by decide +kernel
theorem dX6_sheet_107 : decode cX6_sheet 107 = .ok (.iadd, 1) := by decide +kernel
theorem dX6_sheet_108 : decode cX6_sheet 108 = .ok (.iconst 0, 1) := by decide +kernel
theorem dX6_sheet_109 : decode cX6_sheet 109 = .ok (.iastore, 1) := by decide +kernel
theorem dX6_sheet_110 : decode cX6_sheet 110 = .ok (.iinc 4 1, 3) := by decide +kernel
theorem dX6_sheet_113 : decode cX6_sheet 113 = .ok (.goto (-23), 3) := by decide +kernel
theorem dX6_sheet_116 : decode cX6_sheet 116 = .ok (.iconst 1, 1) := by decide +kernel
theorem dX6_sheet_117 : decode cX6_sheet 117 = .ok (.ireturn, 1) := by decide +kernel
theorem w_sheet {l : Launch} {D : va_G} {cI : ClassId} {ad : Nat → Nat} (hI : kInj 15 ad) {st st' : MSt} {N : Nat} {x1 : Int32} {x2 : Int32} {x3 : Int32} {r0 : Int32} (h : M_sheet  N st x1 x2 x3 = some (r0, st')) : mV l yX6_sheet cX6_sheet 5 (some .int) 2 D cI ad st [.int x1, .int x2, .int x3] (some (.int r0)) st' := by
  refine mm_ofV hI (by decide) rfl (Nat.le_of_ble_eq_true rfl) (fun p e s m below meth c R args ls C hr hlk hP hS hl hcs => ?_)
  have hx := C.1
  have hb := C.2.1
  have hown := C.2.2.2.1
  have hl : lv_has ls 5 [(0, .ref (ad 0)), (1, .int x1), (2, .int x2), (3, .int x3)] := hl
  have hP : mW D cI ad st s.heap := hP
  have L90 : ∀ (x1 : Int32), ∀ (n : Nat) (st : MSt) (x4 : Int32) (st2 : MSt), M_sheet_L90 N x1 n st x4 = some st2 → ∀ (H : Heap) (locs : List Loc), mW D cI ad st H → va_S (kF 15 ad) s.heap H locs → ∀ ls : Array Slot, lv_has ls 5 [(0, .ref (ad 0)), (1, .int x1), (4, .int x4)] → (∀ (H : Heap) (locs : List Loc), mW D cI ad st2 H → va_S (kF 15 ad) s.heap H locs → ∀ ls : Array Slot, lv_has ls 5 [] → mWV p l e R s m args below meth c D cI ad (some (.int r0)) st' H locs (F0 m 116 ls [])) → mWV p l e R s m args below meth c D cI ad (some (.int r0)) st' H locs (F0 m 90 ls []) := by
    intro x1 n
    induction n with
    | zero =>
      intro st x4 st2 h
      exact non_some h
    | succ n ih =>
      intro st x4 st2 h H locs hP hS ls hl kx
      rw [M_sheet_L90] at h
      refine lv_iload hx hb dX6_sheet_90 (lv_at hl 2 rfl) ?_
      refine lv_bipush (v := 40) hx hb dX6_sheet_92 (by decide) ?_
      refine lv_icmp_ge (tgt := 116) hx hb dX6_sheet_94 rfl (fun c11 => ?_) (fun c11 => ?_)
      · have h := if_some_t h c11
        cases h
        exact kx _ _ hP hS ls (lv_sub hl [] rfl)
      · have h := if_some_f h c11
        refine lv_aload_n hx hb dX6_sheet_97 rfl (lv_at hl 0 rfl) ?_
        refine g_number C hP dX6_sheet_98 ?_
        refine lv_bipush (v := 40) hx hb dX6_sheet_101 (by decide) ?_
        refine lv_iload_n hx hb dX6_sheet_103 rfl (lv_at hl 1 rfl) ?_
        refine lv_imul hx hb dX6_sheet_104 ?_
        refine lv_iload hx hb dX6_sheet_105 (lv_at hl 2 rfl) ?_
        refine lv_iadd hx hb dX6_sheet_107 ?_
        refine lv_iconst (v := 0) hx hb dX6_sheet_108 (by decide) ?_
        obtain ⟨b12, hb12, h⟩ := bd1_some h
        refine mm_st C hP hS 13 (by decide) rfl hb12 dX6_sheet_109 (fun H locs hP hS => ?_)
        refine lv_iinc (v := x4 + 1) (lv' := [(4, .int (x4 + 1)), (0, .ref (ad 0)), (1, .int x1)]) hx hb dX6_sheet_110 hl (k := 2) rfl rfl (by decide) rfl (fun ls hl => ?_)
        refine lv_goto (tgt := 90) hx hb dX6_sheet_113 rfl ?_
        exact ih (sa st 13 b12) (x4 + 1) _ h _ _ hP hS ls (lv_sub hl [1, 2, 0] rfl) kx
  rw [M_sheet] at h
  refine lv_iload_n hx hb dX6_sheet_0 rfl (lv_at hl 1 rfl) ?_
  obtain ⟨v1, hv1, h⟩ := bd1_some h
  refine k_isSheet hx hb C.2.2.1 hown C.2.2.2.2.1 C.2.2.2.2.2.2.2 hv1 (Nat.le_of_ble_eq_true rfl) hl.1 (Nat.le_of_ble_eq_true rfl) hcs dX6_sheet_1 ?_
  refine lv_if_eq (tgt := 29) hx hb dX6_sheet_4 rfl (fun c2 => ?_) (fun c2 => ?_)
  · have h := if_some_t h c2
    refine lv_aload_n hx hb dX6_sheet_29 rfl (lv_at hl 0 rfl) ?_
    refine lv_iconst (v := 1) hx hb dX6_sheet_30 (by decide) ?_
    obtain ⟨v3, st4, hv3, h⟩ := bd2_some h
    refine k_finds C hP hS hv3 (Nat.le_of_ble_eq_true rfl) hl.1 (Nat.le_of_ble_eq_true rfl) hcs dX6_sheet_31 (fun H locs hP hS => ?_)
    exact mm_viret hx hb hr hlk h hP hS dX6_sheet_34
  · have h := if_some_f h c2
    refine lv_iload_n hx hb dX6_sheet_7 rfl (lv_at hl 2 rfl) ?_
    refine lv_if_eq (tgt := 35) hx hb dX6_sheet_8 rfl (fun c5 => ?_) (fun c5 => ?_)
    · have h := if_some_t h c5
      refine lv_iload_n hx hb dX6_sheet_35 rfl (lv_at hl 2 rfl) ?_
      refine lv_if_eq (tgt := 49) hx hb dX6_sheet_36 rfl (fun c6 => ?_) (fun c6 => ?_)
      · have h := if_some_t h c6
        refine lv_iload_n hx hb dX6_sheet_49 rfl (lv_at hl 2 rfl) ?_
        refine lv_if_eq (tgt := 65) hx hb dX6_sheet_50 rfl (fun c7 => ?_) (fun c7 => ?_)
        · have h := if_some_t h c7
          refine lv_aload_n hx hb dX6_sheet_65 rfl (lv_at hl 0 rfl) ?_
          refine g_bitsOf C hP dX6_sheet_66 ?_
          refine lv_iload_n hx hb dX6_sheet_69 rfl (lv_at hl 1 rfl) ?_
          refine lv_iload_n hx hb dX6_sheet_70 rfl (lv_at hl 2 rfl) ?_
          obtain ⟨b8, hb8, h⟩ := bd1_some h
          refine mm_st C hP hS 11 (by decide) rfl hb8 dX6_sheet_71 (fun H locs hP hS => ?_)
          refine lv_aload_n hx hb dX6_sheet_72 rfl (lv_at hl 0 rfl) ?_
          refine g_sizeOf C hP dX6_sheet_73 ?_
          refine lv_iload_n hx hb dX6_sheet_76 rfl (lv_at hl 1 rfl) ?_
          refine lv_iload_n hx hb dX6_sheet_77 rfl (lv_at hl 2 rfl) ?_
          refine lv_if_ne (tgt := 85) hx hb dX6_sheet_78 rfl (fun c9 => ?_) (fun c9 => ?_)
          · have h := if_some_f h c9
            refine lv_iload_n hx hb dX6_sheet_85 rfl (lv_at hl 3 rfl) ?_
            obtain ⟨b10, hb10, h⟩ := bd1_some h
            refine mm_st C hP hS 12 (by decide) rfl hb10 dX6_sheet_86 (fun H locs hP hS => ?_)
            refine lv_iconst (v := 0) hx hb dX6_sheet_87 (by decide) ?_
            refine lv_istore (lv' := [(4, .int 0), (0, .ref (ad 0)), (1, .int x1), (2, .int x2), (3, .int x3)]) hx hb dX6_sheet_88 hl (by decide) rfl (fun ls hl => ?_)
            obtain ⟨st13, hz14, h⟩ := bd1_some h
            refine L90 x1 N _ 0 _ hz14 _ _ hP hS ls (lv_sub hl [1, 2, 0] rfl) (fun H locs hP hS ls hl => ?_)
            refine lv_iconst (v := 1) hx hb dX6_sheet_116 (by decide) ?_
            exact mm_viret hx hb hr hlk h hP hS dX6_sheet_117
          · have h := if_some_t h c9
            refine lv_iconst (v := 0) hx hb dX6_sheet_81 (by decide) ?_
            refine lv_goto (tgt := 86) hx hb dX6_sheet_82 rfl ?_
            obtain ⟨b15, hb15, h⟩ := bd1_some h
            refine mm_st C hP hS 12 (by decide) rfl hb15 dX6_sheet_86 (fun H locs hP hS => ?_)
            refine lv_iconst (v := 0) hx hb dX6_sheet_87 (by decide) ?_
            refine lv_istore (lv' := [(4, .int 0), (0, .ref (ad 0)), (1, .int x1), (2, .int x2), (3, .int x3)]) hx hb dX6_sheet_88 hl (by decide) rfl (fun ls hl => ?_)
            obtain ⟨st16, hz17, h⟩ := bd1_some h
            refine L90 x1 N _ 0 _ hz17 _ _ hP hS ls (lv_sub hl [1, 2, 0] rfl) (fun H locs hP hS ls hl => ?_)
            refine lv_iconst (v := 1) hx hb dX6_sheet_116 (by decide) ?_
            exact mm_viret hx hb hr hlk h hP hS dX6_sheet_117
        · have h := if_some_f h c7
          refine lv_iload_n hx hb dX6_sheet_53 rfl (lv_at hl 3 rfl) ?_
          refine lv_bipush (v := 40) hx hb dX6_sheet_54 (by decide) ?_
          refine lv_icmp_le (tgt := 65) hx hb dX6_sheet_56 rfl (fun c18 => ?_) (fun c18 => ?_)
          · have h := if_some_t h c18
            refine lv_aload_n hx hb dX6_sheet_65 rfl (lv_at hl 0 rfl) ?_
            refine g_bitsOf C hP dX6_sheet_66 ?_
            refine lv_iload_n hx hb dX6_sheet_69 rfl (lv_at hl 1 rfl) ?_
            refine lv_iload_n hx hb dX6_sheet_70 rfl (lv_at hl 2 rfl) ?_
            obtain ⟨b19, hb19, h⟩ := bd1_some h
            refine mm_st C hP hS 11 (by decide) rfl hb19 dX6_sheet_71 (fun H locs hP hS => ?_)
            refine lv_aload_n hx hb dX6_sheet_72 rfl (lv_at hl 0 rfl) ?_
            refine g_sizeOf C hP dX6_sheet_73 ?_
            refine lv_iload_n hx hb dX6_sheet_76 rfl (lv_at hl 1 rfl) ?_
            refine lv_iload_n hx hb dX6_sheet_77 rfl (lv_at hl 2 rfl) ?_
            refine lv_if_ne (tgt := 85) hx hb dX6_sheet_78 rfl (fun c20 => ?_) (fun c20 => ?_)
            · have h := if_some_f h c20
              refine lv_iload_n hx hb dX6_sheet_85 rfl (lv_at hl 3 rfl) ?_
              obtain ⟨b21, hb21, h⟩ := bd1_some h
              refine mm_st C hP hS 12 (by decide) rfl hb21 dX6_sheet_86 (fun H locs hP hS => ?_)
              refine lv_iconst (v := 0) hx hb dX6_sheet_87 (by decide) ?_
              refine lv_istore (lv' := [(4, .int 0), (0, .ref (ad 0)), (1, .int x1), (2, .int x2), (3, .int x3)]) hx hb dX6_sheet_88 hl (by decide) rfl (fun ls hl => ?_)
              obtain ⟨st22, hz23, h⟩ := bd1_some h
              refine L90 x1 N _ 0 _ hz23 _ _ hP hS ls (lv_sub hl [1, 2, 0] rfl) (fun H locs hP hS ls hl => ?_)
              refine lv_iconst (v := 1) hx hb dX6_sheet_116 (by decide) ?_
              exact mm_viret hx hb hr hlk h hP hS dX6_sheet_117
            · have h := if_some_t h c20
              refine lv_iconst (v := 0) hx hb dX6_sheet_81 (by decide) ?_
              refine lv_goto (tgt := 86) hx hb dX6_sheet_82 rfl ?_
              obtain ⟨b24, hb24, h⟩ := bd1_some h
              refine mm_st C hP hS 12 (by decide) rfl hb24 dX6_sheet_86 (fun H locs hP hS => ?_)
              refine lv_iconst (v := 0) hx hb dX6_sheet_87 (by decide) ?_
              refine lv_istore (lv' := [(4, .int 0), (0, .ref (ad 0)), (1, .int x1), (2, .int x2), (3, .int x3)]) hx hb dX6_sheet_88 hl (by decide) rfl (fun ls hl => ?_)
              obtain ⟨st25, hz26, h⟩ := bd1_some h
              refine L90 x1 N _ 0 _ hz26 _ _ hP hS ls (lv_sub hl [1, 2, 0] rfl) (fun H locs hP hS ls hl => ?_)
              refine lv_iconst (v := 1) hx hb dX6_sheet_116 (by decide) ?_
              exact mm_viret hx hb hr hlk h hP hS dX6_sheet_117
          · have h := if_some_f h c18
            refine lv_aload_n hx hb dX6_sheet_59 rfl (lv_at hl 0 rfl) ?_
            refine lv_iconst (v := 1) hx hb dX6_sheet_60 (by decide) ?_
            obtain ⟨v27, st28, hv27, h⟩ := bd2_some h
            refine k_finds C hP hS hv27 (Nat.le_of_ble_eq_true rfl) hl.1 (Nat.le_of_ble_eq_true rfl) hcs dX6_sheet_61 (fun H locs hP hS => ?_)
            exact mm_viret hx hb hr hlk h hP hS dX6_sheet_64
      · have h := if_some_f h c6
        refine lv_iload_n hx hb dX6_sheet_39 rfl (lv_at hl 3 rfl) ?_
        refine lv_if_ge (tgt := 49) hx hb dX6_sheet_40 rfl (fun c29 => ?_) (fun c29 => ?_)
        · have h := if_some_t h c29
          refine lv_iload_n hx hb dX6_sheet_49 rfl (lv_at hl 2 rfl) ?_
          refine lv_if_eq (tgt := 65) hx hb dX6_sheet_50 rfl (fun c30 => ?_) (fun c30 => ?_)
          · have h := if_some_t h c30
            refine lv_aload_n hx hb dX6_sheet_65 rfl (lv_at hl 0 rfl) ?_
            refine g_bitsOf C hP dX6_sheet_66 ?_
            refine lv_iload_n hx hb dX6_sheet_69 rfl (lv_at hl 1 rfl) ?_
            refine lv_iload_n hx hb dX6_sheet_70 rfl (lv_at hl 2 rfl) ?_
            obtain ⟨b31, hb31, h⟩ := bd1_some h
            refine mm_st C hP hS 11 (by decide) rfl hb31 dX6_sheet_71 (fun H locs hP hS => ?_)
            refine lv_aload_n hx hb dX6_sheet_72 rfl (lv_at hl 0 rfl) ?_
            refine g_sizeOf C hP dX6_sheet_73 ?_
            refine lv_iload_n hx hb dX6_sheet_76 rfl (lv_at hl 1 rfl) ?_
            refine lv_iload_n hx hb dX6_sheet_77 rfl (lv_at hl 2 rfl) ?_
            refine lv_if_ne (tgt := 85) hx hb dX6_sheet_78 rfl (fun c32 => ?_) (fun c32 => ?_)
            · have h := if_some_f h c32
              refine lv_iload_n hx hb dX6_sheet_85 rfl (lv_at hl 3 rfl) ?_
              obtain ⟨b33, hb33, h⟩ := bd1_some h
              refine mm_st C hP hS 12 (by decide) rfl hb33 dX6_sheet_86 (fun H locs hP hS => ?_)
              refine lv_iconst (v := 0) hx hb dX6_sheet_87 (by decide) ?_
              refine lv_istore (lv' := [(4, .int 0), (0, .ref (ad 0)), (1, .int x1), (2, .int x2), (3, .int x3)]) hx hb dX6_sheet_88 hl (by decide) rfl (fun ls hl => ?_)
              obtain ⟨st34, hz35, h⟩ := bd1_some h
              refine L90 x1 N _ 0 _ hz35 _ _ hP hS ls (lv_sub hl [1, 2, 0] rfl) (fun H locs hP hS ls hl => ?_)
              refine lv_iconst (v := 1) hx hb dX6_sheet_116 (by decide) ?_
              exact mm_viret hx hb hr hlk h hP hS dX6_sheet_117
            · have h := if_some_t h c32
              refine lv_iconst (v := 0) hx hb dX6_sheet_81 (by decide) ?_
              refine lv_goto (tgt := 86) hx hb dX6_sheet_82 rfl ?_
              obtain ⟨b36, hb36, h⟩ := bd1_some h
              refine mm_st C hP hS 12 (by decide) rfl hb36 dX6_sheet_86 (fun H locs hP hS => ?_)
              refine lv_iconst (v := 0) hx hb dX6_sheet_87 (by decide) ?_
              refine lv_istore (lv' := [(4, .int 0), (0, .ref (ad 0)), (1, .int x1), (2, .int x2), (3, .int x3)]) hx hb dX6_sheet_88 hl (by decide) rfl (fun ls hl => ?_)
              obtain ⟨st37, hz38, h⟩ := bd1_some h
              refine L90 x1 N _ 0 _ hz38 _ _ hP hS ls (lv_sub hl [1, 2, 0] rfl) (fun H locs hP hS ls hl => ?_)
              refine lv_iconst (v := 1) hx hb dX6_sheet_116 (by decide) ?_
              exact mm_viret hx hb hr hlk h hP hS dX6_sheet_117
          · have h := if_some_f h c30
            refine lv_iload_n hx hb dX6_sheet_53 rfl (lv_at hl 3 rfl) ?_
            refine lv_bipush (v := 40) hx hb dX6_sheet_54 (by decide) ?_
            refine lv_icmp_le (tgt := 65) hx hb dX6_sheet_56 rfl (fun c39 => ?_) (fun c39 => ?_)
            · have h := if_some_t h c39
              refine lv_aload_n hx hb dX6_sheet_65 rfl (lv_at hl 0 rfl) ?_
              refine g_bitsOf C hP dX6_sheet_66 ?_
              refine lv_iload_n hx hb dX6_sheet_69 rfl (lv_at hl 1 rfl) ?_
              refine lv_iload_n hx hb dX6_sheet_70 rfl (lv_at hl 2 rfl) ?_
              obtain ⟨b40, hb40, h⟩ := bd1_some h
              refine mm_st C hP hS 11 (by decide) rfl hb40 dX6_sheet_71 (fun H locs hP hS => ?_)
              refine lv_aload_n hx hb dX6_sheet_72 rfl (lv_at hl 0 rfl) ?_
              refine g_sizeOf C hP dX6_sheet_73 ?_
              refine lv_iload_n hx hb dX6_sheet_76 rfl (lv_at hl 1 rfl) ?_
              refine lv_iload_n hx hb dX6_sheet_77 rfl (lv_at hl 2 rfl) ?_
              refine lv_if_ne (tgt := 85) hx hb dX6_sheet_78 rfl (fun c41 => ?_) (fun c41 => ?_)
              · have h := if_some_f h c41
                refine lv_iload_n hx hb dX6_sheet_85 rfl (lv_at hl 3 rfl) ?_
                obtain ⟨b42, hb42, h⟩ := bd1_some h
                refine mm_st C hP hS 12 (by decide) rfl hb42 dX6_sheet_86 (fun H locs hP hS => ?_)
                refine lv_iconst (v := 0) hx hb dX6_sheet_87 (by decide) ?_
                refine lv_istore (lv' := [(4, .int 0), (0, .ref (ad 0)), (1, .int x1), (2, .int x2), (3, .int x3)]) hx hb dX6_sheet_88 hl (by decide) rfl (fun ls hl => ?_)
                obtain ⟨st43, hz44, h⟩ := bd1_some h
                refine L90 x1 N _ 0 _ hz44 _ _ hP hS ls (lv_sub hl [1, 2, 0] rfl) (fun H locs hP hS ls hl => ?_)
                refine lv_iconst (v := 1) hx hb dX6_sheet_116 (by decide) ?_
                exact mm_viret hx hb hr hlk h hP hS dX6_sheet_117
              · have h := if_some_t h c41
                refine lv_iconst (v := 0) hx hb dX6_sheet_81 (by decide) ?_
                refine lv_goto (tgt := 86) hx hb dX6_sheet_82 rfl ?_
                obtain ⟨b45, hb45, h⟩ := bd1_some h
                refine mm_st C hP hS 12 (by decide) rfl hb45 dX6_sheet_86 (fun H locs hP hS => ?_)
                refine lv_iconst (v := 0) hx hb dX6_sheet_87 (by decide) ?_
                refine lv_istore (lv' := [(4, .int 0), (0, .ref (ad 0)), (1, .int x1), (2, .int x2), (3, .int x3)]) hx hb dX6_sheet_88 hl (by decide) rfl (fun ls hl => ?_)
                obtain ⟨st46, hz47, h⟩ := bd1_some h
                refine L90 x1 N _ 0 _ hz47 _ _ hP hS ls (lv_sub hl [1, 2, 0] rfl) (fun H locs hP hS ls hl => ?_)
                refine lv_iconst (v := 1) hx hb dX6_sheet_116 (by decide) ?_
                exact mm_viret hx hb hr hlk h hP hS dX6_sheet_117
            · have h := if_some_f h c39
              refine lv_aload_n hx hb dX6_sheet_59 rfl (lv_at hl 0 rfl) ?_
              refine lv_iconst (v := 1) hx hb dX6_sheet_60 (by decide) ?_
              obtain ⟨v48, st49, hv48, h⟩ := bd2_some h
              refine k_finds C hP hS hv48 (Nat.le_of_ble_eq_true rfl) hl.1 (Nat.le_of_ble_eq_true rfl) hcs dX6_sheet_61 (fun H locs hP hS => ?_)
              exact mm_viret hx hb hr hlk h hP hS dX6_sheet_64
        · have h := if_some_f h c29
          refine lv_aload_n hx hb dX6_sheet_43 rfl (lv_at hl 0 rfl) ?_
          refine lv_iconst (v := 3) hx hb dX6_sheet_44 (by decide) ?_
          obtain ⟨v50, st51, hv50, h⟩ := bd2_some h
          refine k_finds C hP hS hv50 (Nat.le_of_ble_eq_true rfl) hl.1 (Nat.le_of_ble_eq_true rfl) hcs dX6_sheet_45 (fun H locs hP hS => ?_)
          exact mm_viret hx hb hr hlk h hP hS dX6_sheet_48
    · have h := if_some_f h c5
      refine lv_iload_n hx hb dX6_sheet_11 rfl (lv_at hl 2 rfl) ?_
      refine lv_bipush (v := 8) hx hb dX6_sheet_12 (by decide) ?_
      refine lv_icmp_eq (tgt := 35) hx hb dX6_sheet_14 rfl (fun c52 => ?_) (fun c52 => ?_)
      · have h := if_some_t h c52
        refine lv_iload_n hx hb dX6_sheet_35 rfl (lv_at hl 2 rfl) ?_
        refine lv_if_eq (tgt := 49) hx hb dX6_sheet_36 rfl (fun c53 => ?_) (fun c53 => ?_)
        · have h := if_some_t h c53
          refine lv_iload_n hx hb dX6_sheet_49 rfl (lv_at hl 2 rfl) ?_
          refine lv_if_eq (tgt := 65) hx hb dX6_sheet_50 rfl (fun c54 => ?_) (fun c54 => ?_)
          · have h := if_some_t h c54
            refine lv_aload_n hx hb dX6_sheet_65 rfl (lv_at hl 0 rfl) ?_
            refine g_bitsOf C hP dX6_sheet_66 ?_
            refine lv_iload_n hx hb dX6_sheet_69 rfl (lv_at hl 1 rfl) ?_
            refine lv_iload_n hx hb dX6_sheet_70 rfl (lv_at hl 2 rfl) ?_
            obtain ⟨b55, hb55, h⟩ := bd1_some h
            refine mm_st C hP hS 11 (by decide) rfl hb55 dX6_sheet_71 (fun H locs hP hS => ?_)
            refine lv_aload_n hx hb dX6_sheet_72 rfl (lv_at hl 0 rfl) ?_
            refine g_sizeOf C hP dX6_sheet_73 ?_
            refine lv_iload_n hx hb dX6_sheet_76 rfl (lv_at hl 1 rfl) ?_
            refine lv_iload_n hx hb dX6_sheet_77 rfl (lv_at hl 2 rfl) ?_
            refine lv_if_ne (tgt := 85) hx hb dX6_sheet_78 rfl (fun c56 => ?_) (fun c56 => ?_)
            · have h := if_some_f h c56
              refine lv_iload_n hx hb dX6_sheet_85 rfl (lv_at hl 3 rfl) ?_
              obtain ⟨b57, hb57, h⟩ := bd1_some h
              refine mm_st C hP hS 12 (by decide) rfl hb57 dX6_sheet_86 (fun H locs hP hS => ?_)
              refine lv_iconst (v := 0) hx hb dX6_sheet_87 (by decide) ?_
              refine lv_istore (lv' := [(4, .int 0), (0, .ref (ad 0)), (1, .int x1), (2, .int x2), (3, .int x3)]) hx hb dX6_sheet_88 hl (by decide) rfl (fun ls hl => ?_)
              obtain ⟨st58, hz59, h⟩ := bd1_some h
              refine L90 x1 N _ 0 _ hz59 _ _ hP hS ls (lv_sub hl [1, 2, 0] rfl) (fun H locs hP hS ls hl => ?_)
              refine lv_iconst (v := 1) hx hb dX6_sheet_116 (by decide) ?_
              exact mm_viret hx hb hr hlk h hP hS dX6_sheet_117
            · have h := if_some_t h c56
              refine lv_iconst (v := 0) hx hb dX6_sheet_81 (by decide) ?_
              refine lv_goto (tgt := 86) hx hb dX6_sheet_82 rfl ?_
              obtain ⟨b60, hb60, h⟩ := bd1_some h
              refine mm_st C hP hS 12 (by decide) rfl hb60 dX6_sheet_86 (fun H locs hP hS => ?_)
              refine lv_iconst (v := 0) hx hb dX6_sheet_87 (by decide) ?_
              refine lv_istore (lv' := [(4, .int 0), (0, .ref (ad 0)), (1, .int x1), (2, .int x2), (3, .int x3)]) hx hb dX6_sheet_88 hl (by decide) rfl (fun ls hl => ?_)
              obtain ⟨st61, hz62, h⟩ := bd1_some h
              refine L90 x1 N _ 0 _ hz62 _ _ hP hS ls (lv_sub hl [1, 2, 0] rfl) (fun H locs hP hS ls hl => ?_)
              refine lv_iconst (v := 1) hx hb dX6_sheet_116 (by decide) ?_
              exact mm_viret hx hb hr hlk h hP hS dX6_sheet_117
          · have h := if_some_f h c54
            refine lv_iload_n hx hb dX6_sheet_53 rfl (lv_at hl 3 rfl) ?_
            refine lv_bipush (v := 40) hx hb dX6_sheet_54 (by decide) ?_
            refine lv_icmp_le (tgt := 65) hx hb dX6_sheet_56 rfl (fun c63 => ?_) (fun c63 => ?_)
            · have h := if_some_t h c63
              refine lv_aload_n hx hb dX6_sheet_65 rfl (lv_at hl 0 rfl) ?_
              refine g_bitsOf C hP dX6_sheet_66 ?_
              refine lv_iload_n hx hb dX6_sheet_69 rfl (lv_at hl 1 rfl) ?_
              refine lv_iload_n hx hb dX6_sheet_70 rfl (lv_at hl 2 rfl) ?_
              obtain ⟨b64, hb64, h⟩ := bd1_some h
              refine mm_st C hP hS 11 (by decide) rfl hb64 dX6_sheet_71 (fun H locs hP hS => ?_)
              refine lv_aload_n hx hb dX6_sheet_72 rfl (lv_at hl 0 rfl) ?_
              refine g_sizeOf C hP dX6_sheet_73 ?_
              refine lv_iload_n hx hb dX6_sheet_76 rfl (lv_at hl 1 rfl) ?_
              refine lv_iload_n hx hb dX6_sheet_77 rfl (lv_at hl 2 rfl) ?_
              refine lv_if_ne (tgt := 85) hx hb dX6_sheet_78 rfl (fun c65 => ?_) (fun c65 => ?_)
              · have h := if_some_f h c65
                refine lv_iload_n hx hb dX6_sheet_85 rfl (lv_at hl 3 rfl) ?_
                obtain ⟨b66, hb66, h⟩ := bd1_some h
                refine mm_st C hP hS 12 (by decide) rfl hb66 dX6_sheet_86 (fun H locs hP hS => ?_)
                refine lv_iconst (v := 0) hx hb dX6_sheet_87 (by decide) ?_
                refine lv_istore (lv' := [(4, .int 0), (0, .ref (ad 0)), (1, .int x1), (2, .int x2), (3, .int x3)]) hx hb dX6_sheet_88 hl (by decide) rfl (fun ls hl => ?_)
                obtain ⟨st67, hz68, h⟩ := bd1_some h
                refine L90 x1 N _ 0 _ hz68 _ _ hP hS ls (lv_sub hl [1, 2, 0] rfl) (fun H locs hP hS ls hl => ?_)
                refine lv_iconst (v := 1) hx hb dX6_sheet_116 (by decide) ?_
                exact mm_viret hx hb hr hlk h hP hS dX6_sheet_117
              · have h := if_some_t h c65
                refine lv_iconst (v := 0) hx hb dX6_sheet_81 (by decide) ?_
                refine lv_goto (tgt := 86) hx hb dX6_sheet_82 rfl ?_
                obtain ⟨b69, hb69, h⟩ := bd1_some h
                refine mm_st C hP hS 12 (by decide) rfl hb69 dX6_sheet_86 (fun H locs hP hS => ?_)
                refine lv_iconst (v := 0) hx hb dX6_sheet_87 (by decide) ?_
                refine lv_istore (lv' := [(4, .int 0), (0, .ref (ad 0)), (1, .int x1), (2, .int x2), (3, .int x3)]) hx hb dX6_sheet_88 hl (by decide) rfl (fun ls hl => ?_)
                obtain ⟨st70, hz71, h⟩ := bd1_some h
                refine L90 x1 N _ 0 _ hz71 _ _ hP hS ls (lv_sub hl [1, 2, 0] rfl) (fun H locs hP hS ls hl => ?_)
                refine lv_iconst (v := 1) hx hb dX6_sheet_116 (by decide) ?_
                exact mm_viret hx hb hr hlk h hP hS dX6_sheet_117
            · have h := if_some_f h c63
              refine lv_aload_n hx hb dX6_sheet_59 rfl (lv_at hl 0 rfl) ?_
              refine lv_iconst (v := 1) hx hb dX6_sheet_60 (by decide) ?_
              obtain ⟨v72, st73, hv72, h⟩ := bd2_some h
              refine k_finds C hP hS hv72 (Nat.le_of_ble_eq_true rfl) hl.1 (Nat.le_of_ble_eq_true rfl) hcs dX6_sheet_61 (fun H locs hP hS => ?_)
              exact mm_viret hx hb hr hlk h hP hS dX6_sheet_64
        · have h := if_some_f h c53
          refine lv_iload_n hx hb dX6_sheet_39 rfl (lv_at hl 3 rfl) ?_
          refine lv_if_ge (tgt := 49) hx hb dX6_sheet_40 rfl (fun c74 => ?_) (fun c74 => ?_)
          · have h := if_some_t h c74
            refine lv_iload_n hx hb dX6_sheet_49 rfl (lv_at hl 2 rfl) ?_
            refine lv_if_eq (tgt := 65) hx hb dX6_sheet_50 rfl (fun c75 => ?_) (fun c75 => ?_)
            · have h := if_some_t h c75
              refine lv_aload_n hx hb dX6_sheet_65 rfl (lv_at hl 0 rfl) ?_
              refine g_bitsOf C hP dX6_sheet_66 ?_
              refine lv_iload_n hx hb dX6_sheet_69 rfl (lv_at hl 1 rfl) ?_
              refine lv_iload_n hx hb dX6_sheet_70 rfl (lv_at hl 2 rfl) ?_
              obtain ⟨b76, hb76, h⟩ := bd1_some h
              refine mm_st C hP hS 11 (by decide) rfl hb76 dX6_sheet_71 (fun H locs hP hS => ?_)
              refine lv_aload_n hx hb dX6_sheet_72 rfl (lv_at hl 0 rfl) ?_
              refine g_sizeOf C hP dX6_sheet_73 ?_
              refine lv_iload_n hx hb dX6_sheet_76 rfl (lv_at hl 1 rfl) ?_
              refine lv_iload_n hx hb dX6_sheet_77 rfl (lv_at hl 2 rfl) ?_
              refine lv_if_ne (tgt := 85) hx hb dX6_sheet_78 rfl (fun c77 => ?_) (fun c77 => ?_)
              · have h := if_some_f h c77
                refine lv_iload_n hx hb dX6_sheet_85 rfl (lv_at hl 3 rfl) ?_
                obtain ⟨b78, hb78, h⟩ := bd1_some h
                refine mm_st C hP hS 12 (by decide) rfl hb78 dX6_sheet_86 (fun H locs hP hS => ?_)
                refine lv_iconst (v := 0) hx hb dX6_sheet_87 (by decide) ?_
                refine lv_istore (lv' := [(4, .int 0), (0, .ref (ad 0)), (1, .int x1), (2, .int x2), (3, .int x3)]) hx hb dX6_sheet_88 hl (by decide) rfl (fun ls hl => ?_)
                obtain ⟨st79, hz80, h⟩ := bd1_some h
                refine L90 x1 N _ 0 _ hz80 _ _ hP hS ls (lv_sub hl [1, 2, 0] rfl) (fun H locs hP hS ls hl => ?_)
                refine lv_iconst (v := 1) hx hb dX6_sheet_116 (by decide) ?_
                exact mm_viret hx hb hr hlk h hP hS dX6_sheet_117
              · have h := if_some_t h c77
                refine lv_iconst (v := 0) hx hb dX6_sheet_81 (by decide) ?_
                refine lv_goto (tgt := 86) hx hb dX6_sheet_82 rfl ?_
                obtain ⟨b81, hb81, h⟩ := bd1_some h
                refine mm_st C hP hS 12 (by decide) rfl hb81 dX6_sheet_86 (fun H locs hP hS => ?_)
                refine lv_iconst (v := 0) hx hb dX6_sheet_87 (by decide) ?_
                refine lv_istore (lv' := [(4, .int 0), (0, .ref (ad 0)), (1, .int x1), (2, .int x2), (3, .int x3)]) hx hb dX6_sheet_88 hl (by decide) rfl (fun ls hl => ?_)
                obtain ⟨st82, hz83, h⟩ := bd1_some h
                refine L90 x1 N _ 0 _ hz83 _ _ hP hS ls (lv_sub hl [1, 2, 0] rfl) (fun H locs hP hS ls hl => ?_)
                refine lv_iconst (v := 1) hx hb dX6_sheet_116 (by decide) ?_
                exact mm_viret hx hb hr hlk h hP hS dX6_sheet_117
            · have h := if_some_f h c75
              refine lv_iload_n hx hb dX6_sheet_53 rfl (lv_at hl 3 rfl) ?_
              refine lv_bipush (v := 40) hx hb dX6_sheet_54 (by decide) ?_
              refine lv_icmp_le (tgt := 65) hx hb dX6_sheet_56 rfl (fun c84 => ?_) (fun c84 => ?_)
              · have h := if_some_t h c84
                refine lv_aload_n hx hb dX6_sheet_65 rfl (lv_at hl 0 rfl) ?_
                refine g_bitsOf C hP dX6_sheet_66 ?_
                refine lv_iload_n hx hb dX6_sheet_69 rfl (lv_at hl 1 rfl) ?_
                refine lv_iload_n hx hb dX6_sheet_70 rfl (lv_at hl 2 rfl) ?_
                obtain ⟨b85, hb85, h⟩ := bd1_some h
                refine mm_st C hP hS 11 (by decide) rfl hb85 dX6_sheet_71 (fun H locs hP hS => ?_)
                refine lv_aload_n hx hb dX6_sheet_72 rfl (lv_at hl 0 rfl) ?_
                refine g_sizeOf C hP dX6_sheet_73 ?_
                refine lv_iload_n hx hb dX6_sheet_76 rfl (lv_at hl 1 rfl) ?_
                refine lv_iload_n hx hb dX6_sheet_77 rfl (lv_at hl 2 rfl) ?_
                refine lv_if_ne (tgt := 85) hx hb dX6_sheet_78 rfl (fun c86 => ?_) (fun c86 => ?_)
                · have h := if_some_f h c86
                  refine lv_iload_n hx hb dX6_sheet_85 rfl (lv_at hl 3 rfl) ?_
                  obtain ⟨b87, hb87, h⟩ := bd1_some h
                  refine mm_st C hP hS 12 (by decide) rfl hb87 dX6_sheet_86 (fun H locs hP hS => ?_)
                  refine lv_iconst (v := 0) hx hb dX6_sheet_87 (by decide) ?_
                  refine lv_istore (lv' := [(4, .int 0), (0, .ref (ad 0)), (1, .int x1), (2, .int x2), (3, .int x3)]) hx hb dX6_sheet_88 hl (by decide) rfl (fun ls hl => ?_)
                  obtain ⟨st88, hz89, h⟩ := bd1_some h
                  refine L90 x1 N _ 0 _ hz89 _ _ hP hS ls (lv_sub hl [1, 2, 0] rfl) (fun H locs hP hS ls hl => ?_)
                  refine lv_iconst (v := 1) hx hb dX6_sheet_116 (by decide) ?_
                  exact mm_viret hx hb hr hlk h hP hS dX6_sheet_117
                · have h := if_some_t h c86
                  refine lv_iconst (v := 0) hx hb dX6_sheet_81 (by decide) ?_
                  refine lv_goto (tgt := 86) hx hb dX6_sheet_82 rfl ?_
                  obtain ⟨b90, hb90, h⟩ := bd1_some h
                  refine mm_st C hP hS 12 (by decide) rfl hb90 dX6_sheet_86 (fun H locs hP hS => ?_)
                  refine lv_iconst (v := 0) hx hb dX6_sheet_87 (by decide) ?_
                  refine lv_istore (lv' := [(4, .int 0), (0, .ref (ad 0)), (1, .int x1), (2, .int x2), (3, .int x3)]) hx hb dX6_sheet_88 hl (by decide) rfl (fun ls hl => ?_)
                  obtain ⟨st91, hz92, h⟩ := bd1_some h
                  refine L90 x1 N _ 0 _ hz92 _ _ hP hS ls (lv_sub hl [1, 2, 0] rfl) (fun H locs hP hS ls hl => ?_)
                  refine lv_iconst (v := 1) hx hb dX6_sheet_116 (by decide) ?_
                  exact mm_viret hx hb hr hlk h hP hS dX6_sheet_117
              · have h := if_some_f h c84
                refine lv_aload_n hx hb dX6_sheet_59 rfl (lv_at hl 0 rfl) ?_
                refine lv_iconst (v := 1) hx hb dX6_sheet_60 (by decide) ?_
                obtain ⟨v93, st94, hv93, h⟩ := bd2_some h
                refine k_finds C hP hS hv93 (Nat.le_of_ble_eq_true rfl) hl.1 (Nat.le_of_ble_eq_true rfl) hcs dX6_sheet_61 (fun H locs hP hS => ?_)
                exact mm_viret hx hb hr hlk h hP hS dX6_sheet_64
          · have h := if_some_f h c74
            refine lv_aload_n hx hb dX6_sheet_43 rfl (lv_at hl 0 rfl) ?_
            refine lv_iconst (v := 3) hx hb dX6_sheet_44 (by decide) ?_
            obtain ⟨v95, st96, hv95, h⟩ := bd2_some h
            refine k_finds C hP hS hv95 (Nat.le_of_ble_eq_true rfl) hl.1 (Nat.le_of_ble_eq_true rfl) hcs dX6_sheet_45 (fun H locs hP hS => ?_)
            exact mm_viret hx hb hr hlk h hP hS dX6_sheet_48
      · have h := if_some_f h c52
        refine lv_iload_n hx hb dX6_sheet_17 rfl (lv_at hl 2 rfl) ?_
        refine lv_bipush (v := 16) hx hb dX6_sheet_18 (by decide) ?_
        refine lv_icmp_eq (tgt := 35) hx hb dX6_sheet_20 rfl (fun c97 => ?_) (fun c97 => ?_)
        · have h := if_some_t h c97
          refine lv_iload_n hx hb dX6_sheet_35 rfl (lv_at hl 2 rfl) ?_
          refine lv_if_eq (tgt := 49) hx hb dX6_sheet_36 rfl (fun c98 => ?_) (fun c98 => ?_)
          · have h := if_some_t h c98
            refine lv_iload_n hx hb dX6_sheet_49 rfl (lv_at hl 2 rfl) ?_
            refine lv_if_eq (tgt := 65) hx hb dX6_sheet_50 rfl (fun c99 => ?_) (fun c99 => ?_)
            · have h := if_some_t h c99
              refine lv_aload_n hx hb dX6_sheet_65 rfl (lv_at hl 0 rfl) ?_
              refine g_bitsOf C hP dX6_sheet_66 ?_
              refine lv_iload_n hx hb dX6_sheet_69 rfl (lv_at hl 1 rfl) ?_
              refine lv_iload_n hx hb dX6_sheet_70 rfl (lv_at hl 2 rfl) ?_
              obtain ⟨b100, hb100, h⟩ := bd1_some h
              refine mm_st C hP hS 11 (by decide) rfl hb100 dX6_sheet_71 (fun H locs hP hS => ?_)
              refine lv_aload_n hx hb dX6_sheet_72 rfl (lv_at hl 0 rfl) ?_
              refine g_sizeOf C hP dX6_sheet_73 ?_
              refine lv_iload_n hx hb dX6_sheet_76 rfl (lv_at hl 1 rfl) ?_
              refine lv_iload_n hx hb dX6_sheet_77 rfl (lv_at hl 2 rfl) ?_
              refine lv_if_ne (tgt := 85) hx hb dX6_sheet_78 rfl (fun c101 => ?_) (fun c101 => ?_)
              · have h := if_some_f h c101
                refine lv_iload_n hx hb dX6_sheet_85 rfl (lv_at hl 3 rfl) ?_
                obtain ⟨b102, hb102, h⟩ := bd1_some h
                refine mm_st C hP hS 12 (by decide) rfl hb102 dX6_sheet_86 (fun H locs hP hS => ?_)
                refine lv_iconst (v := 0) hx hb dX6_sheet_87 (by decide) ?_
                refine lv_istore (lv' := [(4, .int 0), (0, .ref (ad 0)), (1, .int x1), (2, .int x2), (3, .int x3)]) hx hb dX6_sheet_88 hl (by decide) rfl (fun ls hl => ?_)
                obtain ⟨st103, hz104, h⟩ := bd1_some h
                refine L90 x1 N _ 0 _ hz104 _ _ hP hS ls (lv_sub hl [1, 2, 0] rfl) (fun H locs hP hS ls hl => ?_)
                refine lv_iconst (v := 1) hx hb dX6_sheet_116 (by decide) ?_
                exact mm_viret hx hb hr hlk h hP hS dX6_sheet_117
              · have h := if_some_t h c101
                refine lv_iconst (v := 0) hx hb dX6_sheet_81 (by decide) ?_
                refine lv_goto (tgt := 86) hx hb dX6_sheet_82 rfl ?_
                obtain ⟨b105, hb105, h⟩ := bd1_some h
                refine mm_st C hP hS 12 (by decide) rfl hb105 dX6_sheet_86 (fun H locs hP hS => ?_)
                refine lv_iconst (v := 0) hx hb dX6_sheet_87 (by decide) ?_
                refine lv_istore (lv' := [(4, .int 0), (0, .ref (ad 0)), (1, .int x1), (2, .int x2), (3, .int x3)]) hx hb dX6_sheet_88 hl (by decide) rfl (fun ls hl => ?_)
                obtain ⟨st106, hz107, h⟩ := bd1_some h
                refine L90 x1 N _ 0 _ hz107 _ _ hP hS ls (lv_sub hl [1, 2, 0] rfl) (fun H locs hP hS ls hl => ?_)
                refine lv_iconst (v := 1) hx hb dX6_sheet_116 (by decide) ?_
                exact mm_viret hx hb hr hlk h hP hS dX6_sheet_117
            · have h := if_some_f h c99
              refine lv_iload_n hx hb dX6_sheet_53 rfl (lv_at hl 3 rfl) ?_
              refine lv_bipush (v := 40) hx hb dX6_sheet_54 (by decide) ?_
              refine lv_icmp_le (tgt := 65) hx hb dX6_sheet_56 rfl (fun c108 => ?_) (fun c108 => ?_)
              · have h := if_some_t h c108
                refine lv_aload_n hx hb dX6_sheet_65 rfl (lv_at hl 0 rfl) ?_
                refine g_bitsOf C hP dX6_sheet_66 ?_
                refine lv_iload_n hx hb dX6_sheet_69 rfl (lv_at hl 1 rfl) ?_
                refine lv_iload_n hx hb dX6_sheet_70 rfl (lv_at hl 2 rfl) ?_
                obtain ⟨b109, hb109, h⟩ := bd1_some h
                refine mm_st C hP hS 11 (by decide) rfl hb109 dX6_sheet_71 (fun H locs hP hS => ?_)
                refine lv_aload_n hx hb dX6_sheet_72 rfl (lv_at hl 0 rfl) ?_
                refine g_sizeOf C hP dX6_sheet_73 ?_
                refine lv_iload_n hx hb dX6_sheet_76 rfl (lv_at hl 1 rfl) ?_
                refine lv_iload_n hx hb dX6_sheet_77 rfl (lv_at hl 2 rfl) ?_
                refine lv_if_ne (tgt := 85) hx hb dX6_sheet_78 rfl (fun c110 => ?_) (fun c110 => ?_)
                · have h := if_some_f h c110
                  refine lv_iload_n hx hb dX6_sheet_85 rfl (lv_at hl 3 rfl) ?_
                  obtain ⟨b111, hb111, h⟩ := bd1_some h
                  refine mm_st C hP hS 12 (by decide) rfl hb111 dX6_sheet_86 (fun H locs hP hS => ?_)
                  refine lv_iconst (v := 0) hx hb dX6_sheet_87 (by decide) ?_
                  refine lv_istore (lv' := [(4, .int 0), (0, .ref (ad 0)), (1, .int x1), (2, .int x2), (3, .int x3)]) hx hb dX6_sheet_88 hl (by decide) rfl (fun ls hl => ?_)
                  obtain ⟨st112, hz113, h⟩ := bd1_some h
                  refine L90 x1 N _ 0 _ hz113 _ _ hP hS ls (lv_sub hl [1, 2, 0] rfl) (fun H locs hP hS ls hl => ?_)
                  refine lv_iconst (v := 1) hx hb dX6_sheet_116 (by decide) ?_
                  exact mm_viret hx hb hr hlk h hP hS dX6_sheet_117
                · have h := if_some_t h c110
                  refine lv_iconst (v := 0) hx hb dX6_sheet_81 (by decide) ?_
                  refine lv_goto (tgt := 86) hx hb dX6_sheet_82 rfl ?_
                  obtain ⟨b114, hb114, h⟩ := bd1_some h
                  refine mm_st C hP hS 12 (by decide) rfl hb114 dX6_sheet_86 (fun H locs hP hS => ?_)
                  refine lv_iconst (v := 0) hx hb dX6_sheet_87 (by decide) ?_
                  refine lv_istore (lv' := [(4, .int 0), (0, .ref (ad 0)), (1, .int x1), (2, .int x2), (3, .int x3)]) hx hb dX6_sheet_88 hl (by decide) rfl (fun ls hl => ?_)
                  obtain ⟨st115, hz116, h⟩ := bd1_some h
                  refine L90 x1 N _ 0 _ hz116 _ _ hP hS ls (lv_sub hl [1, 2, 0] rfl) (fun H locs hP hS ls hl => ?_)
                  refine lv_iconst (v := 1) hx hb dX6_sheet_116 (by decide) ?_
                  exact mm_viret hx hb hr hlk h hP hS dX6_sheet_117
              · have h := if_some_f h c108
                refine lv_aload_n hx hb dX6_sheet_59 rfl (lv_at hl 0 rfl) ?_
                refine lv_iconst (v := 1) hx hb dX6_sheet_60 (by decide) ?_
                obtain ⟨v117, st118, hv117, h⟩ := bd2_some h
                refine k_finds C hP hS hv117 (Nat.le_of_ble_eq_true rfl) hl.1 (Nat.le_of_ble_eq_true rfl) hcs dX6_sheet_61 (fun H locs hP hS => ?_)
                exact mm_viret hx hb hr hlk h hP hS dX6_sheet_64
          · have h := if_some_f h c98
            refine lv_iload_n hx hb dX6_sheet_39 rfl (lv_at hl 3 rfl) ?_
            refine lv_if_ge (tgt := 49) hx hb dX6_sheet_40 rfl (fun c119 => ?_) (fun c119 => ?_)
            · have h := if_some_t h c119
              refine lv_iload_n hx hb dX6_sheet_49 rfl (lv_at hl 2 rfl) ?_
              refine lv_if_eq (tgt := 65) hx hb dX6_sheet_50 rfl (fun c120 => ?_) (fun c120 => ?_)
              · have h := if_some_t h c120
                refine lv_aload_n hx hb dX6_sheet_65 rfl (lv_at hl 0 rfl) ?_
                refine g_bitsOf C hP dX6_sheet_66 ?_
                refine lv_iload_n hx hb dX6_sheet_69 rfl (lv_at hl 1 rfl) ?_
                refine lv_iload_n hx hb dX6_sheet_70 rfl (lv_at hl 2 rfl) ?_
                obtain ⟨b121, hb121, h⟩ := bd1_some h
                refine mm_st C hP hS 11 (by decide) rfl hb121 dX6_sheet_71 (fun H locs hP hS => ?_)
                refine lv_aload_n hx hb dX6_sheet_72 rfl (lv_at hl 0 rfl) ?_
                refine g_sizeOf C hP dX6_sheet_73 ?_
                refine lv_iload_n hx hb dX6_sheet_76 rfl (lv_at hl 1 rfl) ?_
                refine lv_iload_n hx hb dX6_sheet_77 rfl (lv_at hl 2 rfl) ?_
                refine lv_if_ne (tgt := 85) hx hb dX6_sheet_78 rfl (fun c122 => ?_) (fun c122 => ?_)
                · have h := if_some_f h c122
                  refine lv_iload_n hx hb dX6_sheet_85 rfl (lv_at hl 3 rfl) ?_
                  obtain ⟨b123, hb123, h⟩ := bd1_some h
                  refine mm_st C hP hS 12 (by decide) rfl hb123 dX6_sheet_86 (fun H locs hP hS => ?_)
                  refine lv_iconst (v := 0) hx hb dX6_sheet_87 (by decide) ?_
                  refine lv_istore (lv' := [(4, .int 0), (0, .ref (ad 0)), (1, .int x1), (2, .int x2), (3, .int x3)]) hx hb dX6_sheet_88 hl (by decide) rfl (fun ls hl => ?_)
                  obtain ⟨st124, hz125, h⟩ := bd1_some h
                  refine L90 x1 N _ 0 _ hz125 _ _ hP hS ls (lv_sub hl [1, 2, 0] rfl) (fun H locs hP hS ls hl => ?_)
                  refine lv_iconst (v := 1) hx hb dX6_sheet_116 (by decide) ?_
                  exact mm_viret hx hb hr hlk h hP hS dX6_sheet_117
                · have h := if_some_t h c122
                  refine lv_iconst (v := 0) hx hb dX6_sheet_81 (by decide) ?_
                  refine lv_goto (tgt := 86) hx hb dX6_sheet_82 rfl ?_
                  obtain ⟨b126, hb126, h⟩ := bd1_some h
                  refine mm_st C hP hS 12 (by decide) rfl hb126 dX6_sheet_86 (fun H locs hP hS => ?_)
                  refine lv_iconst (v := 0) hx hb dX6_sheet_87 (by decide) ?_
                  refine lv_istore (lv' := [(4, .int 0), (0, .ref (ad 0)), (1, .int x1), (2, .int x2), (3, .int x3)]) hx hb dX6_sheet_88 hl (by decide) rfl (fun ls hl => ?_)
                  obtain ⟨st127, hz128, h⟩ := bd1_some h
                  refine L90 x1 N _ 0 _ hz128 _ _ hP hS ls (lv_sub hl [1, 2, 0] rfl) (fun H locs hP hS ls hl => ?_)
                  refine lv_iconst (v := 1) hx hb dX6_sheet_116 (by decide) ?_
                  exact mm_viret hx hb hr hlk h hP hS dX6_sheet_117
              · have h := if_some_f h c120
                refine lv_iload_n hx hb dX6_sheet_53 rfl (lv_at hl 3 rfl) ?_
                refine lv_bipush (v := 40) hx hb dX6_sheet_54 (by decide) ?_
                refine lv_icmp_le (tgt := 65) hx hb dX6_sheet_56 rfl (fun c129 => ?_) (fun c129 => ?_)
                · have h := if_some_t h c129
                  refine lv_aload_n hx hb dX6_sheet_65 rfl (lv_at hl 0 rfl) ?_
                  refine g_bitsOf C hP dX6_sheet_66 ?_
                  refine lv_iload_n hx hb dX6_sheet_69 rfl (lv_at hl 1 rfl) ?_
                  refine lv_iload_n hx hb dX6_sheet_70 rfl (lv_at hl 2 rfl) ?_
                  obtain ⟨b130, hb130, h⟩ := bd1_some h
                  refine mm_st C hP hS 11 (by decide) rfl hb130 dX6_sheet_71 (fun H locs hP hS => ?_)
                  refine lv_aload_n hx hb dX6_sheet_72 rfl (lv_at hl 0 rfl) ?_
                  refine g_sizeOf C hP dX6_sheet_73 ?_
                  refine lv_iload_n hx hb dX6_sheet_76 rfl (lv_at hl 1 rfl) ?_
                  refine lv_iload_n hx hb dX6_sheet_77 rfl (lv_at hl 2 rfl) ?_
                  refine lv_if_ne (tgt := 85) hx hb dX6_sheet_78 rfl (fun c131 => ?_) (fun c131 => ?_)
                  · have h := if_some_f h c131
                    refine lv_iload_n hx hb dX6_sheet_85 rfl (lv_at hl 3 rfl) ?_
                    obtain ⟨b132, hb132, h⟩ := bd1_some h
                    refine mm_st C hP hS 12 (by decide) rfl hb132 dX6_sheet_86 (fun H locs hP hS => ?_)
                    refine lv_iconst (v := 0) hx hb dX6_sheet_87 (by decide) ?_
                    refine lv_istore (lv' := [(4, .int 0), (0, .ref (ad 0)), (1, .int x1), (2, .int x2), (3, .int x3)]) hx hb dX6_sheet_88 hl (by decide) rfl (fun ls hl => ?_)
                    obtain ⟨st133, hz134, h⟩ := bd1_some h
                    refine L90 x1 N _ 0 _ hz134 _ _ hP hS ls (lv_sub hl [1, 2, 0] rfl) (fun H locs hP hS ls hl => ?_)
                    refine lv_iconst (v := 1) hx hb dX6_sheet_116 (by decide) ?_
                    exact mm_viret hx hb hr hlk h hP hS dX6_sheet_117
                  · have h := if_some_t h c131
                    refine lv_iconst (v := 0) hx hb dX6_sheet_81 (by decide) ?_
                    refine lv_goto (tgt := 86) hx hb dX6_sheet_82 rfl ?_
                    obtain ⟨b135, hb135, h⟩ := bd1_some h
                    refine mm_st C hP hS 12 (by decide) rfl hb135 dX6_sheet_86 (fun H locs hP hS => ?_)
                    refine lv_iconst (v := 0) hx hb dX6_sheet_87 (by decide) ?_
                    refine lv_istore (lv' := [(4, .int 0), (0, .ref (ad 0)), (1, .int x1), (2, .int x2), (3, .int x3)]) hx hb dX6_sheet_88 hl (by decide) rfl (fun ls hl => ?_)
                    obtain ⟨st136, hz137, h⟩ := bd1_some h
                    refine L90 x1 N _ 0 _ hz137 _ _ hP hS ls (lv_sub hl [1, 2, 0] rfl) (fun H locs hP hS ls hl => ?_)
                    refine lv_iconst (v := 1) hx hb dX6_sheet_116 (by decide) ?_
                    exact mm_viret hx hb hr hlk h hP hS dX6_sheet_117
                · have h := if_some_f h c129
                  refine lv_aload_n hx hb dX6_sheet_59 rfl (lv_at hl 0 rfl) ?_
                  refine lv_iconst (v := 1) hx hb dX6_sheet_60 (by decide) ?_
                  obtain ⟨v138, st139, hv138, h⟩ := bd2_some h
                  refine k_finds C hP hS hv138 (Nat.le_of_ble_eq_true rfl) hl.1 (Nat.le_of_ble_eq_true rfl) hcs dX6_sheet_61 (fun H locs hP hS => ?_)
                  exact mm_viret hx hb hr hlk h hP hS dX6_sheet_64
            · have h := if_some_f h c119
              refine lv_aload_n hx hb dX6_sheet_43 rfl (lv_at hl 0 rfl) ?_
              refine lv_iconst (v := 3) hx hb dX6_sheet_44 (by decide) ?_
              obtain ⟨v140, st141, hv140, h⟩ := bd2_some h
              refine k_finds C hP hS hv140 (Nat.le_of_ble_eq_true rfl) hl.1 (Nat.le_of_ble_eq_true rfl) hcs dX6_sheet_45 (fun H locs hP hS => ?_)
              exact mm_viret hx hb hr hlk h hP hS dX6_sheet_48
        · have h := if_some_f h c97
          refine lv_iload_n hx hb dX6_sheet_23 rfl (lv_at hl 2 rfl) ?_
          refine lv_bipush (v := 32) hx hb dX6_sheet_24 (by decide) ?_
          refine lv_icmp_eq (tgt := 35) hx hb dX6_sheet_26 rfl (fun c142 => ?_) (fun c142 => ?_)
          · have h := if_some_t h c142
            refine lv_iload_n hx hb dX6_sheet_35 rfl (lv_at hl 2 rfl) ?_
            refine lv_if_eq (tgt := 49) hx hb dX6_sheet_36 rfl (fun c143 => ?_) (fun c143 => ?_)
            · have h := if_some_t h c143
              refine lv_iload_n hx hb dX6_sheet_49 rfl (lv_at hl 2 rfl) ?_
              refine lv_if_eq (tgt := 65) hx hb dX6_sheet_50 rfl (fun c144 => ?_) (fun c144 => ?_)
              · have h := if_some_t h c144
                refine lv_aload_n hx hb dX6_sheet_65 rfl (lv_at hl 0 rfl) ?_
                refine g_bitsOf C hP dX6_sheet_66 ?_
                refine lv_iload_n hx hb dX6_sheet_69 rfl (lv_at hl 1 rfl) ?_
                refine lv_iload_n hx hb dX6_sheet_70 rfl (lv_at hl 2 rfl) ?_
                obtain ⟨b145, hb145, h⟩ := bd1_some h
                refine mm_st C hP hS 11 (by decide) rfl hb145 dX6_sheet_71 (fun H locs hP hS => ?_)
                refine lv_aload_n hx hb dX6_sheet_72 rfl (lv_at hl 0 rfl) ?_
                refine g_sizeOf C hP dX6_sheet_73 ?_
                refine lv_iload_n hx hb dX6_sheet_76 rfl (lv_at hl 1 rfl) ?_
                refine lv_iload_n hx hb dX6_sheet_77 rfl (lv_at hl 2 rfl) ?_
                refine lv_if_ne (tgt := 85) hx hb dX6_sheet_78 rfl (fun c146 => ?_) (fun c146 => ?_)
                · have h := if_some_f h c146
                  refine lv_iload_n hx hb dX6_sheet_85 rfl (lv_at hl 3 rfl) ?_
                  obtain ⟨b147, hb147, h⟩ := bd1_some h
                  refine mm_st C hP hS 12 (by decide) rfl hb147 dX6_sheet_86 (fun H locs hP hS => ?_)
                  refine lv_iconst (v := 0) hx hb dX6_sheet_87 (by decide) ?_
                  refine lv_istore (lv' := [(4, .int 0), (0, .ref (ad 0)), (1, .int x1), (2, .int x2), (3, .int x3)]) hx hb dX6_sheet_88 hl (by decide) rfl (fun ls hl => ?_)
                  obtain ⟨st148, hz149, h⟩ := bd1_some h
                  refine L90 x1 N _ 0 _ hz149 _ _ hP hS ls (lv_sub hl [1, 2, 0] rfl) (fun H locs hP hS ls hl => ?_)
                  refine lv_iconst (v := 1) hx hb dX6_sheet_116 (by decide) ?_
                  exact mm_viret hx hb hr hlk h hP hS dX6_sheet_117
                · have h := if_some_t h c146
                  refine lv_iconst (v := 0) hx hb dX6_sheet_81 (by decide) ?_
                  refine lv_goto (tgt := 86) hx hb dX6_sheet_82 rfl ?_
                  obtain ⟨b150, hb150, h⟩ := bd1_some h
                  refine mm_st C hP hS 12 (by decide) rfl hb150 dX6_sheet_86 (fun H locs hP hS => ?_)
                  refine lv_iconst (v := 0) hx hb dX6_sheet_87 (by decide) ?_
                  refine lv_istore (lv' := [(4, .int 0), (0, .ref (ad 0)), (1, .int x1), (2, .int x2), (3, .int x3)]) hx hb dX6_sheet_88 hl (by decide) rfl (fun ls hl => ?_)
                  obtain ⟨st151, hz152, h⟩ := bd1_some h
                  refine L90 x1 N _ 0 _ hz152 _ _ hP hS ls (lv_sub hl [1, 2, 0] rfl) (fun H locs hP hS ls hl => ?_)
                  refine lv_iconst (v := 1) hx hb dX6_sheet_116 (by decide) ?_
                  exact mm_viret hx hb hr hlk h hP hS dX6_sheet_117
              · have h := if_some_f h c144
                refine lv_iload_n hx hb dX6_sheet_53 rfl (lv_at hl 3 rfl) ?_
                refine lv_bipush (v := 40) hx hb dX6_sheet_54 (by decide) ?_
                refine lv_icmp_le (tgt := 65) hx hb dX6_sheet_56 rfl (fun c153 => ?_) (fun c153 => ?_)
                · have h := if_some_t h c153
                  refine lv_aload_n hx hb dX6_sheet_65 rfl (lv_at hl 0 rfl) ?_
                  refine g_bitsOf C hP dX6_sheet_66 ?_
                  refine lv_iload_n hx hb dX6_sheet_69 rfl (lv_at hl 1 rfl) ?_
                  refine lv_iload_n hx hb dX6_sheet_70 rfl (lv_at hl 2 rfl) ?_
                  obtain ⟨b154, hb154, h⟩ := bd1_some h
                  refine mm_st C hP hS 11 (by decide) rfl hb154 dX6_sheet_71 (fun H locs hP hS => ?_)
                  refine lv_aload_n hx hb dX6_sheet_72 rfl (lv_at hl 0 rfl) ?_
                  refine g_sizeOf C hP dX6_sheet_73 ?_
                  refine lv_iload_n hx hb dX6_sheet_76 rfl (lv_at hl 1 rfl) ?_
                  refine lv_iload_n hx hb dX6_sheet_77 rfl (lv_at hl 2 rfl) ?_
                  refine lv_if_ne (tgt := 85) hx hb dX6_sheet_78 rfl (fun c155 => ?_) (fun c155 => ?_)
                  · have h := if_some_f h c155
                    refine lv_iload_n hx hb dX6_sheet_85 rfl (lv_at hl 3 rfl) ?_
                    obtain ⟨b156, hb156, h⟩ := bd1_some h
                    refine mm_st C hP hS 12 (by decide) rfl hb156 dX6_sheet_86 (fun H locs hP hS => ?_)
                    refine lv_iconst (v := 0) hx hb dX6_sheet_87 (by decide) ?_
                    refine lv_istore (lv' := [(4, .int 0), (0, .ref (ad 0)), (1, .int x1), (2, .int x2), (3, .int x3)]) hx hb dX6_sheet_88 hl (by decide) rfl (fun ls hl => ?_)
                    obtain ⟨st157, hz158, h⟩ := bd1_some h
                    refine L90 x1 N _ 0 _ hz158 _ _ hP hS ls (lv_sub hl [1, 2, 0] rfl) (fun H locs hP hS ls hl => ?_)
                    refine lv_iconst (v := 1) hx hb dX6_sheet_116 (by decide) ?_
                    exact mm_viret hx hb hr hlk h hP hS dX6_sheet_117
                  · have h := if_some_t h c155
                    refine lv_iconst (v := 0) hx hb dX6_sheet_81 (by decide) ?_
                    refine lv_goto (tgt := 86) hx hb dX6_sheet_82 rfl ?_
                    obtain ⟨b159, hb159, h⟩ := bd1_some h
                    refine mm_st C hP hS 12 (by decide) rfl hb159 dX6_sheet_86 (fun H locs hP hS => ?_)
                    refine lv_iconst (v := 0) hx hb dX6_sheet_87 (by decide) ?_
                    refine lv_istore (lv' := [(4, .int 0), (0, .ref (ad 0)), (1, .int x1), (2, .int x2), (3, .int x3)]) hx hb dX6_sheet_88 hl (by decide) rfl (fun ls hl => ?_)
                    obtain ⟨st160, hz161, h⟩ := bd1_some h
                    refine L90 x1 N _ 0 _ hz161 _ _ hP hS ls (lv_sub hl [1, 2, 0] rfl) (fun H locs hP hS ls hl => ?_)
                    refine lv_iconst (v := 1) hx hb dX6_sheet_116 (by decide) ?_
                    exact mm_viret hx hb hr hlk h hP hS dX6_sheet_117
                · have h := if_some_f h c153
                  refine lv_aload_n hx hb dX6_sheet_59 rfl (lv_at hl 0 rfl) ?_
                  refine lv_iconst (v := 1) hx hb dX6_sheet_60 (by decide) ?_
                  obtain ⟨v162, st163, hv162, h⟩ := bd2_some h
                  refine k_finds C hP hS hv162 (Nat.le_of_ble_eq_true rfl) hl.1 (Nat.le_of_ble_eq_true rfl) hcs dX6_sheet_61 (fun H locs hP hS => ?_)
                  exact mm_viret hx hb hr hlk h hP hS dX6_sheet_64
            · have h := if_some_f h c143
              refine lv_iload_n hx hb dX6_sheet_39 rfl (lv_at hl 3 rfl) ?_
              refine lv_if_ge (tgt := 49) hx hb dX6_sheet_40 rfl (fun c164 => ?_) (fun c164 => ?_)
              · have h := if_some_t h c164
                refine lv_iload_n hx hb dX6_sheet_49 rfl (lv_at hl 2 rfl) ?_
                refine lv_if_eq (tgt := 65) hx hb dX6_sheet_50 rfl (fun c165 => ?_) (fun c165 => ?_)
                · have h := if_some_t h c165
                  refine lv_aload_n hx hb dX6_sheet_65 rfl (lv_at hl 0 rfl) ?_
                  refine g_bitsOf C hP dX6_sheet_66 ?_
                  refine lv_iload_n hx hb dX6_sheet_69 rfl (lv_at hl 1 rfl) ?_
                  refine lv_iload_n hx hb dX6_sheet_70 rfl (lv_at hl 2 rfl) ?_
                  obtain ⟨b166, hb166, h⟩ := bd1_some h
                  refine mm_st C hP hS 11 (by decide) rfl hb166 dX6_sheet_71 (fun H locs hP hS => ?_)
                  refine lv_aload_n hx hb dX6_sheet_72 rfl (lv_at hl 0 rfl) ?_
                  refine g_sizeOf C hP dX6_sheet_73 ?_
                  refine lv_iload_n hx hb dX6_sheet_76 rfl (lv_at hl 1 rfl) ?_
                  refine lv_iload_n hx hb dX6_sheet_77 rfl (lv_at hl 2 rfl) ?_
                  refine lv_if_ne (tgt := 85) hx hb dX6_sheet_78 rfl (fun c167 => ?_) (fun c167 => ?_)
                  · have h := if_some_f h c167
                    refine lv_iload_n hx hb dX6_sheet_85 rfl (lv_at hl 3 rfl) ?_
                    obtain ⟨b168, hb168, h⟩ := bd1_some h
                    refine mm_st C hP hS 12 (by decide) rfl hb168 dX6_sheet_86 (fun H locs hP hS => ?_)
                    refine lv_iconst (v := 0) hx hb dX6_sheet_87 (by decide) ?_
                    refine lv_istore (lv' := [(4, .int 0), (0, .ref (ad 0)), (1, .int x1), (2, .int x2), (3, .int x3)]) hx hb dX6_sheet_88 hl (by decide) rfl (fun ls hl => ?_)
                    obtain ⟨st169, hz170, h⟩ := bd1_some h
                    refine L90 x1 N _ 0 _ hz170 _ _ hP hS ls (lv_sub hl [1, 2, 0] rfl) (fun H locs hP hS ls hl => ?_)
                    refine lv_iconst (v := 1) hx hb dX6_sheet_116 (by decide) ?_
                    exact mm_viret hx hb hr hlk h hP hS dX6_sheet_117
                  · have h := if_some_t h c167
                    refine lv_iconst (v := 0) hx hb dX6_sheet_81 (by decide) ?_
                    refine lv_goto (tgt := 86) hx hb dX6_sheet_82 rfl ?_
                    obtain ⟨b171, hb171, h⟩ := bd1_some h
                    refine mm_st C hP hS 12 (by decide) rfl hb171 dX6_sheet_86 (fun H locs hP hS => ?_)
                    refine lv_iconst (v := 0) hx hb dX6_sheet_87 (by decide) ?_
                    refine lv_istore (lv' := [(4, .int 0), (0, .ref (ad 0)), (1, .int x1), (2, .int x2), (3, .int x3)]) hx hb dX6_sheet_88 hl (by decide) rfl (fun ls hl => ?_)
                    obtain ⟨st172, hz173, h⟩ := bd1_some h
                    refine L90 x1 N _ 0 _ hz173 _ _ hP hS ls (lv_sub hl [1, 2, 0] rfl) (fun H locs hP hS ls hl => ?_)
                    refine lv_iconst (v := 1) hx hb dX6_sheet_116 (by decide) ?_
                    exact mm_viret hx hb hr hlk h hP hS dX6_sheet_117
                · have h := if_some_f h c165
                  refine lv_iload_n hx hb dX6_sheet_53 rfl (lv_at hl 3 rfl) ?_
                  refine lv_bipush (v := 40) hx hb dX6_sheet_54 (by decide) ?_
                  refine lv_icmp_le (tgt := 65) hx hb dX6_sheet_56 rfl (fun c174 => ?_) (fun c174 => ?_)
                  · have h := if_some_t h c174
                    refine lv_aload_n hx hb dX6_sheet_65 rfl (lv_at hl 0 rfl) ?_
                    refine g_bitsOf C hP dX6_sheet_66 ?_
                    refine lv_iload_n hx hb dX6_sheet_69 rfl (lv_at hl 1 rfl) ?_
                    refine lv_iload_n hx hb dX6_sheet_70 rfl (lv_at hl 2 rfl) ?_
                    obtain ⟨b175, hb175, h⟩ := bd1_some h
                    refine mm_st C hP hS 11 (by decide) rfl hb175 dX6_sheet_71 (fun H locs hP hS => ?_)
                    refine lv_aload_n hx hb dX6_sheet_72 rfl (lv_at hl 0 rfl) ?_
                    refine g_sizeOf C hP dX6_sheet_73 ?_
                    refine lv_iload_n hx hb dX6_sheet_76 rfl (lv_at hl 1 rfl) ?_
                    refine lv_iload_n hx hb dX6_sheet_77 rfl (lv_at hl 2 rfl) ?_
                    refine lv_if_ne (tgt := 85) hx hb dX6_sheet_78 rfl (fun c176 => ?_) (fun c176 => ?_)
                    · have h := if_some_f h c176
                      refine lv_iload_n hx hb dX6_sheet_85 rfl (lv_at hl 3 rfl) ?_
                      obtain ⟨b177, hb177, h⟩ := bd1_some h
                      refine mm_st C hP hS 12 (by decide) rfl hb177 dX6_sheet_86 (fun H locs hP hS => ?_)
                      refine lv_iconst (v := 0) hx hb dX6_sheet_87 (by decide) ?_
                      refine lv_istore (lv' := [(4, .int 0), (0, .ref (ad 0)), (1, .int x1), (2, .int x2), (3, .int x3)]) hx hb dX6_sheet_88 hl (by decide) rfl (fun ls hl => ?_)
                      obtain ⟨st178, hz179, h⟩ := bd1_some h
                      refine L90 x1 N _ 0 _ hz179 _ _ hP hS ls (lv_sub hl [1, 2, 0] rfl) (fun H locs hP hS ls hl => ?_)
                      refine lv_iconst (v := 1) hx hb dX6_sheet_116 (by decide) ?_
                      exact mm_viret hx hb hr hlk h hP hS dX6_sheet_117
                    · have h := if_some_t h c176
                      refine lv_iconst (v := 0) hx hb dX6_sheet_81 (by decide) ?_
                      refine lv_goto (tgt := 86) hx hb dX6_sheet_82 rfl ?_
                      obtain ⟨b180, hb180, h⟩ := bd1_some h
                      refine mm_st C hP hS 12 (by decide) rfl hb180 dX6_sheet_86 (fun H locs hP hS => ?_)
                      refine lv_iconst (v := 0) hx hb dX6_sheet_87 (by decide) ?_
                      refine lv_istore (lv' := [(4, .int 0), (0, .ref (ad 0)), (1, .int x1), (2, .int x2), (3, .int x3)]) hx hb dX6_sheet_88 hl (by decide) rfl (fun ls hl => ?_)
                      obtain ⟨st181, hz182, h⟩ := bd1_some h
                      refine L90 x1 N _ 0 _ hz182 _ _ hP hS ls (lv_sub hl [1, 2, 0] rfl) (fun H locs hP hS ls hl => ?_)
                      refine lv_iconst (v := 1) hx hb dX6_sheet_116 (by decide) ?_
                      exact mm_viret hx hb hr hlk h hP hS dX6_sheet_117
                  · have h := if_some_f h c174
                    refine lv_aload_n hx hb dX6_sheet_59 rfl (lv_at hl 0 rfl) ?_
                    refine lv_iconst (v := 1) hx hb dX6_sheet_60 (by decide) ?_
                    obtain ⟨v183, st184, hv183, h⟩ := bd2_some h
                    refine k_finds C hP hS hv183 (Nat.le_of_ble_eq_true rfl) hl.1 (Nat.le_of_ble_eq_true rfl) hcs dX6_sheet_61 (fun H locs hP hS => ?_)
                    exact mm_viret hx hb hr hlk h hP hS dX6_sheet_64
              · have h := if_some_f h c164
                refine lv_aload_n hx hb dX6_sheet_43 rfl (lv_at hl 0 rfl) ?_
                refine lv_iconst (v := 3) hx hb dX6_sheet_44 (by decide) ?_
                obtain ⟨v185, st186, hv185, h⟩ := bd2_some h
                refine k_finds C hP hS hv185 (Nat.le_of_ble_eq_true rfl) hl.1 (Nat.le_of_ble_eq_true rfl) hcs dX6_sheet_45 (fun H locs hP hS => ?_)
                exact mm_viret hx hb hr hlk h hP hS dX6_sheet_48
          · have h := if_some_f h c142
            refine lv_aload_n hx hb dX6_sheet_29 rfl (lv_at hl 0 rfl) ?_
            refine lv_iconst (v := 1) hx hb dX6_sheet_30 (by decide) ?_
            obtain ⟨v187, st188, hv187, h⟩ := bd2_some h
            refine k_finds C hP hS hv187 (Nat.le_of_ble_eq_true rfl) hl.1 (Nat.le_of_ble_eq_true rfl) hcs dX6_sheet_31 (fun H locs hP hS => ?_)
            exact mm_viret hx hb hr hlk h hP hS dX6_sheet_34
abbrev cX6_put : ByteArray := prog_30_method_93_code
def yX6_put : MethodName := ⟨RX6, "put", "(III)I"⟩
theorem dX6_put_0 : decode cX6_put 0 = .ok (.iload_n 1, 1) := by decide +kernel
theorem dX6_put_1 : decode cX6_put 1 = .ok (.invokestatic 273, 3) := by decide +kernel
theorem dX6_put_4 : decode cX6_put 4 = .ok (.ifCond .ne 9, 3) := by decide +kernel
theorem dX6_put_7 : decode cX6_put 7 = .ok (.aload_n 0, 1) := by decide +kernel
theorem dX6_put_8 : decode cX6_put 8 = .ok (.iconst 1, 1) := by decide +kernel
theorem dX6_put_9 : decode cX6_put 9 = .ok (.invokevirtual 119, 3) := by decide +kernel
theorem dX6_put_12 : decode cX6_put 12 = .ok (.ireturn, 1) := by decide +kernel
theorem dX6_put_13 : decode cX6_put 13 = .ok (.aload_n 0, 1) := by decide +kernel
theorem dX6_put_14 : decode cX6_put 14 = .ok (.getfield 44, 3) := by decide +kernel
theorem dX6_put_17 : decode cX6_put 17 = .ok (.iload_n 1, 1) := by decide +kernel
theorem dX6_put_18 : decode cX6_put 18 = .ok (.iaload, 1) := by decide +kernel
theorem dX6_put_19 : decode cX6_put 19 = .ok (.ifCond .ne 9, 3) := by decide +kernel
theorem dX6_put_22 : decode cX6_put 22 = .ok (.aload_n 0, 1) := by decide +kernel
theorem dX6_put_23 : decode cX6_put 23 = .ok (.iconst 2, 1) := by decide +kernel
theorem dX6_put_24 : decode cX6_put 24 = .ok (.invokevirtual 119, 3) := by decide +kernel
theorem dX6_put_27 : decode cX6_put 27 = .ok (.ireturn, 1) := by decide +kernel
theorem dX6_put_28 : decode cX6_put 28 = .ok (.iload_n 2, 1) := by decide +kernel
theorem dX6_put_29 : decode cX6_put 29 = .ok (.i2l, 1) := by decide +kernel
theorem dX6_put_30 : decode cX6_put 30 = .ok (.lconst 0, 1) := by decide +kernel
theorem dX6_put_31 : decode cX6_put 31 = .ok (.aload_n 0, 1) := by decide +kernel
theorem dX6_put_32 : decode cX6_put 32 = .ok (.getfield 47, 3) := by decide +kernel
theorem dX6_put_35 : decode cX6_put 35 = .ok (.iload_n 1, 1) := by decide +kernel
theorem dX6_put_36 : decode cX6_put 36 = .ok (.iaload, 1) := by decide +kernel
theorem dX6_put_37 : decode cX6_put 37 = .ok (.iconst 1, 1) := by decide +kernel
theorem dX6_put_38 : decode cX6_put 38 = .ok (.isub, 1) := by decide +kernel
theorem dX6_put_39 : decode cX6_put 39 = .ok (.i2l, 1) := by decide +kernel
theorem dX6_put_40 : decode cX6_put 40 = .ok (.invokestatic 57, 3) := by decide +kernel
theorem dX6_put_43 : decode cX6_put 43 = .ok (.ifCond .ne 9, 3) := by decide +kernel
theorem dX6_put_46 : decode cX6_put 46 = .ok (.aload_n 0, 1) := by decide +kernel
theorem dX6_put_47 : decode cX6_put 47 = .ok (.iconst 1, 1) := by decide +kernel
theorem dX6_put_48 : decode cX6_put 48 = .ok (.invokevirtual 119, 3) := by decide +kernel
theorem dX6_put_51 : decode cX6_put 51 = .ok (.ireturn, 1) := by decide +kernel
theorem dX6_put_52 : decode cX6_put 52 = .ok (.aload_n 0, 1) := by decide +kernel
theorem dX6_put_53 : decode cX6_put 53 = .ok (.getfield 50, 3) := by decide +kernel
theorem dX6_put_56 : decode cX6_put 56 = .ok (.bipush 40, 2) := by decide +kernel
theorem dX6_put_58 : decode cX6_put 58 = .ok (.iload_n 1, 1) := by decide +kernel
theorem dX6_put_59 : decode cX6_put 59 = .ok (.imul, 1) := by decide +kernel
theorem dX6_put_60 : decode cX6_put 60 = .ok (.iload_n 2, 1) := by decide +kernel
theorem dX6_put_61 : decode cX6_put 61 = .ok (.iadd, 1) := by decide +kernel
theorem dX6_put_62 : decode cX6_put 62 = .ok (.aload_n 0, 1) := by decide +kernel
theorem dX6_put_63 : decode cX6_put 63 = .ok (.getfield 44, 3) := by decide +kernel
theorem dX6_put_66 : decode cX6_put 66 = .ok (.iload_n 1, 1) := by decide +kernel
theorem dX6_put_67 : decode cX6_put 67 = .ok (.iaload, 1) := by decide +kernel
theorem dX6_put_68 : decode cX6_put 68 = .ok (.bipush 8, 2) := by decide +kernel
theorem dX6_put_70 : decode cX6_put 70 = .ok (.if_icmp .ne 8, 3) := by decide +kernel
theorem dX6_put_73 : decode cX6_put 73 = .ok (.iload_n 3, 1) := by decide +kernel
theorem dX6_put_74 : decode cX6_put 74 = .ok (.i2b, 1) := by decide +kernel
theorem dX6_put_75 : decode cX6_put 75 = .ok (.goto 20, 3) := by decide +kernel
theorem dX6_put_78 : decode cX6_put 78 = .ok (.aload_n 0, 1) := by decide +kernel
theorem dX6_put_79 : decode cX6_put 79 = .ok (.getfield 44, 3) := by decide +kernel
theorem dX6_put_82 : decode cX6_put 82 = .ok (.iload_n 1, 1) := by decide +kernel
theorem dX6_put_83 : decode cX6_put 83 = .ok (.iaload, 1) := by decide +kernel
theorem dX6_put_84 : decode cX6_put 84 = .ok (.bipush 16, 2) := by decide +kernel
theorem dX6_put_86 : decode cX6_put 86 = .ok (.if_icmp .ne 8, 3) := by decide +kernel
theorem dX6_put_89 : decode cX6_put 89 = .ok (.iload_n 3, 1) := by decide +kernel
theorem dX6_put_90 : decode cX6_put 90 = .ok (.i2s, 1) := by decide +kernel
theorem dX6_put_91 : decode cX6_put 91 = .ok (.goto 4, 3) := by decide +kernel
theorem dX6_put_94 : decode cX6_put 94 = .ok (.iload_n 3, 1) := by decide +kernel
theorem dX6_put_95 : decode cX6_put 95 = .ok (.iastore, 1) := by decide +kernel
theorem dX6_put_96 : decode cX6_put 96 = .ok (.iconst 1, 1) := by decide +kernel
theorem dX6_put_97 : decode cX6_put 97 = .ok (.ireturn, 1) := by decide +kernel
theorem w_put {l : Launch} {D : va_G} {cI : ClassId} {ad : Nat → Nat} (hI : kInj 15 ad) {st st' : MSt} {x1 : Int32} {x2 : Int32} {x3 : Int32} {r0 : Int32} (h : M_put st x1 x2 x3 = some (r0, st')) : mV l yX6_put cX6_put 4 (some .int) 2 D cI ad st [.int x1, .int x2, .int x3] (some (.int r0)) st' := by
  refine mm_ofV hI (by decide) rfl (Nat.le_of_ble_eq_true rfl) (fun p e s m below meth c R args ls C hr hlk hP hS hl hcs => ?_)
  have hx := C.1
  have hb := C.2.1
  have hown := C.2.2.2.1
  have hl : lv_has ls 4 [(0, .ref (ad 0)), (1, .int x1), (2, .int x2), (3, .int x3)] := hl
  have hP : mW D cI ad st s.heap := hP
  rw [M_put] at h
  refine lv_iload_n hx hb dX6_put_0 rfl (lv_at hl 1 rfl) ?_
  obtain ⟨v1, hv1, h⟩ := bd1_some h
  refine k_isSheet hx hb C.2.2.1 hown C.2.2.2.2.1 C.2.2.2.2.2.2.2 hv1 (Nat.le_of_ble_eq_true rfl) hl.1 (Nat.le_of_ble_eq_true rfl) hcs dX6_put_1 ?_
  refine lv_if_ne (tgt := 13) hx hb dX6_put_4 rfl (fun c2 => ?_) (fun c2 => ?_)
  · have h := if_some_f h c2
    refine lv_aload_n hx hb dX6_put_13 rfl (lv_at hl 0 rfl) ?_
    refine g_bitsOf C hP dX6_put_14 ?_
    refine lv_iload_n hx hb dX6_put_17 rfl (lv_at hl 1 rfl) ?_
    obtain ⟨v3, hv3, h⟩ := bd1_some h
    refine mm_ld C hP 11 (by decide) rfl hv3 dX6_put_18 ?_
    refine lv_if_ne (tgt := 28) hx hb dX6_put_19 rfl (fun c4 => ?_) (fun c4 => ?_)
    · have h := if_some_f h c4
      refine lv_iload_n hx hb dX6_put_28 rfl (lv_at hl 2 rfl) ?_
      refine lv_i2l (v := x2.toInt64) hx hb dX6_put_29 rfl ?_
      refine lv_lconst (v := 0) hx hb dX6_put_30 (by decide) ?_
      refine lv_aload_n hx hb dX6_put_31 rfl (lv_at hl 0 rfl) ?_
      refine g_sizeOf C hP dX6_put_32 ?_
      refine lv_iload_n hx hb dX6_put_35 rfl (lv_at hl 1 rfl) ?_
      obtain ⟨v5, hv5, h⟩ := bd1_some h
      refine mm_ld C hP 12 (by decide) rfl hv5 dX6_put_36 ?_
      refine lv_iconst (v := 1) hx hb dX6_put_37 (by decide) ?_
      refine lv_isub hx hb dX6_put_38 ?_
      refine lv_i2l (v := (v5 - 1).toInt64) hx hb dX6_put_39 rfl ?_
      obtain ⟨v6, hv6, h⟩ := bd1_some h
      refine k_in hx hb C.2.2.1 hown C.2.2.2.2.1 C.2.2.2.2.2.2.2 hv6 (Nat.le_of_ble_eq_true rfl) hl.1 (Nat.le_of_ble_eq_true rfl) hcs dX6_put_40 ?_
      refine lv_if_ne (tgt := 52) hx hb dX6_put_43 rfl (fun c7 => ?_) (fun c7 => ?_)
      · have h := if_some_f h c7
        refine lv_aload_n hx hb dX6_put_52 rfl (lv_at hl 0 rfl) ?_
        refine g_number C hP dX6_put_53 ?_
        refine lv_bipush (v := 40) hx hb dX6_put_56 (by decide) ?_
        refine lv_iload_n hx hb dX6_put_58 rfl (lv_at hl 1 rfl) ?_
        refine lv_imul hx hb dX6_put_59 ?_
        refine lv_iload_n hx hb dX6_put_60 rfl (lv_at hl 2 rfl) ?_
        refine lv_iadd hx hb dX6_put_61 ?_
        refine lv_aload_n hx hb dX6_put_62 rfl (lv_at hl 0 rfl) ?_
        refine g_bitsOf C hP dX6_put_63 ?_
        refine lv_iload_n hx hb dX6_put_66 rfl (lv_at hl 1 rfl) ?_
        obtain ⟨v8, hv8, h⟩ := bd1_some h
        refine mm_ld C hP 11 (by decide) rfl hv8 dX6_put_67 ?_
        refine lv_bipush (v := 8) hx hb dX6_put_68 (by decide) ?_
        refine lv_icmp_ne (tgt := 78) hx hb dX6_put_70 rfl (fun c9 => ?_) (fun c9 => ?_)
        · have h := if_some_f h c9
          refine lv_aload_n hx hb dX6_put_78 rfl (lv_at hl 0 rfl) ?_
          refine g_bitsOf C hP dX6_put_79 ?_
          refine lv_iload_n hx hb dX6_put_82 rfl (lv_at hl 1 rfl) ?_
          obtain ⟨v10, hv10, h⟩ := bd1_some h
          refine mm_ld C hP 11 (by decide) rfl hv10 dX6_put_83 ?_
          refine lv_bipush (v := 16) hx hb dX6_put_84 (by decide) ?_
          refine lv_icmp_ne (tgt := 94) hx hb dX6_put_86 rfl (fun c11 => ?_) (fun c11 => ?_)
          · have h := if_some_f h c11
            refine lv_iload_n hx hb dX6_put_94 rfl (lv_at hl 3 rfl) ?_
            obtain ⟨b12, hb12, h⟩ := bd1_some h
            refine mm_st C hP hS 13 (by decide) rfl hb12 dX6_put_95 (fun H locs hP hS => ?_)
            refine lv_iconst (v := 1) hx hb dX6_put_96 (by decide) ?_
            exact mm_viret hx hb hr hlk h hP hS dX6_put_97
          · have h := if_some_t h c11
            refine lv_iload_n hx hb dX6_put_89 rfl (lv_at hl 3 rfl) ?_
            refine lv_i2s (v := x3.toInt16.toInt32) hx hb dX6_put_90 rfl ?_
            refine lv_goto (tgt := 95) hx hb dX6_put_91 rfl ?_
            obtain ⟨b13, hb13, h⟩ := bd1_some h
            refine mm_st C hP hS 13 (by decide) rfl hb13 dX6_put_95 (fun H locs hP hS => ?_)
            refine lv_iconst (v := 1) hx hb dX6_put_96 (by decide) ?_
            exact mm_viret hx hb hr hlk h hP hS dX6_put_97
        · have h := if_some_t h c9
          refine lv_iload_n hx hb dX6_put_73 rfl (lv_at hl 3 rfl) ?_
          refine lv_i2b (v := x3.toInt8.toInt32) hx hb dX6_put_74 rfl ?_
          refine lv_goto (tgt := 95) hx hb dX6_put_75 rfl ?_
          obtain ⟨b14, hb14, h⟩ := bd1_some h
          refine mm_st C hP hS 13 (by decide) rfl hb14 dX6_put_95 (fun H locs hP hS => ?_)
          refine lv_iconst (v := 1) hx hb dX6_put_96 (by decide) ?_
          exact mm_viret hx hb hr hlk h hP hS dX6_put_97
      · have h := if_some_t h c7
        refine lv_aload_n hx hb dX6_put_46 rfl (lv_at hl 0 rfl) ?_
        refine lv_iconst (v := 1) hx hb dX6_put_47 (by decide) ?_
        obtain ⟨v15, st16, hv15, h⟩ := bd2_some h
        refine k_finds C hP hS hv15 (Nat.le_of_ble_eq_true rfl) hl.1 (Nat.le_of_ble_eq_true rfl) hcs dX6_put_48 (fun H locs hP hS => ?_)
        exact mm_viret hx hb hr hlk h hP hS dX6_put_51
    · have h := if_some_t h c4
      refine lv_aload_n hx hb dX6_put_22 rfl (lv_at hl 0 rfl) ?_
      refine lv_iconst (v := 2) hx hb dX6_put_23 (by decide) ?_
      obtain ⟨v17, st18, hv17, h⟩ := bd2_some h
      refine k_finds C hP hS hv17 (Nat.le_of_ble_eq_true rfl) hl.1 (Nat.le_of_ble_eq_true rfl) hcs dX6_put_24 (fun H locs hP hS => ?_)
      exact mm_viret hx hb hr hlk h hP hS dX6_put_27
  · have h := if_some_t h c2
    refine lv_aload_n hx hb dX6_put_7 rfl (lv_at hl 0 rfl) ?_
    refine lv_iconst (v := 1) hx hb dX6_put_8 (by decide) ?_
    obtain ⟨v19, st20, hv19, h⟩ := bd2_some h
    refine k_finds C hP hS hv19 (Nat.le_of_ble_eq_true rfl) hl.1 (Nat.le_of_ble_eq_true rfl) hcs dX6_put_9 (fun H locs hP hS => ?_)
    exact mm_viret hx hb hr hlk h hP hS dX6_put_12
abbrev cX6_move : ByteArray := prog_30_method_94_code
def yX6_move : MethodName := ⟨RX6, "move", "(IIIII)I"⟩
theorem dX6_move_0 : decode cX6_move 0 = .ok (.iload_n 1, 1) := by decide +kernel
theorem dX6_move_1 : decode cX6_move 1 = .ok (.invokestatic 273, 3) := by decide +kernel
theorem dX6_move_4 : decode cX6_move 4 = .ok (.ifCond .eq 10, 3) := by decide +kernel
theorem dX6_move_7 : decode cX6_move 7 = .ok (.iload_n 3, 1) := by decide +kernel
theorem dX6_move_8 : decode cX6_move 8 = .ok (.invokestatic 273, 3) := by decide +kernel
theorem dX6_move_11 : decode cX6_move 11 = .ok (.ifCond .ne 9, 3) := by decide +kernel
theorem dX6_move_14 : decode cX6_move 14 = .ok (.aload_n 0, 1) := by decide +kernel
theorem dX6_move_15 : decode cX6_move 15 = .ok (.iconst 1, 1) := by decide +kernel
theorem dX6_move_16 : decode cX6_move 16 = .ok (.invokevirtual 119, 3) := by decide +kernel
theorem dX6_move_19 : decode cX6_move 19 = .ok (.ireturn, 1) := by decide +kernel
theorem dX6_move_20 : decode cX6_move 20 = .ok (.aload_n 0, 1) := by decide +kernel
theorem dX6_move_21 : decode cX6_move 21 = .ok (.getfield 44, 3) := by decide +kernel
theorem dX6_move_24 : decode cX6_move 24 = .ok (.iload_n 1, 1) := by decide +kernel
theorem dX6_move_25 : decode cX6_move 25 = .ok (.iaload, 1) := by decide +kernel
theorem dX6_move_26 : decode cX6_move 26 = .ok (.ifCond .eq 12, 3) := by decide +kernel
theorem dX6_move_29 : decode cX6_move 29 = .ok (.aload_n 0, 1) := by decide +kernel
theorem dX6_move_30 : decode cX6_move 30 = .ok (.getfield 44, 3) := by decide +kernel
theorem dX6_move_33 : decode cX6_move 33 = .ok (.iload_n 3, 1) := by decide +kernel
theorem dX6_move_34 : decode cX6_move 34 = .ok (.iaload, 1) := by decide +kernel
theorem dX6_move_35 : decode cX6_move 35 = .ok (.ifCond .ne 9, 3) := by decide +kernel
theorem dX6_move_38 : decode cX6_move 38 = .ok (.aload_n 0, 1) := by decide +kernel
theorem dX6_move_39 : decode cX6_move 39 = .ok (.iconst 2, 1) := by decide +kernel
theorem dX6_move_40 : decode cX6_move 40 = .ok (.invokevirtual 119, 3) := by decide +kernel
theorem dX6_move_43 : decode cX6_move 43 = .ok (.ireturn, 1) := by decide +kernel
theorem dX6_move_44 : decode cX6_move 44 = .ok (.aload_n 0, 1) := by decide +kernel
theorem dX6_move_45 : decode cX6_move 45 = .ok (.getfield 44, 3) := by decide +kernel
theorem dX6_move_48 : decode cX6_move 48 = .ok (.iload_n 1, 1) := by decide +kernel
theorem dX6_move_49 : decode cX6_move 49 = .ok (.iaload, 1) := by decide +kernel
theorem dX6_move_50 : decode cX6_move 50 = .ok (.aload_n 0, 1) := by decide +kernel
theorem dX6_move_51 : decode cX6_move 51 = .ok (.getfield 44, 3) := by decide +kernel
theorem dX6_move_54 : decode cX6_move 54 = .ok (.iload_n 3, 1) := by decide +kernel
theorem dX6_move_55 : decode cX6_move 55 = .ok (.iaload, 1) := by decide +kernel
theorem dX6_move_56 : decode cX6_move 56 = .ok (.if_icmp .eq 9, 3) := by decide +kernel
theorem dX6_move_59 : decode cX6_move 59 = .ok (.aload_n 0, 1) := by decide +kernel
theorem dX6_move_60 : decode cX6_move 60 = .ok (.iconst 5, 1) := by decide +kernel
theorem dX6_move_61 : decode cX6_move 61 = .ok (.invokevirtual 119, 3) := by decide +kernel
theorem dX6_move_64 : decode cX6_move 64 = .ok (.ireturn, 1) := by decide +kernel
theorem dX6_move_65 : decode cX6_move 65 = .ok (.iload 5, 2) := by decide +kernel
theorem dX6_move_67 : decode cX6_move 67 = .ok (.ifCond .lt 39, 3) := by decide +kernel
theorem dX6_move_70 : decode cX6_move 70 = .ok (.iload_n 2, 1) := by decide +kernel
theorem dX6_move_71 : decode cX6_move 71 = .ok (.ifCond .lt 35, 3) := by decide +kernel
theorem dX6_move_74 : decode cX6_move 74 = .ok (.iload 4, 2) := by decide +kernel
theorem dX6_move_76 : decode cX6_move 76 = .ok (.ifCond .lt 30, 3) := by decide +kernel
theorem dX6_move_79 : decode cX6_move 79 = .ok (.iload 5, 2) := by decide +kernel
theorem dX6_move_81 : decode cX6_move 81 = .ok (.aload_n 0, 1) := by decide +kernel
theorem dX6_move_82 : decode cX6_move 82 = .ok (.getfield 47, 3) := by decide +kernel
theorem dX6_move_85 : decode cX6_move 85 = .ok (.iload_n 1, 1) := by decide +kernel
theorem dX6_move_86 : decode cX6_move 86 = .ok (.iaload, 1) := by decide +kernel
theorem dX6_move_87 : decode cX6_move 87 = .ok (.iload_n 2, 1) := by decide +kernel
theorem dX6_move_88 : decode cX6_move 88 = .ok (.isub, 1) := by decide +kernel
theorem dX6_move_89 : decode cX6_move 89 = .ok (.if_icmp .gt 17, 3) := by decide +kernel
theorem dX6_move_92 : decode cX6_move 92 = .ok (.iload 5, 2) := by decide +kernel
theorem dX6_move_94 : decode cX6_move 94 = .ok (.aload_n 0, 1) := by decide +kernel
theorem dX6_move_95 : decode cX6_move 95 = .ok (.getfield 47, 3) := by decide +kernel
theorem dX6_move_98 : decode cX6_move 98 = .ok (.iload_n 3, 1) := by decide +kernel
theorem dX6_move_99 : decode cX6_move 99 = .ok (.iaload, 1) := by decide +kernel
theorem dX6_move_100 : decode cX6_move 100 = .ok (.iload 4, 2) := by decide +kernel
theorem dX6_move_102 : decode cX6_move 102 = .ok (.isub, 1) := by decide +kernel
theorem dX6_move_103 : decode cX6_move 103 = .ok (.if_icmp .le 9, 3) := by decide +kernel
theorem dX6_move_106 : decode cX6_move 106 = .ok (.aload_n 0, 1) := by decide +kernel
theorem dX6_move_107 : decode cX6_move 107 = .ok (.iconst 1, 1) := by decide +kernel
theorem dX6_move_108 : decode cX6_move 108 = .ok (.invokevirtual 119, 3) := by decide +kernel
theorem dX6_move_111 : decode cX6_move 111 = .ok (.ireturn, 1) := by decide +kernel
theorem dX6_move_112 : decode cX6_move 112 = .ok (.iconst 0, 1) := by decide +kernel
theorem dX6_move_113 : decode cX6_move 113 = .ok (.istore 6, 2) := by decide +kernel
theorem dX6_move_115 : decode cX6_move 115 = .ok (.iload 6, 2) := by decide +kernel
theorem dX6_move_117 : decode cX6_move 117 = .ok (.iload 5, 2) := by decide +kernel
theorem dX6_move_119 : decode cX6_move 119 = .ok (.if_icmp .ge 30, 3) := by decide +kernel
theorem dX6_move_122 : decode cX6_move 122 = .ok (.aload_n 0, 1) := by decide +kernel
theorem dX6_move_123 : decode cX6_move 123 = .ok (.getfield 53, 3) := by decide +kernel
theorem dX6_move_126 : decode cX6_move 126 = .ok (.iload 6, 2) := by decide +kernel
theorem dX6_move_128 : decode cX6_move 128 = .ok (.aload_n 0, 1) := by decide +kernel
theorem dX6_move_129 : decode cX6_move 129 = .ok (.getfield 50, 3) := by decide +kernel
theorem dX6_move_132 : decode cX6_move 132 = .ok (.bipush 40, 2) := by decide +kernel
theorem dX6_move_134 : decode cX6_move 134 = .ok (.iload_n 1, 1) := by decide +kernel
theorem dX6_move_135 : decode cX6_move 135 = .ok (.imul, 1) := by decide +kernel
theorem dX6_move_136 : decode cX6_move 136 = .ok (.iload_n 2, 1) := by decide +kernel
theorem dX6_move_137 : decode cX6_move 137 = .ok (.iadd, 1) := by decide +kernel
theorem dX6_move_138 : decode cX6_move 138 = .ok (.iload 6, 2) := by decide +kernel
theorem dX6_move_140 : decode cX6_move 140 = .ok (.iadd, 1) := by decide +kernel
theorem dX6_move_141 : decode cX6_move 141 = .ok (.iaload, 1) := by decide +kernel
theorem dX6_move_142 : decode cX6_move 142 = .ok (.iastore, 1) := by decide +kernel
theorem dX6_move_143 : decode cX6_move 143 = .ok (.iinc 6 1, 3) := by decide +kernel
theorem dX6_move_146 : decode cX6_move 146 = .ok (.goto (-31), 3) := by decide +kernel
theorem dX6_move_149 : decode cX6_move 149 = .ok (.iconst 0, 1) := by decide +kernel
theorem dX6_move_150 : decode cX6_move 150 = .ok (.istore 6, 2) := by decide +kernel
theorem dX6_move_152 : decode cX6_move 152 = .ok (.iload 6, 2) := by decide +kernel
theorem dX6_move_154 : decode cX6_move 154 = .ok (.iload 5, 2) := by decide +kernel
theorem dX6_move_156 : decode cX6_move 156 = .ok (.if_icmp .ge 31, 3) := by decide +kernel
theorem dX6_move_159 : decode cX6_move 159 = .ok (.aload_n 0, 1) := by decide +kernel
theorem dX6_move_160 : decode cX6_move 160 = .ok (.getfield 50, 3) := by decide +kernel
theorem dX6_move_163 : decode cX6_move 163 = .ok (.bipush 40, 2) := by decide +kernel
theorem dX6_move_165 : decode cX6_move 165 = .ok (.iload_n 3, 1) := by decide +kernel
theorem dX6_move_166 : decode cX6_move 166 = .ok (.imul, 1) := by decide +kernel
theorem dX6_move_167 : decode cX6_move 167 = .ok (.iload 4, 2) := by decide +kernel
theorem dX6_move_169 : decode cX6_move 169 = .ok (.iadd, 1) := by decide +kernel
theorem dX6_move_170 : decode cX6_move 170 = .ok (.iload 6, 2) := by decide +kernel
theorem dX6_move_172 : decode cX6_move 172 = .ok (.iadd, 1) := by decide +kernel
theorem dX6_move_173 : decode cX6_move 173 = .ok (.aload_n 0, 1) := by decide +kernel
theorem dX6_move_174 : decode cX6_move 174 = .ok (.getfield 53, 3) := by decide +kernel
theorem dX6_move_177 : decode cX6_move 177 = .ok (.iload 6, 2) := by decide +kernel
theorem dX6_move_179 : decode cX6_move 179 = .ok (.iaload, 1) := by decide +kernel
theorem dX6_move_180 : decode cX6_move 180 = .ok (.iastore, 1) := by decide +kernel
theorem dX6_move_181 : decode cX6_move 181 = .ok (.iinc 6 1, 3) := by decide +kernel
theorem dX6_move_184 : decode cX6_move 184 = .ok (.goto (-32), 3) := by decide +kernel
theorem dX6_move_187 : decode cX6_move 187 = .ok (.iload 5, 2) := by decide +kernel
theorem dX6_move_189 : decode cX6_move 189 = .ok (.ireturn, 1) := by decide +kernel
theorem w_move {l : Launch} {D : va_G} {cI : ClassId} {ad : Nat → Nat} (hI : kInj 15 ad) {st st' : MSt} {N : Nat} {x1 : Int32} {x2 : Int32} {x3 : Int32} {x4 : Int32} {x5 : Int32} {r0 : Int32} (h : M_move  N st x1 x2 x3 x4 x5 = some (r0, st')) : mV l yX6_move cX6_move 7 (some .int) 2 D cI ad st [.int x1, .int x2, .int x3, .int x4, .int x5] (some (.int r0)) st' := by
  refine mm_ofV hI (by decide) rfl (Nat.le_of_ble_eq_true rfl) (fun p e s m below meth c R args ls C hr hlk hP hS hl hcs => ?_)
  have hx := C.1
  have hb := C.2.1
  have hown := C.2.2.2.1
  have hl : lv_has ls 7 [(0, .ref (ad 0)), (1, .int x1), (2, .int x2), (3, .int x3), (4, .int x4), (5, .int x5)] := hl
  have hP : mW D cI ad st s.heap := hP
  have L115 : ∀ (x1 : Int32), ∀ (x2 : Int32), ∀ (x3 : Int32), ∀ (x4 : Int32), ∀ (x5 : Int32), ∀ (n : Nat) (st : MSt) (x6 : Int32) (st2 : MSt), M_move_L115 N x1 x2 x3 x4 x5 n st x6 = some st2 → ∀ (H : Heap) (locs : List Loc), mW D cI ad st H → va_S (kF 15 ad) s.heap H locs → ∀ ls : Array Slot, lv_has ls 7 [(0, .ref (ad 0)), (1, .int x1), (2, .int x2), (3, .int x3), (4, .int x4), (5, .int x5), (6, .int x6)] → (∀ (H : Heap) (locs : List Loc), mW D cI ad st2 H → va_S (kF 15 ad) s.heap H locs → ∀ ls : Array Slot, lv_has ls 7 [(0, .ref (ad 0)), (3, .int x3), (4, .int x4), (5, .int x5)] → mWV p l e R s m args below meth c D cI ad (some (.int r0)) st' H locs (F0 m 149 ls [])) → mWV p l e R s m args below meth c D cI ad (some (.int r0)) st' H locs (F0 m 115 ls []) := by
    intro x1 x2 x3 x4 x5 n
    induction n with
    | zero =>
      intro st x6 st2 h
      exact non_some h
    | succ n ih =>
      intro st x6 st2 h H locs hP hS ls hl kx
      rw [M_move_L115] at h
      refine lv_iload hx hb dX6_move_115 (lv_at hl 6 rfl) ?_
      refine lv_iload hx hb dX6_move_117 (lv_at hl 5 rfl) ?_
      refine lv_icmp_ge (tgt := 149) hx hb dX6_move_119 rfl (fun c31 => ?_) (fun c31 => ?_)
      · have h := if_some_t h c31
        cases h
        exact kx _ _ hP hS ls (lv_sub hl [0, 3, 4, 5] rfl)
      · have h := if_some_f h c31
        refine lv_aload_n hx hb dX6_move_122 rfl (lv_at hl 0 rfl) ?_
        refine g_lifted C hP dX6_move_123 ?_
        refine lv_iload hx hb dX6_move_126 (lv_at hl 6 rfl) ?_
        refine lv_aload_n hx hb dX6_move_128 rfl (lv_at hl 0 rfl) ?_
        refine g_number C hP dX6_move_129 ?_
        refine lv_bipush (v := 40) hx hb dX6_move_132 (by decide) ?_
        refine lv_iload_n hx hb dX6_move_134 rfl (lv_at hl 1 rfl) ?_
        refine lv_imul hx hb dX6_move_135 ?_
        refine lv_iload_n hx hb dX6_move_136 rfl (lv_at hl 2 rfl) ?_
        refine lv_iadd hx hb dX6_move_137 ?_
        refine lv_iload hx hb dX6_move_138 (lv_at hl 6 rfl) ?_
        refine lv_iadd hx hb dX6_move_140 ?_
        obtain ⟨v32, hv32, h⟩ := bd1_some h
        refine mm_ld C hP 13 (by decide) rfl hv32 dX6_move_141 ?_
        obtain ⟨b33, hb33, h⟩ := bd1_some h
        refine mm_st C hP hS 14 (by decide) rfl hb33 dX6_move_142 (fun H locs hP hS => ?_)
        refine lv_iinc (v := x6 + 1) (lv' := [(6, .int (x6 + 1)), (0, .ref (ad 0)), (1, .int x1), (2, .int x2), (3, .int x3), (4, .int x4), (5, .int x5)]) hx hb dX6_move_143 hl (k := 6) rfl rfl (by decide) rfl (fun ls hl => ?_)
        refine lv_goto (tgt := 115) hx hb dX6_move_146 rfl ?_
        exact ih (sa st 14 b33) (x6 + 1) _ h _ _ hP hS ls (lv_sub hl [1, 2, 3, 4, 5, 6, 0] rfl) kx
  have L152 : ∀ (x3 : Int32), ∀ (x4 : Int32), ∀ (x5 : Int32), ∀ (n : Nat) (st : MSt) (x6 : Int32) (st2 : MSt), M_move_L152 N x3 x4 x5 n st x6 = some st2 → ∀ (H : Heap) (locs : List Loc), mW D cI ad st H → va_S (kF 15 ad) s.heap H locs → ∀ ls : Array Slot, lv_has ls 7 [(0, .ref (ad 0)), (3, .int x3), (4, .int x4), (5, .int x5), (6, .int x6)] → (∀ (H : Heap) (locs : List Loc), mW D cI ad st2 H → va_S (kF 15 ad) s.heap H locs → ∀ ls : Array Slot, lv_has ls 7 [(5, .int x5)] → mWV p l e R s m args below meth c D cI ad (some (.int r0)) st' H locs (F0 m 187 ls [])) → mWV p l e R s m args below meth c D cI ad (some (.int r0)) st' H locs (F0 m 152 ls []) := by
    intro x3 x4 x5 n
    induction n with
    | zero =>
      intro st x6 st2 h
      exact non_some h
    | succ n ih =>
      intro st x6 st2 h H locs hP hS ls hl kx
      rw [M_move_L152] at h
      refine lv_iload hx hb dX6_move_152 (lv_at hl 4 rfl) ?_
      refine lv_iload hx hb dX6_move_154 (lv_at hl 3 rfl) ?_
      refine lv_icmp_ge (tgt := 187) hx hb dX6_move_156 rfl (fun c35 => ?_) (fun c35 => ?_)
      · have h := if_some_t h c35
        cases h
        exact kx _ _ hP hS ls (lv_sub hl [3] rfl)
      · have h := if_some_f h c35
        refine lv_aload_n hx hb dX6_move_159 rfl (lv_at hl 0 rfl) ?_
        refine g_number C hP dX6_move_160 ?_
        refine lv_bipush (v := 40) hx hb dX6_move_163 (by decide) ?_
        refine lv_iload_n hx hb dX6_move_165 rfl (lv_at hl 1 rfl) ?_
        refine lv_imul hx hb dX6_move_166 ?_
        refine lv_iload hx hb dX6_move_167 (lv_at hl 2 rfl) ?_
        refine lv_iadd hx hb dX6_move_169 ?_
        refine lv_iload hx hb dX6_move_170 (lv_at hl 4 rfl) ?_
        refine lv_iadd hx hb dX6_move_172 ?_
        refine lv_aload_n hx hb dX6_move_173 rfl (lv_at hl 0 rfl) ?_
        refine g_lifted C hP dX6_move_174 ?_
        refine lv_iload hx hb dX6_move_177 (lv_at hl 4 rfl) ?_
        obtain ⟨v36, hv36, h⟩ := bd1_some h
        refine mm_ld C hP 14 (by decide) rfl hv36 dX6_move_179 ?_
        obtain ⟨b37, hb37, h⟩ := bd1_some h
        refine mm_st C hP hS 13 (by decide) rfl hb37 dX6_move_180 (fun H locs hP hS => ?_)
        refine lv_iinc (v := x6 + 1) (lv' := [(6, .int (x6 + 1)), (0, .ref (ad 0)), (3, .int x3), (4, .int x4), (5, .int x5)]) hx hb dX6_move_181 hl (k := 4) rfl rfl (by decide) rfl (fun ls hl => ?_)
        refine lv_goto (tgt := 152) hx hb dX6_move_184 rfl ?_
        exact ih (sa st 13 b37) (x6 + 1) _ h _ _ hP hS ls (lv_sub hl [1, 2, 3, 4, 0] rfl) kx
  rw [M_move] at h
  refine lv_iload_n hx hb dX6_move_0 rfl (lv_at hl 1 rfl) ?_
  obtain ⟨v1, hv1, h⟩ := bd1_some h
  refine k_isSheet hx hb C.2.2.1 hown C.2.2.2.2.1 C.2.2.2.2.2.2.2 hv1 (Nat.le_of_ble_eq_true rfl) hl.1 (Nat.le_of_ble_eq_true rfl) hcs dX6_move_1 ?_
  refine lv_if_eq (tgt := 14) hx hb dX6_move_4 rfl (fun c2 => ?_) (fun c2 => ?_)
  · have h := if_some_t h c2
    refine lv_aload_n hx hb dX6_move_14 rfl (lv_at hl 0 rfl) ?_
    refine lv_iconst (v := 1) hx hb dX6_move_15 (by decide) ?_
    obtain ⟨v3, st4, hv3, h⟩ := bd2_some h
    refine k_finds C hP hS hv3 (Nat.le_of_ble_eq_true rfl) hl.1 (Nat.le_of_ble_eq_true rfl) hcs dX6_move_16 (fun H locs hP hS => ?_)
    exact mm_viret hx hb hr hlk h hP hS dX6_move_19
  · have h := if_some_f h c2
    refine lv_iload_n hx hb dX6_move_7 rfl (lv_at hl 3 rfl) ?_
    obtain ⟨v5, hv5, h⟩ := bd1_some h
    refine k_isSheet hx hb C.2.2.1 hown C.2.2.2.2.1 C.2.2.2.2.2.2.2 hv5 (Nat.le_of_ble_eq_true rfl) hl.1 (Nat.le_of_ble_eq_true rfl) hcs dX6_move_8 ?_
    refine lv_if_ne (tgt := 20) hx hb dX6_move_11 rfl (fun c6 => ?_) (fun c6 => ?_)
    · have h := if_some_f h c6
      refine lv_aload_n hx hb dX6_move_20 rfl (lv_at hl 0 rfl) ?_
      refine g_bitsOf C hP dX6_move_21 ?_
      refine lv_iload_n hx hb dX6_move_24 rfl (lv_at hl 1 rfl) ?_
      obtain ⟨v7, hv7, h⟩ := bd1_some h
      refine mm_ld C hP 11 (by decide) rfl hv7 dX6_move_25 ?_
      refine lv_if_eq (tgt := 38) hx hb dX6_move_26 rfl (fun c8 => ?_) (fun c8 => ?_)
      · have h := if_some_t h c8
        refine lv_aload_n hx hb dX6_move_38 rfl (lv_at hl 0 rfl) ?_
        refine lv_iconst (v := 2) hx hb dX6_move_39 (by decide) ?_
        obtain ⟨v9, st10, hv9, h⟩ := bd2_some h
        refine k_finds C hP hS hv9 (Nat.le_of_ble_eq_true rfl) hl.1 (Nat.le_of_ble_eq_true rfl) hcs dX6_move_40 (fun H locs hP hS => ?_)
        exact mm_viret hx hb hr hlk h hP hS dX6_move_43
      · have h := if_some_f h c8
        refine lv_aload_n hx hb dX6_move_29 rfl (lv_at hl 0 rfl) ?_
        refine g_bitsOf C hP dX6_move_30 ?_
        refine lv_iload_n hx hb dX6_move_33 rfl (lv_at hl 3 rfl) ?_
        obtain ⟨v11, hv11, h⟩ := bd1_some h
        refine mm_ld C hP 11 (by decide) rfl hv11 dX6_move_34 ?_
        refine lv_if_ne (tgt := 44) hx hb dX6_move_35 rfl (fun c12 => ?_) (fun c12 => ?_)
        · have h := if_some_f h c12
          refine lv_aload_n hx hb dX6_move_44 rfl (lv_at hl 0 rfl) ?_
          refine g_bitsOf C hP dX6_move_45 ?_
          refine lv_iload_n hx hb dX6_move_48 rfl (lv_at hl 1 rfl) ?_
          obtain ⟨v13, hv13, h⟩ := bd1_some h
          refine mm_ld C hP 11 (by decide) rfl hv13 dX6_move_49 ?_
          refine lv_aload_n hx hb dX6_move_50 rfl (lv_at hl 0 rfl) ?_
          refine g_bitsOf C hP dX6_move_51 ?_
          refine lv_iload_n hx hb dX6_move_54 rfl (lv_at hl 3 rfl) ?_
          obtain ⟨v14, hv14, h⟩ := bd1_some h
          refine mm_ld C hP 11 (by decide) rfl hv14 dX6_move_55 ?_
          refine lv_icmp_eq (tgt := 65) hx hb dX6_move_56 rfl (fun c15 => ?_) (fun c15 => ?_)
          · have h := if_some_t h c15
            refine lv_iload hx hb dX6_move_65 (lv_at hl 5 rfl) ?_
            refine lv_if_lt (tgt := 106) hx hb dX6_move_67 rfl (fun c16 => ?_) (fun c16 => ?_)
            · have h := if_some_t h c16
              refine lv_aload_n hx hb dX6_move_106 rfl (lv_at hl 0 rfl) ?_
              refine lv_iconst (v := 1) hx hb dX6_move_107 (by decide) ?_
              obtain ⟨v17, st18, hv17, h⟩ := bd2_some h
              refine k_finds C hP hS hv17 (Nat.le_of_ble_eq_true rfl) hl.1 (Nat.le_of_ble_eq_true rfl) hcs dX6_move_108 (fun H locs hP hS => ?_)
              exact mm_viret hx hb hr hlk h hP hS dX6_move_111
            · have h := if_some_f h c16
              refine lv_iload_n hx hb dX6_move_70 rfl (lv_at hl 2 rfl) ?_
              refine lv_if_lt (tgt := 106) hx hb dX6_move_71 rfl (fun c19 => ?_) (fun c19 => ?_)
              · have h := if_some_t h c19
                refine lv_aload_n hx hb dX6_move_106 rfl (lv_at hl 0 rfl) ?_
                refine lv_iconst (v := 1) hx hb dX6_move_107 (by decide) ?_
                obtain ⟨v20, st21, hv20, h⟩ := bd2_some h
                refine k_finds C hP hS hv20 (Nat.le_of_ble_eq_true rfl) hl.1 (Nat.le_of_ble_eq_true rfl) hcs dX6_move_108 (fun H locs hP hS => ?_)
                exact mm_viret hx hb hr hlk h hP hS dX6_move_111
              · have h := if_some_f h c19
                refine lv_iload hx hb dX6_move_74 (lv_at hl 4 rfl) ?_
                refine lv_if_lt (tgt := 106) hx hb dX6_move_76 rfl (fun c22 => ?_) (fun c22 => ?_)
                · have h := if_some_t h c22
                  refine lv_aload_n hx hb dX6_move_106 rfl (lv_at hl 0 rfl) ?_
                  refine lv_iconst (v := 1) hx hb dX6_move_107 (by decide) ?_
                  obtain ⟨v23, st24, hv23, h⟩ := bd2_some h
                  refine k_finds C hP hS hv23 (Nat.le_of_ble_eq_true rfl) hl.1 (Nat.le_of_ble_eq_true rfl) hcs dX6_move_108 (fun H locs hP hS => ?_)
                  exact mm_viret hx hb hr hlk h hP hS dX6_move_111
                · have h := if_some_f h c22
                  refine lv_iload hx hb dX6_move_79 (lv_at hl 5 rfl) ?_
                  refine lv_aload_n hx hb dX6_move_81 rfl (lv_at hl 0 rfl) ?_
                  refine g_sizeOf C hP dX6_move_82 ?_
                  refine lv_iload_n hx hb dX6_move_85 rfl (lv_at hl 1 rfl) ?_
                  obtain ⟨v25, hv25, h⟩ := bd1_some h
                  refine mm_ld C hP 12 (by decide) rfl hv25 dX6_move_86 ?_
                  refine lv_iload_n hx hb dX6_move_87 rfl (lv_at hl 2 rfl) ?_
                  refine lv_isub hx hb dX6_move_88 ?_
                  refine lv_icmp_gt (tgt := 106) hx hb dX6_move_89 rfl (fun c26 => ?_) (fun c26 => ?_)
                  · have h := if_some_t h c26
                    refine lv_aload_n hx hb dX6_move_106 rfl (lv_at hl 0 rfl) ?_
                    refine lv_iconst (v := 1) hx hb dX6_move_107 (by decide) ?_
                    obtain ⟨v27, st28, hv27, h⟩ := bd2_some h
                    refine k_finds C hP hS hv27 (Nat.le_of_ble_eq_true rfl) hl.1 (Nat.le_of_ble_eq_true rfl) hcs dX6_move_108 (fun H locs hP hS => ?_)
                    exact mm_viret hx hb hr hlk h hP hS dX6_move_111
                  · have h := if_some_f h c26
                    refine lv_iload hx hb dX6_move_92 (lv_at hl 5 rfl) ?_
                    refine lv_aload_n hx hb dX6_move_94 rfl (lv_at hl 0 rfl) ?_
                    refine g_sizeOf C hP dX6_move_95 ?_
                    refine lv_iload_n hx hb dX6_move_98 rfl (lv_at hl 3 rfl) ?_
                    obtain ⟨v29, hv29, h⟩ := bd1_some h
                    refine mm_ld C hP 12 (by decide) rfl hv29 dX6_move_99 ?_
                    refine lv_iload hx hb dX6_move_100 (lv_at hl 4 rfl) ?_
                    refine lv_isub hx hb dX6_move_102 ?_
                    refine lv_icmp_le (tgt := 112) hx hb dX6_move_103 rfl (fun c30 => ?_) (fun c30 => ?_)
                    · have h := if_some_t h c30
                      refine lv_iconst (v := 0) hx hb dX6_move_112 (by decide) ?_
                      refine lv_istore (lv' := [(6, .int 0), (0, .ref (ad 0)), (1, .int x1), (2, .int x2), (3, .int x3), (4, .int x4), (5, .int x5)]) hx hb dX6_move_113 hl (by decide) rfl (fun ls hl => ?_)
                      obtain ⟨st34, hz40, h⟩ := bd1_some h
                      refine L115 x1 x2 x3 x4 x5 N _ 0 _ hz40 _ _ hP hS ls (lv_sub hl [1, 2, 3, 4, 5, 6, 0] rfl) (fun H locs hP hS ls hl => ?_)
                      refine lv_iconst (v := 0) hx hb dX6_move_149 (by decide) ?_
                      refine lv_istore (lv' := [(6, .int 0), (0, .ref (ad 0)), (3, .int x3), (4, .int x4), (5, .int x5)]) hx hb dX6_move_150 hl (by decide) rfl (fun ls hl => ?_)
                      obtain ⟨st38, hz39, h⟩ := bd1_some h
                      refine L152 x3 x4 x5 N _ 0 _ hz39 _ _ hP hS ls (lv_sub hl [1, 2, 3, 4, 0] rfl) (fun H locs hP hS ls hl => ?_)
                      refine lv_iload hx hb dX6_move_187 (lv_at hl 0 rfl) ?_
                      exact mm_viret hx hb hr hlk h hP hS dX6_move_189
                    · have h := if_some_f h c30
                      refine lv_aload_n hx hb dX6_move_106 rfl (lv_at hl 0 rfl) ?_
                      refine lv_iconst (v := 1) hx hb dX6_move_107 (by decide) ?_
                      obtain ⟨v41, st42, hv41, h⟩ := bd2_some h
                      refine k_finds C hP hS hv41 (Nat.le_of_ble_eq_true rfl) hl.1 (Nat.le_of_ble_eq_true rfl) hcs dX6_move_108 (fun H locs hP hS => ?_)
                      exact mm_viret hx hb hr hlk h hP hS dX6_move_111
          · have h := if_some_f h c15
            refine lv_aload_n hx hb dX6_move_59 rfl (lv_at hl 0 rfl) ?_
            refine lv_iconst (v := 5) hx hb dX6_move_60 (by decide) ?_
            obtain ⟨v43, st44, hv43, h⟩ := bd2_some h
            refine k_finds C hP hS hv43 (Nat.le_of_ble_eq_true rfl) hl.1 (Nat.le_of_ble_eq_true rfl) hcs dX6_move_61 (fun H locs hP hS => ?_)
            exact mm_viret hx hb hr hlk h hP hS dX6_move_64
        · have h := if_some_t h c12
          refine lv_aload_n hx hb dX6_move_38 rfl (lv_at hl 0 rfl) ?_
          refine lv_iconst (v := 2) hx hb dX6_move_39 (by decide) ?_
          obtain ⟨v45, st46, hv45, h⟩ := bd2_some h
          refine k_finds C hP hS hv45 (Nat.le_of_ble_eq_true rfl) hl.1 (Nat.le_of_ble_eq_true rfl) hcs dX6_move_40 (fun H locs hP hS => ?_)
          exact mm_viret hx hb hr hlk h hP hS dX6_move_43
    · have h := if_some_t h c6
      refine lv_aload_n hx hb dX6_move_14 rfl (lv_at hl 0 rfl) ?_
      refine lv_iconst (v := 1) hx hb dX6_move_15 (by decide) ?_
      obtain ⟨v47, st48, hv47, h⟩ := bd2_some h
      refine k_finds C hP hS hv47 (Nat.le_of_ble_eq_true rfl) hl.1 (Nat.le_of_ble_eq_true rfl) hcs dX6_move_16 (fun H locs hP hS => ?_)
      exact mm_viret hx hb hr hlk h hP hS dX6_move_19
abbrev cX6_judge : ByteArray := prog_30_method_96_code
def yX6_judge : MethodName := ⟨RX6, "judge", "(II)I"⟩
theorem dX6_judge_0 : decode cX6_judge 0 = .ok (.iload_n 1, 1) := by decide +kernel
theorem dX6_judge_1 : decode cX6_judge 1 = .ok (.invokestatic 273, 3) := by decide +kernel
theorem dX6_judge_4 : decode cX6_judge 4 = .ok (.ifCond .eq 11, 3) := by decide +kernel
theorem dX6_judge_7 : decode cX6_judge 7 = .ok (.aload_n 0, 1) := by decide +kernel
theorem dX6_judge_8 : decode cX6_judge 8 = .ok (.iload_n 2, 1) := by decide +kernel
theorem dX6_judge_9 : decode cX6_judge 9 = .ok (.invokevirtual 197, 3) := by decide +kernel
theorem dX6_judge_12 : decode cX6_judge 12 = .ok (.ifCond .ne 9, 3) := by decide +kernel
theorem dX6_judge_15 : decode cX6_judge 15 = .ok (.aload_n 0, 1) := by decide +kernel
theorem dX6_judge_16 : decode cX6_judge 16 = .ok (.iconst 1, 1) := by decide +kernel
theorem dX6_judge_17 : decode cX6_judge 17 = .ok (.invokevirtual 119, 3) := by decide +kernel
theorem dX6_judge_20 : decode cX6_judge 20 = .ok (.ireturn, 1) := by decide +kernel
theorem dX6_judge_21 : decode cX6_judge 21 = .ok (.aload_n 0, 1) := by decide +kernel
theorem dX6_judge_22 : decode cX6_judge 22 = .ok (.getfield 44, 3) := by decide +kernel
theorem dX6_judge_25 : decode cX6_judge 25 = .ok (.iload_n 1, 1) := by decide +kernel
theorem dX6_judge_26 : decode cX6_judge 26 = .ok (.iaload, 1) := by decide +kernel
theorem dX6_judge_27 : decode cX6_judge 27 = .ok (.ifCond .ne 9, 3) := by decide +kernel
theorem dX6_judge_30 : decode cX6_judge 30 = .ok (.aload_n 0, 1) := by decide +kernel
theorem dX6_judge_31 : decode cX6_judge 31 = .ok (.iconst 2, 1) := by decide +kernel
theorem dX6_judge_32 : decode cX6_judge 32 = .ok (.invokevirtual 119, 3) := by decide +kernel
theorem dX6_judge_35 : decode cX6_judge 35 = .ok (.ireturn, 1) := by decide +kernel
theorem dX6_judge_36 : decode cX6_judge 36 = .ok (.aload_n 0, 1) := by decide +kernel
theorem dX6_judge_37 : decode cX6_judge 37 = .ok (.iload_n 2, 1) := by decide +kernel
theorem dX6_judge_38 : decode cX6_judge 38 = .ok (.iconst 4, 1) := by decide +kernel
theorem dX6_judge_39 : decode cX6_judge 39 = .ok (.invokevirtual 150, 3) := by decide +kernel
theorem dX6_judge_42 : decode cX6_judge 42 = .ok (.istore_n 3, 1) := by decide +kernel
theorem dX6_judge_43 : decode cX6_judge 43 = .ok (.iconst 0, 1) := by decide +kernel
theorem dX6_judge_44 : decode cX6_judge 44 = .ok (.istore 4, 2) := by decide +kernel
theorem dX6_judge_46 : decode cX6_judge 46 = .ok (.iload 4, 2) := by decide +kernel
theorem dX6_judge_48 : decode cX6_judge 48 = .ok (.aload_n 0, 1) := by decide +kernel
theorem dX6_judge_49 : decode cX6_judge 49 = .ok (.getfield 47, 3) := by decide +kernel
theorem dX6_judge_52 : decode cX6_judge 52 = .ok (.iload_n 1, 1) := by decide +kernel
theorem dX6_judge_53 : decode cX6_judge 53 = .ok (.iaload, 1) := by decide +kernel
theorem dX6_judge_54 : decode cX6_judge 54 = .ok (.if_icmp .ge 39, 3) := by decide +kernel
theorem dX6_judge_57 : decode cX6_judge 57 = .ok (.iload 4, 2) := by decide +kernel
theorem dX6_judge_59 : decode cX6_judge 59 = .ok (.iload_n 3, 1) := by decide +kernel
theorem dX6_judge_60 : decode cX6_judge 60 = .ok (.if_icmp .ge 33, 3) := by decide +kernel
theorem dX6_judge_63 : decode cX6_judge 63 = .ok (.aload_n 0, 1) := by decide +kernel
theorem dX6_judge_64 : decode cX6_judge 64 = .ok (.getfield 50, 3) := by decide +kernel
theorem dX6_judge_67 : decode cX6_judge 67 = .ok (.bipush 40, 2) := by decide +kernel
theorem dX6_judge_69 : decode cX6_judge 69 = .ok (.iload_n 1, 1) := by decide +kernel
theorem dX6_judge_70 : decode cX6_judge 70 = .ok (.imul, 1) := by decide +kernel
theorem dX6_judge_71 : decode cX6_judge 71 = .ok (.iload 4, 2) := by decide +kernel
theorem dX6_judge_73 : decode cX6_judge 73 = .ok (.iadd, 1) := by decide +kernel
theorem dX6_judge_74 : decode cX6_judge 74 = .ok (.iaload, 1) := by decide +kernel
theorem dX6_judge_75 : decode cX6_judge 75 = .ok (.aload_n 0, 1) := by decide +kernel
theorem dX6_judge_76 : decode cX6_judge 76 = .ok (.iload_n 2, 1) := by decide +kernel
theorem dX6_judge_77 : decode cX6_judge 77 = .ok (.iconst 5, 1) := by decide +kernel
theorem dX6_judge_78 : decode cX6_judge 78 = .ok (.iload 4, 2) := by decide +kernel
theorem dX6_judge_80 : decode cX6_judge 80 = .ok (.iadd, 1) := by decide +kernel
theorem dX6_judge_81 : decode cX6_judge 81 = .ok (.invokevirtual 150, 3) := by decide +kernel
theorem dX6_judge_84 : decode cX6_judge 84 = .ok (.if_icmp .ne 9, 3) := by decide +kernel
theorem dX6_judge_87 : decode cX6_judge 87 = .ok (.iinc 4 1, 3) := by decide +kernel
theorem dX6_judge_90 : decode cX6_judge 90 = .ok (.goto (-44), 3) := by decide +kernel
theorem dX6_judge_93 : decode cX6_judge 93 = .ok (.iload 4, 2) := by decide +kernel
theorem dX6_judge_95 : decode cX6_judge 95 = .ok (.aload_n 0, 1) := by decide +kernel
theorem dX6_judge_96 : decode cX6_judge 96 = .ok (.getfield 47, 3) := by decide +kernel
theorem dX6_judge_99 : decode cX6_judge 99 = .ok (.iload_n 1, 1) := by decide +kernel
theorem dX6_judge_100 : decode cX6_judge 100 = .ok (.iaload, 1) := by decide +kernel
theorem dX6_judge_101 : decode cX6_judge 101 = .ok (.if_icmp .ne 13, 3) := by decide +kernel
theorem dX6_judge_104 : decode cX6_judge 104 = .ok (.iload 4, 2) := by decide +kernel
theorem dX6_judge_106 : decode cX6_judge 106 = .ok (.iload_n 3, 1) := by decide +kernel
theorem dX6_judge_107 : decode cX6_judge 107 = .ok (.if_icmp .ne 7, 3) := by decide +kernel
theorem dX6_judge_110 : decode cX6_judge 110 = .ok (.iconst (-1), 1) := by decide +kernel
theorem dX6_judge_111 : decode cX6_judge 111 = .ok (.goto 5, 3) := by decide +kernel
theorem dX6_judge_114 : decode cX6_judge 114 = .ok (.iload 4, 2) := by decide +kernel
theorem dX6_judge_116 : decode cX6_judge 116 = .ok (.ireturn, 1) := by decide +kernel
theorem w_judge {l : Launch} {D : va_G} {cI : ClassId} {ad : Nat → Nat} (hI : kInj 15 ad) {st st' : MSt} {N : Nat} {x1 : Int32} {x2 : Int32} {r0 : Int32} (h : M_judge  N st x1 x2 = some (r0, st')) : mV l yX6_judge cX6_judge 5 (some .int) 2 D cI ad st [.int x1, .int x2] (some (.int r0)) st' := by
  refine mm_ofV hI (by decide) rfl (Nat.le_of_ble_eq_true rfl) (fun p e s m below meth c R args ls C hr hlk hP hS hl hcs => ?_)
  have hx := C.1
  have hb := C.2.1
  have hown := C.2.2.2.1
  have hl : lv_has ls 5 [(0, .ref (ad 0)), (1, .int x1), (2, .int x2)] := hl
  have hP : mW D cI ad st s.heap := hP
  have L46 : ∀ (st : MSt), ∀ (x1 : Int32), ∀ (x2 : Int32), ∀ (x3 : Int32), ∀ (n : Nat) (x4 : Int32) (z4 : Int32), M_judge_L46 N st x1 x2 x3 n x4 = some z4 → ∀ (H : Heap) (locs : List Loc), mW D cI ad st H → va_S (kF 15 ad) s.heap H locs → ∀ ls : Array Slot, lv_has ls 5 [(0, .ref (ad 0)), (1, .int x1), (2, .int x2), (3, .int x3), (4, .int x4)] → (∀ ls : Array Slot, lv_has ls 5 [(0, .ref (ad 0)), (1, .int x1), (3, .int x3), (4, .int z4)] → mWV p l e R s m args below meth c D cI ad (some (.int r0)) st' H locs (F0 m 93 ls [])) → mWV p l e R s m args below meth c D cI ad (some (.int r0)) st' H locs (F0 m 46 ls []) := by
    intro st x1 x2 x3 n
    induction n with
    | zero =>
      intro x4 z4 h
      exact non_some h
    | succ n ih =>
      intro x4 z4 h H locs hP hS ls hl kx
      rw [M_judge_L46] at h
      refine lv_iload hx hb dX6_judge_46 (lv_at hl 4 rfl) ?_
      refine lv_aload_n hx hb dX6_judge_48 rfl (lv_at hl 0 rfl) ?_
      refine g_sizeOf C hP dX6_judge_49 ?_
      refine lv_iload_n hx hb dX6_judge_52 rfl (lv_at hl 1 rfl) ?_
      obtain ⟨v10, hv10, h⟩ := bd1_some h
      refine mm_ld C hP 12 (by decide) rfl hv10 dX6_judge_53 ?_
      refine lv_icmp_ge (tgt := 93) hx hb dX6_judge_54 rfl (fun c11 => ?_) (fun c11 => ?_)
      · have h := if_some_t h c11
        cases h
        exact kx ls (lv_sub hl [0, 1, 3, 4] rfl)
      · have h := if_some_f h c11
        refine lv_iload hx hb dX6_judge_57 (lv_at hl 4 rfl) ?_
        refine lv_iload_n hx hb dX6_judge_59 rfl (lv_at hl 3 rfl) ?_
        refine lv_icmp_ge (tgt := 93) hx hb dX6_judge_60 rfl (fun c12 => ?_) (fun c12 => ?_)
        · have h := if_some_t h c12
          cases h
          exact kx ls (lv_sub hl [0, 1, 3, 4] rfl)
        · have h := if_some_f h c12
          refine lv_aload_n hx hb dX6_judge_63 rfl (lv_at hl 0 rfl) ?_
          refine g_number C hP dX6_judge_64 ?_
          refine lv_bipush (v := 40) hx hb dX6_judge_67 (by decide) ?_
          refine lv_iload_n hx hb dX6_judge_69 rfl (lv_at hl 1 rfl) ?_
          refine lv_imul hx hb dX6_judge_70 ?_
          refine lv_iload hx hb dX6_judge_71 (lv_at hl 4 rfl) ?_
          refine lv_iadd hx hb dX6_judge_73 ?_
          obtain ⟨v13, hv13, h⟩ := bd1_some h
          refine mm_ld C hP 13 (by decide) rfl hv13 dX6_judge_74 ?_
          refine lv_aload_n hx hb dX6_judge_75 rfl (lv_at hl 0 rfl) ?_
          refine lv_iload_n hx hb dX6_judge_76 rfl (lv_at hl 2 rfl) ?_
          refine lv_iconst (v := 5) hx hb dX6_judge_77 (by decide) ?_
          refine lv_iload hx hb dX6_judge_78 (lv_at hl 4 rfl) ?_
          refine lv_iadd hx hb dX6_judge_80 ?_
          obtain ⟨v14, hv14, h⟩ := bd1_some h
          refine k_of C hP hv14 (Nat.le_of_ble_eq_true rfl) hl.1 (Nat.le_of_ble_eq_true rfl) hcs dX6_judge_81 ?_
          refine lv_icmp_ne (tgt := 93) hx hb dX6_judge_84 rfl (fun c15 => ?_) (fun c15 => ?_)
          · have h := if_some_f h c15
            cases h
            exact kx ls (lv_sub hl [0, 1, 3, 4] rfl)
          · have h := if_some_t h c15
            refine lv_iinc (v := x4 + 1) (lv' := [(4, .int (x4 + 1)), (0, .ref (ad 0)), (1, .int x1), (2, .int x2), (3, .int x3)]) hx hb dX6_judge_87 hl (k := 4) rfl rfl (by decide) rfl (fun ls hl => ?_)
            refine lv_goto (tgt := 46) hx hb dX6_judge_90 rfl ?_
            exact ih (x4 + 1) _ h _ _ hP hS ls (lv_sub hl [1, 2, 3, 4, 0] rfl) kx
  rw [M_judge] at h
  refine lv_iload_n hx hb dX6_judge_0 rfl (lv_at hl 1 rfl) ?_
  obtain ⟨v1, hv1, h⟩ := bd1_some h
  refine k_isSheet hx hb C.2.2.1 hown C.2.2.2.2.1 C.2.2.2.2.2.2.2 hv1 (Nat.le_of_ble_eq_true rfl) hl.1 (Nat.le_of_ble_eq_true rfl) hcs dX6_judge_1 ?_
  refine lv_if_eq (tgt := 15) hx hb dX6_judge_4 rfl (fun c2 => ?_) (fun c2 => ?_)
  · have h := if_some_t h c2
    refine lv_aload_n hx hb dX6_judge_15 rfl (lv_at hl 0 rfl) ?_
    refine lv_iconst (v := 1) hx hb dX6_judge_16 (by decide) ?_
    obtain ⟨v3, st4, hv3, h⟩ := bd2_some h
    refine k_finds C hP hS hv3 (Nat.le_of_ble_eq_true rfl) hl.1 (Nat.le_of_ble_eq_true rfl) hcs dX6_judge_17 (fun H locs hP hS => ?_)
    exact mm_viret hx hb hr hlk h hP hS dX6_judge_20
  · have h := if_some_f h c2
    refine lv_aload_n hx hb dX6_judge_7 rfl (lv_at hl 0 rfl) ?_
    refine lv_iload_n hx hb dX6_judge_8 rfl (lv_at hl 2 rfl) ?_
    obtain ⟨v5, hv5, h⟩ := bd1_some h
    refine k_isDebtor C hP hv5 (Nat.le_of_ble_eq_true rfl) hl.1 (Nat.le_of_ble_eq_true rfl) hcs dX6_judge_9 ?_
    refine lv_if_ne (tgt := 21) hx hb dX6_judge_12 rfl (fun c6 => ?_) (fun c6 => ?_)
    · have h := if_some_f h c6
      refine lv_aload_n hx hb dX6_judge_21 rfl (lv_at hl 0 rfl) ?_
      refine g_bitsOf C hP dX6_judge_22 ?_
      refine lv_iload_n hx hb dX6_judge_25 rfl (lv_at hl 1 rfl) ?_
      obtain ⟨v7, hv7, h⟩ := bd1_some h
      refine mm_ld C hP 11 (by decide) rfl hv7 dX6_judge_26 ?_
      refine lv_if_ne (tgt := 36) hx hb dX6_judge_27 rfl (fun c8 => ?_) (fun c8 => ?_)
      · have h := if_some_f h c8
        refine lv_aload_n hx hb dX6_judge_36 rfl (lv_at hl 0 rfl) ?_
        refine lv_iload_n hx hb dX6_judge_37 rfl (lv_at hl 2 rfl) ?_
        refine lv_iconst (v := 4) hx hb dX6_judge_38 (by decide) ?_
        obtain ⟨v9, hv9, h⟩ := bd1_some h
        refine k_of C hP hv9 (Nat.le_of_ble_eq_true rfl) hl.1 (Nat.le_of_ble_eq_true rfl) hcs dX6_judge_39 ?_
        refine lv_istore_n (lv' := [(3, .int v9), (0, .ref (ad 0)), (1, .int x1), (2, .int x2)]) hx hb dX6_judge_42 rfl hl (by decide) rfl (fun ls hl => ?_)
        refine lv_iconst (v := 0) hx hb dX6_judge_43 (by decide) ?_
        refine lv_istore (lv' := [(4, .int 0), (3, .int v9), (0, .ref (ad 0)), (1, .int x1), (2, .int x2)]) hx hb dX6_judge_44 hl (by decide) rfl (fun ls hl => ?_)
        obtain ⟨z16, hz20, h⟩ := bd1_some h
        refine L46 st x1 x2 v9 N 0 _ hz20 _ _ hP hS ls (lv_sub hl [2, 3, 4, 1, 0] rfl) (fun ls hl => ?_)
        refine lv_iload hx hb dX6_judge_93 (lv_at hl 3 rfl) ?_
        refine lv_aload_n hx hb dX6_judge_95 rfl (lv_at hl 0 rfl) ?_
        refine g_sizeOf C hP dX6_judge_96 ?_
        refine lv_iload_n hx hb dX6_judge_99 rfl (lv_at hl 1 rfl) ?_
        obtain ⟨v17, hv17, h⟩ := bd1_some h
        refine mm_ld C hP 12 (by decide) rfl hv17 dX6_judge_100 ?_
        refine lv_icmp_ne (tgt := 114) hx hb dX6_judge_101 rfl (fun c18 => ?_) (fun c18 => ?_)
        · have h := if_some_f h c18
          refine lv_iload hx hb dX6_judge_114 (lv_at hl 3 rfl) ?_
          exact mm_viret hx hb hr hlk h hP hS dX6_judge_116
        · have h := if_some_t h c18
          refine lv_iload hx hb dX6_judge_104 (lv_at hl 3 rfl) ?_
          refine lv_iload_n hx hb dX6_judge_106 rfl (lv_at hl 2 rfl) ?_
          refine lv_icmp_ne (tgt := 114) hx hb dX6_judge_107 rfl (fun c19 => ?_) (fun c19 => ?_)
          · have h := if_some_f h c19
            refine lv_iload hx hb dX6_judge_114 (lv_at hl 3 rfl) ?_
            exact mm_viret hx hb hr hlk h hP hS dX6_judge_116
          · have h := if_some_t h c19
            refine lv_iconst (v := (-1)) hx hb dX6_judge_110 (by decide) ?_
            refine lv_goto (tgt := 116) hx hb dX6_judge_111 rfl ?_
            exact mm_viret hx hb hr hlk h hP hS dX6_judge_116
      · have h := if_some_t h c8
        refine lv_aload_n hx hb dX6_judge_30 rfl (lv_at hl 0 rfl) ?_
        refine lv_iconst (v := 2) hx hb dX6_judge_31 (by decide) ?_
        obtain ⟨v21, st22, hv21, h⟩ := bd2_some h
        refine k_finds C hP hS hv21 (Nat.le_of_ble_eq_true rfl) hl.1 (Nat.le_of_ble_eq_true rfl) hcs dX6_judge_32 (fun H locs hP hS => ?_)
        exact mm_viret hx hb hr hlk h hP hS dX6_judge_35
    · have h := if_some_t h c6
      refine lv_aload_n hx hb dX6_judge_15 rfl (lv_at hl 0 rfl) ?_
      refine lv_iconst (v := 1) hx hb dX6_judge_16 (by decide) ?_
      obtain ⟨v23, st24, hv23, h⟩ := bd2_some h
      refine k_finds C hP hS hv23 (Nat.le_of_ble_eq_true rfl) hl.1 (Nat.le_of_ble_eq_true rfl) hcs dX6_judge_17 (fun H locs hP hS => ?_)
      exact mm_viret hx hb hr hlk h hP hS dX6_judge_20
abbrev cX6_image : ByteArray := prog_30_method_97_code
def yX6_image : MethodName := ⟨RX6, "image", "()I"⟩
theorem dX6_image_0 : decode cX6_image 0 = .ok (.iconst 0, 1) := by decide +kernel
theorem dX6_image_1 : decode cX6_image 1 = .ok (.istore_n 1, 1) := by decide +kernel
theorem dX6_image_2 : decode cX6_image 2 = .ok (.iload_n 1, 1) := by decide +kernel
theorem dX6_image_3 : decode cX6_image 3 = .ok (.sipush 342, 3) := by decide +kernel
theorem dX6_image_6 : decode cX6_image 6 = .ok (.if_icmp .ge 21, 3) := by decide +kernel
theorem dX6_image_9 : decode cX6_image 9 = .ok (.aload_n 0, 1) := by decide +kernel
theorem dX6_image_10 : decode cX6_image 10 = .ok (.getfield 13, 3) := by decide +kernel
theorem dX6_image_13 : decode cX6_image 13 = .ok (.iload_n 1, 1) := by decide +kernel
theorem dX6_image_14 : decode cX6_image 14 = .ok (.aload_n 0, 1) := by decide +kernel
theorem dX6_image_15 : decode cX6_image 15 = .ok (.getfield 7, 3) := by decide +kernel
theorem dX6_image_18 : decode cX6_image 18 = .ok (.iload_n 1, 1) := by decide +kernel
theorem dX6_image_19 : decode cX6_image 19 = .ok (.iaload, 1) := by decide +kernel
theorem dX6_image_20 : decode cX6_image 20 = .ok (.iastore, 1) := by decide +kernel
theorem dX6_image_21 : decode cX6_image 21 = .ok (.iinc 1 1, 3) := by decide +kernel
theorem dX6_image_24 : decode cX6_image 24 = .ok (.goto (-22), 3) := by decide +kernel
theorem dX6_image_27 : decode cX6_image 27 = .ok (.aload_n 0, 1) := by decide +kernel
theorem dX6_image_28 : decode cX6_image 28 = .ok (.dup, 1) := by decide +kernel
theorem dX6_image_29 : decode cX6_image 29 = .ok (.getfield 311, 3) := by decide +kernel
theorem dX6_image_32 : decode cX6_image 32 = .ok (.iconst 1, 1) := by decide +kernel
theorem dX6_image_33 : decode cX6_image 33 = .ok (.iadd, 1) := by decide +kernel
theorem dX6_image_34 : decode cX6_image 34 = .ok (.putfield 311, 3) := by decide +kernel
theorem dX6_image_37 : decode cX6_image 37 = .ok (.aload_n 0, 1) := by decide +kernel
theorem dX6_image_38 : decode cX6_image 38 = .ok (.getfield 311, 3) := by decide +kernel
theorem dX6_image_41 : decode cX6_image 41 = .ok (.ireturn, 1) := by decide +kernel
theorem w_image {l : Launch} {D : va_G} {cI : ClassId} {ad : Nat → Nat} (hI : kInj 15 ad) {st st' : MSt} {N : Nat} {r0 : Int32} (h : M_image  N st = some (r0, st')) : mV l yX6_image cX6_image 2 (some .int) 0 D cI ad st [] (some (.int r0)) st' := by
  refine mm_ofV hI (by decide) rfl (Nat.le_of_ble_eq_true rfl) (fun p e s m below meth c R args ls C hr hlk hP hS hl hcs => ?_)
  have hx := C.1
  have hb := C.2.1
  have hown := C.2.2.2.1
  have hl : lv_has ls 2 [(0, .ref (ad 0))] := hl
  have hP : mW D cI ad st s.heap := hP
  have L2 : ∀ (n : Nat) (st : MSt) (x1 : Int32) (st2 : MSt), M_image_L2 N n st x1 = some st2 → ∀ (H : Heap) (locs : List Loc), mW D cI ad st H → va_S (kF 15 ad) s.heap H locs → ∀ ls : Array Slot, lv_has ls 2 [(0, .ref (ad 0)), (1, .int x1)] → (∀ (H : Heap) (locs : List Loc), mW D cI ad st2 H → va_S (kF 15 ad) s.heap H locs → ∀ ls : Array Slot, lv_has ls 2 [(0, .ref (ad 0))] → mWV p l e R s m args below meth c D cI ad (some (.int r0)) st' H locs (F0 m 27 ls [])) → mWV p l e R s m args below meth c D cI ad (some (.int r0)) st' H locs (F0 m 2 ls []) := by
    intro n
    induction n with
    | zero =>
      intro st x1 st2 h
      exact non_some h
    | succ n ih =>
      intro st x1 st2 h H locs hP hS ls hl kx
      rw [M_image_L2] at h
      refine lv_iload_n hx hb dX6_image_2 rfl (lv_at hl 1 rfl) ?_
      refine lv_sipush (v := 342) hx hb dX6_image_3 (by decide) ?_
      refine lv_icmp_ge (tgt := 27) hx hb dX6_image_6 rfl (fun c1 => ?_) (fun c1 => ?_)
      · have h := if_some_t h c1
        cases h
        exact kx _ _ hP hS ls (lv_sub hl [0] rfl)
      · have h := if_some_f h c1
        refine lv_aload_n hx hb dX6_image_9 rfl (lv_at hl 0 rfl) ?_
        refine g_kept C hP dX6_image_10 ?_
        refine lv_iload_n hx hb dX6_image_13 rfl (lv_at hl 1 rfl) ?_
        refine lv_aload_n hx hb dX6_image_14 rfl (lv_at hl 0 rfl) ?_
        refine g_d C hP dX6_image_15 ?_
        refine lv_iload_n hx hb dX6_image_18 rfl (lv_at hl 1 rfl) ?_
        obtain ⟨v2, hv2, h⟩ := bd1_some h
        refine mm_ld C hP 1 (by decide) rfl hv2 dX6_image_19 ?_
        obtain ⟨b3, hb3, h⟩ := bd1_some h
        refine mm_st C hP hS 2 (by decide) rfl hb3 dX6_image_20 (fun H locs hP hS => ?_)
        refine lv_iinc (v := x1 + 1) (lv' := [(1, .int (x1 + 1)), (0, .ref (ad 0))]) hx hb dX6_image_21 hl (k := 1) rfl rfl (by decide) rfl (fun ls hl => ?_)
        refine lv_goto (tgt := 2) hx hb dX6_image_24 rfl ?_
        exact ih (sa st 2 b3) (x1 + 1) _ h _ _ hP hS ls (lv_sub hl [1, 0] rfl) kx
  rw [M_image] at h
  refine lv_iconst (v := 0) hx hb dX6_image_0 (by decide) ?_
  refine lv_istore_n (lv' := [(1, .int 0), (0, .ref (ad 0))]) hx hb dX6_image_1 rfl hl (by decide) rfl (fun ls hl => ?_)
  obtain ⟨st4, hz5, h⟩ := bd1_some h
  refine L2  N _ 0 _ hz5 _ _ hP hS ls (lv_sub hl [1, 0] rfl) (fun H locs hP hS ls hl => ?_)
  refine lv_aload_n hx hb dX6_image_27 rfl (lv_at hl 0 rfl) ?_
  refine lv_dup hx hb dX6_image_28 rfl ?_
  refine g_images C hP dX6_image_29 ?_
  refine lv_iconst (v := 1) hx hb dX6_image_32 (by decide) ?_
  refine lv_iadd hx hb dX6_image_33 ?_
  refine p_images C hP hS dX6_image_34 (fun H locs hP hS => ?_)
  refine lv_aload_n hx hb dX6_image_37 rfl (lv_at hl 0 rfl) ?_
  refine g_images C hP dX6_image_38 ?_
  exact mm_viret hx hb hr hlk h hP hS dX6_image_41
abbrev cX6_restore : ByteArray := prog_30_method_98_code
def yX6_restore : MethodName := ⟨RX6, "restore", "()I"⟩
theorem dX6_restore_0 : decode cX6_restore 0 = .ok (.aload_n 0, 1) := by decide +kernel
theorem dX6_restore_1 : decode cX6_restore 1 = .ok (.getfield 311, 3) := by decide +kernel
theorem dX6_restore_4 : decode cX6_restore 4 = .ok (.ifCond .ne 9, 3) := by decide +kernel
theorem dX6_restore_7 : decode cX6_restore 7 = .ok (.aload_n 0, 1) := by decide +kernel
theorem dX6_restore_8 : decode cX6_restore 8 = .ok (.iconst 2, 1) := by decide +kernel
theorem dX6_restore_9 : decode cX6_restore 9 = .ok (.invokevirtual 119, 3) := by decide +kernel
theorem dX6_restore_12 : decode cX6_restore 12 = .ok (.ireturn, 1) := by decide +kernel
theorem dX6_restore_13 : decode cX6_restore 13 = .ok (.iconst 0, 1) := by decide +kernel
theorem dX6_restore_14 : decode cX6_restore 14 = .ok (.istore_n 1, 1) := by decide +kernel
theorem dX6_restore_15 : decode cX6_restore 15 = .ok (.iload_n 1, 1) := by decide +kernel
theorem dX6_restore_16 : decode cX6_restore 16 = .ok (.sipush 342, 3) := by decide +kernel
theorem dX6_restore_19 : decode cX6_restore 19 = .ok (.if_icmp .ge 21, 3) := by decide +kernel
theorem dX6_restore_22 : decode cX6_restore 22 = .ok (.aload_n 0, 1) := by decide +kernel
theorem dX6_restore_23 : decode cX6_restore 23 = .ok (.getfield 7, 3) := by decide +kernel
theorem dX6_restore_26 : decode cX6_restore 26 = .ok (.iload_n 1, 1) := by decide +kernel
theorem dX6_restore_27 : decode cX6_restore 27 = .ok (.aload_n 0, 1) := by decide +kernel
theorem dX6_restore_28 : decode cX6_restore 28 = .ok (.getfield 13, 3) := by decide +kernel
theorem dX6_restore_31 : decode cX6_restore 31 = .ok (.iload_n 1, 1) := by decide +kernel
theorem dX6_restore_32 : decode cX6_restore 32 = .ok (.iaload, 1) := by decide +kernel
theorem dX6_restore_33 : decode cX6_restore 33 = .ok (.iastore, 1) := by decide +kernel
theorem dX6_restore_34 : decode cX6_restore 34 = .ok (.iinc 1 1, 3) := by decide +kernel
theorem dX6_restore_37 : decode cX6_restore 37 = .ok (.goto (-22), 3) := by decide +kernel
theorem dX6_restore_40 : decode cX6_restore 40 = .ok (.aload_n 0, 1) := by decide +kernel
theorem dX6_restore_41 : decode cX6_restore 41 = .ok (.getfield 7, 3) := by decide +kernel
theorem dX6_restore_44 : decode cX6_restore 44 = .ok (.iconst 3, 1) := by decide +kernel
theorem dX6_restore_45 : decode cX6_restore 45 = .ok (.iaload, 1) := by decide +kernel
theorem dX6_restore_46 : decode cX6_restore 46 = .ok (.ireturn, 1) := by decide +kernel
theorem w_restore {l : Launch} {D : va_G} {cI : ClassId} {ad : Nat → Nat} (hI : kInj 15 ad) {st st' : MSt} {N : Nat} {r0 : Int32} (h : M_restore  N st = some (r0, st')) : mV l yX6_restore cX6_restore 2 (some .int) 1 D cI ad st [] (some (.int r0)) st' := by
  refine mm_ofV hI (by decide) rfl (Nat.le_of_ble_eq_true rfl) (fun p e s m below meth c R args ls C hr hlk hP hS hl hcs => ?_)
  have hx := C.1
  have hb := C.2.1
  have hown := C.2.2.2.1
  have hl : lv_has ls 2 [(0, .ref (ad 0))] := hl
  have hP : mW D cI ad st s.heap := hP
  have L15 : ∀ (n : Nat) (st : MSt) (x1 : Int32) (st2 : MSt), M_restore_L15 N n st x1 = some st2 → ∀ (H : Heap) (locs : List Loc), mW D cI ad st H → va_S (kF 15 ad) s.heap H locs → ∀ ls : Array Slot, lv_has ls 2 [(0, .ref (ad 0)), (1, .int x1)] → (∀ (H : Heap) (locs : List Loc), mW D cI ad st2 H → va_S (kF 15 ad) s.heap H locs → ∀ ls : Array Slot, lv_has ls 2 [(0, .ref (ad 0))] → mWV p l e R s m args below meth c D cI ad (some (.int r0)) st' H locs (F0 m 40 ls [])) → mWV p l e R s m args below meth c D cI ad (some (.int r0)) st' H locs (F0 m 15 ls []) := by
    intro n
    induction n with
    | zero =>
      intro st x1 st2 h
      exact non_some h
    | succ n ih =>
      intro st x1 st2 h H locs hP hS ls hl kx
      rw [M_restore_L15] at h
      refine lv_iload_n hx hb dX6_restore_15 rfl (lv_at hl 1 rfl) ?_
      refine lv_sipush (v := 342) hx hb dX6_restore_16 (by decide) ?_
      refine lv_icmp_ge (tgt := 40) hx hb dX6_restore_19 rfl (fun c2 => ?_) (fun c2 => ?_)
      · have h := if_some_t h c2
        cases h
        exact kx _ _ hP hS ls (lv_sub hl [0] rfl)
      · have h := if_some_f h c2
        refine lv_aload_n hx hb dX6_restore_22 rfl (lv_at hl 0 rfl) ?_
        refine g_d C hP dX6_restore_23 ?_
        refine lv_iload_n hx hb dX6_restore_26 rfl (lv_at hl 1 rfl) ?_
        refine lv_aload_n hx hb dX6_restore_27 rfl (lv_at hl 0 rfl) ?_
        refine g_kept C hP dX6_restore_28 ?_
        refine lv_iload_n hx hb dX6_restore_31 rfl (lv_at hl 1 rfl) ?_
        obtain ⟨v3, hv3, h⟩ := bd1_some h
        refine mm_ld C hP 2 (by decide) rfl hv3 dX6_restore_32 ?_
        obtain ⟨b4, hb4, h⟩ := bd1_some h
        refine mm_st C hP hS 1 (by decide) rfl hb4 dX6_restore_33 (fun H locs hP hS => ?_)
        refine lv_iinc (v := x1 + 1) (lv' := [(1, .int (x1 + 1)), (0, .ref (ad 0))]) hx hb dX6_restore_34 hl (k := 1) rfl rfl (by decide) rfl (fun ls hl => ?_)
        refine lv_goto (tgt := 15) hx hb dX6_restore_37 rfl ?_
        exact ih (sa st 1 b4) (x1 + 1) _ h _ _ hP hS ls (lv_sub hl [1, 0] rfl) kx
  rw [M_restore] at h
  refine lv_aload_n hx hb dX6_restore_0 rfl (lv_at hl 0 rfl) ?_
  refine g_images C hP dX6_restore_1 ?_
  refine lv_if_ne (tgt := 13) hx hb dX6_restore_4 rfl (fun c1 => ?_) (fun c1 => ?_)
  · have h := if_some_f h c1
    refine lv_iconst (v := 0) hx hb dX6_restore_13 (by decide) ?_
    refine lv_istore_n (lv' := [(1, .int 0), (0, .ref (ad 0))]) hx hb dX6_restore_14 rfl hl (by decide) rfl (fun ls hl => ?_)
    obtain ⟨st5, hz7, h⟩ := bd1_some h
    refine L15  N _ 0 _ hz7 _ _ hP hS ls (lv_sub hl [1, 0] rfl) (fun H locs hP hS ls hl => ?_)
    refine lv_aload_n hx hb dX6_restore_40 rfl (lv_at hl 0 rfl) ?_
    refine g_d C hP dX6_restore_41 ?_
    refine lv_iconst (v := 3) hx hb dX6_restore_44 (by decide) ?_
    obtain ⟨v6, hv6, h⟩ := bd1_some h
    refine mm_ld C hP 1 (by decide) rfl hv6 dX6_restore_45 ?_
    exact mm_viret hx hb hr hlk h hP hS dX6_restore_46
  · have h := if_some_t h c1
    refine lv_aload_n hx hb dX6_restore_7 rfl (lv_at hl 0 rfl) ?_
    refine lv_iconst (v := 2) hx hb dX6_restore_8 (by decide) ?_
    obtain ⟨v8, st9, hv8, h⟩ := bd2_some h
    refine k_finds C hP hS hv8 (Nat.le_of_ble_eq_true rfl) hl.1 (Nat.le_of_ble_eq_true rfl) hcs dX6_restore_9 (fun H locs hP hS => ?_)
    exact mm_viret hx hb hr hlk h hP hS dX6_restore_12
abbrev cX6_tell : ByteArray := prog_30_method_99_code
def yX6_tell : MethodName := ⟨RX6, "tell", "(I)I"⟩
theorem dX6_tell_0 : decode cX6_tell 0 = .ok (.aload_n 0, 1) := by decide +kernel
theorem dX6_tell_1 : decode cX6_tell 1 = .ok (.getfield 7, 3) := by decide +kernel
theorem dX6_tell_4 : decode cX6_tell 4 = .ok (.bipush 6, 2) := by decide +kernel
theorem dX6_tell_6 : decode cX6_tell 6 = .ok (.iaload, 1) := by decide +kernel
theorem dX6_tell_7 : decode cX6_tell 7 = .ok (.bipush 20, 2) := by decide +kernel
theorem dX6_tell_9 : decode cX6_tell 9 = .ok (.if_icmp .ne 9, 3) := by decide +kernel
theorem dX6_tell_12 : decode cX6_tell 12 = .ok (.aload_n 0, 1) := by decide +kernel
theorem dX6_tell_13 : decode cX6_tell 13 = .ok (.iconst 4, 1) := by decide +kernel
theorem dX6_tell_14 : decode cX6_tell 14 = .ok (.invokevirtual 119, 3) := by decide +kernel
theorem dX6_tell_17 : decode cX6_tell 17 = .ok (.ireturn, 1) := by decide +kernel
theorem dX6_tell_18 : decode cX6_tell 18 = .ok (.aload_n 0, 1) := by decide +kernel
theorem dX6_tell_19 : decode cX6_tell 19 = .ok (.getfield 7, 3) := by decide +kernel
theorem dX6_tell_22 : decode cX6_tell 22 = .ok (.sipush 172, 3) := by decide +kernel
theorem dX6_tell_25 : decode cX6_tell 25 = .ok (.aload_n 0, 1) := by decide +kernel
theorem dX6_tell_26 : decode cX6_tell 26 = .ok (.getfield 7, 3) := by decide +kernel
theorem dX6_tell_29 : decode cX6_tell 29 = .ok (.bipush 6, 2) := by decide +kernel
theorem dX6_tell_31 : decode cX6_tell 31 = .ok (.iaload, 1) := by decide +kernel
theorem dX6_tell_32 : decode cX6_tell 32 = .ok (.iadd, 1) := by decide +kernel
theorem dX6_tell_33 : decode cX6_tell 33 = .ok (.iload_n 1, 1) := by decide +kernel
theorem dX6_tell_34 : decode cX6_tell 34 = .ok (.iastore, 1) := by decide +kernel
theorem dX6_tell_35 : decode cX6_tell 35 = .ok (.aload_n 0, 1) := by decide +kernel
theorem dX6_tell_36 : decode cX6_tell 36 = .ok (.getfield 7, 3) := by decide +kernel
theorem dX6_tell_39 : decode cX6_tell 39 = .ok (.bipush 6, 2) := by decide +kernel
theorem dX6_tell_41 : decode cX6_tell 41 = .ok (.dup2, 1) := by decide +kernel
theorem dX6_tell_42 : decode cX6_tell 42 = .ok (.iaload, 1) := by decide +kernel
theorem dX6_tell_43 : decode cX6_tell 43 = .ok (.iconst 1, 1) := by decide +kernel
theorem dX6_tell_44 : decode cX6_tell 44 = .ok (.iadd, 1) := by decide +kernel
theorem dX6_tell_45 : decode cX6_tell 45 = .ok (.iastore, 1) := by decide +kernel
theorem dX6_tell_46 : decode cX6_tell 46 = .ok (.aload_n 0, 1) := by decide +kernel
theorem dX6_tell_47 : decode cX6_tell 47 = .ok (.getfield 7, 3) := by decide +kernel
theorem dX6_tell_50 : decode cX6_tell 50 = .ok (.bipush 6, 2) := by decide +kernel
theorem dX6_tell_52 : decode cX6_tell 52 = .ok (.iaload, 1) := by decide +kernel
theorem dX6_tell_53 : decode cX6_tell 53 = .ok (.ireturn, 1) := by decide +kernel
theorem w_tell {l : Launch} {D : va_G} {cI : ClassId} {ad : Nat → Nat} (hI : kInj 15 ad) {st st' : MSt} {x1 : Int32} {r0 : Int32} (h : M_tell st x1 = some (r0, st')) : mV l yX6_tell cX6_tell 2 (some .int) 1 D cI ad st [.int x1] (some (.int r0)) st' := by
  refine mm_ofV hI (by decide) rfl (Nat.le_of_ble_eq_true rfl) (fun p e s m below meth c R args ls C hr hlk hP hS hl hcs => ?_)
  have hx := C.1
  have hb := C.2.1
  have hown := C.2.2.2.1
  have hl : lv_has ls 2 [(0, .ref (ad 0)), (1, .int x1)] := hl
  have hP : mW D cI ad st s.heap := hP
  rw [M_tell] at h
  refine lv_aload_n hx hb dX6_tell_0 rfl (lv_at hl 0 rfl) ?_
  refine g_d C hP dX6_tell_1 ?_
  refine lv_bipush (v := 6) hx hb dX6_tell_4 (by decide) ?_
  obtain ⟨v1, hv1, h⟩ := bd1_some h
  refine mm_ld C hP 1 (by decide) rfl hv1 dX6_tell_6 ?_
  refine lv_bipush (v := 20) hx hb dX6_tell_7 (by decide) ?_
  refine lv_icmp_ne (tgt := 18) hx hb dX6_tell_9 rfl (fun c2 => ?_) (fun c2 => ?_)
  · have h := if_some_f h c2
    refine lv_aload_n hx hb dX6_tell_18 rfl (lv_at hl 0 rfl) ?_
    refine g_d C hP dX6_tell_19 ?_
    refine lv_sipush (v := 172) hx hb dX6_tell_22 (by decide) ?_
    refine lv_aload_n hx hb dX6_tell_25 rfl (lv_at hl 0 rfl) ?_
    refine g_d C hP dX6_tell_26 ?_
    refine lv_bipush (v := 6) hx hb dX6_tell_29 (by decide) ?_
    obtain ⟨v3, hv3, h⟩ := bd1_some h
    refine mm_ld C hP 1 (by decide) rfl hv3 dX6_tell_31 ?_
    refine lv_iadd hx hb dX6_tell_32 ?_
    refine lv_iload_n hx hb dX6_tell_33 rfl (lv_at hl 1 rfl) ?_
    obtain ⟨b4, hb4, h⟩ := bd1_some h
    refine mm_st C hP hS 1 (by decide) rfl hb4 dX6_tell_34 (fun H locs hP hS => ?_)
    refine lv_aload_n hx hb dX6_tell_35 rfl (lv_at hl 0 rfl) ?_
    refine g_d C hP dX6_tell_36 ?_
    refine lv_bipush (v := 6) hx hb dX6_tell_39 (by decide) ?_
    refine lv_dup2_11 hx hb dX6_tell_41 rfl rfl ?_
    obtain ⟨v5, hv5, h⟩ := bd1_some h
    refine mm_ld C hP 1 (by decide) rfl hv5 dX6_tell_42 ?_
    refine lv_iconst (v := 1) hx hb dX6_tell_43 (by decide) ?_
    refine lv_iadd hx hb dX6_tell_44 ?_
    obtain ⟨b6, hb6, h⟩ := bd1_some h
    refine mm_st C hP hS 1 (by decide) rfl hb6 dX6_tell_45 (fun H locs hP hS => ?_)
    refine lv_aload_n hx hb dX6_tell_46 rfl (lv_at hl 0 rfl) ?_
    refine g_d C hP dX6_tell_47 ?_
    refine lv_bipush (v := 6) hx hb dX6_tell_50 (by decide) ?_
    obtain ⟨v7, hv7, h⟩ := bd1_some h
    refine mm_ld C hP 1 (by decide) rfl hv7 dX6_tell_52 ?_
    exact mm_viret hx hb hr hlk h hP hS dX6_tell_53
  · have h := if_some_t h c2
    refine lv_aload_n hx hb dX6_tell_12 rfl (lv_at hl 0 rfl) ?_
    refine lv_iconst (v := 4) hx hb dX6_tell_13 (by decide) ?_
    obtain ⟨v8, st9, hv8, h⟩ := bd2_some h
    refine k_finds C hP hS hv8 (Nat.le_of_ble_eq_true rfl) hl.1 (Nat.le_of_ble_eq_true rfl) hcs dX6_tell_14 (fun H locs hP hS => ?_)
    exact mm_viret hx hb hr hlk h hP hS dX6_tell_17
abbrev cX6_debts : ByteArray := prog_30_method_100_code
def yX6_debts : MethodName := ⟨RX6, "debts", "()I"⟩
theorem dX6_debts_0 : decode cX6_debts 0 = .ok (.iconst 0, 1) := by decide +kernel
theorem dX6_debts_1 : decode cX6_debts 1 = .ok (.istore_n 1, 1) := by decide +kernel
theorem dX6_debts_2 : decode cX6_debts 2 = .ok (.iconst 0, 1) := by decide +kernel
theorem dX6_debts_3 : decode cX6_debts 3 = .ok (.istore_n 2, 1) := by decide +kernel
theorem dX6_debts_4 : decode cX6_debts 4 = .ok (.iload_n 2, 1) := by decide +kernel
theorem dX6_debts_5 : decode cX6_debts 5 = .ok (.aload_n 0, 1) := by decide +kernel
theorem dX6_debts_6 : decode cX6_debts 6 = .ok (.getfield 7, 3) := by decide +kernel
theorem dX6_debts_9 : decode cX6_debts 9 = .ok (.iconst 1, 1) := by decide +kernel
theorem dX6_debts_10 : decode cX6_debts 10 = .ok (.iaload, 1) := by decide +kernel
theorem dX6_debts_11 : decode cX6_debts 11 = .ok (.if_icmp .ge 18, 3) := by decide +kernel
theorem dX6_debts_14 : decode cX6_debts 14 = .ok (.iload_n 1, 1) := by decide +kernel
theorem dX6_debts_15 : decode cX6_debts 15 = .ok (.aload_n 0, 1) := by decide +kernel
theorem dX6_debts_16 : decode cX6_debts 16 = .ok (.iload_n 2, 1) := by decide +kernel
theorem dX6_debts_17 : decode cX6_debts 17 = .ok (.iconst 2, 1) := by decide +kernel
theorem dX6_debts_18 : decode cX6_debts 18 = .ok (.invokevirtual 150, 3) := by decide +kernel
theorem dX6_debts_21 : decode cX6_debts 21 = .ok (.iadd, 1) := by decide +kernel
theorem dX6_debts_22 : decode cX6_debts 22 = .ok (.istore_n 1, 1) := by decide +kernel
theorem dX6_debts_23 : decode cX6_debts 23 = .ok (.iinc 2 1, 3) := by decide +kernel
theorem dX6_debts_26 : decode cX6_debts 26 = .ok (.goto (-22), 3) := by decide +kernel
theorem dX6_debts_29 : decode cX6_debts 29 = .ok (.iload_n 1, 1) := by decide +kernel
theorem dX6_debts_30 : decode cX6_debts 30 = .ok (.ireturn, 1) := by decide +kernel
theorem w_debts {l : Launch} {D : va_G} {cI : ClassId} {ad : Nat → Nat} (hI : kInj 15 ad) {st : MSt} {N : Nat} {r : Int32} (h : M_debts  N st = some r) : mR l yX6_debts cX6_debts 3 (some .int) 1 D cI ad st [] r := by
  refine mm_ofR hI (by decide) rfl (Nat.le_of_ble_eq_true rfl) (fun p e s m below meth c R args ls C hr hlk hP hl hcs => ?_)
  have hx := C.1
  have hb := C.2.1
  have hown := C.2.2.2.1
  have hl : lv_has ls 3 [(0, .ref (ad 0))] := hl
  have L4 : ∀ (n : Nat) (x1 : Int32) (x2 : Int32) (z1 : Int32), M_debts_L4 N st n x1 x2 = some z1 → ∀ ls : Array Slot, lv_has ls 3 [(0, .ref (ad 0)), (1, .int x1), (2, .int x2)] → (∀ ls : Array Slot, lv_has ls 3 [(1, .int z1)] → mWR p l e R s m args below meth c r (F0 m 29 ls [])) → mWR p l e R s m args below meth c r (F0 m 4 ls []) := by
    intro n
    induction n with
    | zero =>
      intro x1 x2 z1 h
      exact non_some h
    | succ n ih =>
      intro x1 x2 z1 h ls hl kx
      rw [M_debts_L4] at h
      refine lv_iload_n hx hb dX6_debts_4 rfl (lv_at hl 2 rfl) ?_
      refine lv_aload_n hx hb dX6_debts_5 rfl (lv_at hl 0 rfl) ?_
      refine g_d C hP dX6_debts_6 ?_
      refine lv_iconst (v := 1) hx hb dX6_debts_9 (by decide) ?_
      obtain ⟨v1, hv1, h⟩ := bd1_some h
      refine mm_ld C hP 1 (by decide) rfl hv1 dX6_debts_10 ?_
      refine lv_icmp_ge (tgt := 29) hx hb dX6_debts_11 rfl (fun c2 => ?_) (fun c2 => ?_)
      · have h := if_some_t h c2
        cases h
        exact kx ls (lv_sub hl [1] rfl)
      · have h := if_some_f h c2
        refine lv_iload_n hx hb dX6_debts_14 rfl (lv_at hl 1 rfl) ?_
        refine lv_aload_n hx hb dX6_debts_15 rfl (lv_at hl 0 rfl) ?_
        refine lv_iload_n hx hb dX6_debts_16 rfl (lv_at hl 2 rfl) ?_
        refine lv_iconst (v := 2) hx hb dX6_debts_17 (by decide) ?_
        obtain ⟨v3, hv3, h⟩ := bd1_some h
        refine k_of C hP hv3 (Nat.le_of_ble_eq_true rfl) hl.1 (Nat.le_of_ble_eq_true rfl) hcs dX6_debts_18 ?_
        refine lv_iadd hx hb dX6_debts_21 ?_
        refine lv_istore_n (lv' := [(1, .int (x1 + v3)), (0, .ref (ad 0)), (2, .int x2)]) hx hb dX6_debts_22 rfl hl (by decide) rfl (fun ls hl => ?_)
        refine lv_iinc (v := x2 + 1) (lv' := [(2, .int (x2 + 1)), (1, .int (x1 + v3)), (0, .ref (ad 0))]) hx hb dX6_debts_23 hl (k := 2) rfl rfl (by decide) rfl (fun ls hl => ?_)
        refine lv_goto (tgt := 4) hx hb dX6_debts_26 rfl ?_
        exact ih (x1 + v3) (x2 + 1) _ h ls (lv_sub hl [2, 1, 0] rfl) kx
  rw [M_debts] at h
  refine lv_iconst (v := 0) hx hb dX6_debts_0 (by decide) ?_
  refine lv_istore_n (lv' := [(1, .int 0), (0, .ref (ad 0))]) hx hb dX6_debts_1 rfl hl (by decide) rfl (fun ls hl => ?_)
  refine lv_iconst (v := 0) hx hb dX6_debts_2 (by decide) ?_
  refine lv_istore_n (lv' := [(2, .int 0), (1, .int 0), (0, .ref (ad 0))]) hx hb dX6_debts_3 rfl hl (by decide) rfl (fun ls hl => ?_)
  obtain ⟨z4, hz5, h⟩ := bd1_some h
  refine L4  N 0 0 _ hz5 ls (lv_sub hl [2, 1, 0] rfl) (fun ls hl => ?_)
  refine lv_iload_n hx hb dX6_debts_29 rfl (lv_at hl 0 rfl) ?_
  exact mm_iret hx hb hr hlk h dX6_debts_30
theorem q2003 : (Jvm.Cond.methodLink "ChapterLoanModel" (314 : Nat) ({ cls := "ChapterLoanModel", name := "debts", desc := "()I" } : Jvm.MethodName)) ∈ lw_all := lw_g (lw_at lw_m8 239 rfl) rfl
theorem q2006 : (Jvm.Cond.code ({ cls := "ChapterLoanModel", name := "debts", desc := "()I" } : Jvm.MethodName) prog_30_method_100_code (3 : Nat) (Option.some Jvm.ClassFile.FieldType.int)) ∈ lw_all := lw_g (lw_at lw_m9 2 rfl) rfl
theorem q2005 : (Jvm.Cond.instanceMethod ({ cls := "ChapterLoanModel", name := "debts", desc := "()I" } : Jvm.MethodName)) ∈ lw_all := lw_g (lw_at lw_m9 1 rfl) rfl
theorem k_debts {N : Nat} {v : Int32} (C : mC p R d s m args c cc nL D cI ad) (hP : mW D cI ad st H) (h : M_debts N st = some v) (hd : 1 + 1 ≤ d) (hsz : ls.size = nL) (hW : (rest.map fun v => v.category).sum ≤ 8) (hcs : cells ≤ R.cells ∧ slots ≤ R.slots) (hdg : decode cc pc = .ok (.invokevirtual 314, 3)) (kk : W p l e R s m args below meth c H locs cells slots Q (F0 m (pc + 3) ls (.int v :: rest))) : W p l e R s m args below meth c H locs cells slots Q (F0 m pc ls (.ref (ad 0) :: rest)) :=
  mm_cR (As := []) C hP (w_debts C.2.2.2.2.2.2.1 h) (cwV 0 C.2.2.2.2.1 (lw_V q2003 q2005 qs83 q94 q2006) rfl rfl rfl (by decide +kernel) (mr_ C.2.2.2.2.2.2.2 hd (by decide))) rfl hsz rfl hW hdg hcs kk
abbrev cX6_count : ByteArray := prog_30_method_102_code
def yX6_count : MethodName := ⟨RX6, "count", "(I)I"⟩
theorem dX6_count_0 : decode cX6_count 0 = .ok (.iload_n 1, 1) := by decide +kernel
theorem dX6_count_1 : decode cX6_count 1 = .ok (.tableswitch 120 0 9 #[55, 62, 69, 76, 83, 88, 93, 100, 108, 113], 55) := by decide +kernel
theorem dX6_count_56 : decode cX6_count 56 = .ok (.aload_n 0, 1) := by decide +kernel
theorem dX6_count_57 : decode cX6_count 57 = .ok (.getfield 7, 3) := by decide +kernel
theorem dX6_count_60 : decode cX6_count 60 = .ok (.iconst 0, 1) := by decide +kernel
theorem dX6_count_61 : decode cX6_count 61 = .ok (.iaload, 1) := by decide +kernel
theorem dX6_count_62 : decode cX6_count 62 = .ok (.ireturn, 1) := by decide +kernel
theorem dX6_count_63 : decode cX6_count 63 = .ok (.aload_n 0, 1) := by decide +kernel
theorem dX6_count_64 : decode cX6_count 64 = .ok (.getfield 7, 3) := by decide +kernel
theorem dX6_count_67 : decode cX6_count 67 = .ok (.iconst 1, 1) := by decide +kernel
theorem dX6_count_68 : decode cX6_count 68 = .ok (.iaload, 1) := by decide +kernel
theorem dX6_count_69 : decode cX6_count 69 = .ok (.ireturn, 1) := by decide +kernel
theorem dX6_count_70 : decode cX6_count 70 = .ok (.aload_n 0, 1) := by decide +kernel
theorem dX6_count_71 : decode cX6_count 71 = .ok (.getfield 7, 3) := by decide +kernel
theorem dX6_count_74 : decode cX6_count 74 = .ok (.iconst 3, 1) := by decide +kernel
theorem dX6_count_75 : decode cX6_count 75 = .ok (.iaload, 1) := by decide +kernel
theorem dX6_count_76 : decode cX6_count 76 = .ok (.ireturn, 1) := by decide +kernel
theorem dX6_count_77 : decode cX6_count 77 = .ok (.aload_n 0, 1) := by decide +kernel
theorem dX6_count_78 : decode cX6_count 78 = .ok (.getfield 7, 3) := by decide +kernel
theorem dX6_count_81 : decode cX6_count 81 = .ok (.iconst 2, 1) := by decide +kernel
theorem dX6_count_82 : decode cX6_count 82 = .ok (.iaload, 1) := by decide +kernel
theorem dX6_count_83 : decode cX6_count 83 = .ok (.ireturn, 1) := by decide +kernel
theorem dX6_count_84 : decode cX6_count 84 = .ok (.aload_n 0, 1) := by decide +kernel
theorem dX6_count_85 : decode cX6_count 85 = .ok (.invokevirtual 314, 3) := by decide +kernel
theorem dX6_count_88 : decode cX6_count 88 = .ok (.ireturn, 1) := by decide +kernel
theorem dX6_count_89 : decode cX6_count 89 = .ok (.aload_n 0, 1) := by decide +kernel
theorem dX6_count_90 : decode cX6_count 90 = .ok (.invokevirtual 232, 3) := by decide +kernel
theorem dX6_count_93 : decode cX6_count 93 = .ok (.ireturn, 1) := by decide +kernel
theorem dX6_count_94 : decode cX6_count 94 = .ok (.aload_n 0, 1) := by decide +kernel
theorem dX6_count_95 : decode cX6_count 95 = .ok (.getfield 7, 3) := by decide +kernel
theorem dX6_count_98 : decode cX6_count 98 = .ok (.iconst 5, 1) := by decide +kernel
theorem dX6_count_99 : decode cX6_count 99 = .ok (.iaload, 1) := by decide +kernel
theorem dX6_count_100 : decode cX6_count 100 = .ok (.ireturn, 1) := by decide +kernel
theorem dX6_count_101 : decode cX6_count 101 = .ok (.aload_n 0, 1) := by decide +kernel
theorem dX6_count_102 : decode cX6_count 102 = .ok (.getfield 7, 3) := by decide +kernel
theorem dX6_count_105 : decode cX6_count 105 = .ok (.bipush 6, 2) := by decide +kernel
theorem dX6_count_107 : decode cX6_count 107 = .ok (.iaload, 1) := by decide +kernel
theorem dX6_count_108 : decode cX6_count 108 = .ok (.ireturn, 1) := by decide +kernel
theorem dX6_count_109 : decode cX6_count 109 = .ok (.aload_n 0, 1) := by decide +kernel
theorem dX6_count_110 : decode cX6_count 110 = .ok (.getfield 285, 3) := by decide +kernel
theorem dX6_count_113 : decode cX6_count 113 = .ok (.ireturn, 1) := by decide +kernel
theorem dX6_count_114 : decode cX6_count 114 = .ok (.aload_n 0, 1) := by decide +kernel
theorem dX6_count_115 : decode cX6_count 115 = .ok (.getfield 7, 3) := by decide +kernel
theorem dX6_count_118 : decode cX6_count 118 = .ok (.iconst 4, 1) := by decide +kernel
theorem dX6_count_119 : decode cX6_count 119 = .ok (.iaload, 1) := by decide +kernel
theorem dX6_count_120 : decode cX6_count 120 = .ok (.ireturn, 1) := by decide +kernel
theorem dX6_count_121 : decode cX6_count 121 = .ok (.aload_n 0, 1) := by decide +kernel
theorem dX6_count_122 : decode cX6_count 122 = .ok (.iconst 1, 1) := by decide +kernel
theorem dX6_count_123 : decode cX6_count 123 = .ok (.invokevirtual 119, 3) := by decide +kernel
theorem dX6_count_126 : decode cX6_count 126 = .ok (.ireturn, 1) := by decide +kernel
theorem w_count {l : Launch} {D : va_G} {cI : ClassId} {ad : Nat → Nat} (hI : kInj 15 ad) {st st' : MSt} {N : Nat} {x1 : Int32} {r0 : Int32} (h : M_count  N st x1 = some (r0, st')) : mV l yX6_count cX6_count 2 (some .int) 2 D cI ad st [.int x1] (some (.int r0)) st' := by
  refine mm_ofV hI (by decide) rfl (Nat.le_of_ble_eq_true rfl) (fun p e s m below meth c R args ls C hr hlk hP hS hl hcs => ?_)
  have hx := C.1
  have hb := C.2.1
  have hown := C.2.2.2.1
  have hl : lv_has ls 2 [(0, .ref (ad 0)), (1, .int x1)] := hl
  have hP : mW D cI ad st s.heap := hP
  rw [M_count] at h
  refine lv_iload_n hx hb dX6_count_0 rfl (lv_at hl 1 rfl) ?_
  by_cases c1 : x1 = 0
  · have h := if_some_t h c1
    refine lv_tableIn (tgt := 56) hx hb dX6_count_1 (by rw [c1]; decide) (by rw [c1]; decide) (by rw [c1]; rfl) (by decide) ?_
    refine lv_aload_n hx hb dX6_count_56 rfl (lv_at hl 0 rfl) ?_
    refine g_d C hP dX6_count_57 ?_
    refine lv_iconst (v := 0) hx hb dX6_count_60 (by decide) ?_
    obtain ⟨v2, hv2, h⟩ := bd1_some h
    refine mm_ld C hP 1 (by decide) rfl hv2 dX6_count_61 ?_
    exact mm_viret hx hb hr hlk h hP hS dX6_count_62
  · have h := if_some_f h c1
    by_cases c3 : x1 = 1
    · have h := if_some_t h c3
      refine lv_tableIn (tgt := 63) hx hb dX6_count_1 (by rw [c3]; decide) (by rw [c3]; decide) (by rw [c3]; rfl) (by decide) ?_
      refine lv_aload_n hx hb dX6_count_63 rfl (lv_at hl 0 rfl) ?_
      refine g_d C hP dX6_count_64 ?_
      refine lv_iconst (v := 1) hx hb dX6_count_67 (by decide) ?_
      obtain ⟨v4, hv4, h⟩ := bd1_some h
      refine mm_ld C hP 1 (by decide) rfl hv4 dX6_count_68 ?_
      exact mm_viret hx hb hr hlk h hP hS dX6_count_69
    · have h := if_some_f h c3
      by_cases c5 : x1 = 2
      · have h := if_some_t h c5
        refine lv_tableIn (tgt := 70) hx hb dX6_count_1 (by rw [c5]; decide) (by rw [c5]; decide) (by rw [c5]; rfl) (by decide) ?_
        refine lv_aload_n hx hb dX6_count_70 rfl (lv_at hl 0 rfl) ?_
        refine g_d C hP dX6_count_71 ?_
        refine lv_iconst (v := 3) hx hb dX6_count_74 (by decide) ?_
        obtain ⟨v6, hv6, h⟩ := bd1_some h
        refine mm_ld C hP 1 (by decide) rfl hv6 dX6_count_75 ?_
        exact mm_viret hx hb hr hlk h hP hS dX6_count_76
      · have h := if_some_f h c5
        by_cases c7 : x1 = 3
        · have h := if_some_t h c7
          refine lv_tableIn (tgt := 77) hx hb dX6_count_1 (by rw [c7]; decide) (by rw [c7]; decide) (by rw [c7]; rfl) (by decide) ?_
          refine lv_aload_n hx hb dX6_count_77 rfl (lv_at hl 0 rfl) ?_
          refine g_d C hP dX6_count_78 ?_
          refine lv_iconst (v := 2) hx hb dX6_count_81 (by decide) ?_
          obtain ⟨v8, hv8, h⟩ := bd1_some h
          refine mm_ld C hP 1 (by decide) rfl hv8 dX6_count_82 ?_
          exact mm_viret hx hb hr hlk h hP hS dX6_count_83
        · have h := if_some_f h c7
          by_cases c9 : x1 = 4
          · have h := if_some_t h c9
            refine lv_tableIn (tgt := 84) hx hb dX6_count_1 (by rw [c9]; decide) (by rw [c9]; decide) (by rw [c9]; rfl) (by decide) ?_
            refine lv_aload_n hx hb dX6_count_84 rfl (lv_at hl 0 rfl) ?_
            obtain ⟨v10, hv10, h⟩ := bd1_some h
            refine k_debts C hP hv10 (Nat.le_of_ble_eq_true rfl) hl.1 (Nat.le_of_ble_eq_true rfl) hcs dX6_count_85 ?_
            exact mm_viret hx hb hr hlk h hP hS dX6_count_88
          · have h := if_some_f h c9
            by_cases c11 : x1 = 5
            · have h := if_some_t h c11
              refine lv_tableIn (tgt := 89) hx hb dX6_count_1 (by rw [c11]; decide) (by rw [c11]; decide) (by rw [c11]; rfl) (by decide) ?_
              refine lv_aload_n hx hb dX6_count_89 rfl (lv_at hl 0 rfl) ?_
              obtain ⟨v12, hv12, h⟩ := bd1_some h
              refine k_brokenMany C hP hv12 (Nat.le_of_ble_eq_true rfl) hl.1 (Nat.le_of_ble_eq_true rfl) hcs dX6_count_90 ?_
              exact mm_viret hx hb hr hlk h hP hS dX6_count_93
            · have h := if_some_f h c11
              by_cases c13 : x1 = 6
              · have h := if_some_t h c13
                refine lv_tableIn (tgt := 94) hx hb dX6_count_1 (by rw [c13]; decide) (by rw [c13]; decide) (by rw [c13]; rfl) (by decide) ?_
                refine lv_aload_n hx hb dX6_count_94 rfl (lv_at hl 0 rfl) ?_
                refine g_d C hP dX6_count_95 ?_
                refine lv_iconst (v := 5) hx hb dX6_count_98 (by decide) ?_
                obtain ⟨v14, hv14, h⟩ := bd1_some h
                refine mm_ld C hP 1 (by decide) rfl hv14 dX6_count_99 ?_
                exact mm_viret hx hb hr hlk h hP hS dX6_count_100
              · have h := if_some_f h c13
                by_cases c15 : x1 = 7
                · have h := if_some_t h c15
                  refine lv_tableIn (tgt := 101) hx hb dX6_count_1 (by rw [c15]; decide) (by rw [c15]; decide) (by rw [c15]; rfl) (by decide) ?_
                  refine lv_aload_n hx hb dX6_count_101 rfl (lv_at hl 0 rfl) ?_
                  refine g_d C hP dX6_count_102 ?_
                  refine lv_bipush (v := 6) hx hb dX6_count_105 (by decide) ?_
                  obtain ⟨v16, hv16, h⟩ := bd1_some h
                  refine mm_ld C hP 1 (by decide) rfl hv16 dX6_count_107 ?_
                  exact mm_viret hx hb hr hlk h hP hS dX6_count_108
                · have h := if_some_f h c15
                  by_cases c17 : x1 = 8
                  · have h := if_some_t h c17
                    refine lv_tableIn (tgt := 109) hx hb dX6_count_1 (by rw [c17]; decide) (by rw [c17]; decide) (by rw [c17]; rfl) (by decide) ?_
                    refine lv_aload_n hx hb dX6_count_109 rfl (lv_at hl 0 rfl) ?_
                    refine g_traceMany C hP dX6_count_110 ?_
                    exact mm_viret hx hb hr hlk h hP hS dX6_count_113
                  · have h := if_some_f h c17
                    by_cases c18 : x1 = 9
                    · have h := if_some_t h c18
                      refine lv_tableIn (tgt := 114) hx hb dX6_count_1 (by rw [c18]; decide) (by rw [c18]; decide) (by rw [c18]; rfl) (by decide) ?_
                      refine lv_aload_n hx hb dX6_count_114 rfl (lv_at hl 0 rfl) ?_
                      refine g_d C hP dX6_count_115 ?_
                      refine lv_iconst (v := 4) hx hb dX6_count_118 (by decide) ?_
                      obtain ⟨v19, hv19, h⟩ := bd1_some h
                      refine mm_ld C hP 1 (by decide) rfl hv19 dX6_count_119 ?_
                      exact mm_viret hx hb hr hlk h hP hS dX6_count_120
                    · have h := if_some_f h c18
                      refine lv_tableOut (tgt := 121) hx hb dX6_count_1 ?_ (by decide) ?_
                      · have := lv_neT c1 (show (0 : Int32).toInt = 0 by decide)
                        have := lv_neT c3 (show (1 : Int32).toInt = 1 by decide)
                        have := lv_neT c5 (show (2 : Int32).toInt = 2 by decide)
                        have := lv_neT c7 (show (3 : Int32).toInt = 3 by decide)
                        have := lv_neT c9 (show (4 : Int32).toInt = 4 by decide)
                        have := lv_neT c11 (show (5 : Int32).toInt = 5 by decide)
                        have := lv_neT c13 (show (6 : Int32).toInt = 6 by decide)
                        have := lv_neT c15 (show (7 : Int32).toInt = 7 by decide)
                        have := lv_neT c17 (show (8 : Int32).toInt = 8 by decide)
                        have := lv_neT c18 (show (9 : Int32).toInt = 9 by decide)
                        omega
                      · refine lv_aload_n hx hb dX6_count_121 rfl (lv_at hl 0 rfl) ?_
                        refine lv_iconst (v := 1) hx hb dX6_count_122 (by decide) ?_
                        obtain ⟨v20, st21, hv20, h⟩ := bd2_some h
                        refine k_finds C hP hS hv20 (Nat.le_of_ble_eq_true rfl) hl.1 (Nat.le_of_ble_eq_true rfl) hcs dX6_count_123 (fun H locs hP hS => ?_)
                        exact mm_viret hx hb hr hlk h hP hS dX6_count_126
abbrev cX6_told : ByteArray := prog_30_method_103_code
def yX6_told : MethodName := ⟨RX6, "told", "(I)I"⟩
theorem dX6_told_0 : decode cX6_told 0 = .ok (.iload_n 1, 1) := by decide +kernel
theorem dX6_told_1 : decode cX6_told 1 = .ok (.i2l, 1) := by decide +kernel
theorem dX6_told_2 : decode cX6_told 2 = .ok (.lconst 1, 1) := by decide +kernel
theorem dX6_told_3 : decode cX6_told 3 = .ok (.ldc2_w 156, 3) := by decide +kernel
theorem dX6_told_6 : decode cX6_told 6 = .ok (.invokestatic 57, 3) := by decide +kernel
theorem dX6_told_9 : decode cX6_told 9 = .ok (.ifCond .eq 12, 3) := by decide +kernel
theorem dX6_told_12 : decode cX6_told 12 = .ok (.aload_n 0, 1) := by decide +kernel
theorem dX6_told_13 : decode cX6_told 13 = .ok (.getfield 19, 3) := by decide +kernel
theorem dX6_told_16 : decode cX6_told 16 = .ok (.iload_n 1, 1) := by decide +kernel
theorem dX6_told_17 : decode cX6_told 17 = .ok (.iaload, 1) := by decide +kernel
theorem dX6_told_18 : decode cX6_told 18 = .ok (.goto 8, 3) := by decide +kernel
theorem dX6_told_21 : decode cX6_told 21 = .ok (.aload_n 0, 1) := by decide +kernel
theorem dX6_told_22 : decode cX6_told 22 = .ok (.iconst 1, 1) := by decide +kernel
theorem dX6_told_23 : decode cX6_told 23 = .ok (.invokevirtual 119, 3) := by decide +kernel
theorem dX6_told_26 : decode cX6_told 26 = .ok (.ireturn, 1) := by decide +kernel
theorem w_told {l : Launch} {D : va_G} {cI : ClassId} {ad : Nat → Nat} (hI : kInj 15 ad) {st st' : MSt} {x1 : Int32} {r0 : Int32} (h : M_told st x1 = some (r0, st')) : mV l yX6_told cX6_told 2 (some .int) 1 D cI ad st [.int x1] (some (.int r0)) st' := by
  refine mm_ofV hI (by decide) rfl (Nat.le_of_ble_eq_true rfl) (fun p e s m below meth c R args ls C hr hlk hP hS hl hcs => ?_)
  have hx := C.1
  have hb := C.2.1
  have hown := C.2.2.2.1
  have hl : lv_has ls 2 [(0, .ref (ad 0)), (1, .int x1)] := hl
  have hP : mW D cI ad st s.heap := hP
  rw [M_told] at h
  refine lv_iload_n hx hb dX6_told_0 rfl (lv_at hl 1 rfl) ?_
  refine lv_i2l (v := x1.toInt64) hx hb dX6_told_1 rfl ?_
  refine lv_lconst (v := 1) hx hb dX6_told_2 (by decide) ?_
  refine lv_ldc2 hx hb hown (C.2.2.2.2.1 _ q1702) dX6_told_3 ?_
  obtain ⟨v1, hv1, h⟩ := bd1_some h
  refine k_in hx hb C.2.2.1 hown C.2.2.2.2.1 C.2.2.2.2.2.2.2 hv1 (Nat.le_of_ble_eq_true rfl) hl.1 (Nat.le_of_ble_eq_true rfl) hcs dX6_told_6 ?_
  refine lv_if_eq (tgt := 21) hx hb dX6_told_9 rfl (fun c2 => ?_) (fun c2 => ?_)
  · have h := if_some_t h c2
    refine lv_aload_n hx hb dX6_told_21 rfl (lv_at hl 0 rfl) ?_
    refine lv_iconst (v := 1) hx hb dX6_told_22 (by decide) ?_
    obtain ⟨v3, st4, hv3, h⟩ := bd2_some h
    refine k_finds C hP hS hv3 (Nat.le_of_ble_eq_true rfl) hl.1 (Nat.le_of_ble_eq_true rfl) hcs dX6_told_23 (fun H locs hP hS => ?_)
    exact mm_viret hx hb hr hlk h hP hS dX6_told_26
  · have h := if_some_f h c2
    refine lv_aload_n hx hb dX6_told_12 rfl (lv_at hl 0 rfl) ?_
    refine g_found C hP dX6_told_13 ?_
    refine lv_iload_n hx hb dX6_told_16 rfl (lv_at hl 1 rfl) ?_
    obtain ⟨v5, hv5, h⟩ := bd1_some h
    refine mm_ld C hP 4 (by decide) rfl hv5 dX6_told_17 ?_
    refine lv_goto (tgt := 26) hx hb dX6_told_18 rfl ?_
    exact mm_viret hx hb hr hlk h hP hS dX6_told_26
end
