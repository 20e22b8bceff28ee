/-! the model: walks (mb) -/
set_option maxRecDepth 100000
section
variable {p : Program} {l : Launch} {e : Env} {R : Room} {s : State} {m : MethodId} {args : Array Value} {below : List Frame} {meth : Method} {c : Code} {H : Heap} {locs : List Loc} {cells slots d : Nat} {Q : State → Prop} {cc : ByteArray} {pc nL : Nat} {ls : Array Slot} {rest : List Value} {D : va_G} {cI : ClassId} {ad : Nat → Nat} {st : MSt} {H0 : Heap}
abbrev cX6_either : ByteArray := prog_30_method_19_code
def yX6_either : MethodName := ⟨RX6, "either", "()I"⟩
theorem q1619 : (Jvm.Cond.methodLink "ChapterLoanModel" (106 : Nat) ({ cls := "ChapterLoanModel", name := "either", desc := "()I" } : Jvm.MethodName)) ∈ lw_all := lw_g (lw_at lw_m7 95 rfl) rfl
theorem q1622 : (Jvm.Cond.code ({ cls := "ChapterLoanModel", name := "either", desc := "()I" } : Jvm.MethodName) prog_30_method_19_code (3 : Nat) (Option.some Jvm.ClassFile.FieldType.int)) ∈ lw_all := lw_g (lw_at lw_m7 98 rfl) rfl
theorem q1621 : (Jvm.Cond.instanceMethod ({ cls := "ChapterLoanModel", name := "either", desc := "()I" } : Jvm.MethodName)) ∈ lw_all := lw_g (lw_at lw_m7 97 rfl) rfl
theorem ka_either {v : Int32} {st' : MSt} {dk : Nat} (C : mC p R d s m args c cc nL D cI ad) (hP : mW D cI ad st H) (hS : va_S (kF 15 ad) H0 H locs) (hM : mV l yX6_either cX6_either 3 (some .int) dk D cI ad st [] (some (.int v)) st') (hd : dk + 1 ≤ d) (hsz : ls.size = nL) (hW : (rest.map fun v => v.category).sum ≤ 8) (hcs : cells ≤ R.cells ∧ slots ≤ R.slots) (hdg : decode cc pc = .ok (.invokevirtual 106, 3)) (kk : ∀ (H1 : Heap) (locs1 : List Loc), mW D cI ad st' H1 → va_S (kF 15 ad) H0 H1 locs1 → W p l e R s m args below meth c H1 locs1 cells slots Q (F0 m (pc + 3) ls (.int v :: rest))) : W p l e R s m args below meth c H locs cells slots Q (F0 m pc ls (.ref (ad 0) :: rest)) :=
  mm_cV (As := []) C hP hS hM (cwV 0 C.2.2.2.2.1 (lw_V q1619 q1621 qs32 q94 q1622) rfl rfl rfl (by decide +kernel) (mr_ C.2.2.2.2.2.2.2 hd (by decide))) rfl hsz rfl hW hdg hcs kk
abbrev cX6_both : ByteArray := prog_30_method_20_code
def yX6_both : MethodName := ⟨RX6, "both", "()I"⟩
theorem q1623 : (Jvm.Cond.methodLink "ChapterLoanModel" (81 : Nat) ({ cls := "ChapterLoanModel", name := "both", desc := "()I" } : Jvm.MethodName)) ∈ lw_all := lw_g (lw_at lw_m7 99 rfl) rfl
theorem q1626 : (Jvm.Cond.code ({ cls := "ChapterLoanModel", name := "both", desc := "()I" } : Jvm.MethodName) prog_30_method_20_code (3 : Nat) (Option.some Jvm.ClassFile.FieldType.int)) ∈ lw_all := lw_g (lw_at lw_m7 102 rfl) rfl
theorem q1625 : (Jvm.Cond.instanceMethod ({ cls := "ChapterLoanModel", name := "both", desc := "()I" } : Jvm.MethodName)) ∈ lw_all := lw_g (lw_at lw_m7 101 rfl) rfl
theorem ka_both {v : Int32} {st' : MSt} {dk : Nat} (C : mC p R d s m args c cc nL D cI ad) (hP : mW D cI ad st H) (hS : va_S (kF 15 ad) H0 H locs) (hM : mV l yX6_both cX6_both 3 (some .int) dk D cI ad st [] (some (.int v)) st') (hd : dk + 1 ≤ d) (hsz : ls.size = nL) (hW : (rest.map fun v => v.category).sum ≤ 8) (hcs : cells ≤ R.cells ∧ slots ≤ R.slots) (hdg : decode cc pc = .ok (.invokevirtual 81, 3)) (kk : ∀ (H1 : Heap) (locs1 : List Loc), mW D cI ad st' H1 → va_S (kF 15 ad) H0 H1 locs1 → W p l e R s m args below meth c H1 locs1 cells slots Q (F0 m (pc + 3) ls (.int v :: rest))) : W p l e R s m args below meth c H locs cells slots Q (F0 m pc ls (.ref (ad 0) :: rest)) :=
  mm_cV (As := []) C hP hS hM (cwV 0 C.2.2.2.2.1 (lw_V q1623 q1625 qs33 q94 q1626) rfl rfl rfl (by decide +kernel) (mr_ C.2.2.2.2.2.2.2 hd (by decide))) rfl hsz rfl hW hdg hcs kk
abbrev cX6_compared : ByteArray := prog_30_method_21_code
def yX6_compared : MethodName := ⟨RX6, "compared", "()I"⟩
theorem q1627 : (Jvm.Cond.methodLink "ChapterLoanModel" (88 : Nat) ({ cls := "ChapterLoanModel", name := "compared", desc := "()I" } : Jvm.MethodName)) ∈ lw_all := lw_g (lw_at lw_m7 103 rfl) rfl
theorem q1630 : (Jvm.Cond.code ({ cls := "ChapterLoanModel", name := "compared", desc := "()I" } : Jvm.MethodName) prog_30_method_21_code (4 : Nat) (Option.some Jvm.ClassFile.FieldType.int)) ∈ lw_all := lw_g (lw_at lw_m7 106 rfl) rfl
theorem q1629 : (Jvm.Cond.instanceMethod ({ cls := "ChapterLoanModel", name := "compared", desc := "()I" } : Jvm.MethodName)) ∈ lw_all := lw_g (lw_at lw_m7 105 rfl) rfl
theorem ka_compared {v : Int32} {st' : MSt} {dk : Nat} (C : mC p R d s m args c cc nL D cI ad) (hP : mW D cI ad st H) (hS : va_S (kF 15 ad) H0 H locs) (hM : mV l yX6_compared cX6_compared 4 (some .int) dk D cI ad st [] (some (.int v)) st') (hd : dk + 1 ≤ d) (hsz : ls.size = nL) (hW : (rest.map fun v => v.category).sum ≤ 8) (hcs : cells ≤ R.cells ∧ slots ≤ R.slots) (hdg : decode cc pc = .ok (.invokevirtual 88, 3)) (kk : ∀ (H1 : Heap) (locs1 : List Loc), mW D cI ad st' H1 → va_S (kF 15 ad) H0 H1 locs1 → W p l e R s m args below meth c H1 locs1 cells slots Q (F0 m (pc + 3) ls (.int v :: rest))) : W p l e R s m args below meth c H locs cells slots Q (F0 m pc ls (.ref (ad 0) :: rest)) :=
  mm_cV (As := []) C hP hS hM (cwV 0 C.2.2.2.2.1 (lw_V q1627 q1629 qs34 q94 q1630) rfl rfl rfl (by decide +kernel) (mr_ C.2.2.2.2.2.2.2 hd (by decide))) rfl hsz rfl hW hdg hcs kk
abbrev cX6_sum : ByteArray := prog_30_method_22_code
def yX6_sum : MethodName := ⟨RX6, "sum", "()I"⟩
theorem q1631 : (Jvm.Cond.methodLink "ChapterLoanModel" (91 : Nat) ({ cls := "ChapterLoanModel", name := "sum", desc := "()I" } : Jvm.MethodName)) ∈ lw_all := lw_g (lw_at lw_m7 107 rfl) rfl
theorem q1634 : (Jvm.Cond.code ({ cls := "ChapterLoanModel", name := "sum", desc := "()I" } : Jvm.MethodName) prog_30_method_22_code (4 : Nat) (Option.some Jvm.ClassFile.FieldType.int)) ∈ lw_all := lw_g (lw_at lw_m7 110 rfl) rfl
theorem q1633 : (Jvm.Cond.instanceMethod ({ cls := "ChapterLoanModel", name := "sum", desc := "()I" } : Jvm.MethodName)) ∈ lw_all := lw_g (lw_at lw_m7 109 rfl) rfl
theorem ka_sum {v : Int32} {st' : MSt} {dk : Nat} (C : mC p R d s m args c cc nL D cI ad) (hP : mW D cI ad st H) (hS : va_S (kF 15 ad) H0 H locs) (hM : mV l yX6_sum cX6_sum 4 (some .int) dk D cI ad st [] (some (.int v)) st') (hd : dk + 1 ≤ d) (hsz : ls.size = nL) (hW : (rest.map fun v => v.category).sum ≤ 8) (hcs : cells ≤ R.cells ∧ slots ≤ R.slots) (hdg : decode cc pc = .ok (.invokevirtual 91, 3)) (kk : ∀ (H1 : Heap) (locs1 : List Loc), mW D cI ad st' H1 → va_S (kF 15 ad) H0 H1 locs1 → W p l e R s m args below meth c H1 locs1 cells slots Q (F0 m (pc + 3) ls (.int v :: rest))) : W p l e R s m args below meth c H locs cells slots Q (F0 m pc ls (.ref (ad 0) :: rest)) :=
  mm_cV (As := []) C hP hS hM (cwV 0 C.2.2.2.2.1 (lw_V q1631 q1633 qs35 q94 q1634) rfl rfl rfl (by decide +kernel) (mr_ C.2.2.2.2.2.2.2 hd (by decide))) rfl hsz rfl hW hdg hcs kk
abbrev cX6_product : ByteArray := prog_30_method_23_code
def yX6_product : MethodName := ⟨RX6, "product", "()I"⟩
theorem q1635 : (Jvm.Cond.methodLink "ChapterLoanModel" (94 : Nat) ({ cls := "ChapterLoanModel", name := "product", desc := "()I" } : Jvm.MethodName)) ∈ lw_all := lw_g (lw_at lw_m7 111 rfl) rfl
theorem q1638 : (Jvm.Cond.code ({ cls := "ChapterLoanModel", name := "product", desc := "()I" } : Jvm.MethodName) prog_30_method_23_code (4 : Nat) (Option.some Jvm.ClassFile.FieldType.int)) ∈ lw_all := lw_g (lw_at lw_m7 114 rfl) rfl
theorem q1637 : (Jvm.Cond.instanceMethod ({ cls := "ChapterLoanModel", name := "product", desc := "()I" } : Jvm.MethodName)) ∈ lw_all := lw_g (lw_at lw_m7 113 rfl) rfl
theorem ka_product {v : Int32} {st' : MSt} {dk : Nat} (C : mC p R d s m args c cc nL D cI ad) (hP : mW D cI ad st H) (hS : va_S (kF 15 ad) H0 H locs) (hM : mV l yX6_product cX6_product 4 (some .int) dk D cI ad st [] (some (.int v)) st') (hd : dk + 1 ≤ d) (hsz : ls.size = nL) (hW : (rest.map fun v => v.category).sum ≤ 8) (hcs : cells ≤ R.cells ∧ slots ≤ R.slots) (hdg : decode cc pc = .ok (.invokevirtual 94, 3)) (kk : ∀ (H1 : Heap) (locs1 : List Loc), mW D cI ad st' H1 → va_S (kF 15 ad) H0 H1 locs1 → W p l e R s m args below meth c H1 locs1 cells slots Q (F0 m (pc + 3) ls (.int v :: rest))) : W p l e R s m args below meth c H locs cells slots Q (F0 m pc ls (.ref (ad 0) :: rest)) :=
  mm_cV (As := []) C hP hS hM (cwV 0 C.2.2.2.2.1 (lw_V q1635 q1637 qs36 q94 q1638) rfl rfl rfl (by decide +kernel) (mr_ C.2.2.2.2.2.2.2 hd (by decide))) rfl hsz rfl hW hdg hcs kk
abbrev cX6_unit : ByteArray := prog_30_method_24_code
def yX6_unit : MethodName := ⟨RX6, "unit", "()I"⟩
theorem q1639 : (Jvm.Cond.methodLink "ChapterLoanModel" (97 : Nat) ({ cls := "ChapterLoanModel", name := "unit", desc := "()I" } : Jvm.MethodName)) ∈ lw_all := lw_g (lw_at lw_m7 115 rfl) rfl
theorem q1642 : (Jvm.Cond.code ({ cls := "ChapterLoanModel", name := "unit", desc := "()I" } : Jvm.MethodName) prog_30_method_24_code (5 : Nat) (Option.some Jvm.ClassFile.FieldType.int)) ∈ lw_all := lw_g (lw_at lw_m7 118 rfl) rfl
theorem q1641 : (Jvm.Cond.instanceMethod ({ cls := "ChapterLoanModel", name := "unit", desc := "()I" } : Jvm.MethodName)) ∈ lw_all := lw_g (lw_at lw_m7 117 rfl) rfl
theorem ka_unit {v : Int32} {st' : MSt} {dk : Nat} (C : mC p R d s m args c cc nL D cI ad) (hP : mW D cI ad st H) (hS : va_S (kF 15 ad) H0 H locs) (hM : mV l yX6_unit cX6_unit 5 (some .int) dk D cI ad st [] (some (.int v)) st') (hd : dk + 1 ≤ d) (hsz : ls.size = nL) (hW : (rest.map fun v => v.category).sum ≤ 8) (hcs : cells ≤ R.cells ∧ slots ≤ R.slots) (hdg : decode cc pc = .ok (.invokevirtual 97, 3)) (kk : ∀ (H1 : Heap) (locs1 : List Loc), mW D cI ad st' H1 → va_S (kF 15 ad) H0 H1 locs1 → W p l e R s m args below meth c H1 locs1 cells slots Q (F0 m (pc + 3) ls (.int v :: rest))) : W p l e R s m args below meth c H locs cells slots Q (F0 m pc ls (.ref (ad 0) :: rest)) :=
  mm_cV (As := []) C hP hS hM (cwV 0 C.2.2.2.2.1 (lw_V q1639 q1641 qs37 q94 q1642) rfl rfl rfl (by decide +kernel) (mr_ C.2.2.2.2.2.2.2 hd (by decide))) rfl hsz rfl hW hdg hcs kk
theorem dX6_either_0 : decode cX6_either 0 = .ok (.aload_n 0, 1) := by decide +kernel
theorem dX6_either_1 : decode cX6_either 1 = .ok (.invokevirtual 81, 3) := by decide +kernel
theorem dX6_either_4 : decode cX6_either 4 = .ok (.istore_n 1, 1) := by decide +kernel
theorem dX6_either_5 : decode cX6_either 5 = .ok (.aload_n 0, 1) := by decide +kernel
theorem dX6_either_6 : decode cX6_either 6 = .ok (.bipush 124, 2) := by decide +kernel
theorem dX6_either_8 : decode cX6_either 8 = .ok (.invokevirtual 84, 3) := by decide +kernel
theorem dX6_either_11 : decode cX6_either 11 = .ok (.ifCond .eq 25, 3) := by decide +kernel
theorem dX6_either_14 : decode cX6_either 14 = .ok (.aload_n 0, 1) := by decide +kernel
theorem dX6_either_15 : decode cX6_either 15 = .ok (.invokevirtual 81, 3) := by decide +kernel
theorem dX6_either_18 : decode cX6_either 18 = .ok (.istore_n 2, 1) := by decide +kernel
theorem dX6_either_19 : decode cX6_either 19 = .ok (.iload_n 1, 1) := by decide +kernel
theorem dX6_either_20 : decode cX6_either 20 = .ok (.ifCond .ne 7, 3) := by decide +kernel
theorem dX6_either_23 : decode cX6_either 23 = .ok (.iload_n 2, 1) := by decide +kernel
theorem dX6_either_24 : decode cX6_either 24 = .ok (.ifCond .eq 7, 3) := by decide +kernel
theorem dX6_either_27 : decode cX6_either 27 = .ok (.iconst 1, 1) := by decide +kernel
theorem dX6_either_28 : decode cX6_either 28 = .ok (.goto 4, 3) := by decide +kernel
theorem dX6_either_31 : decode cX6_either 31 = .ok (.iconst 0, 1) := by decide +kernel
theorem dX6_either_32 : decode cX6_either 32 = .ok (.istore_n 1, 1) := by decide +kernel
theorem dX6_either_33 : decode cX6_either 33 = .ok (.goto (-28), 3) := by decide +kernel
theorem dX6_either_36 : decode cX6_either 36 = .ok (.iload_n 1, 1) := by decide +kernel
theorem dX6_either_37 : decode cX6_either 37 = .ok (.ireturn, 1) := by decide +kernel
theorem w_either_b {l : Launch} {D : va_G} {cI : ClassId} {ad : Nat → Nat} (hI : kInj 15 ad) {dk : Nat} (hdk : 3 ≤ dk) {N : Nat} {f_both : MSt → Option (Int32 × MSt)} (hf_both : ∀ (st : MSt) (r : Int32) (st' : MSt), f_both st = some (r, st') → mV l yX6_both cX6_both 3 (some .int) dk D cI ad st [] (some (.int r)) st') {st st' : MSt} {r0 : Int32} (h : M_either_b N f_both st = some (r0, st')) : mV l yX6_either cX6_either 3 (some .int) (dk + 1) D cI ad st [] (some (.int r0)) st' := by
  refine mm_ofV hI (by decide) rfl (Nat.le_of_ble_eq_true rfl) (fun p e s m below meth c R args ls C hr hlk hP hS hl hcs => ?_)
  have hx := C.1
  have hb := C.2.1
  have hown := C.2.2.2.1
  have hl : lv_has ls 3 [(0, .ref (ad 0))] := hl
  have hP : mW D cI ad st s.heap := hP
  have L5 : ∀ (n : Nat) (st : MSt) (x1 : Int32) (st2 : MSt) (z1 : Int32), M_either_b_L5 N f_both n st x1 = some (st2, z1) → ∀ (H : Heap) (locs : List Loc), mW D cI ad st H → va_S (kF 15 ad) s.heap H locs → ∀ ls : Array Slot, lv_has ls 3 [(0, .ref (ad 0)), (1, .int x1)] → (∀ (H : Heap) (locs : List Loc), mW D cI ad st2 H → va_S (kF 15 ad) s.heap H locs → ∀ ls : Array Slot, lv_has ls 3 [(1, .int z1)] → mWV p l e R s m args below meth c D cI ad (some (.int r0)) st' H locs (F0 m 36 ls [])) → mWV p l e R s m args below meth c D cI ad (some (.int r0)) st' H locs (F0 m 5 ls []) := by
    intro n
    induction n with
    | zero =>
      intro st x1 st2 z1 h
      exact non_some h
    | succ n ih =>
      intro st x1 st2 z1 h H locs hP hS ls hl kx
      rw [M_either_b_L5] at h
      refine lv_aload_n hx hb dX6_either_5 rfl (lv_at hl 0 rfl) ?_
      refine lv_bipush (v := 124) hx hb dX6_either_6 (by decide) ?_
      obtain ⟨v3, st4, hv3, h⟩ := bd2_some h
      refine k_takes C hP hS hv3 (by omega) hl.1 (Nat.le_of_ble_eq_true rfl) hcs dX6_either_8 (fun H locs hP hS => ?_)
      refine lv_if_eq (tgt := 36) hx hb dX6_either_11 rfl (fun c5 => ?_) (fun c5 => ?_)
      · have h := if_some_t h c5
        cases h
        exact kx _ _ hP hS ls (lv_sub hl [1] rfl)
      · have h := if_some_f h c5
        refine lv_aload_n hx hb dX6_either_14 rfl (lv_at hl 0 rfl) ?_
        obtain ⟨v6, st7, hv6, h⟩ := bd2_some h
        refine ka_both C hP hS (hf_both _ _ _ hv6) (by omega) hl.1 (Nat.le_of_ble_eq_true rfl) hcs dX6_either_15 (fun H locs hP hS => ?_)
        refine lv_istore_n (lv' := [(2, .int v6), (0, .ref (ad 0)), (1, .int x1)]) hx hb dX6_either_18 rfl hl (by decide) rfl (fun ls hl => ?_)
        refine lv_iload_n hx hb dX6_either_19 rfl (lv_at hl 2 rfl) ?_
        refine lv_if_ne (tgt := 27) hx hb dX6_either_20 rfl (fun c8 => ?_) (fun c8 => ?_)
        · have h := if_some_f h c8
          refine lv_iconst (v := 1) hx hb dX6_either_27 (by decide) ?_
          refine lv_goto (tgt := 32) hx hb dX6_either_28 rfl ?_
          refine lv_istore_n (lv' := [(1, .int 1), (2, .int v6), (0, .ref (ad 0))]) hx hb dX6_either_32 rfl hl (by decide) rfl (fun ls hl => ?_)
          refine lv_goto (tgt := 5) hx hb dX6_either_33 rfl ?_
          exact ih st7 1 _ _ h _ _ hP hS ls (lv_sub hl [2, 0] rfl) kx
        · have h := if_some_t h c8
          refine lv_iload_n hx hb dX6_either_23 rfl (lv_at hl 0 rfl) ?_
          refine lv_if_eq (tgt := 31) hx hb dX6_either_24 rfl (fun c9 => ?_) (fun c9 => ?_)
          · have h := if_some_t h c9
            refine lv_iconst (v := 0) hx hb dX6_either_31 (by decide) ?_
            refine lv_istore_n (lv' := [(1, .int 0), (2, .int v6), (0, .ref (ad 0))]) hx hb dX6_either_32 rfl hl (by decide) rfl (fun ls hl => ?_)
            refine lv_goto (tgt := 5) hx hb dX6_either_33 rfl ?_
            exact ih st7 0 _ _ h _ _ hP hS ls (lv_sub hl [2, 0] rfl) kx
          · have h := if_some_f h c9
            refine lv_iconst (v := 1) hx hb dX6_either_27 (by decide) ?_
            refine lv_goto (tgt := 32) hx hb dX6_either_28 rfl ?_
            refine lv_istore_n (lv' := [(1, .int 1), (2, .int v6), (0, .ref (ad 0))]) hx hb dX6_either_32 rfl hl (by decide) rfl (fun ls hl => ?_)
            refine lv_goto (tgt := 5) hx hb dX6_either_33 rfl ?_
            exact ih st7 1 _ _ h _ _ hP hS ls (lv_sub hl [2, 0] rfl) kx
  rw [M_either_b] at h
  refine lv_aload_n hx hb dX6_either_0 rfl (lv_at hl 0 rfl) ?_
  obtain ⟨v1, st2, hv1, h⟩ := bd2_some h
  refine ka_both C hP hS (hf_both _ _ _ hv1) (by omega) hl.1 (Nat.le_of_ble_eq_true rfl) hcs dX6_either_1 (fun H locs hP hS => ?_)
  refine lv_istore_n (lv' := [(1, .int v1), (0, .ref (ad 0))]) hx hb dX6_either_4 rfl hl (by decide) rfl (fun ls hl => ?_)
  obtain ⟨st10, z11, hz12, h⟩ := bd2_some h
  refine L5  N _ v1 _ _ hz12 _ _ hP hS ls (lv_sub hl [1, 0] rfl) (fun H locs hP hS ls hl => ?_)
  refine lv_iload_n hx hb dX6_either_36 rfl (lv_at hl 0 rfl) ?_
  exact mm_viret hx hb hr hlk h hP hS dX6_either_37
theorem dX6_both_0 : decode cX6_both 0 = .ok (.aload_n 0, 1) := by decide +kernel
theorem dX6_both_1 : decode cX6_both 1 = .ok (.invokevirtual 88, 3) := by decide +kernel
theorem dX6_both_4 : decode cX6_both 4 = .ok (.istore_n 1, 1) := by decide +kernel
theorem dX6_both_5 : decode cX6_both 5 = .ok (.aload_n 0, 1) := by decide +kernel
theorem dX6_both_6 : decode cX6_both 6 = .ok (.bipush 38, 2) := by decide +kernel
theorem dX6_both_8 : decode cX6_both 8 = .ok (.invokevirtual 84, 3) := by decide +kernel
theorem dX6_both_11 : decode cX6_both 11 = .ok (.ifCond .eq 25, 3) := by decide +kernel
theorem dX6_both_14 : decode cX6_both 14 = .ok (.aload_n 0, 1) := by decide +kernel
theorem dX6_both_15 : decode cX6_both 15 = .ok (.invokevirtual 88, 3) := by decide +kernel
theorem dX6_both_18 : decode cX6_both 18 = .ok (.istore_n 2, 1) := by decide +kernel
theorem dX6_both_19 : decode cX6_both 19 = .ok (.iload_n 1, 1) := by decide +kernel
theorem dX6_both_20 : decode cX6_both 20 = .ok (.ifCond .eq 11, 3) := by decide +kernel
theorem dX6_both_23 : decode cX6_both 23 = .ok (.iload_n 2, 1) := by decide +kernel
theorem dX6_both_24 : decode cX6_both 24 = .ok (.ifCond .eq 7, 3) := by decide +kernel
theorem dX6_both_27 : decode cX6_both 27 = .ok (.iconst 1, 1) := by decide +kernel
theorem dX6_both_28 : decode cX6_both 28 = .ok (.goto 4, 3) := by decide +kernel
theorem dX6_both_31 : decode cX6_both 31 = .ok (.iconst 0, 1) := by decide +kernel
theorem dX6_both_32 : decode cX6_both 32 = .ok (.istore_n 1, 1) := by decide +kernel
theorem dX6_both_33 : decode cX6_both 33 = .ok (.goto (-28), 3) := by decide +kernel
theorem dX6_both_36 : decode cX6_both 36 = .ok (.iload_n 1, 1) := by decide +kernel
theorem dX6_both_37 : decode cX6_both 37 = .ok (.ireturn, 1) := by decide +kernel
theorem w_both_b {l : Launch} {D : va_G} {cI : ClassId} {ad : Nat → Nat} (hI : kInj 15 ad) {dk : Nat} (hdk : 3 ≤ dk) {N : Nat} {f_compared : MSt → Option (Int32 × MSt)} (hf_compared : ∀ (st : MSt) (r : Int32) (st' : MSt), f_compared st = some (r, st') → mV l yX6_compared cX6_compared 4 (some .int) dk D cI ad st [] (some (.int r)) st') {st st' : MSt} {r0 : Int32} (h : M_both_b N f_compared st = some (r0, st')) : mV l yX6_both cX6_both 3 (some .int) (dk + 1) D cI ad st [] (some (.int r0)) st' := by
  refine mm_ofV hI (by decide) rfl (Nat.le_of_ble_eq_true rfl) (fun p e s m below meth c R args ls C hr hlk hP hS hl hcs => ?_)
  have hx := C.1
  have hb := C.2.1
  have hown := C.2.2.2.1
  have hl : lv_has ls 3 [(0, .ref (ad 0))] := hl
  have hP : mW D cI ad st s.heap := hP
  have L5 : ∀ (n : Nat) (st : MSt) (x1 : Int32) (st2 : MSt) (z1 : Int32), M_both_b_L5 N f_compared n st x1 = some (st2, z1) → ∀ (H : Heap) (locs : List Loc), mW D cI ad st H → va_S (kF 15 ad) s.heap H locs → ∀ ls : Array Slot, lv_has ls 3 [(0, .ref (ad 0)), (1, .int x1)] → (∀ (H : Heap) (locs : List Loc), mW D cI ad st2 H → va_S (kF 15 ad) s.heap H locs → ∀ ls : Array Slot, lv_has ls 3 [(1, .int z1)] → mWV p l e R s m args below meth c D cI ad (some (.int r0)) st' H locs (F0 m 36 ls [])) → mWV p l e R s m args below meth c D cI ad (some (.int r0)) st' H locs (F0 m 5 ls []) := by
    intro n
    induction n with
    | zero =>
      intro st x1 st2 z1 h
      exact non_some h
    | succ n ih =>
      intro st x1 st2 z1 h H locs hP hS ls hl kx
      rw [M_both_b_L5] at h
      refine lv_aload_n hx hb dX6_both_5 rfl (lv_at hl 0 rfl) ?_
      refine lv_bipush (v := 38) hx hb dX6_both_6 (by decide) ?_
      obtain ⟨v3, st4, hv3, h⟩ := bd2_some h
      refine k_takes C hP hS hv3 (by omega) hl.1 (Nat.le_of_ble_eq_true rfl) hcs dX6_both_8 (fun H locs hP hS => ?_)
      refine lv_if_eq (tgt := 36) hx hb dX6_both_11 rfl (fun c5 => ?_) (fun c5 => ?_)
      · have h := if_some_t h c5
        cases h
        exact kx _ _ hP hS ls (lv_sub hl [1] rfl)
      · have h := if_some_f h c5
        refine lv_aload_n hx hb dX6_both_14 rfl (lv_at hl 0 rfl) ?_
        obtain ⟨v6, st7, hv6, h⟩ := bd2_some h
        refine ka_compared C hP hS (hf_compared _ _ _ hv6) (by omega) hl.1 (Nat.le_of_ble_eq_true rfl) hcs dX6_both_15 (fun H locs hP hS => ?_)
        refine lv_istore_n (lv' := [(2, .int v6), (0, .ref (ad 0)), (1, .int x1)]) hx hb dX6_both_18 rfl hl (by decide) rfl (fun ls hl => ?_)
        refine lv_iload_n hx hb dX6_both_19 rfl (lv_at hl 2 rfl) ?_
        refine lv_if_eq (tgt := 31) hx hb dX6_both_20 rfl (fun c8 => ?_) (fun c8 => ?_)
        · have h := if_some_t h c8
          refine lv_iconst (v := 0) hx hb dX6_both_31 (by decide) ?_
          refine lv_istore_n (lv' := [(1, .int 0), (2, .int v6), (0, .ref (ad 0))]) hx hb dX6_both_32 rfl hl (by decide) rfl (fun ls hl => ?_)
          refine lv_goto (tgt := 5) hx hb dX6_both_33 rfl ?_
          exact ih st7 0 _ _ h _ _ hP hS ls (lv_sub hl [2, 0] rfl) kx
        · have h := if_some_f h c8
          refine lv_iload_n hx hb dX6_both_23 rfl (lv_at hl 0 rfl) ?_
          refine lv_if_eq (tgt := 31) hx hb dX6_both_24 rfl (fun c9 => ?_) (fun c9 => ?_)
          · have h := if_some_t h c9
            refine lv_iconst (v := 0) hx hb dX6_both_31 (by decide) ?_
            refine lv_istore_n (lv' := [(1, .int 0), (2, .int v6), (0, .ref (ad 0))]) hx hb dX6_both_32 rfl hl (by decide) rfl (fun ls hl => ?_)
            refine lv_goto (tgt := 5) hx hb dX6_both_33 rfl ?_
            exact ih st7 0 _ _ h _ _ hP hS ls (lv_sub hl [2, 0] rfl) kx
          · have h := if_some_f h c9
            refine lv_iconst (v := 1) hx hb dX6_both_27 (by decide) ?_
            refine lv_goto (tgt := 32) hx hb dX6_both_28 rfl ?_
            refine lv_istore_n (lv' := [(1, .int 1), (2, .int v6), (0, .ref (ad 0))]) hx hb dX6_both_32 rfl hl (by decide) rfl (fun ls hl => ?_)
            refine lv_goto (tgt := 5) hx hb dX6_both_33 rfl ?_
            exact ih st7 1 _ _ h _ _ hP hS ls (lv_sub hl [2, 0] rfl) kx
  rw [M_both_b] at h
  refine lv_aload_n hx hb dX6_both_0 rfl (lv_at hl 0 rfl) ?_
  obtain ⟨v1, st2, hv1, h⟩ := bd2_some h
  refine ka_compared C hP hS (hf_compared _ _ _ hv1) (by omega) hl.1 (Nat.le_of_ble_eq_true rfl) hcs dX6_both_1 (fun H locs hP hS => ?_)
  refine lv_istore_n (lv' := [(1, .int v1), (0, .ref (ad 0))]) hx hb dX6_both_4 rfl hl (by decide) rfl (fun ls hl => ?_)
  obtain ⟨st10, z11, hz12, h⟩ := bd2_some h
  refine L5  N _ v1 _ _ hz12 _ _ hP hS ls (lv_sub hl [1, 0] rfl) (fun H locs hP hS ls hl => ?_)
  refine lv_iload_n hx hb dX6_both_36 rfl (lv_at hl 0 rfl) ?_
  exact mm_viret hx hb hr hlk h hP hS dX6_both_37
theorem dX6_compared_0 : decode cX6_compared 0 = .ok (.aload_n 0, 1) := by decide +kernel
theorem dX6_compared_1 : decode cX6_compared 1 = .ok (.invokevirtual 91, 3) := by decide +kernel
theorem dX6_compared_4 : decode cX6_compared 4 = .ok (.istore_n 1, 1) := by decide +kernel
theorem dX6_compared_5 : decode cX6_compared 5 = .ok (.aload_n 0, 1) := by decide +kernel
theorem dX6_compared_6 : decode cX6_compared 6 = .ok (.invokevirtual 73, 3) := by decide +kernel
theorem dX6_compared_9 : decode cX6_compared 9 = .ok (.istore_n 2, 1) := by decide +kernel
theorem dX6_compared_10 : decode cX6_compared 10 = .ok (.iload_n 2, 1) := by decide +kernel
theorem dX6_compared_11 : decode cX6_compared 11 = .ok (.bipush 60, 2) := by decide +kernel
theorem dX6_compared_13 : decode cX6_compared 13 = .ok (.if_icmp .eq 17, 3) := by decide +kernel
theorem dX6_compared_16 : decode cX6_compared 16 = .ok (.iload_n 2, 1) := by decide +kernel
theorem dX6_compared_17 : decode cX6_compared 17 = .ok (.bipush 61, 2) := by decide +kernel
theorem dX6_compared_19 : decode cX6_compared 19 = .ok (.if_icmp .eq 11, 3) := by decide +kernel
theorem dX6_compared_22 : decode cX6_compared 22 = .ok (.iload_n 2, 1) := by decide +kernel
theorem dX6_compared_23 : decode cX6_compared 23 = .ok (.bipush 62, 2) := by decide +kernel
theorem dX6_compared_25 : decode cX6_compared 25 = .ok (.if_icmp .eq 5, 3) := by decide +kernel
theorem dX6_compared_28 : decode cX6_compared 28 = .ok (.iload_n 1, 1) := by decide +kernel
theorem dX6_compared_29 : decode cX6_compared 29 = .ok (.ireturn, 1) := by decide +kernel
theorem dX6_compared_30 : decode cX6_compared 30 = .ok (.aload_n 0, 1) := by decide +kernel
theorem dX6_compared_31 : decode cX6_compared 31 = .ok (.dup, 1) := by decide +kernel
theorem dX6_compared_32 : decode cX6_compared 32 = .ok (.getfield 61, 3) := by decide +kernel
theorem dX6_compared_35 : decode cX6_compared 35 = .ok (.iconst 1, 1) := by decide +kernel
theorem dX6_compared_36 : decode cX6_compared 36 = .ok (.iadd, 1) := by decide +kernel
theorem dX6_compared_37 : decode cX6_compared 37 = .ok (.putfield 61, 3) := by decide +kernel
theorem dX6_compared_40 : decode cX6_compared 40 = .ok (.aload_n 0, 1) := by decide +kernel
theorem dX6_compared_41 : decode cX6_compared 41 = .ok (.invokevirtual 91, 3) := by decide +kernel
theorem dX6_compared_44 : decode cX6_compared 44 = .ok (.istore_n 3, 1) := by decide +kernel
theorem dX6_compared_45 : decode cX6_compared 45 = .ok (.iload_n 2, 1) := by decide +kernel
theorem dX6_compared_46 : decode cX6_compared 46 = .ok (.bipush 60, 2) := by decide +kernel
theorem dX6_compared_48 : decode cX6_compared 48 = .ok (.if_icmp .ne 11, 3) := by decide +kernel
theorem dX6_compared_51 : decode cX6_compared 51 = .ok (.iload_n 1, 1) := by decide +kernel
theorem dX6_compared_52 : decode cX6_compared 52 = .ok (.iload_n 3, 1) := by decide +kernel
theorem dX6_compared_53 : decode cX6_compared 53 = .ok (.if_icmp .ge 29, 3) := by decide +kernel
theorem dX6_compared_56 : decode cX6_compared 56 = .ok (.goto 22, 3) := by decide +kernel
theorem dX6_compared_59 : decode cX6_compared 59 = .ok (.iload_n 2, 1) := by decide +kernel
theorem dX6_compared_60 : decode cX6_compared 60 = .ok (.bipush 61, 2) := by decide +kernel
theorem dX6_compared_62 : decode cX6_compared 62 = .ok (.if_icmp .ne 11, 3) := by decide +kernel
theorem dX6_compared_65 : decode cX6_compared 65 = .ok (.iload_n 1, 1) := by decide +kernel
theorem dX6_compared_66 : decode cX6_compared 66 = .ok (.iload_n 3, 1) := by decide +kernel
theorem dX6_compared_67 : decode cX6_compared 67 = .ok (.if_icmp .ne 15, 3) := by decide +kernel
theorem dX6_compared_70 : decode cX6_compared 70 = .ok (.goto 8, 3) := by decide +kernel
theorem dX6_compared_73 : decode cX6_compared 73 = .ok (.iload_n 1, 1) := by decide +kernel
theorem dX6_compared_74 : decode cX6_compared 74 = .ok (.iload_n 3, 1) := by decide +kernel
theorem dX6_compared_75 : decode cX6_compared 75 = .ok (.if_icmp .le 7, 3) := by decide +kernel
theorem dX6_compared_78 : decode cX6_compared 78 = .ok (.iconst 1, 1) := by decide +kernel
theorem dX6_compared_79 : decode cX6_compared 79 = .ok (.goto 4, 3) := by decide +kernel
theorem dX6_compared_82 : decode cX6_compared 82 = .ok (.iconst 0, 1) := by decide +kernel
theorem dX6_compared_83 : decode cX6_compared 83 = .ok (.ireturn, 1) := by decide +kernel
theorem w_compared_b {l : Launch} {D : va_G} {cI : ClassId} {ad : Nat → Nat} (hI : kInj 15 ad) {dk : Nat} (hdk : 3 ≤ dk) {f_sum : MSt → Option (Int32 × MSt)} (hf_sum : ∀ (st : MSt) (r : Int32) (st' : MSt), f_sum st = some (r, st') → mV l yX6_sum cX6_sum 4 (some .int) dk D cI ad st [] (some (.int r)) st') {st st' : MSt} {r0 : Int32} (h : M_compared_b f_sum st = some (r0, st')) : mV l yX6_compared cX6_compared 4 (some .int) (dk + 1) D cI ad st [] (some (.int r0)) st' := by
  refine mm_ofV hI (by decide) rfl (Nat.le_of_ble_eq_true rfl) (fun p e s m below meth c R args ls C hr hlk hP hS hl hcs => ?_)
  have hx := C.1
  have hb := C.2.1
  have hown := C.2.2.2.1
  have hl : lv_has ls 4 [(0, .ref (ad 0))] := hl
  have hP : mW D cI ad st s.heap := hP
  rw [M_compared_b] at h
  refine lv_aload_n hx hb dX6_compared_0 rfl (lv_at hl 0 rfl) ?_
  obtain ⟨v1, st2, hv1, h⟩ := bd2_some h
  refine ka_sum C hP hS (hf_sum _ _ _ hv1) (by omega) hl.1 (Nat.le_of_ble_eq_true rfl) hcs dX6_compared_1 (fun H locs hP hS => ?_)
  refine lv_istore_n (lv' := [(1, .int v1), (0, .ref (ad 0))]) hx hb dX6_compared_4 rfl hl (by decide) rfl (fun ls hl => ?_)
  refine lv_aload_n hx hb dX6_compared_5 rfl (lv_at hl 1 rfl) ?_
  obtain ⟨v3, hv3, h⟩ := bd1_some h
  refine k_here C hP hv3 (by omega) hl.1 (Nat.le_of_ble_eq_true rfl) hcs dX6_compared_6 ?_
  refine lv_istore_n (lv' := [(2, .int v3), (1, .int v1), (0, .ref (ad 0))]) hx hb dX6_compared_9 rfl hl (by decide) rfl (fun ls hl => ?_)
  refine lv_iload_n hx hb dX6_compared_10 rfl (lv_at hl 0 rfl) ?_
  refine lv_bipush (v := 60) hx hb dX6_compared_11 (by decide) ?_
  refine lv_icmp_eq (tgt := 30) hx hb dX6_compared_13 rfl (fun c4 => ?_) (fun c4 => ?_)
  · have h := if_some_t h c4
    refine lv_aload_n hx hb dX6_compared_30 rfl (lv_at hl 2 rfl) ?_
    refine lv_dup hx hb dX6_compared_31 rfl ?_
    refine g_at C hP dX6_compared_32 ?_
    refine lv_iconst (v := 1) hx hb dX6_compared_35 (by decide) ?_
    refine lv_iadd hx hb dX6_compared_36 ?_
    refine p_at C hP hS dX6_compared_37 (fun H locs hP hS => ?_)
    refine lv_aload_n hx hb dX6_compared_40 rfl (lv_at hl 2 rfl) ?_
    obtain ⟨v5, st6, hv5, h⟩ := bd2_some h
    refine ka_sum C hP hS (hf_sum _ _ _ hv5) (by omega) hl.1 (Nat.le_of_ble_eq_true rfl) hcs dX6_compared_41 (fun H locs hP hS => ?_)
    refine lv_istore_n (lv' := [(3, .int v5), (2, .int v3), (1, .int v1), (0, .ref (ad 0))]) hx hb dX6_compared_44 rfl hl (by decide) rfl (fun ls hl => ?_)
    refine lv_iload_n hx hb dX6_compared_45 rfl (lv_at hl 1 rfl) ?_
    refine lv_bipush (v := 60) hx hb dX6_compared_46 (by decide) ?_
    refine lv_icmp_ne (tgt := 59) hx hb dX6_compared_48 rfl (fun c7 => ?_) (fun c7 => ?_)
    · have h := if_some_f h c7
      refine lv_iload_n hx hb dX6_compared_59 rfl (lv_at hl 1 rfl) ?_
      refine lv_bipush (v := 61) hx hb dX6_compared_60 (by decide) ?_
      refine lv_icmp_ne (tgt := 73) hx hb dX6_compared_62 rfl (fun c8 => ?_) (fun c8 => ?_)
      · have h := if_some_f h c8
        refine lv_iload_n hx hb dX6_compared_73 rfl (lv_at hl 2 rfl) ?_
        refine lv_iload_n hx hb dX6_compared_74 rfl (lv_at hl 0 rfl) ?_
        refine lv_icmp_le (tgt := 82) hx hb dX6_compared_75 rfl (fun c9 => ?_) (fun c9 => ?_)
        · have h := if_some_t h c9
          refine lv_iconst (v := 0) hx hb dX6_compared_82 (by decide) ?_
          exact mm_viret hx hb hr hlk h hP hS dX6_compared_83
        · have h := if_some_f h c9
          refine lv_iconst (v := 1) hx hb dX6_compared_78 (by decide) ?_
          refine lv_goto (tgt := 83) hx hb dX6_compared_79 rfl ?_
          exact mm_viret hx hb hr hlk h hP hS dX6_compared_83
      · have h := if_some_t h c8
        refine lv_iload_n hx hb dX6_compared_65 rfl (lv_at hl 2 rfl) ?_
        refine lv_iload_n hx hb dX6_compared_66 rfl (lv_at hl 0 rfl) ?_
        refine lv_icmp_ne (tgt := 82) hx hb dX6_compared_67 rfl (fun c10 => ?_) (fun c10 => ?_)
        · have h := if_some_f h c10
          refine lv_iconst (v := 0) hx hb dX6_compared_82 (by decide) ?_
          exact mm_viret hx hb hr hlk h hP hS dX6_compared_83
        · have h := if_some_t h c10
          refine lv_goto (tgt := 78) hx hb dX6_compared_70 rfl ?_
          refine lv_iconst (v := 1) hx hb dX6_compared_78 (by decide) ?_
          refine lv_goto (tgt := 83) hx hb dX6_compared_79 rfl ?_
          exact mm_viret hx hb hr hlk h hP hS dX6_compared_83
    · have h := if_some_t h c7
      refine lv_iload_n hx hb dX6_compared_51 rfl (lv_at hl 2 rfl) ?_
      refine lv_iload_n hx hb dX6_compared_52 rfl (lv_at hl 0 rfl) ?_
      refine lv_icmp_ge (tgt := 82) hx hb dX6_compared_53 rfl (fun c11 => ?_) (fun c11 => ?_)
      · have h := if_some_t h c11
        refine lv_iconst (v := 0) hx hb dX6_compared_82 (by decide) ?_
        exact mm_viret hx hb hr hlk h hP hS dX6_compared_83
      · have h := if_some_f h c11
        refine lv_goto (tgt := 78) hx hb dX6_compared_56 rfl ?_
        refine lv_iconst (v := 1) hx hb dX6_compared_78 (by decide) ?_
        refine lv_goto (tgt := 83) hx hb dX6_compared_79 rfl ?_
        exact mm_viret hx hb hr hlk h hP hS dX6_compared_83
  · have h := if_some_f h c4
    refine lv_iload_n hx hb dX6_compared_16 rfl (lv_at hl 0 rfl) ?_
    refine lv_bipush (v := 61) hx hb dX6_compared_17 (by decide) ?_
    refine lv_icmp_eq (tgt := 30) hx hb dX6_compared_19 rfl (fun c12 => ?_) (fun c12 => ?_)
    · have h := if_some_t h c12
      refine lv_aload_n hx hb dX6_compared_30 rfl (lv_at hl 2 rfl) ?_
      refine lv_dup hx hb dX6_compared_31 rfl ?_
      refine g_at C hP dX6_compared_32 ?_
      refine lv_iconst (v := 1) hx hb dX6_compared_35 (by decide) ?_
      refine lv_iadd hx hb dX6_compared_36 ?_
      refine p_at C hP hS dX6_compared_37 (fun H locs hP hS => ?_)
      refine lv_aload_n hx hb dX6_compared_40 rfl (lv_at hl 2 rfl) ?_
      obtain ⟨v13, st14, hv13, h⟩ := bd2_some h
      refine ka_sum C hP hS (hf_sum _ _ _ hv13) (by omega) hl.1 (Nat.le_of_ble_eq_true rfl) hcs dX6_compared_41 (fun H locs hP hS => ?_)
      refine lv_istore_n (lv' := [(3, .int v13), (2, .int v3), (1, .int v1), (0, .ref (ad 0))]) hx hb dX6_compared_44 rfl hl (by decide) rfl (fun ls hl => ?_)
      refine lv_iload_n hx hb dX6_compared_45 rfl (lv_at hl 1 rfl) ?_
      refine lv_bipush (v := 60) hx hb dX6_compared_46 (by decide) ?_
      refine lv_icmp_ne (tgt := 59) hx hb dX6_compared_48 rfl (fun c15 => ?_) (fun c15 => ?_)
      · have h := if_some_f h c15
        refine lv_iload_n hx hb dX6_compared_59 rfl (lv_at hl 1 rfl) ?_
        refine lv_bipush (v := 61) hx hb dX6_compared_60 (by decide) ?_
        refine lv_icmp_ne (tgt := 73) hx hb dX6_compared_62 rfl (fun c16 => ?_) (fun c16 => ?_)
        · have h := if_some_f h c16
          refine lv_iload_n hx hb dX6_compared_73 rfl (lv_at hl 2 rfl) ?_
          refine lv_iload_n hx hb dX6_compared_74 rfl (lv_at hl 0 rfl) ?_
          refine lv_icmp_le (tgt := 82) hx hb dX6_compared_75 rfl (fun c17 => ?_) (fun c17 => ?_)
          · have h := if_some_t h c17
            refine lv_iconst (v := 0) hx hb dX6_compared_82 (by decide) ?_
            exact mm_viret hx hb hr hlk h hP hS dX6_compared_83
          · have h := if_some_f h c17
            refine lv_iconst (v := 1) hx hb dX6_compared_78 (by decide) ?_
            refine lv_goto (tgt := 83) hx hb dX6_compared_79 rfl ?_
            exact mm_viret hx hb hr hlk h hP hS dX6_compared_83
        · have h := if_some_t h c16
          refine lv_iload_n hx hb dX6_compared_65 rfl (lv_at hl 2 rfl) ?_
          refine lv_iload_n hx hb dX6_compared_66 rfl (lv_at hl 0 rfl) ?_
          refine lv_icmp_ne (tgt := 82) hx hb dX6_compared_67 rfl (fun c18 => ?_) (fun c18 => ?_)
          · have h := if_some_f h c18
            refine lv_iconst (v := 0) hx hb dX6_compared_82 (by decide) ?_
            exact mm_viret hx hb hr hlk h hP hS dX6_compared_83
          · have h := if_some_t h c18
            refine lv_goto (tgt := 78) hx hb dX6_compared_70 rfl ?_
            refine lv_iconst (v := 1) hx hb dX6_compared_78 (by decide) ?_
            refine lv_goto (tgt := 83) hx hb dX6_compared_79 rfl ?_
            exact mm_viret hx hb hr hlk h hP hS dX6_compared_83
      · have h := if_some_t h c15
        refine lv_iload_n hx hb dX6_compared_51 rfl (lv_at hl 2 rfl) ?_
        refine lv_iload_n hx hb dX6_compared_52 rfl (lv_at hl 0 rfl) ?_
        refine lv_icmp_ge (tgt := 82) hx hb dX6_compared_53 rfl (fun c19 => ?_) (fun c19 => ?_)
        · have h := if_some_t h c19
          refine lv_iconst (v := 0) hx hb dX6_compared_82 (by decide) ?_
          exact mm_viret hx hb hr hlk h hP hS dX6_compared_83
        · have h := if_some_f h c19
          refine lv_goto (tgt := 78) hx hb dX6_compared_56 rfl ?_
          refine lv_iconst (v := 1) hx hb dX6_compared_78 (by decide) ?_
          refine lv_goto (tgt := 83) hx hb dX6_compared_79 rfl ?_
          exact mm_viret hx hb hr hlk h hP hS dX6_compared_83
    · have h := if_some_f h c12
      refine lv_iload_n hx hb dX6_compared_22 rfl (lv_at hl 0 rfl) ?_
      refine lv_bipush (v := 62) hx hb dX6_compared_23 (by decide) ?_
      refine lv_icmp_eq (tgt := 30) hx hb dX6_compared_25 rfl (fun c20 => ?_) (fun c20 => ?_)
      · have h := if_some_t h c20
        refine lv_aload_n hx hb dX6_compared_30 rfl (lv_at hl 2 rfl) ?_
        refine lv_dup hx hb dX6_compared_31 rfl ?_
        refine g_at C hP dX6_compared_32 ?_
        refine lv_iconst (v := 1) hx hb dX6_compared_35 (by decide) ?_
        refine lv_iadd hx hb dX6_compared_36 ?_
        refine p_at C hP hS dX6_compared_37 (fun H locs hP hS => ?_)
        refine lv_aload_n hx hb dX6_compared_40 rfl (lv_at hl 2 rfl) ?_
        obtain ⟨v21, st22, hv21, h⟩ := bd2_some h
        refine ka_sum C hP hS (hf_sum _ _ _ hv21) (by omega) hl.1 (Nat.le_of_ble_eq_true rfl) hcs dX6_compared_41 (fun H locs hP hS => ?_)
        refine lv_istore_n (lv' := [(3, .int v21), (2, .int v3), (1, .int v1), (0, .ref (ad 0))]) hx hb dX6_compared_44 rfl hl (by decide) rfl (fun ls hl => ?_)
        refine lv_iload_n hx hb dX6_compared_45 rfl (lv_at hl 1 rfl) ?_
        refine lv_bipush (v := 60) hx hb dX6_compared_46 (by decide) ?_
        refine lv_icmp_ne (tgt := 59) hx hb dX6_compared_48 rfl (fun c23 => ?_) (fun c23 => ?_)
        · have h := if_some_f h c23
          refine lv_iload_n hx hb dX6_compared_59 rfl (lv_at hl 1 rfl) ?_
          refine lv_bipush (v := 61) hx hb dX6_compared_60 (by decide) ?_
          refine lv_icmp_ne (tgt := 73) hx hb dX6_compared_62 rfl (fun c24 => ?_) (fun c24 => ?_)
          · have h := if_some_f h c24
            refine lv_iload_n hx hb dX6_compared_73 rfl (lv_at hl 2 rfl) ?_
            refine lv_iload_n hx hb dX6_compared_74 rfl (lv_at hl 0 rfl) ?_
            refine lv_icmp_le (tgt := 82) hx hb dX6_compared_75 rfl (fun c25 => ?_) (fun c25 => ?_)
            · have h := if_some_t h c25
              refine lv_iconst (v := 0) hx hb dX6_compared_82 (by decide) ?_
              exact mm_viret hx hb hr hlk h hP hS dX6_compared_83
            · have h := if_some_f h c25
              refine lv_iconst (v := 1) hx hb dX6_compared_78 (by decide) ?_
              refine lv_goto (tgt := 83) hx hb dX6_compared_79 rfl ?_
              exact mm_viret hx hb hr hlk h hP hS dX6_compared_83
          · have h := if_some_t h c24
            refine lv_iload_n hx hb dX6_compared_65 rfl (lv_at hl 2 rfl) ?_
            refine lv_iload_n hx hb dX6_compared_66 rfl (lv_at hl 0 rfl) ?_
            refine lv_icmp_ne (tgt := 82) hx hb dX6_compared_67 rfl (fun c26 => ?_) (fun c26 => ?_)
            · have h := if_some_f h c26
              refine lv_iconst (v := 0) hx hb dX6_compared_82 (by decide) ?_
              exact mm_viret hx hb hr hlk h hP hS dX6_compared_83
            · have h := if_some_t h c26
              refine lv_goto (tgt := 78) hx hb dX6_compared_70 rfl ?_
              refine lv_iconst (v := 1) hx hb dX6_compared_78 (by decide) ?_
              refine lv_goto (tgt := 83) hx hb dX6_compared_79 rfl ?_
              exact mm_viret hx hb hr hlk h hP hS dX6_compared_83
        · have h := if_some_t h c23
          refine lv_iload_n hx hb dX6_compared_51 rfl (lv_at hl 2 rfl) ?_
          refine lv_iload_n hx hb dX6_compared_52 rfl (lv_at hl 0 rfl) ?_
          refine lv_icmp_ge (tgt := 82) hx hb dX6_compared_53 rfl (fun c27 => ?_) (fun c27 => ?_)
          · have h := if_some_t h c27
            refine lv_iconst (v := 0) hx hb dX6_compared_82 (by decide) ?_
            exact mm_viret hx hb hr hlk h hP hS dX6_compared_83
          · have h := if_some_f h c27
            refine lv_goto (tgt := 78) hx hb dX6_compared_56 rfl ?_
            refine lv_iconst (v := 1) hx hb dX6_compared_78 (by decide) ?_
            refine lv_goto (tgt := 83) hx hb dX6_compared_79 rfl ?_
            exact mm_viret hx hb hr hlk h hP hS dX6_compared_83
      · have h := if_some_f h c20
        refine lv_iload_n hx hb dX6_compared_28 rfl (lv_at hl 1 rfl) ?_
        exact mm_viret hx hb hr hlk h hP hS dX6_compared_29
theorem dX6_sum_0 : decode cX6_sum 0 = .ok (.aload_n 0, 1) := by decide +kernel
theorem dX6_sum_1 : decode cX6_sum 1 = .ok (.invokevirtual 94, 3) := by decide +kernel
theorem dX6_sum_4 : decode cX6_sum 4 = .ok (.istore_n 1, 1) := by decide +kernel
theorem dX6_sum_5 : decode cX6_sum 5 = .ok (.aload_n 0, 1) := by decide +kernel
theorem dX6_sum_6 : decode cX6_sum 6 = .ok (.invokevirtual 73, 3) := by decide +kernel
theorem dX6_sum_9 : decode cX6_sum 9 = .ok (.bipush 43, 2) := by decide +kernel
theorem dX6_sum_11 : decode cX6_sum 11 = .ok (.if_icmp .eq 12, 3) := by decide +kernel
theorem dX6_sum_14 : decode cX6_sum 14 = .ok (.aload_n 0, 1) := by decide +kernel
theorem dX6_sum_15 : decode cX6_sum 15 = .ok (.invokevirtual 73, 3) := by decide +kernel
theorem dX6_sum_18 : decode cX6_sum 18 = .ok (.bipush 45, 2) := by decide +kernel
theorem dX6_sum_20 : decode cX6_sum 20 = .ok (.if_icmp .ne 42, 3) := by decide +kernel
theorem dX6_sum_23 : decode cX6_sum 23 = .ok (.aload_n 0, 1) := by decide +kernel
theorem dX6_sum_24 : decode cX6_sum 24 = .ok (.invokevirtual 73, 3) := by decide +kernel
theorem dX6_sum_27 : decode cX6_sum 27 = .ok (.istore_n 2, 1) := by decide +kernel
theorem dX6_sum_28 : decode cX6_sum 28 = .ok (.aload_n 0, 1) := by decide +kernel
theorem dX6_sum_29 : decode cX6_sum 29 = .ok (.dup, 1) := by decide +kernel
theorem dX6_sum_30 : decode cX6_sum 30 = .ok (.getfield 61, 3) := by decide +kernel
theorem dX6_sum_33 : decode cX6_sum 33 = .ok (.iconst 1, 1) := by decide +kernel
theorem dX6_sum_34 : decode cX6_sum 34 = .ok (.iadd, 1) := by decide +kernel
theorem dX6_sum_35 : decode cX6_sum 35 = .ok (.putfield 61, 3) := by decide +kernel
theorem dX6_sum_38 : decode cX6_sum 38 = .ok (.aload_n 0, 1) := by decide +kernel
theorem dX6_sum_39 : decode cX6_sum 39 = .ok (.invokevirtual 94, 3) := by decide +kernel
theorem dX6_sum_42 : decode cX6_sum 42 = .ok (.istore_n 3, 1) := by decide +kernel
theorem dX6_sum_43 : decode cX6_sum 43 = .ok (.iload_n 2, 1) := by decide +kernel
theorem dX6_sum_44 : decode cX6_sum 44 = .ok (.bipush 43, 2) := by decide +kernel
theorem dX6_sum_46 : decode cX6_sum 46 = .ok (.if_icmp .ne 9, 3) := by decide +kernel
theorem dX6_sum_49 : decode cX6_sum 49 = .ok (.iload_n 1, 1) := by decide +kernel
theorem dX6_sum_50 : decode cX6_sum 50 = .ok (.iload_n 3, 1) := by decide +kernel
theorem dX6_sum_51 : decode cX6_sum 51 = .ok (.iadd, 1) := by decide +kernel
theorem dX6_sum_52 : decode cX6_sum 52 = .ok (.goto 6, 3) := by decide +kernel
theorem dX6_sum_55 : decode cX6_sum 55 = .ok (.iload_n 1, 1) := by decide +kernel
theorem dX6_sum_56 : decode cX6_sum 56 = .ok (.iload_n 3, 1) := by decide +kernel
theorem dX6_sum_57 : decode cX6_sum 57 = .ok (.isub, 1) := by decide +kernel
theorem dX6_sum_58 : decode cX6_sum 58 = .ok (.istore_n 1, 1) := by decide +kernel
theorem dX6_sum_59 : decode cX6_sum 59 = .ok (.goto (-54), 3) := by decide +kernel
theorem dX6_sum_62 : decode cX6_sum 62 = .ok (.iload_n 1, 1) := by decide +kernel
theorem dX6_sum_63 : decode cX6_sum 63 = .ok (.ireturn, 1) := by decide +kernel
theorem w_sum_b {l : Launch} {D : va_G} {cI : ClassId} {ad : Nat → Nat} (hI : kInj 15 ad) {dk : Nat} (hdk : 3 ≤ dk) {N : Nat} {f_product : MSt → Option (Int32 × MSt)} (hf_product : ∀ (st : MSt) (r : Int32) (st' : MSt), f_product st = some (r, st') → mV l yX6_product cX6_product 4 (some .int) dk D cI ad st [] (some (.int r)) st') {st st' : MSt} {r0 : Int32} (h : M_sum_b N f_product st = some (r0, st')) : mV l yX6_sum cX6_sum 4 (some .int) (dk + 1) D cI ad st [] (some (.int r0)) st' := by
  refine mm_ofV hI (by decide) rfl (Nat.le_of_ble_eq_true rfl) (fun p e s m below meth c R args ls C hr hlk hP hS hl hcs => ?_)
  have hx := C.1
  have hb := C.2.1
  have hown := C.2.2.2.1
  have hl : lv_has ls 4 [(0, .ref (ad 0))] := hl
  have hP : mW D cI ad st s.heap := hP
  have L5 : ∀ (n : Nat) (st : MSt) (x1 : Int32) (st2 : MSt) (z1 : Int32), M_sum_b_L5 N f_product n st x1 = some (st2, z1) → ∀ (H : Heap) (locs : List Loc), mW D cI ad st H → va_S (kF 15 ad) s.heap H locs → ∀ ls : Array Slot, lv_has ls 4 [(0, .ref (ad 0)), (1, .int x1)] → (∀ (H : Heap) (locs : List Loc), mW D cI ad st2 H → va_S (kF 15 ad) s.heap H locs → ∀ ls : Array Slot, lv_has ls 4 [(1, .int z1)] → mWV p l e R s m args below meth c D cI ad (some (.int r0)) st' H locs (F0 m 62 ls [])) → mWV p l e R s m args below meth c D cI ad (some (.int r0)) st' H locs (F0 m 5 ls []) := by
    intro n
    induction n with
    | zero =>
      intro st x1 st2 z1 h
      exact non_some h
    | succ n ih =>
      intro st x1 st2 z1 h H locs hP hS ls hl kx
      rw [M_sum_b_L5] at h
      refine lv_aload_n hx hb dX6_sum_5 rfl (lv_at hl 0 rfl) ?_
      obtain ⟨v3, hv3, h⟩ := bd1_some h
      refine k_here C hP hv3 (by omega) hl.1 (Nat.le_of_ble_eq_true rfl) hcs dX6_sum_6 ?_
      refine lv_bipush (v := 43) hx hb dX6_sum_9 (by decide) ?_
      refine lv_icmp_eq (tgt := 23) hx hb dX6_sum_11 rfl (fun c4 => ?_) (fun c4 => ?_)
      · have h := if_some_t h c4
        refine lv_aload_n hx hb dX6_sum_23 rfl (lv_at hl 0 rfl) ?_
        obtain ⟨v5, hv5, h⟩ := bd1_some h
        refine k_here C hP hv5 (by omega) hl.1 (Nat.le_of_ble_eq_true rfl) hcs dX6_sum_24 ?_
        refine lv_istore_n (lv' := [(2, .int v5), (0, .ref (ad 0)), (1, .int x1)]) hx hb dX6_sum_27 rfl hl (by decide) rfl (fun ls hl => ?_)
        refine lv_aload_n hx hb dX6_sum_28 rfl (lv_at hl 1 rfl) ?_
        refine lv_dup hx hb dX6_sum_29 rfl ?_
        refine g_at C hP dX6_sum_30 ?_
        refine lv_iconst (v := 1) hx hb dX6_sum_33 (by decide) ?_
        refine lv_iadd hx hb dX6_sum_34 ?_
        refine p_at C hP hS dX6_sum_35 (fun H locs hP hS => ?_)
        refine lv_aload_n hx hb dX6_sum_38 rfl (lv_at hl 1 rfl) ?_
        obtain ⟨v6, st7, hv6, h⟩ := bd2_some h
        refine ka_product C hP hS (hf_product _ _ _ hv6) (by omega) hl.1 (Nat.le_of_ble_eq_true rfl) hcs dX6_sum_39 (fun H locs hP hS => ?_)
        refine lv_istore_n (lv' := [(3, .int v6), (2, .int v5), (0, .ref (ad 0)), (1, .int x1)]) hx hb dX6_sum_42 rfl hl (by decide) rfl (fun ls hl => ?_)
        refine lv_iload_n hx hb dX6_sum_43 rfl (lv_at hl 1 rfl) ?_
        refine lv_bipush (v := 43) hx hb dX6_sum_44 (by decide) ?_
        refine lv_icmp_ne (tgt := 55) hx hb dX6_sum_46 rfl (fun c8 => ?_) (fun c8 => ?_)
        · have h := if_some_f h c8
          refine lv_iload_n hx hb dX6_sum_55 rfl (lv_at hl 3 rfl) ?_
          refine lv_iload_n hx hb dX6_sum_56 rfl (lv_at hl 0 rfl) ?_
          refine lv_isub hx hb dX6_sum_57 ?_
          refine lv_istore_n (lv' := [(1, .int (x1 - v6)), (3, .int v6), (2, .int v5), (0, .ref (ad 0))]) hx hb dX6_sum_58 rfl hl (by decide) rfl (fun ls hl => ?_)
          refine lv_goto (tgt := 5) hx hb dX6_sum_59 rfl ?_
          exact ih st7 (x1 - v6) _ _ h _ _ hP hS ls (lv_sub hl [3, 0] rfl) kx
        · have h := if_some_t h c8
          refine lv_iload_n hx hb dX6_sum_49 rfl (lv_at hl 3 rfl) ?_
          refine lv_iload_n hx hb dX6_sum_50 rfl (lv_at hl 0 rfl) ?_
          refine lv_iadd hx hb dX6_sum_51 ?_
          refine lv_goto (tgt := 58) hx hb dX6_sum_52 rfl ?_
          refine lv_istore_n (lv' := [(1, .int (x1 + v6)), (3, .int v6), (2, .int v5), (0, .ref (ad 0))]) hx hb dX6_sum_58 rfl hl (by decide) rfl (fun ls hl => ?_)
          refine lv_goto (tgt := 5) hx hb dX6_sum_59 rfl ?_
          exact ih st7 (x1 + v6) _ _ h _ _ hP hS ls (lv_sub hl [3, 0] rfl) kx
      · have h := if_some_f h c4
        refine lv_aload_n hx hb dX6_sum_14 rfl (lv_at hl 0 rfl) ?_
        obtain ⟨v9, hv9, h⟩ := bd1_some h
        refine k_here C hP hv9 (by omega) hl.1 (Nat.le_of_ble_eq_true rfl) hcs dX6_sum_15 ?_
        refine lv_bipush (v := 45) hx hb dX6_sum_18 (by decide) ?_
        refine lv_icmp_ne (tgt := 62) hx hb dX6_sum_20 rfl (fun c10 => ?_) (fun c10 => ?_)
        · have h := if_some_f h c10
          cases h
          exact kx _ _ hP hS ls (lv_sub hl [1] rfl)
        · have h := if_some_t h c10
          refine lv_aload_n hx hb dX6_sum_23 rfl (lv_at hl 0 rfl) ?_
          obtain ⟨v11, hv11, h⟩ := bd1_some h
          refine k_here C hP hv11 (by omega) hl.1 (Nat.le_of_ble_eq_true rfl) hcs dX6_sum_24 ?_
          refine lv_istore_n (lv' := [(2, .int v11), (0, .ref (ad 0)), (1, .int x1)]) hx hb dX6_sum_27 rfl hl (by decide) rfl (fun ls hl => ?_)
          refine lv_aload_n hx hb dX6_sum_28 rfl (lv_at hl 1 rfl) ?_
          refine lv_dup hx hb dX6_sum_29 rfl ?_
          refine g_at C hP dX6_sum_30 ?_
          refine lv_iconst (v := 1) hx hb dX6_sum_33 (by decide) ?_
          refine lv_iadd hx hb dX6_sum_34 ?_
          refine p_at C hP hS dX6_sum_35 (fun H locs hP hS => ?_)
          refine lv_aload_n hx hb dX6_sum_38 rfl (lv_at hl 1 rfl) ?_
          obtain ⟨v12, st13, hv12, h⟩ := bd2_some h
          refine ka_product C hP hS (hf_product _ _ _ hv12) (by omega) hl.1 (Nat.le_of_ble_eq_true rfl) hcs dX6_sum_39 (fun H locs hP hS => ?_)
          refine lv_istore_n (lv' := [(3, .int v12), (2, .int v11), (0, .ref (ad 0)), (1, .int x1)]) hx hb dX6_sum_42 rfl hl (by decide) rfl (fun ls hl => ?_)
          refine lv_iload_n hx hb dX6_sum_43 rfl (lv_at hl 1 rfl) ?_
          refine lv_bipush (v := 43) hx hb dX6_sum_44 (by decide) ?_
          refine lv_icmp_ne (tgt := 55) hx hb dX6_sum_46 rfl (fun c14 => ?_) (fun c14 => ?_)
          · have h := if_some_f h c14
            refine lv_iload_n hx hb dX6_sum_55 rfl (lv_at hl 3 rfl) ?_
            refine lv_iload_n hx hb dX6_sum_56 rfl (lv_at hl 0 rfl) ?_
            refine lv_isub hx hb dX6_sum_57 ?_
            refine lv_istore_n (lv' := [(1, .int (x1 - v12)), (3, .int v12), (2, .int v11), (0, .ref (ad 0))]) hx hb dX6_sum_58 rfl hl (by decide) rfl (fun ls hl => ?_)
            refine lv_goto (tgt := 5) hx hb dX6_sum_59 rfl ?_
            exact ih st13 (x1 - v12) _ _ h _ _ hP hS ls (lv_sub hl [3, 0] rfl) kx
          · have h := if_some_t h c14
            refine lv_iload_n hx hb dX6_sum_49 rfl (lv_at hl 3 rfl) ?_
            refine lv_iload_n hx hb dX6_sum_50 rfl (lv_at hl 0 rfl) ?_
            refine lv_iadd hx hb dX6_sum_51 ?_
            refine lv_goto (tgt := 58) hx hb dX6_sum_52 rfl ?_
            refine lv_istore_n (lv' := [(1, .int (x1 + v12)), (3, .int v12), (2, .int v11), (0, .ref (ad 0))]) hx hb dX6_sum_58 rfl hl (by decide) rfl (fun ls hl => ?_)
            refine lv_goto (tgt := 5) hx hb dX6_sum_59 rfl ?_
            exact ih st13 (x1 + v12) _ _ h _ _ hP hS ls (lv_sub hl [3, 0] rfl) kx
  rw [M_sum_b] at h
  refine lv_aload_n hx hb dX6_sum_0 rfl (lv_at hl 0 rfl) ?_
  obtain ⟨v1, st2, hv1, h⟩ := bd2_some h
  refine ka_product C hP hS (hf_product _ _ _ hv1) (by omega) hl.1 (Nat.le_of_ble_eq_true rfl) hcs dX6_sum_1 (fun H locs hP hS => ?_)
  refine lv_istore_n (lv' := [(1, .int v1), (0, .ref (ad 0))]) hx hb dX6_sum_4 rfl hl (by decide) rfl (fun ls hl => ?_)
  obtain ⟨st15, z16, hz17, h⟩ := bd2_some h
  refine L5  N _ v1 _ _ hz17 _ _ hP hS ls (lv_sub hl [1, 0] rfl) (fun H locs hP hS ls hl => ?_)
  refine lv_iload_n hx hb dX6_sum_62 rfl (lv_at hl 0 rfl) ?_
  exact mm_viret hx hb hr hlk h hP hS dX6_sum_63
theorem dX6_product_0 : decode cX6_product 0 = .ok (.aload_n 0, 1) := by decide +kernel
theorem dX6_product_1 : decode cX6_product 1 = .ok (.invokevirtual 97, 3) := by decide +kernel
theorem dX6_product_4 : decode cX6_product 4 = .ok (.istore_n 1, 1) := by decide +kernel
theorem dX6_product_5 : decode cX6_product 5 = .ok (.aload_n 0, 1) := by decide +kernel
theorem dX6_product_6 : decode cX6_product 6 = .ok (.invokevirtual 73, 3) := by decide +kernel
theorem dX6_product_9 : decode cX6_product 9 = .ok (.bipush 42, 2) := by decide +kernel
theorem dX6_product_11 : decode cX6_product 11 = .ok (.if_icmp .eq 21, 3) := by decide +kernel
theorem dX6_product_14 : decode cX6_product 14 = .ok (.aload_n 0, 1) := by decide +kernel
theorem dX6_product_15 : decode cX6_product 15 = .ok (.invokevirtual 73, 3) := by decide +kernel
theorem dX6_product_18 : decode cX6_product 18 = .ok (.bipush 47, 2) := by decide +kernel
theorem dX6_product_20 : decode cX6_product 20 = .ok (.if_icmp .eq 12, 3) := by decide +kernel
theorem dX6_product_23 : decode cX6_product 23 = .ok (.aload_n 0, 1) := by decide +kernel
theorem dX6_product_24 : decode cX6_product 24 = .ok (.invokevirtual 73, 3) := by decide +kernel
theorem dX6_product_27 : decode cX6_product 27 = .ok (.bipush 37, 2) := by decide +kernel
theorem dX6_product_29 : decode cX6_product 29 = .ok (.if_icmp .ne 62, 3) := by decide +kernel
theorem dX6_product_32 : decode cX6_product 32 = .ok (.aload_n 0, 1) := by decide +kernel
theorem dX6_product_33 : decode cX6_product 33 = .ok (.invokevirtual 73, 3) := by decide +kernel
theorem dX6_product_36 : decode cX6_product 36 = .ok (.istore_n 2, 1) := by decide +kernel
theorem dX6_product_37 : decode cX6_product 37 = .ok (.aload_n 0, 1) := by decide +kernel
theorem dX6_product_38 : decode cX6_product 38 = .ok (.dup, 1) := by decide +kernel
theorem dX6_product_39 : decode cX6_product 39 = .ok (.getfield 61, 3) := by decide +kernel
theorem dX6_product_42 : decode cX6_product 42 = .ok (.iconst 1, 1) := by decide +kernel
theorem dX6_product_43 : decode cX6_product 43 = .ok (.iadd, 1) := by decide +kernel
theorem dX6_product_44 : decode cX6_product 44 = .ok (.putfield 61, 3) := by decide +kernel
theorem dX6_product_47 : decode cX6_product 47 = .ok (.aload_n 0, 1) := by decide +kernel
theorem dX6_product_48 : decode cX6_product 48 = .ok (.invokevirtual 97, 3) := by decide +kernel
theorem dX6_product_51 : decode cX6_product 51 = .ok (.istore_n 3, 1) := by decide +kernel
theorem dX6_product_52 : decode cX6_product 52 = .ok (.iload_n 2, 1) := by decide +kernel
theorem dX6_product_53 : decode cX6_product 53 = .ok (.bipush 42, 2) := by decide +kernel
theorem dX6_product_55 : decode cX6_product 55 = .ok (.if_icmp .ne 9, 3) := by decide +kernel
theorem dX6_product_58 : decode cX6_product 58 = .ok (.iload_n 1, 1) := by decide +kernel
theorem dX6_product_59 : decode cX6_product 59 = .ok (.iload_n 3, 1) := by decide +kernel
theorem dX6_product_60 : decode cX6_product 60 = .ok (.imul, 1) := by decide +kernel
theorem dX6_product_61 : decode cX6_product 61 = .ok (.goto 26, 3) := by decide +kernel
theorem dX6_product_64 : decode cX6_product 64 = .ok (.iload_n 3, 1) := by decide +kernel
theorem dX6_product_65 : decode cX6_product 65 = .ok (.ifCond .ne 7, 3) := by decide +kernel
theorem dX6_product_68 : decode cX6_product 68 = .ok (.iconst 0, 1) := by decide +kernel
theorem dX6_product_69 : decode cX6_product 69 = .ok (.goto 18, 3) := by decide +kernel
theorem dX6_product_72 : decode cX6_product 72 = .ok (.iload_n 2, 1) := by decide +kernel
theorem dX6_product_73 : decode cX6_product 73 = .ok (.bipush 47, 2) := by decide +kernel
theorem dX6_product_75 : decode cX6_product 75 = .ok (.if_icmp .ne 9, 3) := by decide +kernel
theorem dX6_product_78 : decode cX6_product 78 = .ok (.iload_n 1, 1) := by decide +kernel
theorem dX6_product_79 : decode cX6_product 79 = .ok (.iload_n 3, 1) := by decide +kernel
theorem dX6_product_80 : decode cX6_product 80 = .ok (.idiv, 1) := by decide +kernel
theorem dX6_product_81 : decode cX6_product 81 = .ok (.goto 6, 3) := by decide +kernel
theorem dX6_product_84 : decode cX6_product 84 = .ok (.iload_n 1, 1) := by decide +kernel
theorem dX6_product_85 : decode cX6_product 85 = .ok (.iload_n 3, 1) := by decide +kernel
theorem dX6_product_86 : decode cX6_product 86 = .ok (.irem, 1) := by decide +kernel
theorem dX6_product_87 : decode cX6_product 87 = .ok (.istore_n 1, 1) := by decide +kernel
theorem dX6_product_88 : decode cX6_product 88 = .ok (.goto (-83), 3) := by decide +kernel
theorem dX6_product_91 : decode cX6_product 91 = .ok (.iload_n 1, 1) := by decide +kernel
theorem dX6_product_92 : decode cX6_product 92 = .ok (.ireturn, 1) := by decide +kernel
theorem w_product_b {l : Launch} {D : va_G} {cI : ClassId} {ad : Nat → Nat} (hI : kInj 15 ad) {dk : Nat} (hdk : 3 ≤ dk) {N : Nat} {f_unit : MSt → Option (Int32 × MSt)} (hf_unit : ∀ (st : MSt) (r : Int32) (st' : MSt), f_unit st = some (r, st') → mV l yX6_unit cX6_unit 5 (some .int) dk D cI ad st [] (some (.int r)) st') {st st' : MSt} {r0 : Int32} (h : M_product_b N f_unit st = some (r0, st')) : mV l yX6_product cX6_product 4 (some .int) (dk + 1) D cI ad st [] (some (.int r0)) st' := by
  refine mm_ofV hI (by decide) rfl (Nat.le_of_ble_eq_true rfl) (fun p e s m below meth c R args ls C hr hlk hP hS hl hcs => ?_)
  have hx := C.1
  have hb := C.2.1
  have hown := C.2.2.2.1
  have hl : lv_has ls 4 [(0, .ref (ad 0))] := hl
  have hP : mW D cI ad st s.heap := hP
  have L5 : ∀ (n : Nat) (st : MSt) (x1 : Int32) (st2 : MSt) (z1 : Int32), M_product_b_L5 N f_unit n st x1 = some (st2, z1) → ∀ (H : Heap) (locs : List Loc), mW D cI ad st H → va_S (kF 15 ad) s.heap H locs → ∀ ls : Array Slot, lv_has ls 4 [(0, .ref (ad 0)), (1, .int x1)] → (∀ (H : Heap) (locs : List Loc), mW D cI ad st2 H → va_S (kF 15 ad) s.heap H locs → ∀ ls : Array Slot, lv_has ls 4 [(1, .int z1)] → mWV p l e R s m args below meth c D cI ad (some (.int r0)) st' H locs (F0 m 91 ls [])) → mWV p l e R s m args below meth c D cI ad (some (.int r0)) st' H locs (F0 m 5 ls []) := by
    intro n
    induction n with
    | zero =>
      intro st x1 st2 z1 h
      exact non_some h
    | succ n ih =>
      intro st x1 st2 z1 h H locs hP hS ls hl kx
      rw [M_product_b_L5] at h
      refine lv_aload_n hx hb dX6_product_5 rfl (lv_at hl 0 rfl) ?_
      obtain ⟨v3, hv3, h⟩ := bd1_some h
      refine k_here C hP hv3 (by omega) hl.1 (Nat.le_of_ble_eq_true rfl) hcs dX6_product_6 ?_
      refine lv_bipush (v := 42) hx hb dX6_product_9 (by decide) ?_
      refine lv_icmp_eq (tgt := 32) hx hb dX6_product_11 rfl (fun c4 => ?_) (fun c4 => ?_)
      · have h := if_some_t h c4
        refine lv_aload_n hx hb dX6_product_32 rfl (lv_at hl 0 rfl) ?_
        obtain ⟨v5, hv5, h⟩ := bd1_some h
        refine k_here C hP hv5 (by omega) hl.1 (Nat.le_of_ble_eq_true rfl) hcs dX6_product_33 ?_
        refine lv_istore_n (lv' := [(2, .int v5), (0, .ref (ad 0)), (1, .int x1)]) hx hb dX6_product_36 rfl hl (by decide) rfl (fun ls hl => ?_)
        refine lv_aload_n hx hb dX6_product_37 rfl (lv_at hl 1 rfl) ?_
        refine lv_dup hx hb dX6_product_38 rfl ?_
        refine g_at C hP dX6_product_39 ?_
        refine lv_iconst (v := 1) hx hb dX6_product_42 (by decide) ?_
        refine lv_iadd hx hb dX6_product_43 ?_
        refine p_at C hP hS dX6_product_44 (fun H locs hP hS => ?_)
        refine lv_aload_n hx hb dX6_product_47 rfl (lv_at hl 1 rfl) ?_
        obtain ⟨v6, st7, hv6, h⟩ := bd2_some h
        refine ka_unit C hP hS (hf_unit _ _ _ hv6) (by omega) hl.1 (Nat.le_of_ble_eq_true rfl) hcs dX6_product_48 (fun H locs hP hS => ?_)
        refine lv_istore_n (lv' := [(3, .int v6), (2, .int v5), (0, .ref (ad 0)), (1, .int x1)]) hx hb dX6_product_51 rfl hl (by decide) rfl (fun ls hl => ?_)
        refine lv_iload_n hx hb dX6_product_52 rfl (lv_at hl 1 rfl) ?_
        refine lv_bipush (v := 42) hx hb dX6_product_53 (by decide) ?_
        refine lv_icmp_ne (tgt := 64) hx hb dX6_product_55 rfl (fun c8 => ?_) (fun c8 => ?_)
        · have h := if_some_f h c8
          refine lv_iload_n hx hb dX6_product_64 rfl (lv_at hl 0 rfl) ?_
          refine lv_if_ne (tgt := 72) hx hb dX6_product_65 rfl (fun c9 => ?_) (fun c9 => ?_)
          · have h := if_some_f h c9
            refine lv_iload_n hx hb dX6_product_72 rfl (lv_at hl 1 rfl) ?_
            refine lv_bipush (v := 47) hx hb dX6_product_73 (by decide) ?_
            refine lv_icmp_ne (tgt := 84) hx hb dX6_product_75 rfl (fun c10 => ?_) (fun c10 => ?_)
            · have h := if_some_f h c10
              refine lv_iload_n hx hb dX6_product_84 rfl (lv_at hl 3 rfl) ?_
              refine lv_iload_n hx hb dX6_product_85 rfl (lv_at hl 0 rfl) ?_
              obtain ⟨v11, hv11, h⟩ := bd1_some h
              refine mm_rmd hx hb hv11 dX6_product_86 ?_
              refine lv_istore_n (lv' := [(1, .int v11), (3, .int v6), (2, .int v5), (0, .ref (ad 0))]) hx hb dX6_product_87 rfl hl (by decide) rfl (fun ls hl => ?_)
              refine lv_goto (tgt := 5) hx hb dX6_product_88 rfl ?_
              exact ih st7 v11 _ _ h _ _ hP hS ls (lv_sub hl [3, 0] rfl) kx
            · have h := if_some_t h c10
              refine lv_iload_n hx hb dX6_product_78 rfl (lv_at hl 3 rfl) ?_
              refine lv_iload_n hx hb dX6_product_79 rfl (lv_at hl 0 rfl) ?_
              obtain ⟨v12, hv12, h⟩ := bd1_some h
              refine mm_dv hx hb hv12 dX6_product_80 ?_
              refine lv_goto (tgt := 87) hx hb dX6_product_81 rfl ?_
              refine lv_istore_n (lv' := [(1, .int v12), (3, .int v6), (2, .int v5), (0, .ref (ad 0))]) hx hb dX6_product_87 rfl hl (by decide) rfl (fun ls hl => ?_)
              refine lv_goto (tgt := 5) hx hb dX6_product_88 rfl ?_
              exact ih st7 v12 _ _ h _ _ hP hS ls (lv_sub hl [3, 0] rfl) kx
          · have h := if_some_t h c9
            refine lv_iconst (v := 0) hx hb dX6_product_68 (by decide) ?_
            refine lv_goto (tgt := 87) hx hb dX6_product_69 rfl ?_
            refine lv_istore_n (lv' := [(1, .int 0), (3, .int v6), (2, .int v5), (0, .ref (ad 0))]) hx hb dX6_product_87 rfl hl (by decide) rfl (fun ls hl => ?_)
            refine lv_goto (tgt := 5) hx hb dX6_product_88 rfl ?_
            exact ih st7 0 _ _ h _ _ hP hS ls (lv_sub hl [3, 0] rfl) kx
        · have h := if_some_t h c8
          refine lv_iload_n hx hb dX6_product_58 rfl (lv_at hl 3 rfl) ?_
          refine lv_iload_n hx hb dX6_product_59 rfl (lv_at hl 0 rfl) ?_
          refine lv_imul hx hb dX6_product_60 ?_
          refine lv_goto (tgt := 87) hx hb dX6_product_61 rfl ?_
          refine lv_istore_n (lv' := [(1, .int (x1 * v6)), (3, .int v6), (2, .int v5), (0, .ref (ad 0))]) hx hb dX6_product_87 rfl hl (by decide) rfl (fun ls hl => ?_)
          refine lv_goto (tgt := 5) hx hb dX6_product_88 rfl ?_
          exact ih st7 (x1 * v6) _ _ h _ _ hP hS ls (lv_sub hl [3, 0] rfl) kx
      · have h := if_some_f h c4
        refine lv_aload_n hx hb dX6_product_14 rfl (lv_at hl 0 rfl) ?_
        obtain ⟨v13, hv13, h⟩ := bd1_some h
        refine k_here C hP hv13 (by omega) hl.1 (Nat.le_of_ble_eq_true rfl) hcs dX6_product_15 ?_
        refine lv_bipush (v := 47) hx hb dX6_product_18 (by decide) ?_
        refine lv_icmp_eq (tgt := 32) hx hb dX6_product_20 rfl (fun c14 => ?_) (fun c14 => ?_)
        · have h := if_some_t h c14
          refine lv_aload_n hx hb dX6_product_32 rfl (lv_at hl 0 rfl) ?_
          obtain ⟨v15, hv15, h⟩ := bd1_some h
          refine k_here C hP hv15 (by omega) hl.1 (Nat.le_of_ble_eq_true rfl) hcs dX6_product_33 ?_
          refine lv_istore_n (lv' := [(2, .int v15), (0, .ref (ad 0)), (1, .int x1)]) hx hb dX6_product_36 rfl hl (by decide) rfl (fun ls hl => ?_)
          refine lv_aload_n hx hb dX6_product_37 rfl (lv_at hl 1 rfl) ?_
          refine lv_dup hx hb dX6_product_38 rfl ?_
          refine g_at C hP dX6_product_39 ?_
          refine lv_iconst (v := 1) hx hb dX6_product_42 (by decide) ?_
          refine lv_iadd hx hb dX6_product_43 ?_
          refine p_at C hP hS dX6_product_44 (fun H locs hP hS => ?_)
          refine lv_aload_n hx hb dX6_product_47 rfl (lv_at hl 1 rfl) ?_
          obtain ⟨v16, st17, hv16, h⟩ := bd2_some h
          refine ka_unit C hP hS (hf_unit _ _ _ hv16) (by omega) hl.1 (Nat.le_of_ble_eq_true rfl) hcs dX6_product_48 (fun H locs hP hS => ?_)
          refine lv_istore_n (lv' := [(3, .int v16), (2, .int v15), (0, .ref (ad 0)), (1, .int x1)]) hx hb dX6_product_51 rfl hl (by decide) rfl (fun ls hl => ?_)
          refine lv_iload_n hx hb dX6_product_52 rfl (lv_at hl 1 rfl) ?_
          refine lv_bipush (v := 42) hx hb dX6_product_53 (by decide) ?_
          refine lv_icmp_ne (tgt := 64) hx hb dX6_product_55 rfl (fun c18 => ?_) (fun c18 => ?_)
          · have h := if_some_f h c18
            refine lv_iload_n hx hb dX6_product_64 rfl (lv_at hl 0 rfl) ?_
            refine lv_if_ne (tgt := 72) hx hb dX6_product_65 rfl (fun c19 => ?_) (fun c19 => ?_)
            · have h := if_some_f h c19
              refine lv_iload_n hx hb dX6_product_72 rfl (lv_at hl 1 rfl) ?_
              refine lv_bipush (v := 47) hx hb dX6_product_73 (by decide) ?_
              refine lv_icmp_ne (tgt := 84) hx hb dX6_product_75 rfl (fun c20 => ?_) (fun c20 => ?_)
              · have h := if_some_f h c20
                refine lv_iload_n hx hb dX6_product_84 rfl (lv_at hl 3 rfl) ?_
                refine lv_iload_n hx hb dX6_product_85 rfl (lv_at hl 0 rfl) ?_
                obtain ⟨v21, hv21, h⟩ := bd1_some h
                refine mm_rmd hx hb hv21 dX6_product_86 ?_
                refine lv_istore_n (lv' := [(1, .int v21), (3, .int v16), (2, .int v15), (0, .ref (ad 0))]) hx hb dX6_product_87 rfl hl (by decide) rfl (fun ls hl => ?_)
                refine lv_goto (tgt := 5) hx hb dX6_product_88 rfl ?_
                exact ih st17 v21 _ _ h _ _ hP hS ls (lv_sub hl [3, 0] rfl) kx
              · have h := if_some_t h c20
                refine lv_iload_n hx hb dX6_product_78 rfl (lv_at hl 3 rfl) ?_
                refine lv_iload_n hx hb dX6_product_79 rfl (lv_at hl 0 rfl) ?_
                obtain ⟨v22, hv22, h⟩ := bd1_some h
                refine mm_dv hx hb hv22 dX6_product_80 ?_
                refine lv_goto (tgt := 87) hx hb dX6_product_81 rfl ?_
                refine lv_istore_n (lv' := [(1, .int v22), (3, .int v16), (2, .int v15), (0, .ref (ad 0))]) hx hb dX6_product_87 rfl hl (by decide) rfl (fun ls hl => ?_)
                refine lv_goto (tgt := 5) hx hb dX6_product_88 rfl ?_
                exact ih st17 v22 _ _ h _ _ hP hS ls (lv_sub hl [3, 0] rfl) kx
            · have h := if_some_t h c19
              refine lv_iconst (v := 0) hx hb dX6_product_68 (by decide) ?_
              refine lv_goto (tgt := 87) hx hb dX6_product_69 rfl ?_
              refine lv_istore_n (lv' := [(1, .int 0), (3, .int v16), (2, .int v15), (0, .ref (ad 0))]) hx hb dX6_product_87 rfl hl (by decide) rfl (fun ls hl => ?_)
              refine lv_goto (tgt := 5) hx hb dX6_product_88 rfl ?_
              exact ih st17 0 _ _ h _ _ hP hS ls (lv_sub hl [3, 0] rfl) kx
          · have h := if_some_t h c18
            refine lv_iload_n hx hb dX6_product_58 rfl (lv_at hl 3 rfl) ?_
            refine lv_iload_n hx hb dX6_product_59 rfl (lv_at hl 0 rfl) ?_
            refine lv_imul hx hb dX6_product_60 ?_
            refine lv_goto (tgt := 87) hx hb dX6_product_61 rfl ?_
            refine lv_istore_n (lv' := [(1, .int (x1 * v16)), (3, .int v16), (2, .int v15), (0, .ref (ad 0))]) hx hb dX6_product_87 rfl hl (by decide) rfl (fun ls hl => ?_)
            refine lv_goto (tgt := 5) hx hb dX6_product_88 rfl ?_
            exact ih st17 (x1 * v16) _ _ h _ _ hP hS ls (lv_sub hl [3, 0] rfl) kx
        · have h := if_some_f h c14
          refine lv_aload_n hx hb dX6_product_23 rfl (lv_at hl 0 rfl) ?_
          obtain ⟨v23, hv23, h⟩ := bd1_some h
          refine k_here C hP hv23 (by omega) hl.1 (Nat.le_of_ble_eq_true rfl) hcs dX6_product_24 ?_
          refine lv_bipush (v := 37) hx hb dX6_product_27 (by decide) ?_
          refine lv_icmp_ne (tgt := 91) hx hb dX6_product_29 rfl (fun c24 => ?_) (fun c24 => ?_)
          · have h := if_some_f h c24
            cases h
            exact kx _ _ hP hS ls (lv_sub hl [1] rfl)
          · have h := if_some_t h c24
            refine lv_aload_n hx hb dX6_product_32 rfl (lv_at hl 0 rfl) ?_
            obtain ⟨v25, hv25, h⟩ := bd1_some h
            refine k_here C hP hv25 (by omega) hl.1 (Nat.le_of_ble_eq_true rfl) hcs dX6_product_33 ?_
            refine lv_istore_n (lv' := [(2, .int v25), (0, .ref (ad 0)), (1, .int x1)]) hx hb dX6_product_36 rfl hl (by decide) rfl (fun ls hl => ?_)
            refine lv_aload_n hx hb dX6_product_37 rfl (lv_at hl 1 rfl) ?_
            refine lv_dup hx hb dX6_product_38 rfl ?_
            refine g_at C hP dX6_product_39 ?_
            refine lv_iconst (v := 1) hx hb dX6_product_42 (by decide) ?_
            refine lv_iadd hx hb dX6_product_43 ?_
            refine p_at C hP hS dX6_product_44 (fun H locs hP hS => ?_)
            refine lv_aload_n hx hb dX6_product_47 rfl (lv_at hl 1 rfl) ?_
            obtain ⟨v26, st27, hv26, h⟩ := bd2_some h
            refine ka_unit C hP hS (hf_unit _ _ _ hv26) (by omega) hl.1 (Nat.le_of_ble_eq_true rfl) hcs dX6_product_48 (fun H locs hP hS => ?_)
            refine lv_istore_n (lv' := [(3, .int v26), (2, .int v25), (0, .ref (ad 0)), (1, .int x1)]) hx hb dX6_product_51 rfl hl (by decide) rfl (fun ls hl => ?_)
            refine lv_iload_n hx hb dX6_product_52 rfl (lv_at hl 1 rfl) ?_
            refine lv_bipush (v := 42) hx hb dX6_product_53 (by decide) ?_
            refine lv_icmp_ne (tgt := 64) hx hb dX6_product_55 rfl (fun c28 => ?_) (fun c28 => ?_)
            · have h := if_some_f h c28
              refine lv_iload_n hx hb dX6_product_64 rfl (lv_at hl 0 rfl) ?_
              refine lv_if_ne (tgt := 72) hx hb dX6_product_65 rfl (fun c29 => ?_) (fun c29 => ?_)
              · have h := if_some_f h c29
                refine lv_iload_n hx hb dX6_product_72 rfl (lv_at hl 1 rfl) ?_
                refine lv_bipush (v := 47) hx hb dX6_product_73 (by decide) ?_
                refine lv_icmp_ne (tgt := 84) hx hb dX6_product_75 rfl (fun c30 => ?_) (fun c30 => ?_)
                · have h := if_some_f h c30
                  refine lv_iload_n hx hb dX6_product_84 rfl (lv_at hl 3 rfl) ?_
                  refine lv_iload_n hx hb dX6_product_85 rfl (lv_at hl 0 rfl) ?_
                  obtain ⟨v31, hv31, h⟩ := bd1_some h
                  refine mm_rmd hx hb hv31 dX6_product_86 ?_
                  refine lv_istore_n (lv' := [(1, .int v31), (3, .int v26), (2, .int v25), (0, .ref (ad 0))]) hx hb dX6_product_87 rfl hl (by decide) rfl (fun ls hl => ?_)
                  refine lv_goto (tgt := 5) hx hb dX6_product_88 rfl ?_
                  exact ih st27 v31 _ _ h _ _ hP hS ls (lv_sub hl [3, 0] rfl) kx
                · have h := if_some_t h c30
                  refine lv_iload_n hx hb dX6_product_78 rfl (lv_at hl 3 rfl) ?_
                  refine lv_iload_n hx hb dX6_product_79 rfl (lv_at hl 0 rfl) ?_
                  obtain ⟨v32, hv32, h⟩ := bd1_some h
                  refine mm_dv hx hb hv32 dX6_product_80 ?_
                  refine lv_goto (tgt := 87) hx hb dX6_product_81 rfl ?_
                  refine lv_istore_n (lv' := [(1, .int v32), (3, .int v26), (2, .int v25), (0, .ref (ad 0))]) hx hb dX6_product_87 rfl hl (by decide) rfl (fun ls hl => ?_)
                  refine lv_goto (tgt := 5) hx hb dX6_product_88 rfl ?_
                  exact ih st27 v32 _ _ h _ _ hP hS ls (lv_sub hl [3, 0] rfl) kx
              · have h := if_some_t h c29
                refine lv_iconst (v := 0) hx hb dX6_product_68 (by decide) ?_
                refine lv_goto (tgt := 87) hx hb dX6_product_69 rfl ?_
                refine lv_istore_n (lv' := [(1, .int 0), (3, .int v26), (2, .int v25), (0, .ref (ad 0))]) hx hb dX6_product_87 rfl hl (by decide) rfl (fun ls hl => ?_)
                refine lv_goto (tgt := 5) hx hb dX6_product_88 rfl ?_
                exact ih st27 0 _ _ h _ _ hP hS ls (lv_sub hl [3, 0] rfl) kx
            · have h := if_some_t h c28
              refine lv_iload_n hx hb dX6_product_58 rfl (lv_at hl 3 rfl) ?_
              refine lv_iload_n hx hb dX6_product_59 rfl (lv_at hl 0 rfl) ?_
              refine lv_imul hx hb dX6_product_60 ?_
              refine lv_goto (tgt := 87) hx hb dX6_product_61 rfl ?_
              refine lv_istore_n (lv' := [(1, .int (x1 * v26)), (3, .int v26), (2, .int v25), (0, .ref (ad 0))]) hx hb dX6_product_87 rfl hl (by decide) rfl (fun ls hl => ?_)
              refine lv_goto (tgt := 5) hx hb dX6_product_88 rfl ?_
              exact ih st27 (x1 * v26) _ _ h _ _ hP hS ls (lv_sub hl [3, 0] rfl) kx
  rw [M_product_b] at h
  refine lv_aload_n hx hb dX6_product_0 rfl (lv_at hl 0 rfl) ?_
  obtain ⟨v1, st2, hv1, h⟩ := bd2_some h
  refine ka_unit C hP hS (hf_unit _ _ _ hv1) (by omega) hl.1 (Nat.le_of_ble_eq_true rfl) hcs dX6_product_1 (fun H locs hP hS => ?_)
  refine lv_istore_n (lv' := [(1, .int v1), (0, .ref (ad 0))]) hx hb dX6_product_4 rfl hl (by decide) rfl (fun ls hl => ?_)
  obtain ⟨st33, z34, hz35, h⟩ := bd2_some h
  refine L5  N _ v1 _ _ hz35 _ _ hP hS ls (lv_sub hl [1, 0] rfl) (fun H locs hP hS ls hl => ?_)
  refine lv_iload_n hx hb dX6_product_91 rfl (lv_at hl 0 rfl) ?_
  exact mm_viret hx hb hr hlk h hP hS dX6_product_92
theorem dX6_unit_0 : decode cX6_unit 0 = .ok (.aload_n 0, 1) := by decide +kernel
theorem dX6_unit_1 : decode cX6_unit 1 = .ok (.invokevirtual 73, 3) := by decide +kernel
theorem dX6_unit_4 : decode cX6_unit 4 = .ok (.istore_n 1, 1) := by decide +kernel
theorem dX6_unit_5 : decode cX6_unit 5 = .ok (.iload_n 1, 1) := by decide +kernel
theorem dX6_unit_6 : decode cX6_unit 6 = .ok (.bipush 33, 2) := by decide +kernel
theorem dX6_unit_8 : decode cX6_unit 8 = .ok (.if_icmp .eq 9, 3) := by decide +kernel
theorem dX6_unit_11 : decode cX6_unit 11 = .ok (.iload_n 1, 1) := by decide +kernel
theorem dX6_unit_12 : decode cX6_unit 12 = .ok (.bipush 40, 2) := by decide +kernel
theorem dX6_unit_14 : decode cX6_unit 14 = .ok (.if_icmp .ne 104, 3) := by decide +kernel
theorem dX6_unit_17 : decode cX6_unit 17 = .ok (.aload_n 0, 1) := by decide +kernel
theorem dX6_unit_18 : decode cX6_unit 18 = .ok (.getfield 100, 3) := by decide +kernel
theorem dX6_unit_21 : decode cX6_unit 21 = .ok (.iconst 5, 1) := by decide +kernel
theorem dX6_unit_22 : decode cX6_unit 22 = .ok (.if_icmp .ne 8, 3) := by decide +kernel
theorem dX6_unit_25 : decode cX6_unit 25 = .ok (.aload_n 0, 1) := by decide +kernel
theorem dX6_unit_26 : decode cX6_unit 26 = .ok (.invokevirtual 103, 3) := by decide +kernel
theorem dX6_unit_29 : decode cX6_unit 29 = .ok (.ireturn, 1) := by decide +kernel
theorem dX6_unit_30 : decode cX6_unit 30 = .ok (.aload_n 0, 1) := by decide +kernel
theorem dX6_unit_31 : decode cX6_unit 31 = .ok (.dup, 1) := by decide +kernel
theorem dX6_unit_32 : decode cX6_unit 32 = .ok (.getfield 100, 3) := by decide +kernel
theorem dX6_unit_35 : decode cX6_unit 35 = .ok (.iconst 1, 1) := by decide +kernel
theorem dX6_unit_36 : decode cX6_unit 36 = .ok (.iadd, 1) := by decide +kernel
theorem dX6_unit_37 : decode cX6_unit 37 = .ok (.putfield 100, 3) := by decide +kernel
theorem dX6_unit_40 : decode cX6_unit 40 = .ok (.aload_n 0, 1) := by decide +kernel
theorem dX6_unit_41 : decode cX6_unit 41 = .ok (.dup, 1) := by decide +kernel
theorem dX6_unit_42 : decode cX6_unit 42 = .ok (.getfield 61, 3) := by decide +kernel
theorem dX6_unit_45 : decode cX6_unit 45 = .ok (.iconst 1, 1) := by decide +kernel
theorem dX6_unit_46 : decode cX6_unit 46 = .ok (.iadd, 1) := by decide +kernel
theorem dX6_unit_47 : decode cX6_unit 47 = .ok (.putfield 61, 3) := by decide +kernel
theorem dX6_unit_50 : decode cX6_unit 50 = .ok (.iload_n 1, 1) := by decide +kernel
theorem dX6_unit_51 : decode cX6_unit 51 = .ok (.bipush 40, 2) := by decide +kernel
theorem dX6_unit_53 : decode cX6_unit 53 = .ok (.if_icmp .ne 10, 3) := by decide +kernel
theorem dX6_unit_56 : decode cX6_unit 56 = .ok (.aload_n 0, 1) := by decide +kernel
theorem dX6_unit_57 : decode cX6_unit 57 = .ok (.invokevirtual 106, 3) := by decide +kernel
theorem dX6_unit_60 : decode cX6_unit 60 = .ok (.goto 7, 3) := by decide +kernel
theorem dX6_unit_63 : decode cX6_unit 63 = .ok (.aload_n 0, 1) := by decide +kernel
theorem dX6_unit_64 : decode cX6_unit 64 = .ok (.invokevirtual 97, 3) := by decide +kernel
theorem dX6_unit_67 : decode cX6_unit 67 = .ok (.istore_n 2, 1) := by decide +kernel
theorem dX6_unit_68 : decode cX6_unit 68 = .ok (.iload_n 1, 1) := by decide +kernel
theorem dX6_unit_69 : decode cX6_unit 69 = .ok (.bipush 40, 2) := by decide +kernel
theorem dX6_unit_71 : decode cX6_unit 71 = .ok (.if_icmp .ne 17, 3) := by decide +kernel
theorem dX6_unit_74 : decode cX6_unit 74 = .ok (.aload_n 0, 1) := by decide +kernel
theorem dX6_unit_75 : decode cX6_unit 75 = .ok (.bipush 41, 2) := by decide +kernel
theorem dX6_unit_77 : decode cX6_unit 77 = .ok (.invokevirtual 84, 3) := by decide +kernel
theorem dX6_unit_80 : decode cX6_unit 80 = .ok (.ifCond .ne 8, 3) := by decide +kernel
theorem dX6_unit_83 : decode cX6_unit 83 = .ok (.aload_n 0, 1) := by decide +kernel
theorem dX6_unit_84 : decode cX6_unit 84 = .ok (.invokevirtual 103, 3) := by decide +kernel
theorem dX6_unit_87 : decode cX6_unit 87 = .ok (.ireturn, 1) := by decide +kernel
theorem dX6_unit_88 : decode cX6_unit 88 = .ok (.aload_n 0, 1) := by decide +kernel
theorem dX6_unit_89 : decode cX6_unit 89 = .ok (.dup, 1) := by decide +kernel
theorem dX6_unit_90 : decode cX6_unit 90 = .ok (.getfield 100, 3) := by decide +kernel
theorem dX6_unit_93 : decode cX6_unit 93 = .ok (.iconst 1, 1) := by decide +kernel
theorem dX6_unit_94 : decode cX6_unit 94 = .ok (.isub, 1) := by decide +kernel
theorem dX6_unit_95 : decode cX6_unit 95 = .ok (.putfield 100, 3) := by decide +kernel
theorem dX6_unit_98 : decode cX6_unit 98 = .ok (.iload_n 1, 1) := by decide +kernel
theorem dX6_unit_99 : decode cX6_unit 99 = .ok (.bipush 40, 2) := by decide +kernel
theorem dX6_unit_101 : decode cX6_unit 101 = .ok (.if_icmp .ne 7, 3) := by decide +kernel
theorem dX6_unit_104 : decode cX6_unit 104 = .ok (.iload_n 2, 1) := by decide +kernel
theorem dX6_unit_105 : decode cX6_unit 105 = .ok (.goto 12, 3) := by decide +kernel
theorem dX6_unit_108 : decode cX6_unit 108 = .ok (.iload_n 2, 1) := by decide +kernel
theorem dX6_unit_109 : decode cX6_unit 109 = .ok (.ifCond .ne 7, 3) := by decide +kernel
theorem dX6_unit_112 : decode cX6_unit 112 = .ok (.iconst 1, 1) := by decide +kernel
theorem dX6_unit_113 : decode cX6_unit 113 = .ok (.goto 4, 3) := by decide +kernel
theorem dX6_unit_116 : decode cX6_unit 116 = .ok (.iconst 0, 1) := by decide +kernel
theorem dX6_unit_117 : decode cX6_unit 117 = .ok (.ireturn, 1) := by decide +kernel
theorem dX6_unit_118 : decode cX6_unit 118 = .ok (.aload_n 0, 1) := by decide +kernel
theorem dX6_unit_119 : decode cX6_unit 119 = .ok (.iload_n 1, 1) := by decide +kernel
theorem dX6_unit_120 : decode cX6_unit 120 = .ok (.invokevirtual 109, 3) := by decide +kernel
theorem dX6_unit_123 : decode cX6_unit 123 = .ok (.istore_n 2, 1) := by decide +kernel
theorem dX6_unit_124 : decode cX6_unit 124 = .ok (.iload_n 2, 1) := by decide +kernel
theorem dX6_unit_125 : decode cX6_unit 125 = .ok (.ifCond .lt 20, 3) := by decide +kernel
theorem dX6_unit_128 : decode cX6_unit 128 = .ok (.aload_n 0, 1) := by decide +kernel
theorem dX6_unit_129 : decode cX6_unit 129 = .ok (.dup, 1) := by decide +kernel
theorem dX6_unit_130 : decode cX6_unit 130 = .ok (.getfield 61, 3) := by decide +kernel
theorem dX6_unit_133 : decode cX6_unit 133 = .ok (.iconst 1, 1) := by decide +kernel
theorem dX6_unit_134 : decode cX6_unit 134 = .ok (.iadd, 1) := by decide +kernel
theorem dX6_unit_135 : decode cX6_unit 135 = .ok (.putfield 61, 3) := by decide +kernel
theorem dX6_unit_138 : decode cX6_unit 138 = .ok (.aload_n 0, 1) := by decide +kernel
theorem dX6_unit_139 : decode cX6_unit 139 = .ok (.getfield 22, 3) := by decide +kernel
theorem dX6_unit_142 : decode cX6_unit 142 = .ok (.iload_n 2, 1) := by decide +kernel
theorem dX6_unit_143 : decode cX6_unit 143 = .ok (.iaload, 1) := by decide +kernel
theorem dX6_unit_144 : decode cX6_unit 144 = .ok (.ireturn, 1) := by decide +kernel
theorem dX6_unit_145 : decode cX6_unit 145 = .ok (.iconst 0, 1) := by decide +kernel
theorem dX6_unit_146 : decode cX6_unit 146 = .ok (.istore_n 3, 1) := by decide +kernel
theorem dX6_unit_147 : decode cX6_unit 147 = .ok (.iconst 0, 1) := by decide +kernel
theorem dX6_unit_148 : decode cX6_unit 148 = .ok (.istore 4, 2) := by decide +kernel
theorem dX6_unit_150 : decode cX6_unit 150 = .ok (.iload 4, 2) := by decide +kernel
theorem dX6_unit_152 : decode cX6_unit 152 = .ok (.iconst 4, 1) := by decide +kernel
theorem dX6_unit_153 : decode cX6_unit 153 = .ok (.if_icmp .ge 49, 3) := by decide +kernel
theorem dX6_unit_156 : decode cX6_unit 156 = .ok (.aload_n 0, 1) := by decide +kernel
theorem dX6_unit_157 : decode cX6_unit 157 = .ok (.invokevirtual 73, 3) := by decide +kernel
theorem dX6_unit_160 : decode cX6_unit 160 = .ok (.i2l, 1) := by decide +kernel
theorem dX6_unit_161 : decode cX6_unit 161 = .ok (.ldc2_w 113, 3) := by decide +kernel
theorem dX6_unit_164 : decode cX6_unit 164 = .ok (.ldc2_w 115, 3) := by decide +kernel
theorem dX6_unit_167 : decode cX6_unit 167 = .ok (.invokestatic 57, 3) := by decide +kernel
theorem dX6_unit_170 : decode cX6_unit 170 = .ok (.ifCond .eq 32, 3) := by decide +kernel
theorem dX6_unit_173 : decode cX6_unit 173 = .ok (.bipush 10, 2) := by decide +kernel
theorem dX6_unit_175 : decode cX6_unit 175 = .ok (.iload_n 3, 1) := by decide +kernel
theorem dX6_unit_176 : decode cX6_unit 176 = .ok (.imul, 1) := by decide +kernel
theorem dX6_unit_177 : decode cX6_unit 177 = .ok (.aload_n 0, 1) := by decide +kernel
theorem dX6_unit_178 : decode cX6_unit 178 = .ok (.invokevirtual 73, 3) := by decide +kernel
theorem dX6_unit_181 : decode cX6_unit 181 = .ok (.iadd, 1) := by decide +kernel
theorem dX6_unit_182 : decode cX6_unit 182 = .ok (.bipush 48, 2) := by decide +kernel
theorem dX6_unit_184 : decode cX6_unit 184 = .ok (.isub, 1) := by decide +kernel
theorem dX6_unit_185 : decode cX6_unit 185 = .ok (.istore_n 3, 1) := by decide +kernel
theorem dX6_unit_186 : decode cX6_unit 186 = .ok (.aload_n 0, 1) := by decide +kernel
theorem dX6_unit_187 : decode cX6_unit 187 = .ok (.dup, 1) := by decide +kernel
theorem dX6_unit_188 : decode cX6_unit 188 = .ok (.getfield 61, 3) := by decide +kernel
theorem dX6_unit_191 : decode cX6_unit 191 = .ok (.iconst 1, 1) := by decide +kernel
theorem dX6_unit_192 : decode cX6_unit 192 = .ok (.iadd, 1) := by decide +kernel
theorem dX6_unit_193 : decode cX6_unit 193 = .ok (.putfield 61, 3) := by decide +kernel
theorem dX6_unit_196 : decode cX6_unit 196 = .ok (.iinc 4 1, 3) := by decide +kernel
theorem dX6_unit_199 : decode cX6_unit 199 = .ok (.goto (-49), 3) := by decide +kernel
theorem dX6_unit_202 : decode cX6_unit 202 = .ok (.iload 4, 2) := by decide +kernel
theorem dX6_unit_204 : decode cX6_unit 204 = .ok (.ifCond .ne 10, 3) := by decide +kernel
theorem dX6_unit_207 : decode cX6_unit 207 = .ok (.aload_n 0, 1) := by decide +kernel
theorem dX6_unit_208 : decode cX6_unit 208 = .ok (.invokevirtual 103, 3) := by decide +kernel
theorem dX6_unit_211 : decode cX6_unit 211 = .ok (.goto 4, 3) := by decide +kernel
theorem dX6_unit_214 : decode cX6_unit 214 = .ok (.iload_n 3, 1) := by decide +kernel
theorem dX6_unit_215 : decode cX6_unit 215 = .ok (.ireturn, 1) := by decide +kernel
theorem q1659 : (Jvm.Cond.constantLong "ChapterLoanModel" (113 : Nat) (48 : Int64)) ∈ lw_all := lw_g (lw_at lw_m7 135 rfl) rfl
theorem q1660 : (Jvm.Cond.constantLong "ChapterLoanModel" (115 : Nat) (57 : Int64)) ∈ lw_all := lw_g (lw_at lw_m7 136 rfl) rfl
theorem w_unit_b {l : Launch} {D : va_G} {cI : ClassId} {ad : Nat → Nat} (hI : kInj 15 ad) {dk : Nat} (hdk : 3 ≤ dk) {N : Nat} {f_either : MSt → Option (Int32 × MSt)} {f_unit : MSt → Option (Int32 × MSt)} (hf_either : ∀ (st : MSt) (r : Int32) (st' : MSt), f_either st = some (r, st') → mV l yX6_either cX6_either 3 (some .int) dk D cI ad st [] (some (.int r)) st') (hf_unit : ∀ (st : MSt) (r : Int32) (st' : MSt), f_unit st = some (r, st') → mV l yX6_unit cX6_unit 5 (some .int) dk D cI ad st [] (some (.int r)) st') {st st' : MSt} {r0 : Int32} (h : M_unit_b N f_either f_unit st = some (r0, st')) : mV l yX6_unit cX6_unit 5 (some .int) (dk + 1) D cI ad st [] (some (.int r0)) st' := by
  refine mm_ofV hI (by decide) rfl (Nat.le_of_ble_eq_true rfl) (fun p e s m below meth c R args ls C hr hlk hP hS hl hcs => ?_)
  have hx := C.1
  have hb := C.2.1
  have hown := C.2.2.2.1
  have hl : lv_has ls 5 [(0, .ref (ad 0))] := hl
  have hP : mW D cI ad st s.heap := hP
  have L150 : ∀ (n : Nat) (st : MSt) (x3 : Int32) (x4 : Int32) (st2 : MSt) (z3 : Int32) (z4 : Int32), M_unit_b_L150 N f_either f_unit n st x3 x4 = some (st2, z3, z4) → ∀ (H : Heap) (locs : List Loc), mW D cI ad st H → va_S (kF 15 ad) s.heap H locs → ∀ ls : Array Slot, lv_has ls 5 [(0, .ref (ad 0)), (3, .int x3), (4, .int x4)] → (∀ (H : Heap) (locs : List Loc), mW D cI ad st2 H → va_S (kF 15 ad) s.heap H locs → ∀ ls : Array Slot, lv_has ls 5 [(0, .ref (ad 0)), (3, .int z3), (4, .int z4)] → mWV p l e R s m args below meth c D cI ad (some (.int r0)) st' H locs (F0 m 202 ls [])) → mWV p l e R s m args below meth c D cI ad (some (.int r0)) st' H locs (F0 m 150 ls []) := by
    intro n
    induction n with
    | zero =>
      intro st x3 x4 st2 z3 z4 h
      exact non_some h
    | succ n ih =>
      intro st x3 x4 st2 z3 z4 h H locs hP hS ls hl kx
      rw [M_unit_b_L150] at h
      refine lv_iload hx hb dX6_unit_150 (lv_at hl 2 rfl) ?_
      refine lv_iconst (v := 4) hx hb dX6_unit_152 (by decide) ?_
      refine lv_icmp_ge (tgt := 202) hx hb dX6_unit_153 rfl (fun c34 => ?_) (fun c34 => ?_)
      · have h := if_some_t h c34
        cases h
        exact kx _ _ hP hS ls (lv_sub hl [0, 1, 2] rfl)
      · have h := if_some_f h c34
        refine lv_aload_n hx hb dX6_unit_156 rfl (lv_at hl 0 rfl) ?_
        obtain ⟨v35, hv35, h⟩ := bd1_some h
        refine k_here C hP hv35 (by omega) hl.1 (Nat.le_of_ble_eq_true rfl) hcs dX6_unit_157 ?_
        refine lv_i2l (v := v35.toInt64) hx hb dX6_unit_160 rfl ?_
        refine lv_ldc2 hx hb hown (C.2.2.2.2.1 _ q1659) dX6_unit_161 ?_
        refine lv_ldc2 hx hb hown (C.2.2.2.2.1 _ q1660) dX6_unit_164 ?_
        obtain ⟨v36, hv36, h⟩ := bd1_some h
        refine k_in hx hb C.2.2.1 hown C.2.2.2.2.1 C.2.2.2.2.2.2.2 hv36 (by omega) hl.1 (Nat.le_of_ble_eq_true rfl) hcs dX6_unit_167 ?_
        refine lv_if_eq (tgt := 202) hx hb dX6_unit_170 rfl (fun c37 => ?_) (fun c37 => ?_)
        · have h := if_some_t h c37
          cases h
          exact kx _ _ hP hS ls (lv_sub hl [0, 1, 2] rfl)
        · have h := if_some_f h c37
          refine lv_bipush (v := 10) hx hb dX6_unit_173 (by decide) ?_
          refine lv_iload_n hx hb dX6_unit_175 rfl (lv_at hl 1 rfl) ?_
          refine lv_imul hx hb dX6_unit_176 ?_
          refine lv_aload_n hx hb dX6_unit_177 rfl (lv_at hl 0 rfl) ?_
          obtain ⟨v38, hv38, h⟩ := bd1_some h
          refine k_here C hP hv38 (by omega) hl.1 (Nat.le_of_ble_eq_true rfl) hcs dX6_unit_178 ?_
          refine lv_iadd hx hb dX6_unit_181 ?_
          refine lv_bipush (v := 48) hx hb dX6_unit_182 (by decide) ?_
          refine lv_isub hx hb dX6_unit_184 ?_
          refine lv_istore_n (lv' := [(3, .int (((10 * x3) + v38) - 48)), (0, .ref (ad 0)), (4, .int x4)]) hx hb dX6_unit_185 rfl hl (by decide) rfl (fun ls hl => ?_)
          refine lv_aload_n hx hb dX6_unit_186 rfl (lv_at hl 1 rfl) ?_
          refine lv_dup hx hb dX6_unit_187 rfl ?_
          refine g_at C hP dX6_unit_188 ?_
          refine lv_iconst (v := 1) hx hb dX6_unit_191 (by decide) ?_
          refine lv_iadd hx hb dX6_unit_192 ?_
          refine p_at C hP hS dX6_unit_193 (fun H locs hP hS => ?_)
          refine lv_iinc (v := x4 + 1) (lv' := [(4, .int (x4 + 1)), (3, .int (((10 * x3) + v38) - 48)), (0, .ref (ad 0))]) hx hb dX6_unit_196 hl (k := 2) rfl rfl (by decide) rfl (fun ls hl => ?_)
          refine lv_goto (tgt := 150) hx hb dX6_unit_199 rfl ?_
          exact ih (sf st 6 ((st.1 6) + 1)) (((10 * x3) + v38) - 48) (x4 + 1) _ _ _ h _ _ hP hS ls (lv_sub hl [2, 1, 0] rfl) kx
  rw [M_unit_b] at h
  refine lv_aload_n hx hb dX6_unit_0 rfl (lv_at hl 0 rfl) ?_
  obtain ⟨v1, hv1, h⟩ := bd1_some h
  refine k_here C hP hv1 (by omega) hl.1 (Nat.le_of_ble_eq_true rfl) hcs dX6_unit_1 ?_
  refine lv_istore_n (lv' := [(1, .int v1), (0, .ref (ad 0))]) hx hb dX6_unit_4 rfl hl (by decide) rfl (fun ls hl => ?_)
  refine lv_iload_n hx hb dX6_unit_5 rfl (lv_at hl 0 rfl) ?_
  refine lv_bipush (v := 33) hx hb dX6_unit_6 (by decide) ?_
  refine lv_icmp_eq (tgt := 17) hx hb dX6_unit_8 rfl (fun c2 => ?_) (fun c2 => ?_)
  · have h := if_some_t h c2
    refine lv_aload_n hx hb dX6_unit_17 rfl (lv_at hl 1 rfl) ?_
    refine g_opened C hP dX6_unit_18 ?_
    refine lv_iconst (v := 5) hx hb dX6_unit_21 (by decide) ?_
    refine lv_icmp_ne (tgt := 30) hx hb dX6_unit_22 rfl (fun c3 => ?_) (fun c3 => ?_)
    · have h := if_some_f h c3
      refine lv_aload_n hx hb dX6_unit_30 rfl (lv_at hl 1 rfl) ?_
      refine lv_dup hx hb dX6_unit_31 rfl ?_
      refine g_opened C hP dX6_unit_32 ?_
      refine lv_iconst (v := 1) hx hb dX6_unit_35 (by decide) ?_
      refine lv_iadd hx hb dX6_unit_36 ?_
      refine p_opened C hP hS dX6_unit_37 (fun H locs hP hS => ?_)
      refine lv_aload_n hx hb dX6_unit_40 rfl (lv_at hl 1 rfl) ?_
      refine lv_dup hx hb dX6_unit_41 rfl ?_
      refine g_at C hP dX6_unit_42 ?_
      refine lv_iconst (v := 1) hx hb dX6_unit_45 (by decide) ?_
      refine lv_iadd hx hb dX6_unit_46 ?_
      refine p_at C hP hS dX6_unit_47 (fun H locs hP hS => ?_)
      refine lv_iload_n hx hb dX6_unit_50 rfl (lv_at hl 0 rfl) ?_
      refine lv_bipush (v := 40) hx hb dX6_unit_51 (by decide) ?_
      refine lv_icmp_ne (tgt := 63) hx hb dX6_unit_53 rfl (fun c4 => ?_) (fun c4 => ?_)
      · have h := if_some_f h c4
        refine lv_aload_n hx hb dX6_unit_63 rfl (lv_at hl 1 rfl) ?_
        obtain ⟨v5, st6, hv5, h⟩ := bd2_some h
        refine ka_unit C hP hS (hf_unit _ _ _ hv5) (by omega) hl.1 (Nat.le_of_ble_eq_true rfl) hcs dX6_unit_64 (fun H locs hP hS => ?_)
        refine lv_istore_n (lv' := [(2, .int v5), (1, .int v1), (0, .ref (ad 0))]) hx hb dX6_unit_67 rfl hl (by decide) rfl (fun ls hl => ?_)
        refine lv_iload_n hx hb dX6_unit_68 rfl (lv_at hl 1 rfl) ?_
        refine lv_bipush (v := 40) hx hb dX6_unit_69 (by decide) ?_
        refine lv_icmp_ne (tgt := 88) hx hb dX6_unit_71 rfl (fun c7 => ?_) (fun c7 => ?_)
        · have h := if_some_f h c7
          refine lv_aload_n hx hb dX6_unit_88 rfl (lv_at hl 2 rfl) ?_
          refine lv_dup hx hb dX6_unit_89 rfl ?_
          refine g_opened C hP dX6_unit_90 ?_
          refine lv_iconst (v := 1) hx hb dX6_unit_93 (by decide) ?_
          refine lv_isub hx hb dX6_unit_94 ?_
          refine p_opened C hP hS dX6_unit_95 (fun H locs hP hS => ?_)
          refine lv_iload_n hx hb dX6_unit_98 rfl (lv_at hl 1 rfl) ?_
          refine lv_bipush (v := 40) hx hb dX6_unit_99 (by decide) ?_
          refine lv_icmp_ne (tgt := 108) hx hb dX6_unit_101 rfl (fun c8 => ?_) (fun c8 => ?_)
          · have h := if_some_f h c8
            refine lv_iload_n hx hb dX6_unit_108 rfl (lv_at hl 0 rfl) ?_
            refine lv_if_ne (tgt := 116) hx hb dX6_unit_109 rfl (fun c9 => ?_) (fun c9 => ?_)
            · have h := if_some_f h c9
              refine lv_iconst (v := 0) hx hb dX6_unit_116 (by decide) ?_
              exact mm_viret hx hb hr hlk h hP hS dX6_unit_117
            · have h := if_some_t h c9
              refine lv_iconst (v := 1) hx hb dX6_unit_112 (by decide) ?_
              refine lv_goto (tgt := 117) hx hb dX6_unit_113 rfl ?_
              exact mm_viret hx hb hr hlk h hP hS dX6_unit_117
          · have h := if_some_t h c8
            refine lv_iload_n hx hb dX6_unit_104 rfl (lv_at hl 0 rfl) ?_
            refine lv_goto (tgt := 117) hx hb dX6_unit_105 rfl ?_
            exact mm_viret hx hb hr hlk h hP hS dX6_unit_117
        · have h := if_some_t h c7
          refine lv_aload_n hx hb dX6_unit_74 rfl (lv_at hl 2 rfl) ?_
          refine lv_bipush (v := 41) hx hb dX6_unit_75 (by decide) ?_
          obtain ⟨v10, st11, hv10, h⟩ := bd2_some h
          refine k_takes C hP hS hv10 (by omega) hl.1 (Nat.le_of_ble_eq_true rfl) hcs dX6_unit_77 (fun H locs hP hS => ?_)
          refine lv_if_ne (tgt := 88) hx hb dX6_unit_80 rfl (fun c12 => ?_) (fun c12 => ?_)
          · have h := if_some_f h c12
            refine lv_aload_n hx hb dX6_unit_88 rfl (lv_at hl 2 rfl) ?_
            refine lv_dup hx hb dX6_unit_89 rfl ?_
            refine g_opened C hP dX6_unit_90 ?_
            refine lv_iconst (v := 1) hx hb dX6_unit_93 (by decide) ?_
            refine lv_isub hx hb dX6_unit_94 ?_
            refine p_opened C hP hS dX6_unit_95 (fun H locs hP hS => ?_)
            refine lv_iload_n hx hb dX6_unit_98 rfl (lv_at hl 1 rfl) ?_
            refine lv_bipush (v := 40) hx hb dX6_unit_99 (by decide) ?_
            refine lv_icmp_ne (tgt := 108) hx hb dX6_unit_101 rfl (fun c13 => ?_) (fun c13 => ?_)
            · have h := if_some_f h c13
              refine lv_iload_n hx hb dX6_unit_108 rfl (lv_at hl 0 rfl) ?_
              refine lv_if_ne (tgt := 116) hx hb dX6_unit_109 rfl (fun c14 => ?_) (fun c14 => ?_)
              · have h := if_some_f h c14
                refine lv_iconst (v := 0) hx hb dX6_unit_116 (by decide) ?_
                exact mm_viret hx hb hr hlk h hP hS dX6_unit_117
              · have h := if_some_t h c14
                refine lv_iconst (v := 1) hx hb dX6_unit_112 (by decide) ?_
                refine lv_goto (tgt := 117) hx hb dX6_unit_113 rfl ?_
                exact mm_viret hx hb hr hlk h hP hS dX6_unit_117
            · have h := if_some_t h c13
              refine lv_iload_n hx hb dX6_unit_104 rfl (lv_at hl 0 rfl) ?_
              refine lv_goto (tgt := 117) hx hb dX6_unit_105 rfl ?_
              exact mm_viret hx hb hr hlk h hP hS dX6_unit_117
          · have h := if_some_t h c12
            refine lv_aload_n hx hb dX6_unit_83 rfl (lv_at hl 2 rfl) ?_
            obtain ⟨v15, st16, hv15, h⟩ := bd2_some h
            refine k_wrong C hP hS hv15 (by omega) hl.1 (Nat.le_of_ble_eq_true rfl) hcs dX6_unit_84 (fun H locs hP hS => ?_)
            exact mm_viret hx hb hr hlk h hP hS dX6_unit_87
      · have h := if_some_t h c4
        refine lv_aload_n hx hb dX6_unit_56 rfl (lv_at hl 1 rfl) ?_
        obtain ⟨v17, st18, hv17, h⟩ := bd2_some h
        refine ka_either C hP hS (hf_either _ _ _ hv17) (by omega) hl.1 (Nat.le_of_ble_eq_true rfl) hcs dX6_unit_57 (fun H locs hP hS => ?_)
        refine lv_goto (tgt := 67) hx hb dX6_unit_60 rfl ?_
        refine lv_istore_n (lv' := [(2, .int v17), (1, .int v1), (0, .ref (ad 0))]) hx hb dX6_unit_67 rfl hl (by decide) rfl (fun ls hl => ?_)
        refine lv_iload_n hx hb dX6_unit_68 rfl (lv_at hl 1 rfl) ?_
        refine lv_bipush (v := 40) hx hb dX6_unit_69 (by decide) ?_
        refine lv_icmp_ne (tgt := 88) hx hb dX6_unit_71 rfl (fun c19 => ?_) (fun c19 => ?_)
        · have h := if_some_f h c19
          refine lv_aload_n hx hb dX6_unit_88 rfl (lv_at hl 2 rfl) ?_
          refine lv_dup hx hb dX6_unit_89 rfl ?_
          refine g_opened C hP dX6_unit_90 ?_
          refine lv_iconst (v := 1) hx hb dX6_unit_93 (by decide) ?_
          refine lv_isub hx hb dX6_unit_94 ?_
          refine p_opened C hP hS dX6_unit_95 (fun H locs hP hS => ?_)
          refine lv_iload_n hx hb dX6_unit_98 rfl (lv_at hl 1 rfl) ?_
          refine lv_bipush (v := 40) hx hb dX6_unit_99 (by decide) ?_
          refine lv_icmp_ne (tgt := 108) hx hb dX6_unit_101 rfl (fun c20 => ?_) (fun c20 => ?_)
          · have h := if_some_f h c20
            refine lv_iload_n hx hb dX6_unit_108 rfl (lv_at hl 0 rfl) ?_
            refine lv_if_ne (tgt := 116) hx hb dX6_unit_109 rfl (fun c21 => ?_) (fun c21 => ?_)
            · have h := if_some_f h c21
              refine lv_iconst (v := 0) hx hb dX6_unit_116 (by decide) ?_
              exact mm_viret hx hb hr hlk h hP hS dX6_unit_117
            · have h := if_some_t h c21
              refine lv_iconst (v := 1) hx hb dX6_unit_112 (by decide) ?_
              refine lv_goto (tgt := 117) hx hb dX6_unit_113 rfl ?_
              exact mm_viret hx hb hr hlk h hP hS dX6_unit_117
          · have h := if_some_t h c20
            refine lv_iload_n hx hb dX6_unit_104 rfl (lv_at hl 0 rfl) ?_
            refine lv_goto (tgt := 117) hx hb dX6_unit_105 rfl ?_
            exact mm_viret hx hb hr hlk h hP hS dX6_unit_117
        · have h := if_some_t h c19
          refine lv_aload_n hx hb dX6_unit_74 rfl (lv_at hl 2 rfl) ?_
          refine lv_bipush (v := 41) hx hb dX6_unit_75 (by decide) ?_
          obtain ⟨v22, st23, hv22, h⟩ := bd2_some h
          refine k_takes C hP hS hv22 (by omega) hl.1 (Nat.le_of_ble_eq_true rfl) hcs dX6_unit_77 (fun H locs hP hS => ?_)
          refine lv_if_ne (tgt := 88) hx hb dX6_unit_80 rfl (fun c24 => ?_) (fun c24 => ?_)
          · have h := if_some_f h c24
            refine lv_aload_n hx hb dX6_unit_88 rfl (lv_at hl 2 rfl) ?_
            refine lv_dup hx hb dX6_unit_89 rfl ?_
            refine g_opened C hP dX6_unit_90 ?_
            refine lv_iconst (v := 1) hx hb dX6_unit_93 (by decide) ?_
            refine lv_isub hx hb dX6_unit_94 ?_
            refine p_opened C hP hS dX6_unit_95 (fun H locs hP hS => ?_)
            refine lv_iload_n hx hb dX6_unit_98 rfl (lv_at hl 1 rfl) ?_
            refine lv_bipush (v := 40) hx hb dX6_unit_99 (by decide) ?_
            refine lv_icmp_ne (tgt := 108) hx hb dX6_unit_101 rfl (fun c25 => ?_) (fun c25 => ?_)
            · have h := if_some_f h c25
              refine lv_iload_n hx hb dX6_unit_108 rfl (lv_at hl 0 rfl) ?_
              refine lv_if_ne (tgt := 116) hx hb dX6_unit_109 rfl (fun c26 => ?_) (fun c26 => ?_)
              · have h := if_some_f h c26
                refine lv_iconst (v := 0) hx hb dX6_unit_116 (by decide) ?_
                exact mm_viret hx hb hr hlk h hP hS dX6_unit_117
              · have h := if_some_t h c26
                refine lv_iconst (v := 1) hx hb dX6_unit_112 (by decide) ?_
                refine lv_goto (tgt := 117) hx hb dX6_unit_113 rfl ?_
                exact mm_viret hx hb hr hlk h hP hS dX6_unit_117
            · have h := if_some_t h c25
              refine lv_iload_n hx hb dX6_unit_104 rfl (lv_at hl 0 rfl) ?_
              refine lv_goto (tgt := 117) hx hb dX6_unit_105 rfl ?_
              exact mm_viret hx hb hr hlk h hP hS dX6_unit_117
          · have h := if_some_t h c24
            refine lv_aload_n hx hb dX6_unit_83 rfl (lv_at hl 2 rfl) ?_
            obtain ⟨v27, st28, hv27, h⟩ := bd2_some h
            refine k_wrong C hP hS hv27 (by omega) hl.1 (Nat.le_of_ble_eq_true rfl) hcs dX6_unit_84 (fun H locs hP hS => ?_)
            exact mm_viret hx hb hr hlk h hP hS dX6_unit_87
    · have h := if_some_t h c3
      refine lv_aload_n hx hb dX6_unit_25 rfl (lv_at hl 1 rfl) ?_
      obtain ⟨v29, st30, hv29, h⟩ := bd2_some h
      refine k_wrong C hP hS hv29 (by omega) hl.1 (Nat.le_of_ble_eq_true rfl) hcs dX6_unit_26 (fun H locs hP hS => ?_)
      exact mm_viret hx hb hr hlk h hP hS dX6_unit_29
  · have h := if_some_f h c2
    refine lv_iload_n hx hb dX6_unit_11 rfl (lv_at hl 0 rfl) ?_
    refine lv_bipush (v := 40) hx hb dX6_unit_12 (by decide) ?_
    refine lv_icmp_ne (tgt := 118) hx hb dX6_unit_14 rfl (fun c31 => ?_) (fun c31 => ?_)
    · have h := if_some_f h c31
      refine lv_aload_n hx hb dX6_unit_118 rfl (lv_at hl 1 rfl) ?_
      refine lv_iload_n hx hb dX6_unit_119 rfl (lv_at hl 0 rfl) ?_
      obtain ⟨v32, hv32, h⟩ := bd1_some h
      refine k_nameOf C hP hv32 (by omega) hl.1 (Nat.le_of_ble_eq_true rfl) hcs dX6_unit_120 ?_
      refine lv_istore_n (lv' := [(2, .int v32), (1, .int v1), (0, .ref (ad 0))]) hx hb dX6_unit_123 rfl hl (by decide) rfl (fun ls hl => ?_)
      refine lv_iload_n hx hb dX6_unit_124 rfl (lv_at hl 0 rfl) ?_
      refine lv_if_lt (tgt := 145) hx hb dX6_unit_125 rfl (fun c33 => ?_) (fun c33 => ?_)
      · have h := if_some_t h c33
        refine lv_iconst (v := 0) hx hb dX6_unit_145 (by decide) ?_
        refine lv_istore_n (lv' := [(3, .int 0), (2, .int v32), (1, .int v1), (0, .ref (ad 0))]) hx hb dX6_unit_146 rfl hl (by decide) rfl (fun ls hl => ?_)
        refine lv_iconst (v := 0) hx hb dX6_unit_147 (by decide) ?_
        refine lv_istore (lv' := [(4, .int 0), (3, .int 0), (2, .int v32), (1, .int v1), (0, .ref (ad 0))]) hx hb dX6_unit_148 hl (by decide) rfl (fun ls hl => ?_)
        obtain ⟨st39, z40, z41, hz45, h⟩ := bd3_some h
        refine L150  N _ 0 0 _ _ _ hz45 _ _ hP hS ls (lv_sub hl [4, 1, 0] rfl) (fun H locs hP hS ls hl => ?_)
        refine lv_iload hx hb dX6_unit_202 (lv_at hl 2 rfl) ?_
        refine lv_if_ne (tgt := 214) hx hb dX6_unit_204 rfl (fun c42 => ?_) (fun c42 => ?_)
        · have h := if_some_f h c42
          refine lv_iload_n hx hb dX6_unit_214 rfl (lv_at hl 1 rfl) ?_
          exact mm_viret hx hb hr hlk h hP hS dX6_unit_215
        · have h := if_some_t h c42
          refine lv_aload_n hx hb dX6_unit_207 rfl (lv_at hl 0 rfl) ?_
          obtain ⟨v43, st44, hv43, h⟩ := bd2_some h
          refine k_wrong C hP hS hv43 (by omega) hl.1 (Nat.le_of_ble_eq_true rfl) hcs dX6_unit_208 (fun H locs hP hS => ?_)
          refine lv_goto (tgt := 215) hx hb dX6_unit_211 rfl ?_
          exact mm_viret hx hb hr hlk h hP hS dX6_unit_215
      · have h := if_some_f h c33
        refine lv_aload_n hx hb dX6_unit_128 rfl (lv_at hl 2 rfl) ?_
        refine lv_dup hx hb dX6_unit_129 rfl ?_
        refine g_at C hP dX6_unit_130 ?_
        refine lv_iconst (v := 1) hx hb dX6_unit_133 (by decide) ?_
        refine lv_iadd hx hb dX6_unit_134 ?_
        refine p_at C hP hS dX6_unit_135 (fun H locs hP hS => ?_)
        refine lv_aload_n hx hb dX6_unit_138 rfl (lv_at hl 2 rfl) ?_
        refine g_names C hP dX6_unit_139 ?_
        refine lv_iload_n hx hb dX6_unit_142 rfl (lv_at hl 0 rfl) ?_
        obtain ⟨v46, hv46, h⟩ := bd1_some h
        refine mm_ld C hP 5 (by decide) rfl hv46 dX6_unit_143 ?_
        exact mm_viret hx hb hr hlk h hP hS dX6_unit_144
    · have h := if_some_t h c31
      refine lv_aload_n hx hb dX6_unit_17 rfl (lv_at hl 1 rfl) ?_
      refine g_opened C hP dX6_unit_18 ?_
      refine lv_iconst (v := 5) hx hb dX6_unit_21 (by decide) ?_
      refine lv_icmp_ne (tgt := 30) hx hb dX6_unit_22 rfl (fun c47 => ?_) (fun c47 => ?_)
      · have h := if_some_f h c47
        refine lv_aload_n hx hb dX6_unit_30 rfl (lv_at hl 1 rfl) ?_
        refine lv_dup hx hb dX6_unit_31 rfl ?_
        refine g_opened C hP dX6_unit_32 ?_
        refine lv_iconst (v := 1) hx hb dX6_unit_35 (by decide) ?_
        refine lv_iadd hx hb dX6_unit_36 ?_
        refine p_opened C hP hS dX6_unit_37 (fun H locs hP hS => ?_)
        refine lv_aload_n hx hb dX6_unit_40 rfl (lv_at hl 1 rfl) ?_
        refine lv_dup hx hb dX6_unit_41 rfl ?_
        refine g_at C hP dX6_unit_42 ?_
        refine lv_iconst (v := 1) hx hb dX6_unit_45 (by decide) ?_
        refine lv_iadd hx hb dX6_unit_46 ?_
        refine p_at C hP hS dX6_unit_47 (fun H locs hP hS => ?_)
        refine lv_iload_n hx hb dX6_unit_50 rfl (lv_at hl 0 rfl) ?_
        refine lv_bipush (v := 40) hx hb dX6_unit_51 (by decide) ?_
        refine lv_icmp_ne (tgt := 63) hx hb dX6_unit_53 rfl (fun c48 => ?_) (fun c48 => ?_)
        · have h := if_some_f h c48
          refine lv_aload_n hx hb dX6_unit_63 rfl (lv_at hl 1 rfl) ?_
          obtain ⟨v49, st50, hv49, h⟩ := bd2_some h
          refine ka_unit C hP hS (hf_unit _ _ _ hv49) (by omega) hl.1 (Nat.le_of_ble_eq_true rfl) hcs dX6_unit_64 (fun H locs hP hS => ?_)
          refine lv_istore_n (lv' := [(2, .int v49), (1, .int v1), (0, .ref (ad 0))]) hx hb dX6_unit_67 rfl hl (by decide) rfl (fun ls hl => ?_)
          refine lv_iload_n hx hb dX6_unit_68 rfl (lv_at hl 1 rfl) ?_
          refine lv_bipush (v := 40) hx hb dX6_unit_69 (by decide) ?_
          refine lv_icmp_ne (tgt := 88) hx hb dX6_unit_71 rfl (fun c51 => ?_) (fun c51 => ?_)
          · have h := if_some_f h c51
            refine lv_aload_n hx hb dX6_unit_88 rfl (lv_at hl 2 rfl) ?_
            refine lv_dup hx hb dX6_unit_89 rfl ?_
            refine g_opened C hP dX6_unit_90 ?_
            refine lv_iconst (v := 1) hx hb dX6_unit_93 (by decide) ?_
            refine lv_isub hx hb dX6_unit_94 ?_
            refine p_opened C hP hS dX6_unit_95 (fun H locs hP hS => ?_)
            refine lv_iload_n hx hb dX6_unit_98 rfl (lv_at hl 1 rfl) ?_
            refine lv_bipush (v := 40) hx hb dX6_unit_99 (by decide) ?_
            refine lv_icmp_ne (tgt := 108) hx hb dX6_unit_101 rfl (fun c52 => ?_) (fun c52 => ?_)
            · have h := if_some_f h c52
              refine lv_iload_n hx hb dX6_unit_108 rfl (lv_at hl 0 rfl) ?_
              refine lv_if_ne (tgt := 116) hx hb dX6_unit_109 rfl (fun c53 => ?_) (fun c53 => ?_)
              · have h := if_some_f h c53
                refine lv_iconst (v := 0) hx hb dX6_unit_116 (by decide) ?_
                exact mm_viret hx hb hr hlk h hP hS dX6_unit_117
              · have h := if_some_t h c53
                refine lv_iconst (v := 1) hx hb dX6_unit_112 (by decide) ?_
                refine lv_goto (tgt := 117) hx hb dX6_unit_113 rfl ?_
                exact mm_viret hx hb hr hlk h hP hS dX6_unit_117
            · have h := if_some_t h c52
              refine lv_iload_n hx hb dX6_unit_104 rfl (lv_at hl 0 rfl) ?_
              refine lv_goto (tgt := 117) hx hb dX6_unit_105 rfl ?_
              exact mm_viret hx hb hr hlk h hP hS dX6_unit_117
          · have h := if_some_t h c51
            refine lv_aload_n hx hb dX6_unit_74 rfl (lv_at hl 2 rfl) ?_
            refine lv_bipush (v := 41) hx hb dX6_unit_75 (by decide) ?_
            obtain ⟨v54, st55, hv54, h⟩ := bd2_some h
            refine k_takes C hP hS hv54 (by omega) hl.1 (Nat.le_of_ble_eq_true rfl) hcs dX6_unit_77 (fun H locs hP hS => ?_)
            refine lv_if_ne (tgt := 88) hx hb dX6_unit_80 rfl (fun c56 => ?_) (fun c56 => ?_)
            · have h := if_some_f h c56
              refine lv_aload_n hx hb dX6_unit_88 rfl (lv_at hl 2 rfl) ?_
              refine lv_dup hx hb dX6_unit_89 rfl ?_
              refine g_opened C hP dX6_unit_90 ?_
              refine lv_iconst (v := 1) hx hb dX6_unit_93 (by decide) ?_
              refine lv_isub hx hb dX6_unit_94 ?_
              refine p_opened C hP hS dX6_unit_95 (fun H locs hP hS => ?_)
              refine lv_iload_n hx hb dX6_unit_98 rfl (lv_at hl 1 rfl) ?_
              refine lv_bipush (v := 40) hx hb dX6_unit_99 (by decide) ?_
              refine lv_icmp_ne (tgt := 108) hx hb dX6_unit_101 rfl (fun c57 => ?_) (fun c57 => ?_)
              · have h := if_some_f h c57
                refine lv_iload_n hx hb dX6_unit_108 rfl (lv_at hl 0 rfl) ?_
                refine lv_if_ne (tgt := 116) hx hb dX6_unit_109 rfl (fun c58 => ?_) (fun c58 => ?_)
                · have h := if_some_f h c58
                  refine lv_iconst (v := 0) hx hb dX6_unit_116 (by decide) ?_
                  exact mm_viret hx hb hr hlk h hP hS dX6_unit_117
                · have h := if_some_t h c58
                  refine lv_iconst (v := 1) hx hb dX6_unit_112 (by decide) ?_
                  refine lv_goto (tgt := 117) hx hb dX6_unit_113 rfl ?_
                  exact mm_viret hx hb hr hlk h hP hS dX6_unit_117
              · have h := if_some_t h c57
                refine lv_iload_n hx hb dX6_unit_104 rfl (lv_at hl 0 rfl) ?_
                refine lv_goto (tgt := 117) hx hb dX6_unit_105 rfl ?_
                exact mm_viret hx hb hr hlk h hP hS dX6_unit_117
            · have h := if_some_t h c56
              refine lv_aload_n hx hb dX6_unit_83 rfl (lv_at hl 2 rfl) ?_
              obtain ⟨v59, st60, hv59, h⟩ := bd2_some h
              refine k_wrong C hP hS hv59 (by omega) hl.1 (Nat.le_of_ble_eq_true rfl) hcs dX6_unit_84 (fun H locs hP hS => ?_)
              exact mm_viret hx hb hr hlk h hP hS dX6_unit_87
        · have h := if_some_t h c48
          refine lv_aload_n hx hb dX6_unit_56 rfl (lv_at hl 1 rfl) ?_
          obtain ⟨v61, st62, hv61, h⟩ := bd2_some h
          refine ka_either C hP hS (hf_either _ _ _ hv61) (by omega) hl.1 (Nat.le_of_ble_eq_true rfl) hcs dX6_unit_57 (fun H locs hP hS => ?_)
          refine lv_goto (tgt := 67) hx hb dX6_unit_60 rfl ?_
          refine lv_istore_n (lv' := [(2, .int v61), (1, .int v1), (0, .ref (ad 0))]) hx hb dX6_unit_67 rfl hl (by decide) rfl (fun ls hl => ?_)
          refine lv_iload_n hx hb dX6_unit_68 rfl (lv_at hl 1 rfl) ?_
          refine lv_bipush (v := 40) hx hb dX6_unit_69 (by decide) ?_
          refine lv_icmp_ne (tgt := 88) hx hb dX6_unit_71 rfl (fun c63 => ?_) (fun c63 => ?_)
          · have h := if_some_f h c63
            refine lv_aload_n hx hb dX6_unit_88 rfl (lv_at hl 2 rfl) ?_
            refine lv_dup hx hb dX6_unit_89 rfl ?_
            refine g_opened C hP dX6_unit_90 ?_
            refine lv_iconst (v := 1) hx hb dX6_unit_93 (by decide) ?_
            refine lv_isub hx hb dX6_unit_94 ?_
            refine p_opened C hP hS dX6_unit_95 (fun H locs hP hS => ?_)
            refine lv_iload_n hx hb dX6_unit_98 rfl (lv_at hl 1 rfl) ?_
            refine lv_bipush (v := 40) hx hb dX6_unit_99 (by decide) ?_
            refine lv_icmp_ne (tgt := 108) hx hb dX6_unit_101 rfl (fun c64 => ?_) (fun c64 => ?_)
            · have h := if_some_f h c64
              refine lv_iload_n hx hb dX6_unit_108 rfl (lv_at hl 0 rfl) ?_
              refine lv_if_ne (tgt := 116) hx hb dX6_unit_109 rfl (fun c65 => ?_) (fun c65 => ?_)
              · have h := if_some_f h c65
                refine lv_iconst (v := 0) hx hb dX6_unit_116 (by decide) ?_
                exact mm_viret hx hb hr hlk h hP hS dX6_unit_117
              · have h := if_some_t h c65
                refine lv_iconst (v := 1) hx hb dX6_unit_112 (by decide) ?_
                refine lv_goto (tgt := 117) hx hb dX6_unit_113 rfl ?_
                exact mm_viret hx hb hr hlk h hP hS dX6_unit_117
            · have h := if_some_t h c64
              refine lv_iload_n hx hb dX6_unit_104 rfl (lv_at hl 0 rfl) ?_
              refine lv_goto (tgt := 117) hx hb dX6_unit_105 rfl ?_
              exact mm_viret hx hb hr hlk h hP hS dX6_unit_117
          · have h := if_some_t h c63
            refine lv_aload_n hx hb dX6_unit_74 rfl (lv_at hl 2 rfl) ?_
            refine lv_bipush (v := 41) hx hb dX6_unit_75 (by decide) ?_
            obtain ⟨v66, st67, hv66, h⟩ := bd2_some h
            refine k_takes C hP hS hv66 (by omega) hl.1 (Nat.le_of_ble_eq_true rfl) hcs dX6_unit_77 (fun H locs hP hS => ?_)
            refine lv_if_ne (tgt := 88) hx hb dX6_unit_80 rfl (fun c68 => ?_) (fun c68 => ?_)
            · have h := if_some_f h c68
              refine lv_aload_n hx hb dX6_unit_88 rfl (lv_at hl 2 rfl) ?_
              refine lv_dup hx hb dX6_unit_89 rfl ?_
              refine g_opened C hP dX6_unit_90 ?_
              refine lv_iconst (v := 1) hx hb dX6_unit_93 (by decide) ?_
              refine lv_isub hx hb dX6_unit_94 ?_
              refine p_opened C hP hS dX6_unit_95 (fun H locs hP hS => ?_)
              refine lv_iload_n hx hb dX6_unit_98 rfl (lv_at hl 1 rfl) ?_
              refine lv_bipush (v := 40) hx hb dX6_unit_99 (by decide) ?_
              refine lv_icmp_ne (tgt := 108) hx hb dX6_unit_101 rfl (fun c69 => ?_) (fun c69 => ?_)
              · have h := if_some_f h c69
                refine lv_iload_n hx hb dX6_unit_108 rfl (lv_at hl 0 rfl) ?_
                refine lv_if_ne (tgt := 116) hx hb dX6_unit_109 rfl (fun c70 => ?_) (fun c70 => ?_)
                · have h := if_some_f h c70
                  refine lv_iconst (v := 0) hx hb dX6_unit_116 (by decide) ?_
                  exact mm_viret hx hb hr hlk h hP hS dX6_unit_117
                · have h := if_some_t h c70
                  refine lv_iconst (v := 1) hx hb dX6_unit_112 (by decide) ?_
                  refine lv_goto (tgt := 117) hx hb dX6_unit_113 rfl ?_
                  exact mm_viret hx hb hr hlk h hP hS dX6_unit_117
              · have h := if_some_t h c69
                refine lv_iload_n hx hb dX6_unit_104 rfl (lv_at hl 0 rfl) ?_
                refine lv_goto (tgt := 117) hx hb dX6_unit_105 rfl ?_
                exact mm_viret hx hb hr hlk h hP hS dX6_unit_117
            · have h := if_some_t h c68
              refine lv_aload_n hx hb dX6_unit_83 rfl (lv_at hl 2 rfl) ?_
              obtain ⟨v71, st72, hv71, h⟩ := bd2_some h
              refine k_wrong C hP hS hv71 (by omega) hl.1 (Nat.le_of_ble_eq_true rfl) hcs dX6_unit_84 (fun H locs hP hS => ?_)
              exact mm_viret hx hb hr hlk h hP hS dX6_unit_87
      · have h := if_some_t h c47
        refine lv_aload_n hx hb dX6_unit_25 rfl (lv_at hl 1 rfl) ?_
        obtain ⟨v73, st74, hv73, h⟩ := bd2_some h
        refine k_wrong C hP hS hv73 (by omega) hl.1 (Nat.le_of_ble_eq_true rfl) hcs dX6_unit_26 (fun H locs hP hS => ?_)
        exact mm_viret hx hb hr hlk h hP hS dX6_unit_29
theorem wr_M_ex {l : Launch} {D : va_G} {cI : ClassId} {ad : Nat → Nat} (hI : kInj 15 ad) {N : Nat} : ∀ (d : Nat), (∀ (st : MSt) (r : Int32) (st' : MSt), M_ex N d 0 st = some (r, st') → mV l yX6_either cX6_either 3 (some .int) (d + 3) D cI ad st [] (some (.int r)) st') ∧ (∀ (st : MSt) (r : Int32) (st' : MSt), M_ex N d 1 st = some (r, st') → mV l yX6_both cX6_both 3 (some .int) (d + 3) D cI ad st [] (some (.int r)) st') ∧ (∀ (st : MSt) (r : Int32) (st' : MSt), M_ex N d 2 st = some (r, st') → mV l yX6_compared cX6_compared 4 (some .int) (d + 3) D cI ad st [] (some (.int r)) st') ∧ (∀ (st : MSt) (r : Int32) (st' : MSt), M_ex N d 3 st = some (r, st') → mV l yX6_sum cX6_sum 4 (some .int) (d + 3) D cI ad st [] (some (.int r)) st') ∧ (∀ (st : MSt) (r : Int32) (st' : MSt), M_ex N d 4 st = some (r, st') → mV l yX6_product cX6_product 4 (some .int) (d + 3) D cI ad st [] (some (.int r)) st') ∧ (∀ (st : MSt) (r : Int32) (st' : MSt), M_ex N d 5 st = some (r, st') → mV l yX6_unit cX6_unit 5 (some .int) (d + 3) D cI ad st [] (some (.int r)) st') := by
  intro d
  induction d with
  | zero => exact ⟨fun st r st' h => non_some h, fun st r st' h => non_some h, fun st r st' h => non_some h, fun st r st' h => non_some h, fun st r st' h => non_some h, fun st r st' h => non_some h⟩
  | succ d ih =>
    refine ⟨?_, ?_, ?_, ?_, ?_, ?_⟩
    · intro st r st' h
      have h2 := w_either_b (l := l) (D := D) (cI := cI) hI (dk := d + 3) (by omega) (ih.2.1) (h := h)
      exact (show d + 1 + 3 = d + 3 + 1 by omega) ▸ h2
    · intro st r st' h
      have h2 := w_both_b (l := l) (D := D) (cI := cI) hI (dk := d + 3) (by omega) (ih.2.2.1) (h := h)
      exact (show d + 1 + 3 = d + 3 + 1 by omega) ▸ h2
    · intro st r st' h
      have h2 := w_compared_b (l := l) (D := D) (cI := cI) hI (dk := d + 3) (by omega) (ih.2.2.2.1) (h := h)
      exact (show d + 1 + 3 = d + 3 + 1 by omega) ▸ h2
    · intro st r st' h
      have h2 := w_sum_b (l := l) (D := D) (cI := cI) hI (dk := d + 3) (by omega) (ih.2.2.2.2.1) (h := h)
      exact (show d + 1 + 3 = d + 3 + 1 by omega) ▸ h2
    · intro st r st' h
      have h2 := w_product_b (l := l) (D := D) (cI := cI) hI (dk := d + 3) (by omega) (ih.2.2.2.2.2) (h := h)
      exact (show d + 1 + 3 = d + 3 + 1 by omega) ▸ h2
    · intro st r st' h
      have h2 := w_unit_b (l := l) (D := D) (cI := cI) hI (dk := d + 3) (by omega) (ih.1) (ih.2.2.2.2.2) (h := h)
      exact (show d + 1 + 3 = d + 3 + 1 by omega) ▸ h2
theorem k_either {N : Nat} {v : Int32} {st' : MSt} (C : mC p R d s m args c cc nL D cI ad) (hP : mW D cI ad st H) (hS : va_S (kF 15 ad) H0 H locs) (h : M_ex N 50 0 st  = some (v, st')) (hd : 53 + 1 ≤ d) (hsz : ls.size = nL) (hW : (rest.map fun v => v.category).sum ≤ 8) (hcs : cells ≤ R.cells ∧ slots ≤ R.slots) (hdg : decode cc pc = .ok (.invokevirtual 106, 3)) (kk : ∀ (H1 : Heap) (locs1 : List Loc), mW D cI ad st' H1 → va_S (kF 15 ad) H0 H1 locs1 → W p l e R s m args below meth c H1 locs1 cells slots Q (F0 m (pc + 3) ls (.int v :: rest))) : W p l e R s m args below meth c H locs cells slots Q (F0 m pc ls (.ref (ad 0) :: rest)) := ka_either C hP hS ((wr_M_ex C.2.2.2.2.2.2.1 50).1 _ _ _ h) hd hsz hW hcs hdg kk
theorem k_both {N : Nat} {v : Int32} {st' : MSt} (C : mC p R d s m args c cc nL D cI ad) (hP : mW D cI ad st H) (hS : va_S (kF 15 ad) H0 H locs) (h : M_ex N 50 1 st  = some (v, st')) (hd : 53 + 1 ≤ d) (hsz : ls.size = nL) (hW : (rest.map fun v => v.category).sum ≤ 8) (hcs : cells ≤ R.cells ∧ slots ≤ R.slots) (hdg : decode cc pc = .ok (.invokevirtual 81, 3)) (kk : ∀ (H1 : Heap) (locs1 : List Loc), mW D cI ad st' H1 → va_S (kF 15 ad) H0 H1 locs1 → W p l e R s m args below meth c H1 locs1 cells slots Q (F0 m (pc + 3) ls (.int v :: rest))) : W p l e R s m args below meth c H locs cells slots Q (F0 m pc ls (.ref (ad 0) :: rest)) := ka_both C hP hS ((wr_M_ex C.2.2.2.2.2.2.1 50).2.1 _ _ _ h) hd hsz hW hcs hdg kk
theorem k_compared {N : Nat} {v : Int32} {st' : MSt} (C : mC p R d s m args c cc nL D cI ad) (hP : mW D cI ad st H) (hS : va_S (kF 15 ad) H0 H locs) (h : M_ex N 50 2 st  = some (v, st')) (hd : 53 + 1 ≤ d) (hsz : ls.size = nL) (hW : (rest.map fun v => v.category).sum ≤ 8) (hcs : cells ≤ R.cells ∧ slots ≤ R.slots) (hdg : decode cc pc = .ok (.invokevirtual 88, 3)) (kk : ∀ (H1 : Heap) (locs1 : List Loc), mW D cI ad st' H1 → va_S (kF 15 ad) H0 H1 locs1 → W p l e R s m args below meth c H1 locs1 cells slots Q (F0 m (pc + 3) ls (.int v :: rest))) : W p l e R s m args below meth c H locs cells slots Q (F0 m pc ls (.ref (ad 0) :: rest)) := ka_compared C hP hS ((wr_M_ex C.2.2.2.2.2.2.1 50).2.2.1 _ _ _ h) hd hsz hW hcs hdg kk
theorem k_sum {N : Nat} {v : Int32} {st' : MSt} (C : mC p R d s m args c cc nL D cI ad) (hP : mW D cI ad st H) (hS : va_S (kF 15 ad) H0 H locs) (h : M_ex N 50 3 st  = some (v, st')) (hd : 53 + 1 ≤ d) (hsz : ls.size = nL) (hW : (rest.map fun v => v.category).sum ≤ 8) (hcs : cells ≤ R.cells ∧ slots ≤ R.slots) (hdg : decode cc pc = .ok (.invokevirtual 91, 3)) (kk : ∀ (H1 : Heap) (locs1 : List Loc), mW D cI ad st' H1 → va_S (kF 15 ad) H0 H1 locs1 → W p l e R s m args below meth c H1 locs1 cells slots Q (F0 m (pc + 3) ls (.int v :: rest))) : W p l e R s m args below meth c H locs cells slots Q (F0 m pc ls (.ref (ad 0) :: rest)) := ka_sum C hP hS ((wr_M_ex C.2.2.2.2.2.2.1 50).2.2.2.1 _ _ _ h) hd hsz hW hcs hdg kk
theorem k_product {N : Nat} {v : Int32} {st' : MSt} (C : mC p R d s m args c cc nL D cI ad) (hP : mW D cI ad st H) (hS : va_S (kF 15 ad) H0 H locs) (h : M_ex N 50 4 st  = some (v, st')) (hd : 53 + 1 ≤ d) (hsz : ls.size = nL) (hW : (rest.map fun v => v.category).sum ≤ 8) (hcs : cells ≤ R.cells ∧ slots ≤ R.slots) (hdg : decode cc pc = .ok (.invokevirtual 94, 3)) (kk : ∀ (H1 : Heap) (locs1 : List Loc), mW D cI ad st' H1 → va_S (kF 15 ad) H0 H1 locs1 → W p l e R s m args below meth c H1 locs1 cells slots Q (F0 m (pc + 3) ls (.int v :: rest))) : W p l e R s m args below meth c H locs cells slots Q (F0 m pc ls (.ref (ad 0) :: rest)) := ka_product C hP hS ((wr_M_ex C.2.2.2.2.2.2.1 50).2.2.2.2.1 _ _ _ h) hd hsz hW hcs hdg kk
theorem k_unit {N : Nat} {v : Int32} {st' : MSt} (C : mC p R d s m args c cc nL D cI ad) (hP : mW D cI ad st H) (hS : va_S (kF 15 ad) H0 H locs) (h : M_ex N 50 5 st  = some (v, st')) (hd : 53 + 1 ≤ d) (hsz : ls.size = nL) (hW : (rest.map fun v => v.category).sum ≤ 8) (hcs : cells ≤ R.cells ∧ slots ≤ R.slots) (hdg : decode cc pc = .ok (.invokevirtual 97, 3)) (kk : ∀ (H1 : Heap) (locs1 : List Loc), mW D cI ad st' H1 → va_S (kF 15 ad) H0 H1 locs1 → W p l e R s m args below meth c H1 locs1 cells slots Q (F0 m (pc + 3) ls (.int v :: rest))) : W p l e R s m args below meth c H locs cells slots Q (F0 m pc ls (.ref (ad 0) :: rest)) := ka_unit C hP hS ((wr_M_ex C.2.2.2.2.2.2.1 50).2.2.2.2.2 _ _ _ h) hd hsz hW hcs hdg kk
abbrev cX6_owesBy : ByteArray := prog_30_method_85_code
def yX6_owesBy : MethodName := ⟨RX6, "owesBy", "(II)I"⟩
theorem q1943 : (Jvm.Cond.methodLink "ChapterLoanModel" (294 : Nat) ({ cls := "ChapterLoanModel", name := "owesBy", desc := "(II)I" } : Jvm.MethodName)) ∈ lw_all := lw_g (lw_at lw_m8 179 rfl) rfl
theorem q1946 : (Jvm.Cond.code ({ cls := "ChapterLoanModel", name := "owesBy", desc := "(II)I" } : Jvm.MethodName) prog_30_method_85_code (3 : Nat) (Option.some Jvm.ClassFile.FieldType.int)) ∈ lw_all := lw_g (lw_at lw_m8 182 rfl) rfl
theorem q1945 : (Jvm.Cond.instanceMethod ({ cls := "ChapterLoanModel", name := "owesBy", desc := "(II)I" } : Jvm.MethodName)) ∈ lw_all := lw_g (lw_at lw_m8 181 rfl) rfl
theorem ka_owesBy {a0 : Int32} {a1 : Int32} {v : Int32} {st' : MSt} {dk : Nat} (C : mC p R d s m args c cc nL D cI ad) (hP : mW D cI ad st H) (hS : va_S (kF 15 ad) H0 H locs) (hM : mV l yX6_owesBy cX6_owesBy 3 (some .int) dk D cI ad st [.int a0, .int a1] (some (.int v)) st') (hd : dk + 1 ≤ d) (hsz : ls.size = nL) (hW : (rest.map fun v => v.category).sum ≤ 8) (hcs : cells ≤ R.cells ∧ slots ≤ R.slots) (hdg : decode cc pc = .ok (.invokevirtual 294, 3)) (kk : ∀ (H1 : Heap) (locs1 : List Loc), mW D cI ad st' H1 → va_S (kF 15 ad) H0 H1 locs1 → W p l e R s m args below meth c H1 locs1 cells slots Q (F0 m (pc + 3) ls (.int v :: rest))) : W p l e R s m args below meth c H locs cells slots Q (F0 m pc ls (.int a1 :: .int a0 :: .ref (ad 0) :: rest)) :=
  mm_cV (As := [.int a0, .int a1]) C hP hS hM (cwV 2 C.2.2.2.2.1 (lw_V q1943 q1945 qs78 q94 q1946) rfl rfl rfl (by decide +kernel) (mr_ C.2.2.2.2.2.2.2 hd (by decide))) rfl hsz rfl hW hdg hcs kk
theorem dX6_owesBy_0 : decode cX6_owesBy 0 = .ok (.iload_n 1, 1) := by decide +kernel
theorem dX6_owesBy_1 : decode cX6_owesBy 1 = .ok (.lookupswitch 58 #[(0, 27), (2, 40)], 27) := by decide +kernel
theorem dX6_owesBy_28 : decode cX6_owesBy 28 = .ok (.aload_n 0, 1) := by decide +kernel
theorem dX6_owesBy_29 : decode cX6_owesBy 29 = .ok (.bipush 10, 2) := by decide +kernel
theorem dX6_owesBy_31 : decode cX6_owesBy 31 = .ok (.invokevirtual 291, 3) := by decide +kernel
theorem dX6_owesBy_34 : decode cX6_owesBy 34 = .ok (.iload_n 2, 1) := by decide +kernel
theorem dX6_owesBy_35 : decode cX6_owesBy 35 = .ok (.aload_n 0, 1) := by decide +kernel
theorem dX6_owesBy_36 : decode cX6_owesBy 36 = .ok (.getfield 288, 3) := by decide +kernel
theorem dX6_owesBy_39 : decode cX6_owesBy 39 = .ok (.iadd, 1) := by decide +kernel
theorem dX6_owesBy_40 : decode cX6_owesBy 40 = .ok (.ireturn, 1) := by decide +kernel
theorem dX6_owesBy_41 : decode cX6_owesBy 41 = .ok (.aload_n 0, 1) := by decide +kernel
theorem dX6_owesBy_42 : decode cX6_owesBy 42 = .ok (.bipush 30, 2) := by decide +kernel
theorem dX6_owesBy_44 : decode cX6_owesBy 44 = .ok (.invokevirtual 291, 3) := by decide +kernel
theorem dX6_owesBy_47 : decode cX6_owesBy 47 = .ok (.aload_n 0, 1) := by decide +kernel
theorem dX6_owesBy_48 : decode cX6_owesBy 48 = .ok (.iconst 2, 1) := by decide +kernel
theorem dX6_owesBy_49 : decode cX6_owesBy 49 = .ok (.invokestatic 205, 3) := by decide +kernel
theorem dX6_owesBy_52 : decode cX6_owesBy 52 = .ok (.iload_n 2, 1) := by decide +kernel
theorem dX6_owesBy_53 : decode cX6_owesBy 53 = .ok (.invokevirtual 294, 3) := by decide +kernel
theorem dX6_owesBy_56 : decode cX6_owesBy 56 = .ok (.iconst 3, 1) := by decide +kernel
theorem dX6_owesBy_57 : decode cX6_owesBy 57 = .ok (.imul, 1) := by decide +kernel
theorem dX6_owesBy_58 : decode cX6_owesBy 58 = .ok (.ireturn, 1) := by decide +kernel
theorem dX6_owesBy_59 : decode cX6_owesBy 59 = .ok (.aload_n 0, 1) := by decide +kernel
theorem dX6_owesBy_60 : decode cX6_owesBy 60 = .ok (.iload_n 1, 1) := by decide +kernel
theorem dX6_owesBy_61 : decode cX6_owesBy 61 = .ok (.invokestatic 205, 3) := by decide +kernel
theorem dX6_owesBy_64 : decode cX6_owesBy 64 = .ok (.iload_n 2, 1) := by decide +kernel
theorem dX6_owesBy_65 : decode cX6_owesBy 65 = .ok (.invokevirtual 294, 3) := by decide +kernel
theorem dX6_owesBy_68 : decode cX6_owesBy 68 = .ok (.ireturn, 1) := by decide +kernel
theorem w_owesBy_b {l : Launch} {D : va_G} {cI : ClassId} {ad : Nat → Nat} (hI : kInj 15 ad) {dk : Nat} (hdk : 3 ≤ dk) {f_owesBy : MSt → Int32 → Int32 → Option (Int32 × MSt)} (hf_owesBy : ∀ (st : MSt) (a0 : Int32) (a1 : Int32) (r : Int32) (st' : MSt), f_owesBy st a0 a1 = some (r, st') → mV l yX6_owesBy cX6_owesBy 3 (some .int) dk D cI ad st [.int a0, .int a1] (some (.int r)) st') {st st' : MSt} {x1 : Int32} {x2 : Int32} {r0 : Int32} (h : M_owesBy_b f_owesBy st x1 x2 = some (r0, st')) : mV l yX6_owesBy cX6_owesBy 3 (some .int) (dk + 1) D cI ad st [.int x1, .int x2] (some (.int r0)) st' := by
  refine mm_ofV hI (by decide) rfl (Nat.le_of_ble_eq_true rfl) (fun p e s m below meth c R args ls C hr hlk hP hS hl hcs => ?_)
  have hx := C.1
  have hb := C.2.1
  have hown := C.2.2.2.1
  have hl : lv_has ls 3 [(0, .ref (ad 0)), (1, .int x1), (2, .int x2)] := hl
  have hP : mW D cI ad st s.heap := hP
  rw [M_owesBy_b] at h
  refine lv_iload_n hx hb dX6_owesBy_0 rfl (lv_at hl 1 rfl) ?_
  by_cases c1 : x1 = 0
  · have h := if_some_t h c1
    refine lv_lookup (tgt := 28) hx hb dX6_owesBy_1 (by decide) (by rw [c1]; try rfl) (by decide) ?_
    refine lv_aload_n hx hb dX6_owesBy_28 rfl (lv_at hl 0 rfl) ?_
    refine lv_bipush (v := 10) hx hb dX6_owesBy_29 (by decide) ?_
    obtain ⟨st3, hv2, h⟩ := bd1_some h
    refine k_ran C hP hS hv2 (by omega) hl.1 (Nat.le_of_ble_eq_true rfl) hcs dX6_owesBy_31 (fun H locs hP hS => ?_)
    refine lv_iload_n hx hb dX6_owesBy_34 rfl (lv_at hl 2 rfl) ?_
    refine lv_aload_n hx hb dX6_owesBy_35 rfl (lv_at hl 0 rfl) ?_
    refine g_who C hP dX6_owesBy_36 ?_
    refine lv_iadd hx hb dX6_owesBy_39 ?_
    exact mm_viret hx hb hr hlk h hP hS dX6_owesBy_40
  · have h := if_some_f h c1
    by_cases c4 : x1 = 2
    · have h := if_some_t h c4
      refine lv_lookup (tgt := 41) hx hb dX6_owesBy_1 (by decide) (by rw [c4]; try rfl) (by decide) ?_
      refine lv_aload_n hx hb dX6_owesBy_41 rfl (lv_at hl 0 rfl) ?_
      refine lv_bipush (v := 30) hx hb dX6_owesBy_42 (by decide) ?_
      obtain ⟨st6, hv5, h⟩ := bd1_some h
      refine k_ran C hP hS hv5 (by omega) hl.1 (Nat.le_of_ble_eq_true rfl) hcs dX6_owesBy_44 (fun H locs hP hS => ?_)
      refine lv_aload_n hx hb dX6_owesBy_47 rfl (lv_at hl 0 rfl) ?_
      refine lv_iconst (v := 2) hx hb dX6_owesBy_48 (by decide) ?_
      obtain ⟨v7, hv7, h⟩ := bd1_some h
      refine k_above hx hb C.2.2.1 hown C.2.2.2.2.1 C.2.2.2.2.2.2.2 hv7 (by omega) hl.1 (Nat.le_of_ble_eq_true rfl) hcs dX6_owesBy_49 ?_
      refine lv_iload_n hx hb dX6_owesBy_52 rfl (lv_at hl 2 rfl) ?_
      obtain ⟨v8, st9, hv8, h⟩ := bd2_some h
      refine ka_owesBy C hP hS (hf_owesBy _ _ _ _ _ hv8) (by omega) hl.1 (Nat.le_of_ble_eq_true rfl) hcs dX6_owesBy_53 (fun H locs hP hS => ?_)
      refine lv_iconst (v := 3) hx hb dX6_owesBy_56 (by decide) ?_
      refine lv_imul hx hb dX6_owesBy_57 ?_
      exact mm_viret hx hb hr hlk h hP hS dX6_owesBy_58
    · have h := if_some_f h c4
      refine lv_lookup (tgt := 59) hx hb dX6_owesBy_1 (by decide) (by show Op.lookupswitch.offset [(0, 27), (2, 40)] (58) _ = (58); rw [lv_osw c1 (by decide)]; rw [lv_osw c4 (by decide)]; rfl) (by decide) ?_
      refine lv_aload_n hx hb dX6_owesBy_59 rfl (lv_at hl 0 rfl) ?_
      refine lv_iload_n hx hb dX6_owesBy_60 rfl (lv_at hl 1 rfl) ?_
      obtain ⟨v10, hv10, h⟩ := bd1_some h
      refine k_above hx hb C.2.2.1 hown C.2.2.2.2.1 C.2.2.2.2.2.2.2 hv10 (by omega) hl.1 (Nat.le_of_ble_eq_true rfl) hcs dX6_owesBy_61 ?_
      refine lv_iload_n hx hb dX6_owesBy_64 rfl (lv_at hl 2 rfl) ?_
      obtain ⟨v11, st12, hv11, h⟩ := bd2_some h
      refine ka_owesBy C hP hS (hf_owesBy _ _ _ _ _ hv11) (by omega) hl.1 (Nat.le_of_ble_eq_true rfl) hcs dX6_owesBy_65 (fun H locs hP hS => ?_)
      exact mm_viret hx hb hr hlk h hP hS dX6_owesBy_68
theorem wr_owesBy {l : Launch} {D : va_G} {cI : ClassId} {ad : Nat → Nat} (hI : kInj 15 ad) : ∀ (d : Nat) (st : MSt) (a0 : Int32) (a1 : Int32) (r : Int32) (st' : MSt), M_owesBy d st a0 a1 = some (r, st') → mV l yX6_owesBy cX6_owesBy 3 (some .int) (d + 3) D cI ad st [.int a0, .int a1] (some (.int r)) st' := by
  intro d
  induction d with
  | zero =>
    intro st a0 a1 r st' h
    exact non_some h
  | succ d ih =>
    intro st a0 a1 r st' h
    have h2 := w_owesBy_b (l := l) (D := D) (cI := cI) hI (dk := d + 3) (by omega) (fun st a0 a1 r st' h => ih st a0 a1 r st' h) (h := h)
    exact (show d + 1 + 3 = d + 3 + 1 by omega) ▸ h2
theorem k_owesBy {a0 : Int32} {a1 : Int32} {v : Int32} {st' : MSt} (C : mC p R d s m args c cc nL D cI ad) (hP : mW D cI ad st H) (hS : va_S (kF 15 ad) H0 H locs) (h : M_owesBy 4 st a0 a1 = some (v, st')) (hd : 7 + 1 ≤ d) (hsz : ls.size = nL) (hW : (rest.map fun v => v.category).sum ≤ 8) (hcs : cells ≤ R.cells ∧ slots ≤ R.slots) (hdg : decode cc pc = .ok (.invokevirtual 294, 3)) (kk : ∀ (H1 : Heap) (locs1 : List Loc), mW D cI ad st' H1 → va_S (kF 15 ad) H0 H1 locs1 → W p l e R s m args below meth c H1 locs1 cells slots Q (F0 m (pc + 3) ls (.int v :: rest))) : W p l e R s m args below meth c H locs cells slots Q (F0 m pc ls (.int a1 :: .int a0 :: .ref (ad 0) :: rest)) := ka_owesBy C hP hS (wr_owesBy C.2.2.2.2.2.2.1 4 _ _ _ _ _ h) hd hsz hW hcs hdg kk
abbrev cX6_readsBy : ByteArray := prog_30_method_87_code
def yX6_readsBy : MethodName := ⟨RX6, "readsBy", "(II)I"⟩
theorem q1955 : (Jvm.Cond.methodLink "ChapterLoanModel" (303 : Nat) ({ cls := "ChapterLoanModel", name := "readsBy", desc := "(II)I" } : Jvm.MethodName)) ∈ lw_all := lw_g (lw_at lw_m8 191 rfl) rfl
theorem q1958 : (Jvm.Cond.code ({ cls := "ChapterLoanModel", name := "readsBy", desc := "(II)I" } : Jvm.MethodName) prog_30_method_87_code (3 : Nat) (Option.some Jvm.ClassFile.FieldType.int)) ∈ lw_all := lw_g (lw_at lw_m8 194 rfl) rfl
theorem q1957 : (Jvm.Cond.instanceMethod ({ cls := "ChapterLoanModel", name := "readsBy", desc := "(II)I" } : Jvm.MethodName)) ∈ lw_all := lw_g (lw_at lw_m8 193 rfl) rfl
theorem ka_readsBy {a0 : Int32} {a1 : Int32} {v : Int32} {st' : MSt} {dk : Nat} (C : mC p R d s m args c cc nL D cI ad) (hP : mW D cI ad st H) (hS : va_S (kF 15 ad) H0 H locs) (hM : mV l yX6_readsBy cX6_readsBy 3 (some .int) dk D cI ad st [.int a0, .int a1] (some (.int v)) st') (hd : dk + 1 ≤ d) (hsz : ls.size = nL) (hW : (rest.map fun v => v.category).sum ≤ 8) (hcs : cells ≤ R.cells ∧ slots ≤ R.slots) (hdg : decode cc pc = .ok (.invokevirtual 303, 3)) (kk : ∀ (H1 : Heap) (locs1 : List Loc), mW D cI ad st' H1 → va_S (kF 15 ad) H0 H1 locs1 → W p l e R s m args below meth c H1 locs1 cells slots Q (F0 m (pc + 3) ls (.int v :: rest))) : W p l e R s m args below meth c H locs cells slots Q (F0 m pc ls (.int a1 :: .int a0 :: .ref (ad 0) :: rest)) :=
  mm_cV (As := [.int a0, .int a1]) C hP hS hM (cwV 2 C.2.2.2.2.1 (lw_V q1955 q1957 qs81 q94 q1958) rfl rfl rfl (by decide +kernel) (mr_ C.2.2.2.2.2.2.2 hd (by decide))) rfl hsz rfl hW hdg hcs kk
theorem dX6_readsBy_0 : decode cX6_readsBy 0 = .ok (.iload_n 1, 1) := by decide +kernel
theorem dX6_readsBy_1 : decode cX6_readsBy 1 = .ok (.lookupswitch 92 #[(0, 35), (3, 53), (6, 70)], 35) := by decide +kernel
theorem dX6_readsBy_36 : decode cX6_readsBy 36 = .ok (.aload_n 0, 1) := by decide +kernel
theorem dX6_readsBy_37 : decode cX6_readsBy 37 = .ok (.bipush 12, 2) := by decide +kernel
theorem dX6_readsBy_39 : decode cX6_readsBy 39 = .ok (.invokevirtual 291, 3) := by decide +kernel
theorem dX6_readsBy_42 : decode cX6_readsBy 42 = .ok (.iload_n 2, 1) := by decide +kernel
theorem dX6_readsBy_43 : decode cX6_readsBy 43 = .ok (.aload_n 0, 1) := by decide +kernel
theorem dX6_readsBy_44 : decode cX6_readsBy 44 = .ok (.aload_n 0, 1) := by decide +kernel
theorem dX6_readsBy_45 : decode cX6_readsBy 45 = .ok (.getfield 288, 3) := by decide +kernel
theorem dX6_readsBy_48 : decode cX6_readsBy 48 = .ok (.iconst 1, 1) := by decide +kernel
theorem dX6_readsBy_49 : decode cX6_readsBy 49 = .ok (.invokevirtual 150, 3) := by decide +kernel
theorem dX6_readsBy_52 : decode cX6_readsBy 52 = .ok (.isub, 1) := by decide +kernel
theorem dX6_readsBy_53 : decode cX6_readsBy 53 = .ok (.ireturn, 1) := by decide +kernel
theorem dX6_readsBy_54 : decode cX6_readsBy 54 = .ok (.aload_n 0, 1) := by decide +kernel
theorem dX6_readsBy_55 : decode cX6_readsBy 55 = .ok (.bipush 40, 2) := by decide +kernel
theorem dX6_readsBy_57 : decode cX6_readsBy 57 = .ok (.invokevirtual 291, 3) := by decide +kernel
theorem dX6_readsBy_60 : decode cX6_readsBy 60 = .ok (.aload_n 0, 1) := by decide +kernel
theorem dX6_readsBy_61 : decode cX6_readsBy 61 = .ok (.iconst 3, 1) := by decide +kernel
theorem dX6_readsBy_62 : decode cX6_readsBy 62 = .ok (.invokestatic 205, 3) := by decide +kernel
theorem dX6_readsBy_65 : decode cX6_readsBy 65 = .ok (.iload_n 2, 1) := by decide +kernel
theorem dX6_readsBy_66 : decode cX6_readsBy 66 = .ok (.invokevirtual 303, 3) := by decide +kernel
theorem dX6_readsBy_69 : decode cX6_readsBy 69 = .ok (.ineg, 1) := by decide +kernel
theorem dX6_readsBy_70 : decode cX6_readsBy 70 = .ok (.ireturn, 1) := by decide +kernel
theorem dX6_readsBy_71 : decode cX6_readsBy 71 = .ok (.aload_n 0, 1) := by decide +kernel
theorem dX6_readsBy_72 : decode cX6_readsBy 72 = .ok (.bipush 70, 2) := by decide +kernel
theorem dX6_readsBy_74 : decode cX6_readsBy 74 = .ok (.invokevirtual 291, 3) := by decide +kernel
theorem dX6_readsBy_77 : decode cX6_readsBy 77 = .ok (.aload_n 0, 1) := by decide +kernel
theorem dX6_readsBy_78 : decode cX6_readsBy 78 = .ok (.bipush 6, 2) := by decide +kernel
theorem dX6_readsBy_80 : decode cX6_readsBy 80 = .ok (.invokestatic 205, 3) := by decide +kernel
theorem dX6_readsBy_83 : decode cX6_readsBy 83 = .ok (.iload_n 2, 1) := by decide +kernel
theorem dX6_readsBy_84 : decode cX6_readsBy 84 = .ok (.invokevirtual 303, 3) := by decide +kernel
theorem dX6_readsBy_87 : decode cX6_readsBy 87 = .ok (.aload_n 0, 1) := by decide +kernel
theorem dX6_readsBy_88 : decode cX6_readsBy 88 = .ok (.getfield 288, 3) := by decide +kernel
theorem dX6_readsBy_91 : decode cX6_readsBy 91 = .ok (.ixor, 1) := by decide +kernel
theorem dX6_readsBy_92 : decode cX6_readsBy 92 = .ok (.ireturn, 1) := by decide +kernel
theorem dX6_readsBy_93 : decode cX6_readsBy 93 = .ok (.aload_n 0, 1) := by decide +kernel
theorem dX6_readsBy_94 : decode cX6_readsBy 94 = .ok (.iload_n 1, 1) := by decide +kernel
theorem dX6_readsBy_95 : decode cX6_readsBy 95 = .ok (.invokestatic 205, 3) := by decide +kernel
theorem dX6_readsBy_98 : decode cX6_readsBy 98 = .ok (.iload_n 2, 1) := by decide +kernel
theorem dX6_readsBy_99 : decode cX6_readsBy 99 = .ok (.invokevirtual 303, 3) := by decide +kernel
theorem dX6_readsBy_102 : decode cX6_readsBy 102 = .ok (.ireturn, 1) := by decide +kernel
theorem w_readsBy_b {l : Launch} {D : va_G} {cI : ClassId} {ad : Nat → Nat} (hI : kInj 15 ad) {dk : Nat} (hdk : 3 ≤ dk) {f_readsBy : MSt → Int32 → Int32 → Option (Int32 × MSt)} (hf_readsBy : ∀ (st : MSt) (a0 : Int32) (a1 : Int32) (r : Int32) (st' : MSt), f_readsBy st a0 a1 = some (r, st') → mV l yX6_readsBy cX6_readsBy 3 (some .int) dk D cI ad st [.int a0, .int a1] (some (.int r)) st') {st st' : MSt} {x1 : Int32} {x2 : Int32} {r0 : Int32} (h : M_readsBy_b f_readsBy st x1 x2 = some (r0, st')) : mV l yX6_readsBy cX6_readsBy 3 (some .int) (dk + 1) D cI ad st [.int x1, .int x2] (some (.int r0)) st' := by
  refine mm_ofV hI (by decide) rfl (Nat.le_of_ble_eq_true rfl) (fun p e s m below meth c R args ls C hr hlk hP hS hl hcs => ?_)
  have hx := C.1
  have hb := C.2.1
  have hown := C.2.2.2.1
  have hl : lv_has ls 3 [(0, .ref (ad 0)), (1, .int x1), (2, .int x2)] := hl
  have hP : mW D cI ad st s.heap := hP
  rw [M_readsBy_b] at h
  refine lv_iload_n hx hb dX6_readsBy_0 rfl (lv_at hl 1 rfl) ?_
  by_cases c1 : x1 = 0
  · have h := if_some_t h c1
    refine lv_lookup (tgt := 36) hx hb dX6_readsBy_1 (by decide) (by rw [c1]; try rfl) (by decide) ?_
    refine lv_aload_n hx hb dX6_readsBy_36 rfl (lv_at hl 0 rfl) ?_
    refine lv_bipush (v := 12) hx hb dX6_readsBy_37 (by decide) ?_
    obtain ⟨st3, hv2, h⟩ := bd1_some h
    refine k_ran C hP hS hv2 (by omega) hl.1 (Nat.le_of_ble_eq_true rfl) hcs dX6_readsBy_39 (fun H locs hP hS => ?_)
    refine lv_iload_n hx hb dX6_readsBy_42 rfl (lv_at hl 2 rfl) ?_
    refine lv_aload_n hx hb dX6_readsBy_43 rfl (lv_at hl 0 rfl) ?_
    refine lv_aload_n hx hb dX6_readsBy_44 rfl (lv_at hl 0 rfl) ?_
    refine g_who C hP dX6_readsBy_45 ?_
    refine lv_iconst (v := 1) hx hb dX6_readsBy_48 (by decide) ?_
    obtain ⟨v4, hv4, h⟩ := bd1_some h
    refine k_of C hP hv4 (by omega) hl.1 (Nat.le_of_ble_eq_true rfl) hcs dX6_readsBy_49 ?_
    refine lv_isub hx hb dX6_readsBy_52 ?_
    exact mm_viret hx hb hr hlk h hP hS dX6_readsBy_53
  · have h := if_some_f h c1
    by_cases c5 : x1 = 3
    · have h := if_some_t h c5
      refine lv_lookup (tgt := 54) hx hb dX6_readsBy_1 (by decide) (by rw [c5]; try rfl) (by decide) ?_
      refine lv_aload_n hx hb dX6_readsBy_54 rfl (lv_at hl 0 rfl) ?_
      refine lv_bipush (v := 40) hx hb dX6_readsBy_55 (by decide) ?_
      obtain ⟨st7, hv6, h⟩ := bd1_some h
      refine k_ran C hP hS hv6 (by omega) hl.1 (Nat.le_of_ble_eq_true rfl) hcs dX6_readsBy_57 (fun H locs hP hS => ?_)
      refine lv_aload_n hx hb dX6_readsBy_60 rfl (lv_at hl 0 rfl) ?_
      refine lv_iconst (v := 3) hx hb dX6_readsBy_61 (by decide) ?_
      obtain ⟨v8, hv8, h⟩ := bd1_some h
      refine k_above hx hb C.2.2.1 hown C.2.2.2.2.1 C.2.2.2.2.2.2.2 hv8 (by omega) hl.1 (Nat.le_of_ble_eq_true rfl) hcs dX6_readsBy_62 ?_
      refine lv_iload_n hx hb dX6_readsBy_65 rfl (lv_at hl 2 rfl) ?_
      obtain ⟨v9, st10, hv9, h⟩ := bd2_some h
      refine ka_readsBy C hP hS (hf_readsBy _ _ _ _ _ hv9) (by omega) hl.1 (Nat.le_of_ble_eq_true rfl) hcs dX6_readsBy_66 (fun H locs hP hS => ?_)
      refine lv_ineg hx hb dX6_readsBy_69 ?_
      exact mm_viret hx hb hr hlk h hP hS dX6_readsBy_70
    · have h := if_some_f h c5
      by_cases c11 : x1 = 6
      · have h := if_some_t h c11
        refine lv_lookup (tgt := 71) hx hb dX6_readsBy_1 (by decide) (by rw [c11]; try rfl) (by decide) ?_
        refine lv_aload_n hx hb dX6_readsBy_71 rfl (lv_at hl 0 rfl) ?_
        refine lv_bipush (v := 70) hx hb dX6_readsBy_72 (by decide) ?_
        obtain ⟨st13, hv12, h⟩ := bd1_some h
        refine k_ran C hP hS hv12 (by omega) hl.1 (Nat.le_of_ble_eq_true rfl) hcs dX6_readsBy_74 (fun H locs hP hS => ?_)
        refine lv_aload_n hx hb dX6_readsBy_77 rfl (lv_at hl 0 rfl) ?_
        refine lv_bipush (v := 6) hx hb dX6_readsBy_78 (by decide) ?_
        obtain ⟨v14, hv14, h⟩ := bd1_some h
        refine k_above hx hb C.2.2.1 hown C.2.2.2.2.1 C.2.2.2.2.2.2.2 hv14 (by omega) hl.1 (Nat.le_of_ble_eq_true rfl) hcs dX6_readsBy_80 ?_
        refine lv_iload_n hx hb dX6_readsBy_83 rfl (lv_at hl 2 rfl) ?_
        obtain ⟨v15, st16, hv15, h⟩ := bd2_some h
        refine ka_readsBy C hP hS (hf_readsBy _ _ _ _ _ hv15) (by omega) hl.1 (Nat.le_of_ble_eq_true rfl) hcs dX6_readsBy_84 (fun H locs hP hS => ?_)
        refine lv_aload_n hx hb dX6_readsBy_87 rfl (lv_at hl 0 rfl) ?_
        refine g_who C hP dX6_readsBy_88 ?_
        refine lv_ixor hx hb dX6_readsBy_91 ?_
        exact mm_viret hx hb hr hlk h hP hS dX6_readsBy_92
      · have h := if_some_f h c11
        refine lv_lookup (tgt := 93) hx hb dX6_readsBy_1 (by decide) (by show Op.lookupswitch.offset [(0, 35), (3, 53), (6, 70)] (92) _ = (92); rw [lv_osw c1 (by decide)]; rw [lv_osw c5 (by decide)]; rw [lv_osw c11 (by decide)]; rfl) (by decide) ?_
        refine lv_aload_n hx hb dX6_readsBy_93 rfl (lv_at hl 0 rfl) ?_
        refine lv_iload_n hx hb dX6_readsBy_94 rfl (lv_at hl 1 rfl) ?_
        obtain ⟨v17, hv17, h⟩ := bd1_some h
        refine k_above hx hb C.2.2.1 hown C.2.2.2.2.1 C.2.2.2.2.2.2.2 hv17 (by omega) hl.1 (Nat.le_of_ble_eq_true rfl) hcs dX6_readsBy_95 ?_
        refine lv_iload_n hx hb dX6_readsBy_98 rfl (lv_at hl 2 rfl) ?_
        obtain ⟨v18, st19, hv18, h⟩ := bd2_some h
        refine ka_readsBy C hP hS (hf_readsBy _ _ _ _ _ hv18) (by omega) hl.1 (Nat.le_of_ble_eq_true rfl) hcs dX6_readsBy_99 (fun H locs hP hS => ?_)
        exact mm_viret hx hb hr hlk h hP hS dX6_readsBy_102
theorem wr_readsBy {l : Launch} {D : va_G} {cI : ClassId} {ad : Nat → Nat} (hI : kInj 15 ad) : ∀ (d : Nat) (st : MSt) (a0 : Int32) (a1 : Int32) (r : Int32) (st' : MSt), M_readsBy d st a0 a1 = some (r, st') → mV l yX6_readsBy cX6_readsBy 3 (some .int) (d + 3) D cI ad st [.int a0, .int a1] (some (.int r)) st' := by
  intro d
  induction d with
  | zero =>
    intro st a0 a1 r st' h
    exact non_some h
  | succ d ih =>
    intro st a0 a1 r st' h
    have h2 := w_readsBy_b (l := l) (D := D) (cI := cI) hI (dk := d + 3) (by omega) (fun st a0 a1 r st' h => ih st a0 a1 r st' h) (h := h)
    exact (show d + 1 + 3 = d + 3 + 1 by omega) ▸ h2
theorem k_readsBy {a0 : Int32} {a1 : Int32} {v : Int32} {st' : MSt} (C : mC p R d s m args c cc nL D cI ad) (hP : mW D cI ad st H) (hS : va_S (kF 15 ad) H0 H locs) (h : M_readsBy 4 st a0 a1 = some (v, st')) (hd : 7 + 1 ≤ d) (hsz : ls.size = nL) (hW : (rest.map fun v => v.category).sum ≤ 8) (hcs : cells ≤ R.cells ∧ slots ≤ R.slots) (hdg : decode cc pc = .ok (.invokevirtual 303, 3)) (kk : ∀ (H1 : Heap) (locs1 : List Loc), mW D cI ad st' H1 → va_S (kF 15 ad) H0 H1 locs1 → W p l e R s m args below meth c H1 locs1 cells slots Q (F0 m (pc + 3) ls (.int v :: rest))) : W p l e R s m args below meth c H locs cells slots Q (F0 m pc ls (.int a1 :: .int a0 :: .ref (ad 0) :: rest)) := ka_readsBy C hP hS (wr_readsBy C.2.2.2.2.2.2.1 4 _ _ _ _ _ h) hd hsz hW hcs hdg kk
abbrev cX6_writesBy : ByteArray := prog_30_method_86_code
def yX6_writesBy : MethodName := ⟨RX6, "writesBy", "(II)I"⟩
theorem q1951 : (Jvm.Cond.methodLink "ChapterLoanModel" (300 : Nat) ({ cls := "ChapterLoanModel", name := "writesBy", desc := "(II)I" } : Jvm.MethodName)) ∈ lw_all := lw_g (lw_at lw_m8 187 rfl) rfl
theorem q1954 : (Jvm.Cond.code ({ cls := "ChapterLoanModel", name := "writesBy", desc := "(II)I" } : Jvm.MethodName) prog_30_method_86_code (4 : Nat) (Option.some Jvm.ClassFile.FieldType.int)) ∈ lw_all := lw_g (lw_at lw_m8 190 rfl) rfl
theorem q1953 : (Jvm.Cond.instanceMethod ({ cls := "ChapterLoanModel", name := "writesBy", desc := "(II)I" } : Jvm.MethodName)) ∈ lw_all := lw_g (lw_at lw_m8 189 rfl) rfl
theorem ka_writesBy {a0 : Int32} {a1 : Int32} {v : Int32} {st' : MSt} {dk : Nat} (C : mC p R d s m args c cc nL D cI ad) (hP : mW D cI ad st H) (hS : va_S (kF 15 ad) H0 H locs) (hM : mV l yX6_writesBy cX6_writesBy 4 (some .int) dk D cI ad st [.int a0, .int a1] (some (.int v)) st') (hd : dk + 1 ≤ d) (hsz : ls.size = nL) (hW : (rest.map fun v => v.category).sum ≤ 8) (hcs : cells ≤ R.cells ∧ slots ≤ R.slots) (hdg : decode cc pc = .ok (.invokevirtual 300, 3)) (kk : ∀ (H1 : Heap) (locs1 : List Loc), mW D cI ad st' H1 → va_S (kF 15 ad) H0 H1 locs1 → W p l e R s m args below meth c H1 locs1 cells slots Q (F0 m (pc + 3) ls (.int v :: rest))) : W p l e R s m args below meth c H locs cells slots Q (F0 m pc ls (.int a1 :: .int a0 :: .ref (ad 0) :: rest)) :=
  mm_cV (As := [.int a0, .int a1]) C hP hS hM (cwV 2 C.2.2.2.2.1 (lw_V q1951 q1953 qs80 q94 q1954) rfl rfl rfl (by decide +kernel) (mr_ C.2.2.2.2.2.2.2 hd (by decide))) rfl hsz rfl hW hdg hcs kk
theorem dX6_writesBy_0 : decode cX6_writesBy 0 = .ok (.iload_n 1, 1) := by decide +kernel
theorem dX6_writesBy_1 : decode cX6_writesBy 1 = .ok (.tableswitch 99 0 4 #[35, 53, 99, 99, 81], 35) := by decide +kernel
theorem dX6_writesBy_36 : decode cX6_writesBy 36 = .ok (.aload_n 0, 1) := by decide +kernel
theorem dX6_writesBy_37 : decode cX6_writesBy 37 = .ok (.bipush 11, 2) := by decide +kernel
theorem dX6_writesBy_39 : decode cX6_writesBy 39 = .ok (.invokevirtual 291, 3) := by decide +kernel
theorem dX6_writesBy_42 : decode cX6_writesBy 42 = .ok (.aload_n 0, 1) := by decide +kernel
theorem dX6_writesBy_43 : decode cX6_writesBy 43 = .ok (.aload_n 0, 1) := by decide +kernel
theorem dX6_writesBy_44 : decode cX6_writesBy 44 = .ok (.invokevirtual 297, 3) := by decide +kernel
theorem dX6_writesBy_47 : decode cX6_writesBy 47 = .ok (.iload_n 2, 1) := by decide +kernel
theorem dX6_writesBy_48 : decode cX6_writesBy 48 = .ok (.invokevirtual 294, 3) := by decide +kernel
theorem dX6_writesBy_51 : decode cX6_writesBy 51 = .ok (.iconst 2, 1) := by decide +kernel
theorem dX6_writesBy_52 : decode cX6_writesBy 52 = .ok (.imul, 1) := by decide +kernel
theorem dX6_writesBy_53 : decode cX6_writesBy 53 = .ok (.ireturn, 1) := by decide +kernel
theorem dX6_writesBy_54 : decode cX6_writesBy 54 = .ok (.aload_n 0, 1) := by decide +kernel
theorem dX6_writesBy_55 : decode cX6_writesBy 55 = .ok (.bipush 20, 2) := by decide +kernel
theorem dX6_writesBy_57 : decode cX6_writesBy 57 = .ok (.invokevirtual 291, 3) := by decide +kernel
theorem dX6_writesBy_60 : decode cX6_writesBy 60 = .ok (.aload_n 0, 1) := by decide +kernel
theorem dX6_writesBy_61 : decode cX6_writesBy 61 = .ok (.iconst 1, 1) := by decide +kernel
theorem dX6_writesBy_62 : decode cX6_writesBy 62 = .ok (.invokestatic 205, 3) := by decide +kernel
theorem dX6_writesBy_65 : decode cX6_writesBy 65 = .ok (.iload_n 2, 1) := by decide +kernel
theorem dX6_writesBy_66 : decode cX6_writesBy 66 = .ok (.invokevirtual 300, 3) := by decide +kernel
theorem dX6_writesBy_69 : decode cX6_writesBy 69 = .ok (.istore_n 3, 1) := by decide +kernel
theorem dX6_writesBy_70 : decode cX6_writesBy 70 = .ok (.iload_n 3, 1) := by decide +kernel
theorem dX6_writesBy_71 : decode cX6_writesBy 71 = .ok (.aload_n 0, 1) := by decide +kernel
theorem dX6_writesBy_72 : decode cX6_writesBy 72 = .ok (.aload_n 0, 1) := by decide +kernel
theorem dX6_writesBy_73 : decode cX6_writesBy 73 = .ok (.invokevirtual 297, 3) := by decide +kernel
theorem dX6_writesBy_76 : decode cX6_writesBy 76 = .ok (.iconst 1, 1) := by decide +kernel
theorem dX6_writesBy_77 : decode cX6_writesBy 77 = .ok (.invokevirtual 303, 3) := by decide +kernel
theorem dX6_writesBy_80 : decode cX6_writesBy 80 = .ok (.isub, 1) := by decide +kernel
theorem dX6_writesBy_81 : decode cX6_writesBy 81 = .ok (.ireturn, 1) := by decide +kernel
theorem dX6_writesBy_82 : decode cX6_writesBy 82 = .ok (.aload_n 0, 1) := by decide +kernel
theorem dX6_writesBy_83 : decode cX6_writesBy 83 = .ok (.bipush 50, 2) := by decide +kernel
theorem dX6_writesBy_85 : decode cX6_writesBy 85 = .ok (.invokevirtual 291, 3) := by decide +kernel
theorem dX6_writesBy_88 : decode cX6_writesBy 88 = .ok (.aload_n 0, 1) := by decide +kernel
theorem dX6_writesBy_89 : decode cX6_writesBy 89 = .ok (.iconst 4, 1) := by decide +kernel
theorem dX6_writesBy_90 : decode cX6_writesBy 90 = .ok (.invokestatic 205, 3) := by decide +kernel
theorem dX6_writesBy_93 : decode cX6_writesBy 93 = .ok (.iload_n 2, 1) := by decide +kernel
theorem dX6_writesBy_94 : decode cX6_writesBy 94 = .ok (.iconst 1, 1) := by decide +kernel
theorem dX6_writesBy_95 : decode cX6_writesBy 95 = .ok (.iadd, 1) := by decide +kernel
theorem dX6_writesBy_96 : decode cX6_writesBy 96 = .ok (.invokevirtual 300, 3) := by decide +kernel
theorem dX6_writesBy_99 : decode cX6_writesBy 99 = .ok (.ireturn, 1) := by decide +kernel
theorem dX6_writesBy_100 : decode cX6_writesBy 100 = .ok (.aload_n 0, 1) := by decide +kernel
theorem dX6_writesBy_101 : decode cX6_writesBy 101 = .ok (.iload_n 1, 1) := by decide +kernel
theorem dX6_writesBy_102 : decode cX6_writesBy 102 = .ok (.invokestatic 205, 3) := by decide +kernel
theorem dX6_writesBy_105 : decode cX6_writesBy 105 = .ok (.iload_n 2, 1) := by decide +kernel
theorem dX6_writesBy_106 : decode cX6_writesBy 106 = .ok (.invokevirtual 300, 3) := by decide +kernel
theorem dX6_writesBy_109 : decode cX6_writesBy 109 = .ok (.ireturn, 1) := by decide +kernel
theorem w_writesBy_b {l : Launch} {D : va_G} {cI : ClassId} {ad : Nat → Nat} (hI : kInj 15 ad) {dk : Nat} (hdk : 10 ≤ dk) {f_writesBy : MSt → Int32 → Int32 → Option (Int32 × MSt)} (hf_writesBy : ∀ (st : MSt) (a0 : Int32) (a1 : Int32) (r : Int32) (st' : MSt), f_writesBy st a0 a1 = some (r, st') → mV l yX6_writesBy cX6_writesBy 4 (some .int) dk D cI ad st [.int a0, .int a1] (some (.int r)) st') {st st' : MSt} {x1 : Int32} {x2 : Int32} {r0 : Int32} (h : M_writesBy_b f_writesBy st x1 x2 = some (r0, st')) : mV l yX6_writesBy cX6_writesBy 4 (some .int) (dk + 1) D cI ad st [.int x1, .int x2] (some (.int r0)) st' := by
  refine mm_ofV hI (by decide) rfl (Nat.le_of_ble_eq_true rfl) (fun p e s m below meth c R args ls C hr hlk hP hS hl hcs => ?_)
  have hx := C.1
  have hb := C.2.1
  have hown := C.2.2.2.1
  have hl : lv_has ls 4 [(0, .ref (ad 0)), (1, .int x1), (2, .int x2)] := hl
  have hP : mW D cI ad st s.heap := hP
  rw [M_writesBy_b] at h
  refine lv_iload_n hx hb dX6_writesBy_0 rfl (lv_at hl 1 rfl) ?_
  by_cases c1 : x1 = 0
  · have h := if_some_t h c1
    refine lv_tableIn (tgt := 36) hx hb dX6_writesBy_1 (by rw [c1]; decide) (by rw [c1]; decide) (by rw [c1]; rfl) (by decide) ?_
    refine lv_aload_n hx hb dX6_writesBy_36 rfl (lv_at hl 0 rfl) ?_
    refine lv_bipush (v := 11) hx hb dX6_writesBy_37 (by decide) ?_
    obtain ⟨st3, hv2, h⟩ := bd1_some h
    refine k_ran C hP hS hv2 (by omega) hl.1 (Nat.le_of_ble_eq_true rfl) hcs dX6_writesBy_39 (fun H locs hP hS => ?_)
    refine lv_aload_n hx hb dX6_writesBy_42 rfl (lv_at hl 0 rfl) ?_
    refine lv_aload_n hx hb dX6_writesBy_43 rfl (lv_at hl 0 rfl) ?_
    obtain ⟨v4, hv4, h⟩ := bd1_some h
    refine k_own C hP hv4 (by omega) hl.1 (Nat.le_of_ble_eq_true rfl) hcs dX6_writesBy_44 ?_
    refine lv_iload_n hx hb dX6_writesBy_47 rfl (lv_at hl 2 rfl) ?_
    obtain ⟨v5, st6, hv5, h⟩ := bd2_some h
    refine k_owesBy C hP hS hv5 (by omega) hl.1 (Nat.le_of_ble_eq_true rfl) hcs dX6_writesBy_48 (fun H locs hP hS => ?_)
    refine lv_iconst (v := 2) hx hb dX6_writesBy_51 (by decide) ?_
    refine lv_imul hx hb dX6_writesBy_52 ?_
    exact mm_viret hx hb hr hlk h hP hS dX6_writesBy_53
  · have h := if_some_f h c1
    by_cases c7 : x1 = 1
    · have h := if_some_t h c7
      refine lv_tableIn (tgt := 54) hx hb dX6_writesBy_1 (by rw [c7]; decide) (by rw [c7]; decide) (by rw [c7]; rfl) (by decide) ?_
      refine lv_aload_n hx hb dX6_writesBy_54 rfl (lv_at hl 0 rfl) ?_
      refine lv_bipush (v := 20) hx hb dX6_writesBy_55 (by decide) ?_
      obtain ⟨st9, hv8, h⟩ := bd1_some h
      refine k_ran C hP hS hv8 (by omega) hl.1 (Nat.le_of_ble_eq_true rfl) hcs dX6_writesBy_57 (fun H locs hP hS => ?_)
      refine lv_aload_n hx hb dX6_writesBy_60 rfl (lv_at hl 0 rfl) ?_
      refine lv_iconst (v := 1) hx hb dX6_writesBy_61 (by decide) ?_
      obtain ⟨v10, hv10, h⟩ := bd1_some h
      refine k_above hx hb C.2.2.1 hown C.2.2.2.2.1 C.2.2.2.2.2.2.2 hv10 (by omega) hl.1 (Nat.le_of_ble_eq_true rfl) hcs dX6_writesBy_62 ?_
      refine lv_iload_n hx hb dX6_writesBy_65 rfl (lv_at hl 2 rfl) ?_
      obtain ⟨v11, st12, hv11, h⟩ := bd2_some h
      refine ka_writesBy C hP hS (hf_writesBy _ _ _ _ _ hv11) (by omega) hl.1 (Nat.le_of_ble_eq_true rfl) hcs dX6_writesBy_66 (fun H locs hP hS => ?_)
      refine lv_istore_n (lv' := [(3, .int v11), (0, .ref (ad 0)), (1, .int x1), (2, .int x2)]) hx hb dX6_writesBy_69 rfl hl (by decide) rfl (fun ls hl => ?_)
      refine lv_iload_n hx hb dX6_writesBy_70 rfl (lv_at hl 0 rfl) ?_
      refine lv_aload_n hx hb dX6_writesBy_71 rfl (lv_at hl 1 rfl) ?_
      refine lv_aload_n hx hb dX6_writesBy_72 rfl (lv_at hl 1 rfl) ?_
      obtain ⟨v13, hv13, h⟩ := bd1_some h
      refine k_own C hP hv13 (by omega) hl.1 (Nat.le_of_ble_eq_true rfl) hcs dX6_writesBy_73 ?_
      refine lv_iconst (v := 1) hx hb dX6_writesBy_76 (by decide) ?_
      obtain ⟨v14, st15, hv14, h⟩ := bd2_some h
      refine k_readsBy C hP hS hv14 (by omega) hl.1 (Nat.le_of_ble_eq_true rfl) hcs dX6_writesBy_77 (fun H locs hP hS => ?_)
      refine lv_isub hx hb dX6_writesBy_80 ?_
      exact mm_viret hx hb hr hlk h hP hS dX6_writesBy_81
    · have h := if_some_f h c7
      by_cases c16 : x1 = 2
      · have h := if_some_t h c16
        refine lv_tableIn (tgt := 100) hx hb dX6_writesBy_1 (by rw [c16]; decide) (by rw [c16]; decide) (by rw [c16]; rfl) (by decide) ?_
        refine lv_aload_n hx hb dX6_writesBy_100 rfl (lv_at hl 0 rfl) ?_
        refine lv_iload_n hx hb dX6_writesBy_101 rfl (lv_at hl 1 rfl) ?_
        obtain ⟨v17, hv17, h⟩ := bd1_some h
        refine k_above hx hb C.2.2.1 hown C.2.2.2.2.1 C.2.2.2.2.2.2.2 hv17 (by omega) hl.1 (Nat.le_of_ble_eq_true rfl) hcs dX6_writesBy_102 ?_
        refine lv_iload_n hx hb dX6_writesBy_105 rfl (lv_at hl 2 rfl) ?_
        obtain ⟨v18, st19, hv18, h⟩ := bd2_some h
        refine ka_writesBy C hP hS (hf_writesBy _ _ _ _ _ hv18) (by omega) hl.1 (Nat.le_of_ble_eq_true rfl) hcs dX6_writesBy_106 (fun H locs hP hS => ?_)
        exact mm_viret hx hb hr hlk h hP hS dX6_writesBy_109
      · have h := if_some_f h c16
        by_cases c20 : x1 = 3
        · have h := if_some_t h c20
          refine lv_tableIn (tgt := 100) hx hb dX6_writesBy_1 (by rw [c20]; decide) (by rw [c20]; decide) (by rw [c20]; rfl) (by decide) ?_
          refine lv_aload_n hx hb dX6_writesBy_100 rfl (lv_at hl 0 rfl) ?_
          refine lv_iload_n hx hb dX6_writesBy_101 rfl (lv_at hl 1 rfl) ?_
          obtain ⟨v21, hv21, h⟩ := bd1_some h
          refine k_above hx hb C.2.2.1 hown C.2.2.2.2.1 C.2.2.2.2.2.2.2 hv21 (by omega) hl.1 (Nat.le_of_ble_eq_true rfl) hcs dX6_writesBy_102 ?_
          refine lv_iload_n hx hb dX6_writesBy_105 rfl (lv_at hl 2 rfl) ?_
          obtain ⟨v22, st23, hv22, h⟩ := bd2_some h
          refine ka_writesBy C hP hS (hf_writesBy _ _ _ _ _ hv22) (by omega) hl.1 (Nat.le_of_ble_eq_true rfl) hcs dX6_writesBy_106 (fun H locs hP hS => ?_)
          exact mm_viret hx hb hr hlk h hP hS dX6_writesBy_109
        · have h := if_some_f h c20
          by_cases c24 : x1 = 4
          · have h := if_some_t h c24
            refine lv_tableIn (tgt := 82) hx hb dX6_writesBy_1 (by rw [c24]; decide) (by rw [c24]; decide) (by rw [c24]; rfl) (by decide) ?_
            refine lv_aload_n hx hb dX6_writesBy_82 rfl (lv_at hl 0 rfl) ?_
            refine lv_bipush (v := 50) hx hb dX6_writesBy_83 (by decide) ?_
            obtain ⟨st26, hv25, h⟩ := bd1_some h
            refine k_ran C hP hS hv25 (by omega) hl.1 (Nat.le_of_ble_eq_true rfl) hcs dX6_writesBy_85 (fun H locs hP hS => ?_)
            refine lv_aload_n hx hb dX6_writesBy_88 rfl (lv_at hl 0 rfl) ?_
            refine lv_iconst (v := 4) hx hb dX6_writesBy_89 (by decide) ?_
            obtain ⟨v27, hv27, h⟩ := bd1_some h
            refine k_above hx hb C.2.2.1 hown C.2.2.2.2.1 C.2.2.2.2.2.2.2 hv27 (by omega) hl.1 (Nat.le_of_ble_eq_true rfl) hcs dX6_writesBy_90 ?_
            refine lv_iload_n hx hb dX6_writesBy_93 rfl (lv_at hl 2 rfl) ?_
            refine lv_iconst (v := 1) hx hb dX6_writesBy_94 (by decide) ?_
            refine lv_iadd hx hb dX6_writesBy_95 ?_
            obtain ⟨v28, st29, hv28, h⟩ := bd2_some h
            refine ka_writesBy C hP hS (hf_writesBy _ _ _ _ _ hv28) (by omega) hl.1 (Nat.le_of_ble_eq_true rfl) hcs dX6_writesBy_96 (fun H locs hP hS => ?_)
            exact mm_viret hx hb hr hlk h hP hS dX6_writesBy_99
          · have h := if_some_f h c24
            refine lv_tableOut (tgt := 100) hx hb dX6_writesBy_1 ?_ (by decide) ?_
            · have := lv_neT c1 (show (0 : Int32).toInt = 0 by decide)
              have := lv_neT c7 (show (1 : Int32).toInt = 1 by decide)
              have := lv_neT c16 (show (2 : Int32).toInt = 2 by decide)
              have := lv_neT c20 (show (3 : Int32).toInt = 3 by decide)
              have := lv_neT c24 (show (4 : Int32).toInt = 4 by decide)
              omega
            · refine lv_aload_n hx hb dX6_writesBy_100 rfl (lv_at hl 0 rfl) ?_
              refine lv_iload_n hx hb dX6_writesBy_101 rfl (lv_at hl 1 rfl) ?_
              obtain ⟨v30, hv30, h⟩ := bd1_some h
              refine k_above hx hb C.2.2.1 hown C.2.2.2.2.1 C.2.2.2.2.2.2.2 hv30 (by omega) hl.1 (Nat.le_of_ble_eq_true rfl) hcs dX6_writesBy_102 ?_
              refine lv_iload_n hx hb dX6_writesBy_105 rfl (lv_at hl 2 rfl) ?_
              obtain ⟨v31, st32, hv31, h⟩ := bd2_some h
              refine ka_writesBy C hP hS (hf_writesBy _ _ _ _ _ hv31) (by omega) hl.1 (Nat.le_of_ble_eq_true rfl) hcs dX6_writesBy_106 (fun H locs hP hS => ?_)
              exact mm_viret hx hb hr hlk h hP hS dX6_writesBy_109
theorem wr_writesBy {l : Launch} {D : va_G} {cI : ClassId} {ad : Nat → Nat} (hI : kInj 15 ad) : ∀ (d : Nat) (st : MSt) (a0 : Int32) (a1 : Int32) (r : Int32) (st' : MSt), M_writesBy d st a0 a1 = some (r, st') → mV l yX6_writesBy cX6_writesBy 4 (some .int) (d + 10) D cI ad st [.int a0, .int a1] (some (.int r)) st' := by
  intro d
  induction d with
  | zero =>
    intro st a0 a1 r st' h
    exact non_some h
  | succ d ih =>
    intro st a0 a1 r st' h
    have h2 := w_writesBy_b (l := l) (D := D) (cI := cI) hI (dk := d + 10) (by omega) (fun st a0 a1 r st' h => ih st a0 a1 r st' h) (h := h)
    exact (show d + 1 + 10 = d + 10 + 1 by omega) ▸ h2
theorem k_writesBy {a0 : Int32} {a1 : Int32} {v : Int32} {st' : MSt} (C : mC p R d s m args c cc nL D cI ad) (hP : mW D cI ad st H) (hS : va_S (kF 15 ad) H0 H locs) (h : M_writesBy 4 st a0 a1 = some (v, st')) (hd : 14 + 1 ≤ d) (hsz : ls.size = nL) (hW : (rest.map fun v => v.category).sum ≤ 8) (hcs : cells ≤ R.cells ∧ slots ≤ R.slots) (hdg : decode cc pc = .ok (.invokevirtual 300, 3)) (kk : ∀ (H1 : Heap) (locs1 : List Loc), mW D cI ad st' H1 → va_S (kF 15 ad) H0 H1 locs1 → W p l e R s m args below meth c H1 locs1 cells slots Q (F0 m (pc + 3) ls (.int v :: rest))) : W p l e R s m args below meth c H locs cells slots Q (F0 m pc ls (.int a1 :: .int a0 :: .ref (ad 0) :: rest)) := ka_writesBy C hP hS (wr_writesBy C.2.2.2.2.2.2.1 4 _ _ _ _ _ h) hd hsz hW hcs hdg kk
abbrev cX6_tellsBy : ByteArray := prog_30_method_88_code
def yX6_tellsBy : MethodName := ⟨RX6, "tellsBy", "(II)I"⟩
theorem q1959 : (Jvm.Cond.methodLink "ChapterLoanModel" (306 : Nat) ({ cls := "ChapterLoanModel", name := "tellsBy", desc := "(II)I" } : Jvm.MethodName)) ∈ lw_all := lw_g (lw_at lw_m8 195 rfl) rfl
theorem q1962 : (Jvm.Cond.code ({ cls := "ChapterLoanModel", name := "tellsBy", desc := "(II)I" } : Jvm.MethodName) prog_30_method_88_code (4 : Nat) (Option.some Jvm.ClassFile.FieldType.int)) ∈ lw_all := lw_g (lw_at lw_m8 198 rfl) rfl
theorem q1961 : (Jvm.Cond.instanceMethod ({ cls := "ChapterLoanModel", name := "tellsBy", desc := "(II)I" } : Jvm.MethodName)) ∈ lw_all := lw_g (lw_at lw_m8 197 rfl) rfl
theorem ka_tellsBy {a0 : Int32} {a1 : Int32} {v : Int32} {st' : MSt} {dk : Nat} (C : mC p R d s m args c cc nL D cI ad) (hP : mW D cI ad st H) (hS : va_S (kF 15 ad) H0 H locs) (hM : mV l yX6_tellsBy cX6_tellsBy 4 (some .int) dk D cI ad st [.int a0, .int a1] (some (.int v)) st') (hd : dk + 1 ≤ d) (hsz : ls.size = nL) (hW : (rest.map fun v => v.category).sum ≤ 8) (hcs : cells ≤ R.cells ∧ slots ≤ R.slots) (hdg : decode cc pc = .ok (.invokevirtual 306, 3)) (kk : ∀ (H1 : Heap) (locs1 : List Loc), mW D cI ad st' H1 → va_S (kF 15 ad) H0 H1 locs1 → W p l e R s m args below meth c H1 locs1 cells slots Q (F0 m (pc + 3) ls (.int v :: rest))) : W p l e R s m args below meth c H locs cells slots Q (F0 m pc ls (.int a1 :: .int a0 :: .ref (ad 0) :: rest)) :=
  mm_cV (As := [.int a0, .int a1]) C hP hS hM (cwV 2 C.2.2.2.2.1 (lw_V q1959 q1961 qs82 q94 q1962) rfl rfl rfl (by decide +kernel) (mr_ C.2.2.2.2.2.2.2 hd (by decide))) rfl hsz rfl hW hdg hcs kk
theorem dX6_tellsBy_0 : decode cX6_tellsBy 0 = .ok (.iload_n 1, 1) := by decide +kernel
theorem dX6_tellsBy_1 : decode cX6_tellsBy 1 = .ok (.lookupswitch 120 #[(0, 35), (5, 63), (6, 91)], 35) := by decide +kernel
theorem dX6_tellsBy_36 : decode cX6_tellsBy 36 = .ok (.aload_n 0, 1) := by decide +kernel
theorem dX6_tellsBy_37 : decode cX6_tellsBy 37 = .ok (.bipush 13, 2) := by decide +kernel
theorem dX6_tellsBy_39 : decode cX6_tellsBy 39 = .ok (.invokevirtual 291, 3) := by decide +kernel
theorem dX6_tellsBy_42 : decode cX6_tellsBy 42 = .ok (.aload_n 0, 1) := by decide +kernel
theorem dX6_tellsBy_43 : decode cX6_tellsBy 43 = .ok (.aload_n 0, 1) := by decide +kernel
theorem dX6_tellsBy_44 : decode cX6_tellsBy 44 = .ok (.invokevirtual 297, 3) := by decide +kernel
theorem dX6_tellsBy_47 : decode cX6_tellsBy 47 = .ok (.iload_n 2, 1) := by decide +kernel
theorem dX6_tellsBy_48 : decode cX6_tellsBy 48 = .ok (.invokevirtual 300, 3) := by decide +kernel
theorem dX6_tellsBy_51 : decode cX6_tellsBy 51 = .ok (.istore_n 3, 1) := by decide +kernel
theorem dX6_tellsBy_52 : decode cX6_tellsBy 52 = .ok (.iload_n 3, 1) := by decide +kernel
theorem dX6_tellsBy_53 : decode cX6_tellsBy 53 = .ok (.aload_n 0, 1) := by decide +kernel
theorem dX6_tellsBy_54 : decode cX6_tellsBy 54 = .ok (.aload_n 0, 1) := by decide +kernel
theorem dX6_tellsBy_55 : decode cX6_tellsBy 55 = .ok (.invokevirtual 297, 3) := by decide +kernel
theorem dX6_tellsBy_58 : decode cX6_tellsBy 58 = .ok (.iload_n 2, 1) := by decide +kernel
theorem dX6_tellsBy_59 : decode cX6_tellsBy 59 = .ok (.invokevirtual 303, 3) := by decide +kernel
theorem dX6_tellsBy_62 : decode cX6_tellsBy 62 = .ok (.ixor, 1) := by decide +kernel
theorem dX6_tellsBy_63 : decode cX6_tellsBy 63 = .ok (.ireturn, 1) := by decide +kernel
theorem dX6_tellsBy_64 : decode cX6_tellsBy 64 = .ok (.aload_n 0, 1) := by decide +kernel
theorem dX6_tellsBy_65 : decode cX6_tellsBy 65 = .ok (.bipush 60, 2) := by decide +kernel
theorem dX6_tellsBy_67 : decode cX6_tellsBy 67 = .ok (.invokevirtual 291, 3) := by decide +kernel
theorem dX6_tellsBy_70 : decode cX6_tellsBy 70 = .ok (.aload_n 0, 1) := by decide +kernel
theorem dX6_tellsBy_71 : decode cX6_tellsBy 71 = .ok (.iconst 5, 1) := by decide +kernel
theorem dX6_tellsBy_72 : decode cX6_tellsBy 72 = .ok (.invokestatic 205, 3) := by decide +kernel
theorem dX6_tellsBy_75 : decode cX6_tellsBy 75 = .ok (.iload_n 2, 1) := by decide +kernel
theorem dX6_tellsBy_76 : decode cX6_tellsBy 76 = .ok (.invokevirtual 306, 3) := by decide +kernel
theorem dX6_tellsBy_79 : decode cX6_tellsBy 79 = .ok (.istore_n 3, 1) := by decide +kernel
theorem dX6_tellsBy_80 : decode cX6_tellsBy 80 = .ok (.iload_n 3, 1) := by decide +kernel
theorem dX6_tellsBy_81 : decode cX6_tellsBy 81 = .ok (.aload_n 0, 1) := by decide +kernel
theorem dX6_tellsBy_82 : decode cX6_tellsBy 82 = .ok (.aload_n 0, 1) := by decide +kernel
theorem dX6_tellsBy_83 : decode cX6_tellsBy 83 = .ok (.invokevirtual 297, 3) := by decide +kernel
theorem dX6_tellsBy_86 : decode cX6_tellsBy 86 = .ok (.iconst 2, 1) := by decide +kernel
theorem dX6_tellsBy_87 : decode cX6_tellsBy 87 = .ok (.invokevirtual 294, 3) := by decide +kernel
theorem dX6_tellsBy_90 : decode cX6_tellsBy 90 = .ok (.isub, 1) := by decide +kernel
theorem dX6_tellsBy_91 : decode cX6_tellsBy 91 = .ok (.ireturn, 1) := by decide +kernel
theorem dX6_tellsBy_92 : decode cX6_tellsBy 92 = .ok (.aload_n 0, 1) := by decide +kernel
theorem dX6_tellsBy_93 : decode cX6_tellsBy 93 = .ok (.bipush 71, 2) := by decide +kernel
theorem dX6_tellsBy_95 : decode cX6_tellsBy 95 = .ok (.invokevirtual 291, 3) := by decide +kernel
theorem dX6_tellsBy_98 : decode cX6_tellsBy 98 = .ok (.aload_n 0, 1) := by decide +kernel
theorem dX6_tellsBy_99 : decode cX6_tellsBy 99 = .ok (.aload_n 0, 1) := by decide +kernel
theorem dX6_tellsBy_100 : decode cX6_tellsBy 100 = .ok (.invokevirtual 297, 3) := by decide +kernel
theorem dX6_tellsBy_103 : decode cX6_tellsBy 103 = .ok (.iload_n 2, 1) := by decide +kernel
theorem dX6_tellsBy_104 : decode cX6_tellsBy 104 = .ok (.invokevirtual 300, 3) := by decide +kernel
theorem dX6_tellsBy_107 : decode cX6_tellsBy 107 = .ok (.istore_n 3, 1) := by decide +kernel
theorem dX6_tellsBy_108 : decode cX6_tellsBy 108 = .ok (.iload_n 3, 1) := by decide +kernel
theorem dX6_tellsBy_109 : decode cX6_tellsBy 109 = .ok (.aload_n 0, 1) := by decide +kernel
theorem dX6_tellsBy_110 : decode cX6_tellsBy 110 = .ok (.bipush 6, 2) := by decide +kernel
theorem dX6_tellsBy_112 : decode cX6_tellsBy 112 = .ok (.invokestatic 205, 3) := by decide +kernel
theorem dX6_tellsBy_115 : decode cX6_tellsBy 115 = .ok (.iload_n 2, 1) := by decide +kernel
theorem dX6_tellsBy_116 : decode cX6_tellsBy 116 = .ok (.invokevirtual 306, 3) := by decide +kernel
theorem dX6_tellsBy_119 : decode cX6_tellsBy 119 = .ok (.isub, 1) := by decide +kernel
theorem dX6_tellsBy_120 : decode cX6_tellsBy 120 = .ok (.ireturn, 1) := by decide +kernel
theorem dX6_tellsBy_121 : decode cX6_tellsBy 121 = .ok (.aload_n 0, 1) := by decide +kernel
theorem dX6_tellsBy_122 : decode cX6_tellsBy 122 = .ok (.iload_n 1, 1) := by decide +kernel
theorem dX6_tellsBy_123 : decode cX6_tellsBy 123 = .ok (.invokestatic 205, 3) := by decide +kernel
theorem dX6_tellsBy_126 : decode cX6_tellsBy 126 = .ok (.iload_n 2, 1) := by decide +kernel
theorem dX6_tellsBy_127 : decode cX6_tellsBy 127 = .ok (.invokevirtual 306, 3) := by decide +kernel
theorem dX6_tellsBy_130 : decode cX6_tellsBy 130 = .ok (.ireturn, 1) := by decide +kernel
theorem w_tellsBy_b {l : Launch} {D : va_G} {cI : ClassId} {ad : Nat → Nat} (hI : kInj 15 ad) {dk : Nat} (hdk : 20 ≤ dk) {f_tellsBy : MSt → Int32 → Int32 → Option (Int32 × MSt)} (hf_tellsBy : ∀ (st : MSt) (a0 : Int32) (a1 : Int32) (r : Int32) (st' : MSt), f_tellsBy st a0 a1 = some (r, st') → mV l yX6_tellsBy cX6_tellsBy 4 (some .int) dk D cI ad st [.int a0, .int a1] (some (.int r)) st') {st st' : MSt} {x1 : Int32} {x2 : Int32} {r0 : Int32} (h : M_tellsBy_b f_tellsBy st x1 x2 = some (r0, st')) : mV l yX6_tellsBy cX6_tellsBy 4 (some .int) (dk + 1) D cI ad st [.int x1, .int x2] (some (.int r0)) st' := by
  refine mm_ofV hI (by decide) rfl (Nat.le_of_ble_eq_true rfl) (fun p e s m below meth c R args ls C hr hlk hP hS hl hcs => ?_)
  have hx := C.1
  have hb := C.2.1
  have hown := C.2.2.2.1
  have hl : lv_has ls 4 [(0, .ref (ad 0)), (1, .int x1), (2, .int x2)] := hl
  have hP : mW D cI ad st s.heap := hP
  rw [M_tellsBy_b] at h
  refine lv_iload_n hx hb dX6_tellsBy_0 rfl (lv_at hl 1 rfl) ?_
  by_cases c1 : x1 = 0
  · have h := if_some_t h c1
    refine lv_lookup (tgt := 36) hx hb dX6_tellsBy_1 (by decide) (by rw [c1]; try rfl) (by decide) ?_
    refine lv_aload_n hx hb dX6_tellsBy_36 rfl (lv_at hl 0 rfl) ?_
    refine lv_bipush (v := 13) hx hb dX6_tellsBy_37 (by decide) ?_
    obtain ⟨st3, hv2, h⟩ := bd1_some h
    refine k_ran C hP hS hv2 (by omega) hl.1 (Nat.le_of_ble_eq_true rfl) hcs dX6_tellsBy_39 (fun H locs hP hS => ?_)
    refine lv_aload_n hx hb dX6_tellsBy_42 rfl (lv_at hl 0 rfl) ?_
    refine lv_aload_n hx hb dX6_tellsBy_43 rfl (lv_at hl 0 rfl) ?_
    obtain ⟨v4, hv4, h⟩ := bd1_some h
    refine k_own C hP hv4 (by omega) hl.1 (Nat.le_of_ble_eq_true rfl) hcs dX6_tellsBy_44 ?_
    refine lv_iload_n hx hb dX6_tellsBy_47 rfl (lv_at hl 2 rfl) ?_
    obtain ⟨v5, st6, hv5, h⟩ := bd2_some h
    refine k_writesBy C hP hS hv5 (by omega) hl.1 (Nat.le_of_ble_eq_true rfl) hcs dX6_tellsBy_48 (fun H locs hP hS => ?_)
    refine lv_istore_n (lv' := [(3, .int v5), (0, .ref (ad 0)), (1, .int x1), (2, .int x2)]) hx hb dX6_tellsBy_51 rfl hl (by decide) rfl (fun ls hl => ?_)
    refine lv_iload_n hx hb dX6_tellsBy_52 rfl (lv_at hl 0 rfl) ?_
    refine lv_aload_n hx hb dX6_tellsBy_53 rfl (lv_at hl 1 rfl) ?_
    refine lv_aload_n hx hb dX6_tellsBy_54 rfl (lv_at hl 1 rfl) ?_
    obtain ⟨v7, hv7, h⟩ := bd1_some h
    refine k_own C hP hv7 (by omega) hl.1 (Nat.le_of_ble_eq_true rfl) hcs dX6_tellsBy_55 ?_
    refine lv_iload_n hx hb dX6_tellsBy_58 rfl (lv_at hl 3 rfl) ?_
    obtain ⟨v8, st9, hv8, h⟩ := bd2_some h
    refine k_readsBy C hP hS hv8 (by omega) hl.1 (Nat.le_of_ble_eq_true rfl) hcs dX6_tellsBy_59 (fun H locs hP hS => ?_)
    refine lv_ixor hx hb dX6_tellsBy_62 ?_
    exact mm_viret hx hb hr hlk h hP hS dX6_tellsBy_63
  · have h := if_some_f h c1
    by_cases c10 : x1 = 5
    · have h := if_some_t h c10
      refine lv_lookup (tgt := 64) hx hb dX6_tellsBy_1 (by decide) (by rw [c10]; try rfl) (by decide) ?_
      refine lv_aload_n hx hb dX6_tellsBy_64 rfl (lv_at hl 0 rfl) ?_
      refine lv_bipush (v := 60) hx hb dX6_tellsBy_65 (by decide) ?_
      obtain ⟨st12, hv11, h⟩ := bd1_some h
      refine k_ran C hP hS hv11 (by omega) hl.1 (Nat.le_of_ble_eq_true rfl) hcs dX6_tellsBy_67 (fun H locs hP hS => ?_)
      refine lv_aload_n hx hb dX6_tellsBy_70 rfl (lv_at hl 0 rfl) ?_
      refine lv_iconst (v := 5) hx hb dX6_tellsBy_71 (by decide) ?_
      obtain ⟨v13, hv13, h⟩ := bd1_some h
      refine k_above hx hb C.2.2.1 hown C.2.2.2.2.1 C.2.2.2.2.2.2.2 hv13 (by omega) hl.1 (Nat.le_of_ble_eq_true rfl) hcs dX6_tellsBy_72 ?_
      refine lv_iload_n hx hb dX6_tellsBy_75 rfl (lv_at hl 2 rfl) ?_
      obtain ⟨v14, st15, hv14, h⟩ := bd2_some h
      refine ka_tellsBy C hP hS (hf_tellsBy _ _ _ _ _ hv14) (by omega) hl.1 (Nat.le_of_ble_eq_true rfl) hcs dX6_tellsBy_76 (fun H locs hP hS => ?_)
      refine lv_istore_n (lv' := [(3, .int v14), (0, .ref (ad 0)), (1, .int x1), (2, .int x2)]) hx hb dX6_tellsBy_79 rfl hl (by decide) rfl (fun ls hl => ?_)
      refine lv_iload_n hx hb dX6_tellsBy_80 rfl (lv_at hl 0 rfl) ?_
      refine lv_aload_n hx hb dX6_tellsBy_81 rfl (lv_at hl 1 rfl) ?_
      refine lv_aload_n hx hb dX6_tellsBy_82 rfl (lv_at hl 1 rfl) ?_
      obtain ⟨v16, hv16, h⟩ := bd1_some h
      refine k_own C hP hv16 (by omega) hl.1 (Nat.le_of_ble_eq_true rfl) hcs dX6_tellsBy_83 ?_
      refine lv_iconst (v := 2) hx hb dX6_tellsBy_86 (by decide) ?_
      obtain ⟨v17, st18, hv17, h⟩ := bd2_some h
      refine k_owesBy C hP hS hv17 (by omega) hl.1 (Nat.le_of_ble_eq_true rfl) hcs dX6_tellsBy_87 (fun H locs hP hS => ?_)
      refine lv_isub hx hb dX6_tellsBy_90 ?_
      exact mm_viret hx hb hr hlk h hP hS dX6_tellsBy_91
    · have h := if_some_f h c10
      by_cases c19 : x1 = 6
      · have h := if_some_t h c19
        refine lv_lookup (tgt := 92) hx hb dX6_tellsBy_1 (by decide) (by rw [c19]; try rfl) (by decide) ?_
        refine lv_aload_n hx hb dX6_tellsBy_92 rfl (lv_at hl 0 rfl) ?_
        refine lv_bipush (v := 71) hx hb dX6_tellsBy_93 (by decide) ?_
        obtain ⟨st21, hv20, h⟩ := bd1_some h
        refine k_ran C hP hS hv20 (by omega) hl.1 (Nat.le_of_ble_eq_true rfl) hcs dX6_tellsBy_95 (fun H locs hP hS => ?_)
        refine lv_aload_n hx hb dX6_tellsBy_98 rfl (lv_at hl 0 rfl) ?_
        refine lv_aload_n hx hb dX6_tellsBy_99 rfl (lv_at hl 0 rfl) ?_
        obtain ⟨v22, hv22, h⟩ := bd1_some h
        refine k_own C hP hv22 (by omega) hl.1 (Nat.le_of_ble_eq_true rfl) hcs dX6_tellsBy_100 ?_
        refine lv_iload_n hx hb dX6_tellsBy_103 rfl (lv_at hl 2 rfl) ?_
        obtain ⟨v23, st24, hv23, h⟩ := bd2_some h
        refine k_writesBy C hP hS hv23 (by omega) hl.1 (Nat.le_of_ble_eq_true rfl) hcs dX6_tellsBy_104 (fun H locs hP hS => ?_)
        refine lv_istore_n (lv' := [(3, .int v23), (0, .ref (ad 0)), (1, .int x1), (2, .int x2)]) hx hb dX6_tellsBy_107 rfl hl (by decide) rfl (fun ls hl => ?_)
        refine lv_iload_n hx hb dX6_tellsBy_108 rfl (lv_at hl 0 rfl) ?_
        refine lv_aload_n hx hb dX6_tellsBy_109 rfl (lv_at hl 1 rfl) ?_
        refine lv_bipush (v := 6) hx hb dX6_tellsBy_110 (by decide) ?_
        obtain ⟨v25, hv25, h⟩ := bd1_some h
        refine k_above hx hb C.2.2.1 hown C.2.2.2.2.1 C.2.2.2.2.2.2.2 hv25 (by omega) hl.1 (Nat.le_of_ble_eq_true rfl) hcs dX6_tellsBy_112 ?_
        refine lv_iload_n hx hb dX6_tellsBy_115 rfl (lv_at hl 3 rfl) ?_
        obtain ⟨v26, st27, hv26, h⟩ := bd2_some h
        refine ka_tellsBy C hP hS (hf_tellsBy _ _ _ _ _ hv26) (by omega) hl.1 (Nat.le_of_ble_eq_true rfl) hcs dX6_tellsBy_116 (fun H locs hP hS => ?_)
        refine lv_isub hx hb dX6_tellsBy_119 ?_
        exact mm_viret hx hb hr hlk h hP hS dX6_tellsBy_120
      · have h := if_some_f h c19
        refine lv_lookup (tgt := 121) hx hb dX6_tellsBy_1 (by decide) (by show Op.lookupswitch.offset [(0, 35), (5, 63), (6, 91)] (120) _ = (120); rw [lv_osw c1 (by decide)]; rw [lv_osw c10 (by decide)]; rw [lv_osw c19 (by decide)]; rfl) (by decide) ?_
        refine lv_aload_n hx hb dX6_tellsBy_121 rfl (lv_at hl 0 rfl) ?_
        refine lv_iload_n hx hb dX6_tellsBy_122 rfl (lv_at hl 1 rfl) ?_
        obtain ⟨v28, hv28, h⟩ := bd1_some h
        refine k_above hx hb C.2.2.1 hown C.2.2.2.2.1 C.2.2.2.2.2.2.2 hv28 (by omega) hl.1 (Nat.le_of_ble_eq_true rfl) hcs dX6_tellsBy_123 ?_
        refine lv_iload_n hx hb dX6_tellsBy_126 rfl (lv_at hl 2 rfl) ?_
        obtain ⟨v29, st30, hv29, h⟩ := bd2_some h
        refine ka_tellsBy C hP hS (hf_tellsBy _ _ _ _ _ hv29) (by omega) hl.1 (Nat.le_of_ble_eq_true rfl) hcs dX6_tellsBy_127 (fun H locs hP hS => ?_)
        exact mm_viret hx hb hr hlk h hP hS dX6_tellsBy_130
theorem wr_tellsBy {l : Launch} {D : va_G} {cI : ClassId} {ad : Nat → Nat} (hI : kInj 15 ad) : ∀ (d : Nat) (st : MSt) (a0 : Int32) (a1 : Int32) (r : Int32) (st' : MSt), M_tellsBy d st a0 a1 = some (r, st') → mV l yX6_tellsBy cX6_tellsBy 4 (some .int) (d + 20) D cI ad st [.int a0, .int a1] (some (.int r)) st' := by
  intro d
  induction d with
  | zero =>
    intro st a0 a1 r st' h
    exact non_some h
  | succ d ih =>
    intro st a0 a1 r st' h
    have h2 := w_tellsBy_b (l := l) (D := D) (cI := cI) hI (dk := d + 20) (by omega) (fun st a0 a1 r st' h => ih st a0 a1 r st' h) (h := h)
    exact (show d + 1 + 20 = d + 20 + 1 by omega) ▸ h2
theorem k_tellsBy {a0 : Int32} {a1 : Int32} {v : Int32} {st' : MSt} (C : mC p R d s m args c cc nL D cI ad) (hP : mW D cI ad st H) (hS : va_S (kF 15 ad) H0 H locs) (h : M_tellsBy 4 st a0 a1 = some (v, st')) (hd : 24 + 1 ≤ d) (hsz : ls.size = nL) (hW : (rest.map fun v => v.category).sum ≤ 8) (hcs : cells ≤ R.cells ∧ slots ≤ R.slots) (hdg : decode cc pc = .ok (.invokevirtual 306, 3)) (kk : ∀ (H1 : Heap) (locs1 : List Loc), mW D cI ad st' H1 → va_S (kF 15 ad) H0 H1 locs1 → W p l e R s m args below meth c H1 locs1 cells slots Q (F0 m (pc + 3) ls (.int v :: rest))) : W p l e R s m args below meth c H locs cells slots Q (F0 m pc ls (.int a1 :: .int a0 :: .ref (ad 0) :: rest)) := ka_tellsBy C hP hS (wr_tellsBy C.2.2.2.2.2.2.1 4 _ _ _ _ _ h) hd hsz hW hcs hdg kk
abbrev cX6_worked : ByteArray := prog_30_method_25_code
def yX6_worked : MethodName := ⟨RX6, "worked", "(III)I"⟩
theorem dX6_worked_0 : decode cX6_worked 0 = .ok (.aload_n 0, 1) := by decide +kernel
theorem dX6_worked_1 : decode cX6_worked 1 = .ok (.iload_n 1, 1) := by decide +kernel
theorem dX6_worked_2 : decode cX6_worked 2 = .ok (.putfield 70, 3) := by decide +kernel
theorem dX6_worked_5 : decode cX6_worked 5 = .ok (.aload_n 0, 1) := by decide +kernel
theorem dX6_worked_6 : decode cX6_worked 6 = .ok (.iconst 0, 1) := by decide +kernel
theorem dX6_worked_7 : decode cX6_worked 7 = .ok (.putfield 61, 3) := by decide +kernel
theorem dX6_worked_10 : decode cX6_worked 10 = .ok (.aload_n 0, 1) := by decide +kernel
theorem dX6_worked_11 : decode cX6_worked 11 = .ok (.iload_n 2, 1) := by decide +kernel
theorem dX6_worked_12 : decode cX6_worked 12 = .ok (.putfield 64, 3) := by decide +kernel
theorem dX6_worked_15 : decode cX6_worked 15 = .ok (.aload_n 0, 1) := by decide +kernel
theorem dX6_worked_16 : decode cX6_worked 16 = .ok (.iconst (-1), 1) := by decide +kernel
theorem dX6_worked_17 : decode cX6_worked 17 = .ok (.putfield 67, 3) := by decide +kernel
theorem dX6_worked_20 : decode cX6_worked 20 = .ok (.aload_n 0, 1) := by decide +kernel
theorem dX6_worked_21 : decode cX6_worked 21 = .ok (.iconst 0, 1) := by decide +kernel
theorem dX6_worked_22 : decode cX6_worked 22 = .ok (.putfield 100, 3) := by decide +kernel
theorem dX6_worked_25 : decode cX6_worked 25 = .ok (.aload_n 0, 1) := by decide +kernel
theorem dX6_worked_26 : decode cX6_worked 26 = .ok (.iload_n 3, 1) := by decide +kernel
theorem dX6_worked_27 : decode cX6_worked 27 = .ok (.iconst 1, 1) := by decide +kernel
theorem dX6_worked_28 : decode cX6_worked 28 = .ok (.if_icmp .ne 7, 3) := by decide +kernel
theorem dX6_worked_31 : decode cX6_worked 31 = .ok (.iconst 1, 1) := by decide +kernel
theorem dX6_worked_32 : decode cX6_worked 32 = .ok (.goto 4, 3) := by decide +kernel
theorem dX6_worked_35 : decode cX6_worked 35 = .ok (.iconst 0, 1) := by decide +kernel
theorem dX6_worked_36 : decode cX6_worked 36 = .ok (.putfield 77, 3) := by decide +kernel
theorem dX6_worked_39 : decode cX6_worked 39 = .ok (.aload_n 0, 1) := by decide +kernel
theorem dX6_worked_40 : decode cX6_worked 40 = .ok (.invokevirtual 106, 3) := by decide +kernel
theorem dX6_worked_43 : decode cX6_worked 43 = .ok (.istore 4, 2) := by decide +kernel
theorem dX6_worked_45 : decode cX6_worked 45 = .ok (.aload_n 0, 1) := by decide +kernel
theorem dX6_worked_46 : decode cX6_worked 46 = .ok (.getfield 67, 3) := by decide +kernel
theorem dX6_worked_49 : decode cX6_worked 49 = .ok (.ifCond .ge 19, 3) := by decide +kernel
theorem dX6_worked_52 : decode cX6_worked 52 = .ok (.aload_n 0, 1) := by decide +kernel
theorem dX6_worked_53 : decode cX6_worked 53 = .ok (.getfield 61, 3) := by decide +kernel
theorem dX6_worked_56 : decode cX6_worked 56 = .ok (.aload_n 0, 1) := by decide +kernel
theorem dX6_worked_57 : decode cX6_worked 57 = .ok (.getfield 64, 3) := by decide +kernel
theorem dX6_worked_60 : decode cX6_worked 60 = .ok (.if_icmp .ge 8, 3) := by decide +kernel
theorem dX6_worked_63 : decode cX6_worked 63 = .ok (.aload_n 0, 1) := by decide +kernel
theorem dX6_worked_64 : decode cX6_worked 64 = .ok (.invokevirtual 103, 3) := by decide +kernel
theorem dX6_worked_67 : decode cX6_worked 67 = .ok (.ireturn, 1) := by decide +kernel
theorem dX6_worked_68 : decode cX6_worked 68 = .ok (.iload 4, 2) := by decide +kernel
theorem dX6_worked_70 : decode cX6_worked 70 = .ok (.ireturn, 1) := by decide +kernel
theorem w_worked {l : Launch} {D : va_G} {cI : ClassId} {ad : Nat → Nat} (hI : kInj 15 ad) {st st' : MSt} {N : Nat} {x1 : Int32} {x2 : Int32} {x3 : Int32} {r0 : Int32} (h : M_worked  N st x1 x2 x3 = some (r0, st')) : mV l yX6_worked cX6_worked 5 (some .int) 54 D cI ad st [.int x1, .int x2, .int x3] (some (.int r0)) st' := by
  refine mm_ofV hI (by decide) rfl (Nat.le_of_ble_eq_true rfl) (fun p e s m below meth c R args ls C hr hlk hP hS hl hcs => ?_)
  have hx := C.1
  have hb := C.2.1
  have hown := C.2.2.2.1
  have hl : lv_has ls 5 [(0, .ref (ad 0)), (1, .int x1), (2, .int x2), (3, .int x3)] := hl
  have hP : mW D cI ad st s.heap := hP
  rw [M_worked] at h
  refine lv_aload_n hx hb dX6_worked_0 rfl (lv_at hl 0 rfl) ?_
  refine lv_iload_n hx hb dX6_worked_1 rfl (lv_at hl 1 rfl) ?_
  refine p_base C hP hS dX6_worked_2 (fun H locs hP hS => ?_)
  refine lv_aload_n hx hb dX6_worked_5 rfl (lv_at hl 0 rfl) ?_
  refine lv_iconst (v := 0) hx hb dX6_worked_6 (by decide) ?_
  refine p_at C hP hS dX6_worked_7 (fun H locs hP hS => ?_)
  refine lv_aload_n hx hb dX6_worked_10 rfl (lv_at hl 0 rfl) ?_
  refine lv_iload_n hx hb dX6_worked_11 rfl (lv_at hl 2 rfl) ?_
  refine p_size C hP hS dX6_worked_12 (fun H locs hP hS => ?_)
  refine lv_aload_n hx hb dX6_worked_15 rfl (lv_at hl 0 rfl) ?_
  refine lv_iconst (v := (-1)) hx hb dX6_worked_16 (by decide) ?_
  refine p_fault C hP hS dX6_worked_17 (fun H locs hP hS => ?_)
  refine lv_aload_n hx hb dX6_worked_20 rfl (lv_at hl 0 rfl) ?_
  refine lv_iconst (v := 0) hx hb dX6_worked_21 (by decide) ?_
  refine p_opened C hP hS dX6_worked_22 (fun H locs hP hS => ?_)
  refine lv_aload_n hx hb dX6_worked_25 rfl (lv_at hl 0 rfl) ?_
  refine lv_iload_n hx hb dX6_worked_26 rfl (lv_at hl 3 rfl) ?_
  refine lv_iconst (v := 1) hx hb dX6_worked_27 (by decide) ?_
  refine lv_icmp_ne (tgt := 35) hx hb dX6_worked_28 rfl (fun c1 => ?_) (fun c1 => ?_)
  · have h := if_some_f h c1
    refine lv_iconst (v := 0) hx hb dX6_worked_35 (by decide) ?_
    refine p_isTrust C hP hS ⟨rfl, rfl⟩ dX6_worked_36 (fun H locs hP hS => ?_)
    refine lv_aload_n hx hb dX6_worked_39 rfl (lv_at hl 0 rfl) ?_
    obtain ⟨v2, st3, hv2, h⟩ := bd2_some h
    refine k_either C hP hS hv2 (Nat.le_of_ble_eq_true rfl) hl.1 (Nat.le_of_ble_eq_true rfl) hcs dX6_worked_40 (fun H locs hP hS => ?_)
    refine lv_istore (lv' := [(4, .int v2), (0, .ref (ad 0)), (1, .int x1), (2, .int x2), (3, .int x3)]) hx hb dX6_worked_43 hl (by decide) rfl (fun ls hl => ?_)
    refine lv_aload_n hx hb dX6_worked_45 rfl (lv_at hl 1 rfl) ?_
    refine g_fault C hP dX6_worked_46 ?_
    refine lv_if_ge (tgt := 68) hx hb dX6_worked_49 rfl (fun c4 => ?_) (fun c4 => ?_)
    · have h := if_some_t h c4
      refine lv_iload hx hb dX6_worked_68 (lv_at hl 0 rfl) ?_
      exact mm_viret hx hb hr hlk h hP hS dX6_worked_70
    · have h := if_some_f h c4
      refine lv_aload_n hx hb dX6_worked_52 rfl (lv_at hl 1 rfl) ?_
      refine g_at C hP dX6_worked_53 ?_
      refine lv_aload_n hx hb dX6_worked_56 rfl (lv_at hl 1 rfl) ?_
      refine g_size C hP dX6_worked_57 ?_
      refine lv_icmp_ge (tgt := 68) hx hb dX6_worked_60 rfl (fun c5 => ?_) (fun c5 => ?_)
      · have h := if_some_t h c5
        refine lv_iload hx hb dX6_worked_68 (lv_at hl 0 rfl) ?_
        exact mm_viret hx hb hr hlk h hP hS dX6_worked_70
      · have h := if_some_f h c5
        refine lv_aload_n hx hb dX6_worked_63 rfl (lv_at hl 1 rfl) ?_
        obtain ⟨v6, st7, hv6, h⟩ := bd2_some h
        refine k_wrong C hP hS hv6 (Nat.le_of_ble_eq_true rfl) hl.1 (Nat.le_of_ble_eq_true rfl) hcs dX6_worked_64 (fun H locs hP hS => ?_)
        exact mm_viret hx hb hr hlk h hP hS dX6_worked_67
  · have h := if_some_t h c1
    refine lv_iconst (v := 1) hx hb dX6_worked_31 (by decide) ?_
    refine lv_goto (tgt := 36) hx hb dX6_worked_32 rfl ?_
    refine p_isTrust C hP hS ⟨rfl, rfl⟩ dX6_worked_36 (fun H locs hP hS => ?_)
    refine lv_aload_n hx hb dX6_worked_39 rfl (lv_at hl 0 rfl) ?_
    obtain ⟨v8, st9, hv8, h⟩ := bd2_some h
    refine k_either C hP hS hv8 (Nat.le_of_ble_eq_true rfl) hl.1 (Nat.le_of_ble_eq_true rfl) hcs dX6_worked_40 (fun H locs hP hS => ?_)
    refine lv_istore (lv' := [(4, .int v8), (0, .ref (ad 0)), (1, .int x1), (2, .int x2), (3, .int x3)]) hx hb dX6_worked_43 hl (by decide) rfl (fun ls hl => ?_)
    refine lv_aload_n hx hb dX6_worked_45 rfl (lv_at hl 1 rfl) ?_
    refine g_fault C hP dX6_worked_46 ?_
    refine lv_if_ge (tgt := 68) hx hb dX6_worked_49 rfl (fun c10 => ?_) (fun c10 => ?_)
    · have h := if_some_t h c10
      refine lv_iload hx hb dX6_worked_68 (lv_at hl 0 rfl) ?_
      exact mm_viret hx hb hr hlk h hP hS dX6_worked_70
    · have h := if_some_f h c10
      refine lv_aload_n hx hb dX6_worked_52 rfl (lv_at hl 1 rfl) ?_
      refine g_at C hP dX6_worked_53 ?_
      refine lv_aload_n hx hb dX6_worked_56 rfl (lv_at hl 1 rfl) ?_
      refine g_size C hP dX6_worked_57 ?_
      refine lv_icmp_ge (tgt := 68) hx hb dX6_worked_60 rfl (fun c11 => ?_) (fun c11 => ?_)
      · have h := if_some_t h c11
        refine lv_iload hx hb dX6_worked_68 (lv_at hl 0 rfl) ?_
        exact mm_viret hx hb hr hlk h hP hS dX6_worked_70
      · have h := if_some_f h c11
        refine lv_aload_n hx hb dX6_worked_63 rfl (lv_at hl 1 rfl) ?_
        obtain ⟨v12, st13, hv12, h⟩ := bd2_some h
        refine k_wrong C hP hS hv12 (Nat.le_of_ble_eq_true rfl) hl.1 (Nat.le_of_ble_eq_true rfl) hcs dX6_worked_64 (fun H locs hP hS => ?_)
        exact mm_viret hx hb hr hlk h hP hS dX6_worked_67
theorem q1615 : (Jvm.Cond.methodLink "ChapterLoanModel" (124 : Nat) ({ cls := "ChapterLoanModel", name := "worked", desc := "(III)I" } : Jvm.MethodName)) ∈ lw_all := lw_g (lw_at lw_m7 91 rfl) rfl
theorem q1618 : (Jvm.Cond.code ({ cls := "ChapterLoanModel", name := "worked", desc := "(III)I" } : Jvm.MethodName) prog_30_method_25_code (5 : Nat) (Option.some Jvm.ClassFile.FieldType.int)) ∈ lw_all := lw_g (lw_at lw_m7 94 rfl) rfl
theorem q1617 : (Jvm.Cond.instanceMethod ({ cls := "ChapterLoanModel", name := "worked", desc := "(III)I" } : Jvm.MethodName)) ∈ lw_all := lw_g (lw_at lw_m7 93 rfl) rfl
theorem k_worked {N : Nat} {a0 : Int32} {a1 : Int32} {a2 : Int32} {v : Int32} {st' : MSt} (C : mC p R d s m args c cc nL D cI ad) (hP : mW D cI ad st H) (hS : va_S (kF 15 ad) H0 H locs) (h : M_worked N st a0 a1 a2 = some (v, st')) (hd : 54 + 1 ≤ d) (hsz : ls.size = nL) (hW : (rest.map fun v => v.category).sum ≤ 8) (hcs : cells ≤ R.cells ∧ slots ≤ R.slots) (hdg : decode cc pc = .ok (.invokevirtual 124, 3)) (kk : ∀ (H1 : Heap) (locs1 : List Loc), mW D cI ad st' H1 → va_S (kF 15 ad) H0 H1 locs1 → W p l e R s m args below meth c H1 locs1 cells slots Q (F0 m (pc + 3) ls (.int v :: rest))) : W p l e R s m args below meth c H locs cells slots Q (F0 m pc ls (.int a2 :: .int a1 :: .int a0 :: .ref (ad 0) :: rest)) :=
  mm_cV (As := [.int a0, .int a1, .int a2]) C hP hS (w_worked C.2.2.2.2.2.2.1 h) (cwV 3 C.2.2.2.2.1 (lw_V q1615 q1617 qs31 q94 q1618) rfl rfl rfl (by decide +kernel) (mr_ C.2.2.2.2.2.2.2 hd (by decide))) rfl hsz rfl hW hdg hcs kk
abbrev cX6_text : ByteArray := prog_30_method_27_code
def yX6_text : MethodName := ⟨RX6, "text", "(I)I"⟩
theorem dX6_text_0 : decode cX6_text 0 = .ok (.iload_n 1, 1) := by decide +kernel
theorem dX6_text_1 : decode cX6_text 1 = .ok (.i2l, 1) := by decide +kernel
theorem dX6_text_2 : decode cX6_text 2 = .ok (.lconst 0, 1) := by decide +kernel
theorem dX6_text_3 : decode cX6_text 3 = .ok (.lconst 1, 1) := by decide +kernel
theorem dX6_text_4 : decode cX6_text 4 = .ok (.invokestatic 57, 3) := by decide +kernel
theorem dX6_text_7 : decode cX6_text 7 = .ok (.ifCond .ne 9, 3) := by decide +kernel
theorem dX6_text_10 : decode cX6_text 10 = .ok (.aload_n 0, 1) := by decide +kernel
theorem dX6_text_11 : decode cX6_text 11 = .ok (.iconst 1, 1) := by decide +kernel
theorem dX6_text_12 : decode cX6_text 12 = .ok (.invokevirtual 119, 3) := by decide +kernel
theorem dX6_text_15 : decode cX6_text 15 = .ok (.ireturn, 1) := by decide +kernel
theorem dX6_text_16 : decode cX6_text 16 = .ok (.aload_n 0, 1) := by decide +kernel
theorem dX6_text_17 : decode cX6_text 17 = .ok (.getfield 7, 3) := by decide +kernel
theorem dX6_text_20 : decode cX6_text 20 = .ok (.iconst 5, 1) := by decide +kernel
theorem dX6_text_21 : decode cX6_text 21 = .ok (.iaload, 1) := by decide +kernel
theorem dX6_text_22 : decode cX6_text 22 = .ok (.istore_n 2, 1) := by decide +kernel
theorem dX6_text_23 : decode cX6_text 23 = .ok (.aload_n 0, 1) := by decide +kernel
theorem dX6_text_24 : decode cX6_text 24 = .ok (.getfield 7, 3) := by decide +kernel
theorem dX6_text_27 : decode cX6_text 27 = .ok (.iconst 5, 1) := by decide +kernel
theorem dX6_text_28 : decode cX6_text 28 = .ok (.iconst 0, 1) := by decide +kernel
theorem dX6_text_29 : decode cX6_text 29 = .ok (.iastore, 1) := by decide +kernel
theorem dX6_text_30 : decode cX6_text 30 = .ok (.aload_n 0, 1) := by decide +kernel
theorem dX6_text_31 : decode cX6_text 31 = .ok (.sipush 292, 3) := by decide +kernel
theorem dX6_text_34 : decode cX6_text 34 = .ok (.iload_n 2, 1) := by decide +kernel
theorem dX6_text_35 : decode cX6_text 35 = .ok (.iload_n 1, 1) := by decide +kernel
theorem dX6_text_36 : decode cX6_text 36 = .ok (.invokevirtual 124, 3) := by decide +kernel
theorem dX6_text_39 : decode cX6_text 39 = .ok (.istore_n 3, 1) := by decide +kernel
theorem dX6_text_40 : decode cX6_text 40 = .ok (.aload_n 0, 1) := by decide +kernel
theorem dX6_text_41 : decode cX6_text 41 = .ok (.getfield 67, 3) := by decide +kernel
theorem dX6_text_44 : decode cX6_text 44 = .ok (.ifCond .lt 11, 3) := by decide +kernel
theorem dX6_text_47 : decode cX6_text 47 = .ok (.bipush (-10), 2) := by decide +kernel
theorem dX6_text_49 : decode cX6_text 49 = .ok (.aload_n 0, 1) := by decide +kernel
theorem dX6_text_50 : decode cX6_text 50 = .ok (.getfield 67, 3) := by decide +kernel
theorem dX6_text_53 : decode cX6_text 53 = .ok (.isub, 1) := by decide +kernel
theorem dX6_text_54 : decode cX6_text 54 = .ok (.ireturn, 1) := by decide +kernel
theorem dX6_text_55 : decode cX6_text 55 = .ok (.aload_n 0, 1) := by decide +kernel
theorem dX6_text_56 : decode cX6_text 56 = .ok (.getfield 7, 3) := by decide +kernel
theorem dX6_text_59 : decode cX6_text 59 = .ok (.sipush 170, 3) := by decide +kernel
theorem dX6_text_62 : decode cX6_text 62 = .ok (.iload_n 1, 1) := by decide +kernel
theorem dX6_text_63 : decode cX6_text 63 = .ok (.iadd, 1) := by decide +kernel
theorem dX6_text_64 : decode cX6_text 64 = .ok (.iload_n 2, 1) := by decide +kernel
theorem dX6_text_65 : decode cX6_text 65 = .ok (.iastore, 1) := by decide +kernel
theorem dX6_text_66 : decode cX6_text 66 = .ok (.iconst 0, 1) := by decide +kernel
theorem dX6_text_67 : decode cX6_text 67 = .ok (.istore 4, 2) := by decide +kernel
theorem dX6_text_69 : decode cX6_text 69 = .ok (.iload 4, 2) := by decide +kernel
theorem dX6_text_71 : decode cX6_text 71 = .ok (.iload_n 2, 1) := by decide +kernel
theorem dX6_text_72 : decode cX6_text 72 = .ok (.if_icmp .ge 36, 3) := by decide +kernel
theorem dX6_text_75 : decode cX6_text 75 = .ok (.aload_n 0, 1) := by decide +kernel
theorem dX6_text_76 : decode cX6_text 76 = .ok (.getfield 7, 3) := by decide +kernel
theorem dX6_text_79 : decode cX6_text 79 = .ok (.sipush 192, 3) := by decide +kernel
theorem dX6_text_82 : decode cX6_text 82 = .ok (.bipush 50, 2) := by decide +kernel
theorem dX6_text_84 : decode cX6_text 84 = .ok (.iload_n 1, 1) := by decide +kernel
theorem dX6_text_85 : decode cX6_text 85 = .ok (.imul, 1) := by decide +kernel
theorem dX6_text_86 : decode cX6_text 86 = .ok (.iadd, 1) := by decide +kernel
theorem dX6_text_87 : decode cX6_text 87 = .ok (.iload 4, 2) := by decide +kernel
theorem dX6_text_89 : decode cX6_text 89 = .ok (.iadd, 1) := by decide +kernel
theorem dX6_text_90 : decode cX6_text 90 = .ok (.aload_n 0, 1) := by decide +kernel
theorem dX6_text_91 : decode cX6_text 91 = .ok (.getfield 7, 3) := by decide +kernel
theorem dX6_text_94 : decode cX6_text 94 = .ok (.sipush 292, 3) := by decide +kernel
theorem dX6_text_97 : decode cX6_text 97 = .ok (.iload 4, 2) := by decide +kernel
theorem dX6_text_99 : decode cX6_text 99 = .ok (.iadd, 1) := by decide +kernel
theorem dX6_text_100 : decode cX6_text 100 = .ok (.iaload, 1) := by decide +kernel
theorem dX6_text_101 : decode cX6_text 101 = .ok (.iastore, 1) := by decide +kernel
theorem dX6_text_102 : decode cX6_text 102 = .ok (.iinc 4 1, 3) := by decide +kernel
theorem dX6_text_105 : decode cX6_text 105 = .ok (.goto (-36), 3) := by decide +kernel
theorem dX6_text_108 : decode cX6_text 108 = .ok (.iconst 1, 1) := by decide +kernel
theorem dX6_text_109 : decode cX6_text 109 = .ok (.ireturn, 1) := by decide +kernel
theorem w_text {l : Launch} {D : va_G} {cI : ClassId} {ad : Nat → Nat} (hI : kInj 15 ad) {st st' : MSt} {N : Nat} {x1 : Int32} {r0 : Int32} (h : M_text  N st x1 = some (r0, st')) : mV l yX6_text cX6_text 5 (some .int) 55 D cI ad st [.int x1] (some (.int r0)) st' := by
  refine mm_ofV hI (by decide) rfl (Nat.le_of_ble_eq_true rfl) (fun p e s m below meth c R args ls C hr hlk hP hS hl hcs => ?_)
  have hx := C.1
  have hb := C.2.1
  have hown := C.2.2.2.1
  have hl : lv_has ls 5 [(0, .ref (ad 0)), (1, .int x1)] := hl
  have hP : mW D cI ad st s.heap := hP
  have L69 : ∀ (x1 : Int32), ∀ (x2 : Int32), ∀ (n : Nat) (st : MSt) (x4 : Int32) (st2 : MSt), M_text_L69 N x1 x2 n st x4 = some st2 → ∀ (H : Heap) (locs : List Loc), mW D cI ad st H → va_S (kF 15 ad) s.heap H locs → ∀ ls : Array Slot, lv_has ls 5 [(0, .ref (ad 0)), (1, .int x1), (2, .int x2), (4, .int x4)] → (∀ (H : Heap) (locs : List Loc), mW D cI ad st2 H → va_S (kF 15 ad) s.heap H locs → ∀ ls : Array Slot, lv_has ls 5 [] → mWV p l e R s m args below meth c D cI ad (some (.int r0)) st' H locs (F0 m 108 ls [])) → mWV p l e R s m args below meth c D cI ad (some (.int r0)) st' H locs (F0 m 69 ls []) := by
    intro x1 x2 n
    induction n with
    | zero =>
      intro st x4 st2 h
      exact non_some h
    | succ n ih =>
      intro st x4 st2 h H locs hP hS ls hl kx
      rw [M_text_L69] at h
      refine lv_iload hx hb dX6_text_69 (lv_at hl 3 rfl) ?_
      refine lv_iload_n hx hb dX6_text_71 rfl (lv_at hl 2 rfl) ?_
      refine lv_icmp_ge (tgt := 108) hx hb dX6_text_72 rfl (fun c9 => ?_) (fun c9 => ?_)
      · have h := if_some_t h c9
        cases h
        exact kx _ _ hP hS ls (lv_sub hl [] rfl)
      · have h := if_some_f h c9
        refine lv_aload_n hx hb dX6_text_75 rfl (lv_at hl 0 rfl) ?_
        refine g_d C hP dX6_text_76 ?_
        refine lv_sipush (v := 192) hx hb dX6_text_79 (by decide) ?_
        refine lv_bipush (v := 50) hx hb dX6_text_82 (by decide) ?_
        refine lv_iload_n hx hb dX6_text_84 rfl (lv_at hl 1 rfl) ?_
        refine lv_imul hx hb dX6_text_85 ?_
        refine lv_iadd hx hb dX6_text_86 ?_
        refine lv_iload hx hb dX6_text_87 (lv_at hl 3 rfl) ?_
        refine lv_iadd hx hb dX6_text_89 ?_
        refine lv_aload_n hx hb dX6_text_90 rfl (lv_at hl 0 rfl) ?_
        refine g_d C hP dX6_text_91 ?_
        refine lv_sipush (v := 292) hx hb dX6_text_94 (by decide) ?_
        refine lv_iload hx hb dX6_text_97 (lv_at hl 3 rfl) ?_
        refine lv_iadd hx hb dX6_text_99 ?_
        obtain ⟨v10, hv10, h⟩ := bd1_some h
        refine mm_ld C hP 1 (by decide) rfl hv10 dX6_text_100 ?_
        obtain ⟨b11, hb11, h⟩ := bd1_some h
        refine mm_st C hP hS 1 (by decide) rfl hb11 dX6_text_101 (fun H locs hP hS => ?_)
        refine lv_iinc (v := x4 + 1) (lv' := [(4, .int (x4 + 1)), (0, .ref (ad 0)), (1, .int x1), (2, .int x2)]) hx hb dX6_text_102 hl (k := 3) rfl rfl (by decide) rfl (fun ls hl => ?_)
        refine lv_goto (tgt := 69) hx hb dX6_text_105 rfl ?_
        exact ih (sa st 1 b11) (x4 + 1) _ h _ _ hP hS ls (lv_sub hl [1, 2, 3, 0] rfl) kx
  rw [M_text] at h
  refine lv_iload_n hx hb dX6_text_0 rfl (lv_at hl 1 rfl) ?_
  refine lv_i2l (v := x1.toInt64) hx hb dX6_text_1 rfl ?_
  refine lv_lconst (v := 0) hx hb dX6_text_2 (by decide) ?_
  refine lv_lconst (v := 1) hx hb dX6_text_3 (by decide) ?_
  obtain ⟨v1, hv1, h⟩ := bd1_some h
  refine k_in hx hb C.2.2.1 hown C.2.2.2.2.1 C.2.2.2.2.2.2.2 hv1 (Nat.le_of_ble_eq_true rfl) hl.1 (Nat.le_of_ble_eq_true rfl) hcs dX6_text_4 ?_
  refine lv_if_ne (tgt := 16) hx hb dX6_text_7 rfl (fun c2 => ?_) (fun c2 => ?_)
  · have h := if_some_f h c2
    refine lv_aload_n hx hb dX6_text_16 rfl (lv_at hl 0 rfl) ?_
    refine g_d C hP dX6_text_17 ?_
    refine lv_iconst (v := 5) hx hb dX6_text_20 (by decide) ?_
    obtain ⟨v3, hv3, h⟩ := bd1_some h
    refine mm_ld C hP 1 (by decide) rfl hv3 dX6_text_21 ?_
    refine lv_istore_n (lv' := [(2, .int v3), (0, .ref (ad 0)), (1, .int x1)]) hx hb dX6_text_22 rfl hl (by decide) rfl (fun ls hl => ?_)
    refine lv_aload_n hx hb dX6_text_23 rfl (lv_at hl 1 rfl) ?_
    refine g_d C hP dX6_text_24 ?_
    refine lv_iconst (v := 5) hx hb dX6_text_27 (by decide) ?_
    refine lv_iconst (v := 0) hx hb dX6_text_28 (by decide) ?_
    obtain ⟨b4, hb4, h⟩ := bd1_some h
    refine mm_st C hP hS 1 (by decide) rfl hb4 dX6_text_29 (fun H locs hP hS => ?_)
    refine lv_aload_n hx hb dX6_text_30 rfl (lv_at hl 1 rfl) ?_
    refine lv_sipush (v := 292) hx hb dX6_text_31 (by decide) ?_
    refine lv_iload_n hx hb dX6_text_34 rfl (lv_at hl 0 rfl) ?_
    refine lv_iload_n hx hb dX6_text_35 rfl (lv_at hl 2 rfl) ?_
    obtain ⟨v5, st6, hv5, h⟩ := bd2_some h
    refine k_worked C hP hS hv5 (Nat.le_of_ble_eq_true rfl) hl.1 (Nat.le_of_ble_eq_true rfl) hcs dX6_text_36 (fun H locs hP hS => ?_)
    refine lv_istore_n (lv' := [(3, .int v5), (2, .int v3), (0, .ref (ad 0)), (1, .int x1)]) hx hb dX6_text_39 rfl hl (by decide) rfl (fun ls hl => ?_)
    refine lv_aload_n hx hb dX6_text_40 rfl (lv_at hl 2 rfl) ?_
    refine g_fault C hP dX6_text_41 ?_
    refine lv_if_lt (tgt := 55) hx hb dX6_text_44 rfl (fun c7 => ?_) (fun c7 => ?_)
    · have h := if_some_t h c7
      refine lv_aload_n hx hb dX6_text_55 rfl (lv_at hl 2 rfl) ?_
      refine g_d C hP dX6_text_56 ?_
      refine lv_sipush (v := 170) hx hb dX6_text_59 (by decide) ?_
      refine lv_iload_n hx hb dX6_text_62 rfl (lv_at hl 3 rfl) ?_
      refine lv_iadd hx hb dX6_text_63 ?_
      refine lv_iload_n hx hb dX6_text_64 rfl (lv_at hl 1 rfl) ?_
      obtain ⟨b8, hb8, h⟩ := bd1_some h
      refine mm_st C hP hS 1 (by decide) rfl hb8 dX6_text_65 (fun H locs hP hS => ?_)
      refine lv_iconst (v := 0) hx hb dX6_text_66 (by decide) ?_
      refine lv_istore (lv' := [(4, .int 0), (3, .int v5), (2, .int v3), (0, .ref (ad 0)), (1, .int x1)]) hx hb dX6_text_67 hl (by decide) rfl (fun ls hl => ?_)
      obtain ⟨st12, hz13, h⟩ := bd1_some h
      refine L69 x1 v3 N _ 0 _ hz13 _ _ hP hS ls (lv_sub hl [3, 4, 2, 0] rfl) (fun H locs hP hS ls hl => ?_)
      refine lv_iconst (v := 1) hx hb dX6_text_108 (by decide) ?_
      exact mm_viret hx hb hr hlk h hP hS dX6_text_109
    · have h := if_some_f h c7
      refine lv_bipush (v := (-10)) hx hb dX6_text_47 (by decide) ?_
      refine lv_aload_n hx hb dX6_text_49 rfl (lv_at hl 2 rfl) ?_
      refine g_fault C hP dX6_text_50 ?_
      refine lv_isub hx hb dX6_text_53 ?_
      exact mm_viret hx hb hr hlk h hP hS dX6_text_54
  · have h := if_some_t h c2
    refine lv_aload_n hx hb dX6_text_10 rfl (lv_at hl 0 rfl) ?_
    refine lv_iconst (v := 1) hx hb dX6_text_11 (by decide) ?_
    obtain ⟨v14, st15, hv14, h⟩ := bd2_some h
    refine k_finds C hP hS hv14 (Nat.le_of_ble_eq_true rfl) hl.1 (Nat.le_of_ble_eq_true rfl) hcs dX6_text_12 (fun H locs hP hS => ?_)
    exact mm_viret hx hb hr hlk h hP hS dX6_text_15
abbrev cX6_textGives : ByteArray := prog_30_method_28_code
def yX6_textGives : MethodName := ⟨RX6, "textGives", "(IIII)I"⟩
theorem dX6_textGives_0 : decode cX6_textGives 0 = .ok (.iload_n 1, 1) := by decide +kernel
theorem dX6_textGives_1 : decode cX6_textGives 1 = .ok (.ifCond .ne 8, 3) := by decide +kernel
theorem dX6_textGives_4 : decode cX6_textGives 4 = .ok (.bipush 10, 2) := by decide +kernel
theorem dX6_textGives_6 : decode cX6_textGives 6 = .ok (.goto 14, 3) := by decide +kernel
theorem dX6_textGives_9 : decode cX6_textGives 9 = .ok (.bipush 10, 2) := by decide +kernel
theorem dX6_textGives_11 : decode cX6_textGives 11 = .ok (.iload 4, 2) := by decide +kernel
theorem dX6_textGives_13 : decode cX6_textGives 13 = .ok (.imul, 1) := by decide +kernel
theorem dX6_textGives_14 : decode cX6_textGives 14 = .ok (.iconst 5, 1) := by decide +kernel
theorem dX6_textGives_15 : decode cX6_textGives 15 = .ok (.iload_n 3, 1) := by decide +kernel
theorem dX6_textGives_16 : decode cX6_textGives 16 = .ok (.imul, 1) := by decide +kernel
theorem dX6_textGives_17 : decode cX6_textGives 17 = .ok (.isub, 1) := by decide +kernel
theorem dX6_textGives_18 : decode cX6_textGives 18 = .ok (.iload_n 2, 1) := by decide +kernel
theorem dX6_textGives_19 : decode cX6_textGives 19 = .ok (.isub, 1) := by decide +kernel
theorem dX6_textGives_20 : decode cX6_textGives 20 = .ok (.istore 5, 2) := by decide +kernel
theorem dX6_textGives_22 : decode cX6_textGives 22 = .ok (.aload_n 0, 1) := by decide +kernel
theorem dX6_textGives_23 : decode cX6_textGives 23 = .ok (.getfield 7, 3) := by decide +kernel
theorem dX6_textGives_26 : decode cX6_textGives 26 = .ok (.sipush 170, 3) := by decide +kernel
theorem dX6_textGives_29 : decode cX6_textGives 29 = .ok (.iload_n 1, 1) := by decide +kernel
theorem dX6_textGives_30 : decode cX6_textGives 30 = .ok (.iadd, 1) := by decide +kernel
theorem dX6_textGives_31 : decode cX6_textGives 31 = .ok (.iaload, 1) := by decide +kernel
theorem dX6_textGives_32 : decode cX6_textGives 32 = .ok (.ifCond .le 50, 3) := by decide +kernel
theorem dX6_textGives_35 : decode cX6_textGives 35 = .ok (.aload_n 0, 1) := by decide +kernel
theorem dX6_textGives_36 : decode cX6_textGives 36 = .ok (.getfield 22, 3) := by decide +kernel
theorem dX6_textGives_39 : decode cX6_textGives 39 = .ok (.iconst 0, 1) := by decide +kernel
theorem dX6_textGives_40 : decode cX6_textGives 40 = .ok (.iload_n 2, 1) := by decide +kernel
theorem dX6_textGives_41 : decode cX6_textGives 41 = .ok (.iastore, 1) := by decide +kernel
theorem dX6_textGives_42 : decode cX6_textGives 42 = .ok (.aload_n 0, 1) := by decide +kernel
theorem dX6_textGives_43 : decode cX6_textGives 43 = .ok (.getfield 22, 3) := by decide +kernel
theorem dX6_textGives_46 : decode cX6_textGives 46 = .ok (.iconst 1, 1) := by decide +kernel
theorem dX6_textGives_47 : decode cX6_textGives 47 = .ok (.iload_n 3, 1) := by decide +kernel
theorem dX6_textGives_48 : decode cX6_textGives 48 = .ok (.iastore, 1) := by decide +kernel
theorem dX6_textGives_49 : decode cX6_textGives 49 = .ok (.aload_n 0, 1) := by decide +kernel
theorem dX6_textGives_50 : decode cX6_textGives 50 = .ok (.getfield 22, 3) := by decide +kernel
theorem dX6_textGives_53 : decode cX6_textGives 53 = .ok (.iconst 2, 1) := by decide +kernel
theorem dX6_textGives_54 : decode cX6_textGives 54 = .ok (.iload 4, 2) := by decide +kernel
theorem dX6_textGives_56 : decode cX6_textGives 56 = .ok (.iastore, 1) := by decide +kernel
theorem dX6_textGives_57 : decode cX6_textGives 57 = .ok (.aload_n 0, 1) := by decide +kernel
theorem dX6_textGives_58 : decode cX6_textGives 58 = .ok (.sipush 192, 3) := by decide +kernel
theorem dX6_textGives_61 : decode cX6_textGives 61 = .ok (.bipush 50, 2) := by decide +kernel
theorem dX6_textGives_63 : decode cX6_textGives 63 = .ok (.iload_n 1, 1) := by decide +kernel
theorem dX6_textGives_64 : decode cX6_textGives 64 = .ok (.imul, 1) := by decide +kernel
theorem dX6_textGives_65 : decode cX6_textGives 65 = .ok (.iadd, 1) := by decide +kernel
theorem dX6_textGives_66 : decode cX6_textGives 66 = .ok (.aload_n 0, 1) := by decide +kernel
theorem dX6_textGives_67 : decode cX6_textGives 67 = .ok (.getfield 7, 3) := by decide +kernel
theorem dX6_textGives_70 : decode cX6_textGives 70 = .ok (.sipush 170, 3) := by decide +kernel
theorem dX6_textGives_73 : decode cX6_textGives 73 = .ok (.iload_n 1, 1) := by decide +kernel
theorem dX6_textGives_74 : decode cX6_textGives 74 = .ok (.iadd, 1) := by decide +kernel
theorem dX6_textGives_75 : decode cX6_textGives 75 = .ok (.iaload, 1) := by decide +kernel
theorem dX6_textGives_76 : decode cX6_textGives 76 = .ok (.iload_n 1, 1) := by decide +kernel
theorem dX6_textGives_77 : decode cX6_textGives 77 = .ok (.invokevirtual 124, 3) := by decide +kernel
theorem dX6_textGives_80 : decode cX6_textGives 80 = .ok (.istore 5, 2) := by decide +kernel
theorem dX6_textGives_82 : decode cX6_textGives 82 = .ok (.iload_n 1, 1) := by decide +kernel
theorem dX6_textGives_83 : decode cX6_textGives 83 = .ok (.ifCond .ne 15, 3) := by decide +kernel
theorem dX6_textGives_86 : decode cX6_textGives 86 = .ok (.iload 5, 2) := by decide +kernel
theorem dX6_textGives_88 : decode cX6_textGives 88 = .ok (.iconst 0, 1) := by decide +kernel
theorem dX6_textGives_89 : decode cX6_textGives 89 = .ok (.sipush 999, 3) := by decide +kernel
theorem dX6_textGives_92 : decode cX6_textGives 92 = .ok (.invokestatic 128, 3) := by decide +kernel
theorem dX6_textGives_95 : decode cX6_textGives 95 = .ok (.goto 14, 3) := by decide +kernel
theorem dX6_textGives_98 : decode cX6_textGives 98 = .ok (.iload 5, 2) := by decide +kernel
theorem dX6_textGives_100 : decode cX6_textGives 100 = .ok (.sipush (-999), 3) := by decide +kernel
theorem dX6_textGives_103 : decode cX6_textGives 103 = .ok (.sipush 999, 3) := by decide +kernel
theorem dX6_textGives_106 : decode cX6_textGives 106 = .ok (.invokestatic 128, 3) := by decide +kernel
theorem dX6_textGives_109 : decode cX6_textGives 109 = .ok (.ireturn, 1) := by decide +kernel
theorem w_textGives {l : Launch} {D : va_G} {cI : ClassId} {ad : Nat → Nat} (hI : kInj 15 ad) {st st' : MSt} {N : Nat} {x1 : Int32} {x2 : Int32} {x3 : Int32} {x4 : Int32} {r0 : Int32} (h : M_textGives  N st x1 x2 x3 x4 = some (r0, st')) : mV l yX6_textGives cX6_textGives 6 (some .int) 55 D cI ad st [.int x1, .int x2, .int x3, .int x4] (some (.int r0)) st' := by
  refine mm_ofV hI (by decide) rfl (Nat.le_of_ble_eq_true rfl) (fun p e s m below meth c R args ls C hr hlk hP hS hl hcs => ?_)
  have hx := C.1
  have hb := C.2.1
  have hown := C.2.2.2.1
  have hl : lv_has ls 6 [(0, .ref (ad 0)), (1, .int x1), (2, .int x2), (3, .int x3), (4, .int x4)] := hl
  have hP : mW D cI ad st s.heap := hP
  rw [M_textGives] at h
  refine lv_iload_n hx hb dX6_textGives_0 rfl (lv_at hl 1 rfl) ?_
  refine lv_if_ne (tgt := 9) hx hb dX6_textGives_1 rfl (fun c1 => ?_) (fun c1 => ?_)
  · have h := if_some_f h c1
    refine lv_bipush (v := 10) hx hb dX6_textGives_9 (by decide) ?_
    refine lv_iload hx hb dX6_textGives_11 (lv_at hl 4 rfl) ?_
    refine lv_imul hx hb dX6_textGives_13 ?_
    refine lv_iconst (v := 5) hx hb dX6_textGives_14 (by decide) ?_
    refine lv_iload_n hx hb dX6_textGives_15 rfl (lv_at hl 3 rfl) ?_
    refine lv_imul hx hb dX6_textGives_16 ?_
    refine lv_isub hx hb dX6_textGives_17 ?_
    refine lv_iload_n hx hb dX6_textGives_18 rfl (lv_at hl 2 rfl) ?_
    refine lv_isub hx hb dX6_textGives_19 ?_
    refine lv_istore (lv' := [(5, .int (((10 * x4) - (5 * x3)) - x2)), (0, .ref (ad 0)), (1, .int x1), (2, .int x2), (3, .int x3), (4, .int x4)]) hx hb dX6_textGives_20 hl (by decide) rfl (fun ls hl => ?_)
    refine lv_aload_n hx hb dX6_textGives_22 rfl (lv_at hl 1 rfl) ?_
    refine g_d C hP dX6_textGives_23 ?_
    refine lv_sipush (v := 170) hx hb dX6_textGives_26 (by decide) ?_
    refine lv_iload_n hx hb dX6_textGives_29 rfl (lv_at hl 2 rfl) ?_
    refine lv_iadd hx hb dX6_textGives_30 ?_
    obtain ⟨v2, hv2, h⟩ := bd1_some h
    refine mm_ld C hP 1 (by decide) rfl hv2 dX6_textGives_31 ?_
    refine lv_if_le (tgt := 82) hx hb dX6_textGives_32 rfl (fun c3 => ?_) (fun c3 => ?_)
    · have h := if_some_t h c3
      refine lv_iload_n hx hb dX6_textGives_82 rfl (lv_at hl 2 rfl) ?_
      refine lv_if_ne (tgt := 98) hx hb dX6_textGives_83 rfl (fun c4 => ?_) (fun c4 => ?_)
      · have h := if_some_f h c4
        refine lv_iload hx hb dX6_textGives_98 (lv_at hl 0 rfl) ?_
        refine lv_sipush (v := (-999)) hx hb dX6_textGives_100 (by decide) ?_
        refine lv_sipush (v := 999) hx hb dX6_textGives_103 (by decide) ?_
        obtain ⟨v5, hv5, h⟩ := bd1_some h
        refine k_held hx hb C.2.2.1 hown C.2.2.2.2.1 C.2.2.2.2.2.2.2 hv5 (Nat.le_of_ble_eq_true rfl) hl.1 (Nat.le_of_ble_eq_true rfl) hcs dX6_textGives_106 ?_
        exact mm_viret hx hb hr hlk h hP hS dX6_textGives_109
      · have h := if_some_t h c4
        refine lv_iload hx hb dX6_textGives_86 (lv_at hl 0 rfl) ?_
        refine lv_iconst (v := 0) hx hb dX6_textGives_88 (by decide) ?_
        refine lv_sipush (v := 999) hx hb dX6_textGives_89 (by decide) ?_
        obtain ⟨v6, hv6, h⟩ := bd1_some h
        refine k_held hx hb C.2.2.1 hown C.2.2.2.2.1 C.2.2.2.2.2.2.2 hv6 (Nat.le_of_ble_eq_true rfl) hl.1 (Nat.le_of_ble_eq_true rfl) hcs dX6_textGives_92 ?_
        refine lv_goto (tgt := 109) hx hb dX6_textGives_95 rfl ?_
        exact mm_viret hx hb hr hlk h hP hS dX6_textGives_109
    · have h := if_some_f h c3
      refine lv_aload_n hx hb dX6_textGives_35 rfl (lv_at hl 1 rfl) ?_
      refine g_names C hP dX6_textGives_36 ?_
      refine lv_iconst (v := 0) hx hb dX6_textGives_39 (by decide) ?_
      refine lv_iload_n hx hb dX6_textGives_40 rfl (lv_at hl 3 rfl) ?_
      obtain ⟨b7, hb7, h⟩ := bd1_some h
      refine mm_st C hP hS 5 (by decide) rfl hb7 dX6_textGives_41 (fun H locs hP hS => ?_)
      refine lv_aload_n hx hb dX6_textGives_42 rfl (lv_at hl 1 rfl) ?_
      refine g_names C hP dX6_textGives_43 ?_
      refine lv_iconst (v := 1) hx hb dX6_textGives_46 (by decide) ?_
      refine lv_iload_n hx hb dX6_textGives_47 rfl (lv_at hl 4 rfl) ?_
      obtain ⟨b8, hb8, h⟩ := bd1_some h
      refine mm_st C hP hS 5 (by decide) rfl hb8 dX6_textGives_48 (fun H locs hP hS => ?_)
      refine lv_aload_n hx hb dX6_textGives_49 rfl (lv_at hl 1 rfl) ?_
      refine g_names C hP dX6_textGives_50 ?_
      refine lv_iconst (v := 2) hx hb dX6_textGives_53 (by decide) ?_
      refine lv_iload hx hb dX6_textGives_54 (lv_at hl 5 rfl) ?_
      obtain ⟨b9, hb9, h⟩ := bd1_some h
      refine mm_st C hP hS 5 (by decide) rfl hb9 dX6_textGives_56 (fun H locs hP hS => ?_)
      refine lv_aload_n hx hb dX6_textGives_57 rfl (lv_at hl 1 rfl) ?_
      refine lv_sipush (v := 192) hx hb dX6_textGives_58 (by decide) ?_
      refine lv_bipush (v := 50) hx hb dX6_textGives_61 (by decide) ?_
      refine lv_iload_n hx hb dX6_textGives_63 rfl (lv_at hl 2 rfl) ?_
      refine lv_imul hx hb dX6_textGives_64 ?_
      refine lv_iadd hx hb dX6_textGives_65 ?_
      refine lv_aload_n hx hb dX6_textGives_66 rfl (lv_at hl 1 rfl) ?_
      refine g_d C hP dX6_textGives_67 ?_
      refine lv_sipush (v := 170) hx hb dX6_textGives_70 (by decide) ?_
      refine lv_iload_n hx hb dX6_textGives_73 rfl (lv_at hl 2 rfl) ?_
      refine lv_iadd hx hb dX6_textGives_74 ?_
      obtain ⟨v10, hv10, h⟩ := bd1_some h
      refine mm_ld C hP 1 (by decide) rfl hv10 dX6_textGives_75 ?_
      refine lv_iload_n hx hb dX6_textGives_76 rfl (lv_at hl 2 rfl) ?_
      obtain ⟨v11, st12, hv11, h⟩ := bd2_some h
      refine k_worked C hP hS hv11 (Nat.le_of_ble_eq_true rfl) hl.1 (Nat.le_of_ble_eq_true rfl) hcs dX6_textGives_77 (fun H locs hP hS => ?_)
      refine lv_istore (lv' := [(5, .int v11), (0, .ref (ad 0)), (1, .int x1), (2, .int x2), (3, .int x3), (4, .int x4)]) hx hb dX6_textGives_80 hl (by decide) rfl (fun ls hl => ?_)
      refine lv_iload_n hx hb dX6_textGives_82 rfl (lv_at hl 2 rfl) ?_
      refine lv_if_ne (tgt := 98) hx hb dX6_textGives_83 rfl (fun c13 => ?_) (fun c13 => ?_)
      · have h := if_some_f h c13
        refine lv_iload hx hb dX6_textGives_98 (lv_at hl 0 rfl) ?_
        refine lv_sipush (v := (-999)) hx hb dX6_textGives_100 (by decide) ?_
        refine lv_sipush (v := 999) hx hb dX6_textGives_103 (by decide) ?_
        obtain ⟨v14, hv14, h⟩ := bd1_some h
        refine k_held hx hb C.2.2.1 hown C.2.2.2.2.1 C.2.2.2.2.2.2.2 hv14 (Nat.le_of_ble_eq_true rfl) hl.1 (Nat.le_of_ble_eq_true rfl) hcs dX6_textGives_106 ?_
        exact mm_viret hx hb hr hlk h hP hS dX6_textGives_109
      · have h := if_some_t h c13
        refine lv_iload hx hb dX6_textGives_86 (lv_at hl 0 rfl) ?_
        refine lv_iconst (v := 0) hx hb dX6_textGives_88 (by decide) ?_
        refine lv_sipush (v := 999) hx hb dX6_textGives_89 (by decide) ?_
        obtain ⟨v15, hv15, h⟩ := bd1_some h
        refine k_held hx hb C.2.2.1 hown C.2.2.2.2.1 C.2.2.2.2.2.2.2 hv15 (Nat.le_of_ble_eq_true rfl) hl.1 (Nat.le_of_ble_eq_true rfl) hcs dX6_textGives_92 ?_
        refine lv_goto (tgt := 109) hx hb dX6_textGives_95 rfl ?_
        exact mm_viret hx hb hr hlk h hP hS dX6_textGives_109
  · have h := if_some_t h c1
    refine lv_bipush (v := 10) hx hb dX6_textGives_4 (by decide) ?_
    refine lv_goto (tgt := 20) hx hb dX6_textGives_6 rfl ?_
    refine lv_istore (lv' := [(5, .int 10), (0, .ref (ad 0)), (1, .int x1), (2, .int x2), (3, .int x3), (4, .int x4)]) hx hb dX6_textGives_20 hl (by decide) rfl (fun ls hl => ?_)
    refine lv_aload_n hx hb dX6_textGives_22 rfl (lv_at hl 1 rfl) ?_
    refine g_d C hP dX6_textGives_23 ?_
    refine lv_sipush (v := 170) hx hb dX6_textGives_26 (by decide) ?_
    refine lv_iload_n hx hb dX6_textGives_29 rfl (lv_at hl 2 rfl) ?_
    refine lv_iadd hx hb dX6_textGives_30 ?_
    obtain ⟨v16, hv16, h⟩ := bd1_some h
    refine mm_ld C hP 1 (by decide) rfl hv16 dX6_textGives_31 ?_
    refine lv_if_le (tgt := 82) hx hb dX6_textGives_32 rfl (fun c17 => ?_) (fun c17 => ?_)
    · have h := if_some_t h c17
      refine lv_iload_n hx hb dX6_textGives_82 rfl (lv_at hl 2 rfl) ?_
      refine lv_if_ne (tgt := 98) hx hb dX6_textGives_83 rfl (fun c18 => ?_) (fun c18 => ?_)
      · have h := if_some_f h c18
        refine lv_iload hx hb dX6_textGives_98 (lv_at hl 0 rfl) ?_
        refine lv_sipush (v := (-999)) hx hb dX6_textGives_100 (by decide) ?_
        refine lv_sipush (v := 999) hx hb dX6_textGives_103 (by decide) ?_
        obtain ⟨v19, hv19, h⟩ := bd1_some h
        refine k_held hx hb C.2.2.1 hown C.2.2.2.2.1 C.2.2.2.2.2.2.2 hv19 (Nat.le_of_ble_eq_true rfl) hl.1 (Nat.le_of_ble_eq_true rfl) hcs dX6_textGives_106 ?_
        exact mm_viret hx hb hr hlk h hP hS dX6_textGives_109
      · have h := if_some_t h c18
        refine lv_iload hx hb dX6_textGives_86 (lv_at hl 0 rfl) ?_
        refine lv_iconst (v := 0) hx hb dX6_textGives_88 (by decide) ?_
        refine lv_sipush (v := 999) hx hb dX6_textGives_89 (by decide) ?_
        obtain ⟨v20, hv20, h⟩ := bd1_some h
        refine k_held hx hb C.2.2.1 hown C.2.2.2.2.1 C.2.2.2.2.2.2.2 hv20 (Nat.le_of_ble_eq_true rfl) hl.1 (Nat.le_of_ble_eq_true rfl) hcs dX6_textGives_92 ?_
        refine lv_goto (tgt := 109) hx hb dX6_textGives_95 rfl ?_
        exact mm_viret hx hb hr hlk h hP hS dX6_textGives_109
    · have h := if_some_f h c17
      refine lv_aload_n hx hb dX6_textGives_35 rfl (lv_at hl 1 rfl) ?_
      refine g_names C hP dX6_textGives_36 ?_
      refine lv_iconst (v := 0) hx hb dX6_textGives_39 (by decide) ?_
      refine lv_iload_n hx hb dX6_textGives_40 rfl (lv_at hl 3 rfl) ?_
      obtain ⟨b21, hb21, h⟩ := bd1_some h
      refine mm_st C hP hS 5 (by decide) rfl hb21 dX6_textGives_41 (fun H locs hP hS => ?_)
      refine lv_aload_n hx hb dX6_textGives_42 rfl (lv_at hl 1 rfl) ?_
      refine g_names C hP dX6_textGives_43 ?_
      refine lv_iconst (v := 1) hx hb dX6_textGives_46 (by decide) ?_
      refine lv_iload_n hx hb dX6_textGives_47 rfl (lv_at hl 4 rfl) ?_
      obtain ⟨b22, hb22, h⟩ := bd1_some h
      refine mm_st C hP hS 5 (by decide) rfl hb22 dX6_textGives_48 (fun H locs hP hS => ?_)
      refine lv_aload_n hx hb dX6_textGives_49 rfl (lv_at hl 1 rfl) ?_
      refine g_names C hP dX6_textGives_50 ?_
      refine lv_iconst (v := 2) hx hb dX6_textGives_53 (by decide) ?_
      refine lv_iload hx hb dX6_textGives_54 (lv_at hl 5 rfl) ?_
      obtain ⟨b23, hb23, h⟩ := bd1_some h
      refine mm_st C hP hS 5 (by decide) rfl hb23 dX6_textGives_56 (fun H locs hP hS => ?_)
      refine lv_aload_n hx hb dX6_textGives_57 rfl (lv_at hl 1 rfl) ?_
      refine lv_sipush (v := 192) hx hb dX6_textGives_58 (by decide) ?_
      refine lv_bipush (v := 50) hx hb dX6_textGives_61 (by decide) ?_
      refine lv_iload_n hx hb dX6_textGives_63 rfl (lv_at hl 2 rfl) ?_
      refine lv_imul hx hb dX6_textGives_64 ?_
      refine lv_iadd hx hb dX6_textGives_65 ?_
      refine lv_aload_n hx hb dX6_textGives_66 rfl (lv_at hl 1 rfl) ?_
      refine g_d C hP dX6_textGives_67 ?_
      refine lv_sipush (v := 170) hx hb dX6_textGives_70 (by decide) ?_
      refine lv_iload_n hx hb dX6_textGives_73 rfl (lv_at hl 2 rfl) ?_
      refine lv_iadd hx hb dX6_textGives_74 ?_
      obtain ⟨v24, hv24, h⟩ := bd1_some h
      refine mm_ld C hP 1 (by decide) rfl hv24 dX6_textGives_75 ?_
      refine lv_iload_n hx hb dX6_textGives_76 rfl (lv_at hl 2 rfl) ?_
      obtain ⟨v25, st26, hv25, h⟩ := bd2_some h
      refine k_worked C hP hS hv25 (Nat.le_of_ble_eq_true rfl) hl.1 (Nat.le_of_ble_eq_true rfl) hcs dX6_textGives_77 (fun H locs hP hS => ?_)
      refine lv_istore (lv' := [(5, .int v25), (0, .ref (ad 0)), (1, .int x1), (2, .int x2), (3, .int x3), (4, .int x4)]) hx hb dX6_textGives_80 hl (by decide) rfl (fun ls hl => ?_)
      refine lv_iload_n hx hb dX6_textGives_82 rfl (lv_at hl 2 rfl) ?_
      refine lv_if_ne (tgt := 98) hx hb dX6_textGives_83 rfl (fun c27 => ?_) (fun c27 => ?_)
      · have h := if_some_f h c27
        refine lv_iload hx hb dX6_textGives_98 (lv_at hl 0 rfl) ?_
        refine lv_sipush (v := (-999)) hx hb dX6_textGives_100 (by decide) ?_
        refine lv_sipush (v := 999) hx hb dX6_textGives_103 (by decide) ?_
        obtain ⟨v28, hv28, h⟩ := bd1_some h
        refine k_held hx hb C.2.2.1 hown C.2.2.2.2.1 C.2.2.2.2.2.2.2 hv28 (Nat.le_of_ble_eq_true rfl) hl.1 (Nat.le_of_ble_eq_true rfl) hcs dX6_textGives_106 ?_
        exact mm_viret hx hb hr hlk h hP hS dX6_textGives_109
      · have h := if_some_t h c27
        refine lv_iload hx hb dX6_textGives_86 (lv_at hl 0 rfl) ?_
        refine lv_iconst (v := 0) hx hb dX6_textGives_88 (by decide) ?_
        refine lv_sipush (v := 999) hx hb dX6_textGives_89 (by decide) ?_
        obtain ⟨v29, hv29, h⟩ := bd1_some h
        refine k_held hx hb C.2.2.1 hown C.2.2.2.2.1 C.2.2.2.2.2.2.2 hv29 (Nat.le_of_ble_eq_true rfl) hl.1 (Nat.le_of_ble_eq_true rfl) hcs dX6_textGives_92 ?_
        refine lv_goto (tgt := 109) hx hb dX6_textGives_95 rfl ?_
        exact mm_viret hx hb hr hlk h hP hS dX6_textGives_109
theorem q1665 : (Jvm.Cond.methodLink "ChapterLoanModel" (131 : Nat) ({ cls := "ChapterLoanModel", name := "textGives", desc := "(IIII)I" } : Jvm.MethodName)) ∈ lw_all := lw_g (lw_at lw_m7 141 rfl) rfl
theorem q1668 : (Jvm.Cond.code ({ cls := "ChapterLoanModel", name := "textGives", desc := "(IIII)I" } : Jvm.MethodName) prog_30_method_28_code (6 : Nat) (Option.some Jvm.ClassFile.FieldType.int)) ∈ lw_all := lw_g (lw_at lw_m7 144 rfl) rfl
theorem q1667 : (Jvm.Cond.instanceMethod ({ cls := "ChapterLoanModel", name := "textGives", desc := "(IIII)I" } : Jvm.MethodName)) ∈ lw_all := lw_g (lw_at lw_m7 143 rfl) rfl
theorem k_textGives {N : Nat} {a0 : Int32} {a1 : Int32} {a2 : Int32} {a3 : Int32} {v : Int32} {st' : MSt} (C : mC p R d s m args c cc nL D cI ad) (hP : mW D cI ad st H) (hS : va_S (kF 15 ad) H0 H locs) (h : M_textGives N st a0 a1 a2 a3 = some (v, st')) (hd : 55 + 1 ≤ d) (hsz : ls.size = nL) (hW : (rest.map fun v => v.category).sum ≤ 8) (hcs : cells ≤ R.cells ∧ slots ≤ R.slots) (hdg : decode cc pc = .ok (.invokevirtual 131, 3)) (kk : ∀ (H1 : Heap) (locs1 : List Loc), mW D cI ad st' H1 → va_S (kF 15 ad) H0 H1 locs1 → W p l e R s m args below meth c H1 locs1 cells slots Q (F0 m (pc + 3) ls (.int v :: rest))) : W p l e R s m args below meth c H locs cells slots Q (F0 m pc ls (.int a3 :: .int a2 :: .int a1 :: .int a0 :: .ref (ad 0) :: rest)) :=
  mm_cV (As := [.int a0, .int a1, .int a2, .int a3]) C hP hS (w_textGives C.2.2.2.2.2.2.1 h) (cwV 4 C.2.2.2.2.1 (lw_V q1665 q1667 qs42 q94 q1668) rfl rfl rfl (by decide +kernel) (mr_ C.2.2.2.2.2.2.2 hd (by decide))) rfl hsz rfl hW hdg hcs kk
abbrev cX6_law : ByteArray := prog_30_method_29_code
def yX6_law : MethodName := ⟨RX6, "law", "(IIII)I"⟩
theorem dX6_law_0 : decode cX6_law 0 = .ok (.iload_n 1, 1) := by decide +kernel
theorem dX6_law_1 : decode cX6_law 1 = .ok (.i2l, 1) := by decide +kernel
theorem dX6_law_2 : decode cX6_law 2 = .ok (.lconst 0, 1) := by decide +kernel
theorem dX6_law_3 : decode cX6_law 3 = .ok (.lconst 1, 1) := by decide +kernel
theorem dX6_law_4 : decode cX6_law 4 = .ok (.invokestatic 57, 3) := by decide +kernel
theorem dX6_law_7 : decode cX6_law 7 = .ok (.ifCond .eq 15, 3) := by decide +kernel
theorem dX6_law_10 : decode cX6_law 10 = .ok (.aload_n 0, 1) := by decide +kernel
theorem dX6_law_11 : decode cX6_law 11 = .ok (.iload_n 1, 1) := by decide +kernel
theorem dX6_law_12 : decode cX6_law 12 = .ok (.iload_n 2, 1) := by decide +kernel
theorem dX6_law_13 : decode cX6_law 13 = .ok (.iload_n 3, 1) := by decide +kernel
theorem dX6_law_14 : decode cX6_law 14 = .ok (.iload 4, 2) := by decide +kernel
theorem dX6_law_16 : decode cX6_law 16 = .ok (.invokevirtual 131, 3) := by decide +kernel
theorem dX6_law_19 : decode cX6_law 19 = .ok (.goto 8, 3) := by decide +kernel
theorem dX6_law_22 : decode cX6_law 22 = .ok (.aload_n 0, 1) := by decide +kernel
theorem dX6_law_23 : decode cX6_law 23 = .ok (.iconst 1, 1) := by decide +kernel
theorem dX6_law_24 : decode cX6_law 24 = .ok (.invokevirtual 119, 3) := by decide +kernel
theorem dX6_law_27 : decode cX6_law 27 = .ok (.ireturn, 1) := by decide +kernel
theorem w_law {l : Launch} {D : va_G} {cI : ClassId} {ad : Nat → Nat} (hI : kInj 15 ad) {st st' : MSt} {N : Nat} {x1 : Int32} {x2 : Int32} {x3 : Int32} {x4 : Int32} {r0 : Int32} (h : M_law  N st x1 x2 x3 x4 = some (r0, st')) : mV l yX6_law cX6_law 5 (some .int) 56 D cI ad st [.int x1, .int x2, .int x3, .int x4] (some (.int r0)) st' := by
  refine mm_ofV hI (by decide) rfl (Nat.le_of_ble_eq_true rfl) (fun p e s m below meth c R args ls C hr hlk hP hS hl hcs => ?_)
  have hx := C.1
  have hb := C.2.1
  have hown := C.2.2.2.1
  have hl : lv_has ls 5 [(0, .ref (ad 0)), (1, .int x1), (2, .int x2), (3, .int x3), (4, .int x4)] := hl
  have hP : mW D cI ad st s.heap := hP
  rw [M_law] at h
  refine lv_iload_n hx hb dX6_law_0 rfl (lv_at hl 1 rfl) ?_
  refine lv_i2l (v := x1.toInt64) hx hb dX6_law_1 rfl ?_
  refine lv_lconst (v := 0) hx hb dX6_law_2 (by decide) ?_
  refine lv_lconst (v := 1) hx hb dX6_law_3 (by decide) ?_
  obtain ⟨v1, hv1, h⟩ := bd1_some h
  refine k_in hx hb C.2.2.1 hown C.2.2.2.2.1 C.2.2.2.2.2.2.2 hv1 (Nat.le_of_ble_eq_true rfl) hl.1 (Nat.le_of_ble_eq_true rfl) hcs dX6_law_4 ?_
  refine lv_if_eq (tgt := 22) hx hb dX6_law_7 rfl (fun c2 => ?_) (fun c2 => ?_)
  · have h := if_some_t h c2
    refine lv_aload_n hx hb dX6_law_22 rfl (lv_at hl 0 rfl) ?_
    refine lv_iconst (v := 1) hx hb dX6_law_23 (by decide) ?_
    obtain ⟨v3, st4, hv3, h⟩ := bd2_some h
    refine k_finds C hP hS hv3 (Nat.le_of_ble_eq_true rfl) hl.1 (Nat.le_of_ble_eq_true rfl) hcs dX6_law_24 (fun H locs hP hS => ?_)
    exact mm_viret hx hb hr hlk h hP hS dX6_law_27
  · have h := if_some_f h c2
    refine lv_aload_n hx hb dX6_law_10 rfl (lv_at hl 0 rfl) ?_
    refine lv_iload_n hx hb dX6_law_11 rfl (lv_at hl 1 rfl) ?_
    refine lv_iload_n hx hb dX6_law_12 rfl (lv_at hl 2 rfl) ?_
    refine lv_iload_n hx hb dX6_law_13 rfl (lv_at hl 3 rfl) ?_
    refine lv_iload hx hb dX6_law_14 (lv_at hl 4 rfl) ?_
    obtain ⟨v5, st6, hv5, h⟩ := bd2_some h
    refine k_textGives C hP hS hv5 (Nat.le_of_ble_eq_true rfl) hl.1 (Nat.le_of_ble_eq_true rfl) hcs dX6_law_16 (fun H locs hP hS => ?_)
    refine lv_goto (tgt := 27) hx hb dX6_law_19 rfl ?_
    exact mm_viret hx hb hr hlk h hP hS dX6_law_27
abbrev cX6_toldOf : ByteArray := prog_30_method_46_code
def yX6_toldOf : MethodName := ⟨RX6, "toldOf", "(II)I"⟩
theorem dX6_toldOf_0 : decode cX6_toldOf 0 = .ok (.iload_n 2, 1) := by decide +kernel
theorem dX6_toldOf_1 : decode cX6_toldOf 1 = .ok (.tableswitch 110 0 8 #[51, 58, 65, 72, 79, 85, 92, 98, 104], 51) := by decide +kernel
theorem dX6_toldOf_52 : decode cX6_toldOf 52 = .ok (.aload_n 0, 1) := by decide +kernel
theorem dX6_toldOf_53 : decode cX6_toldOf 53 = .ok (.iload_n 1, 1) := by decide +kernel
theorem dX6_toldOf_54 : decode cX6_toldOf 54 = .ok (.iconst 0, 1) := by decide +kernel
theorem dX6_toldOf_55 : decode cX6_toldOf 55 = .ok (.invokevirtual 150, 3) := by decide +kernel
theorem dX6_toldOf_58 : decode cX6_toldOf 58 = .ok (.ireturn, 1) := by decide +kernel
theorem dX6_toldOf_59 : decode cX6_toldOf 59 = .ok (.aload_n 0, 1) := by decide +kernel
theorem dX6_toldOf_60 : decode cX6_toldOf 60 = .ok (.iload_n 1, 1) := by decide +kernel
theorem dX6_toldOf_61 : decode cX6_toldOf 61 = .ok (.iconst 1, 1) := by decide +kernel
theorem dX6_toldOf_62 : decode cX6_toldOf 62 = .ok (.invokevirtual 150, 3) := by decide +kernel
theorem dX6_toldOf_65 : decode cX6_toldOf 65 = .ok (.ireturn, 1) := by decide +kernel
theorem dX6_toldOf_66 : decode cX6_toldOf 66 = .ok (.aload_n 0, 1) := by decide +kernel
theorem dX6_toldOf_67 : decode cX6_toldOf 67 = .ok (.iload_n 1, 1) := by decide +kernel
theorem dX6_toldOf_68 : decode cX6_toldOf 68 = .ok (.iconst 2, 1) := by decide +kernel
theorem dX6_toldOf_69 : decode cX6_toldOf 69 = .ok (.invokevirtual 150, 3) := by decide +kernel
theorem dX6_toldOf_72 : decode cX6_toldOf 72 = .ok (.ireturn, 1) := by decide +kernel
theorem dX6_toldOf_73 : decode cX6_toldOf 73 = .ok (.aload_n 0, 1) := by decide +kernel
theorem dX6_toldOf_74 : decode cX6_toldOf 74 = .ok (.iload_n 1, 1) := by decide +kernel
theorem dX6_toldOf_75 : decode cX6_toldOf 75 = .ok (.iconst 4, 1) := by decide +kernel
theorem dX6_toldOf_76 : decode cX6_toldOf 76 = .ok (.invokevirtual 150, 3) := by decide +kernel
theorem dX6_toldOf_79 : decode cX6_toldOf 79 = .ok (.ireturn, 1) := by decide +kernel
theorem dX6_toldOf_80 : decode cX6_toldOf 80 = .ok (.aload_n 0, 1) := by decide +kernel
theorem dX6_toldOf_81 : decode cX6_toldOf 81 = .ok (.iload_n 1, 1) := by decide +kernel
theorem dX6_toldOf_82 : decode cX6_toldOf 82 = .ok (.invokevirtual 153, 3) := by decide +kernel
theorem dX6_toldOf_85 : decode cX6_toldOf 85 = .ok (.ireturn, 1) := by decide +kernel
theorem dX6_toldOf_86 : decode cX6_toldOf 86 = .ok (.aload_n 0, 1) := by decide +kernel
theorem dX6_toldOf_87 : decode cX6_toldOf 87 = .ok (.iload_n 1, 1) := by decide +kernel
theorem dX6_toldOf_88 : decode cX6_toldOf 88 = .ok (.iconst 3, 1) := by decide +kernel
theorem dX6_toldOf_89 : decode cX6_toldOf 89 = .ok (.invokevirtual 150, 3) := by decide +kernel
theorem dX6_toldOf_92 : decode cX6_toldOf 92 = .ok (.ireturn, 1) := by decide +kernel
theorem dX6_toldOf_93 : decode cX6_toldOf 93 = .ok (.aload_n 0, 1) := by decide +kernel
theorem dX6_toldOf_94 : decode cX6_toldOf 94 = .ok (.iload_n 1, 1) := by decide +kernel
theorem dX6_toldOf_95 : decode cX6_toldOf 95 = .ok (.invokevirtual 188, 3) := by decide +kernel
theorem dX6_toldOf_98 : decode cX6_toldOf 98 = .ok (.ireturn, 1) := by decide +kernel
theorem dX6_toldOf_99 : decode cX6_toldOf 99 = .ok (.aload_n 0, 1) := by decide +kernel
theorem dX6_toldOf_100 : decode cX6_toldOf 100 = .ok (.iload_n 1, 1) := by decide +kernel
theorem dX6_toldOf_101 : decode cX6_toldOf 101 = .ok (.invokevirtual 191, 3) := by decide +kernel
theorem dX6_toldOf_104 : decode cX6_toldOf 104 = .ok (.ireturn, 1) := by decide +kernel
theorem dX6_toldOf_105 : decode cX6_toldOf 105 = .ok (.aload_n 0, 1) := by decide +kernel
theorem dX6_toldOf_106 : decode cX6_toldOf 106 = .ok (.iload_n 1, 1) := by decide +kernel
theorem dX6_toldOf_107 : decode cX6_toldOf 107 = .ok (.invokevirtual 194, 3) := by decide +kernel
theorem dX6_toldOf_110 : decode cX6_toldOf 110 = .ok (.ireturn, 1) := by decide +kernel
theorem dX6_toldOf_111 : decode cX6_toldOf 111 = .ok (.aload_n 0, 1) := by decide +kernel
theorem dX6_toldOf_112 : decode cX6_toldOf 112 = .ok (.iconst 1, 1) := by decide +kernel
theorem dX6_toldOf_113 : decode cX6_toldOf 113 = .ok (.aload_n 0, 1) := by decide +kernel
theorem dX6_toldOf_114 : decode cX6_toldOf 114 = .ok (.iload_n 1, 1) := by decide +kernel
theorem dX6_toldOf_115 : decode cX6_toldOf 115 = .ok (.iconst 2, 1) := by decide +kernel
theorem dX6_toldOf_116 : decode cX6_toldOf 116 = .ok (.invokevirtual 150, 3) := by decide +kernel
theorem dX6_toldOf_119 : decode cX6_toldOf 119 = .ok (.aload_n 0, 1) := by decide +kernel
theorem dX6_toldOf_120 : decode cX6_toldOf 120 = .ok (.iload_n 1, 1) := by decide +kernel
theorem dX6_toldOf_121 : decode cX6_toldOf 121 = .ok (.invokevirtual 191, 3) := by decide +kernel
theorem dX6_toldOf_124 : decode cX6_toldOf 124 = .ok (.aload_n 0, 1) := by decide +kernel
theorem dX6_toldOf_125 : decode cX6_toldOf 125 = .ok (.iload_n 1, 1) := by decide +kernel
theorem dX6_toldOf_126 : decode cX6_toldOf 126 = .ok (.iconst 4, 1) := by decide +kernel
theorem dX6_toldOf_127 : decode cX6_toldOf 127 = .ok (.invokevirtual 150, 3) := by decide +kernel
theorem dX6_toldOf_130 : decode cX6_toldOf 130 = .ok (.invokevirtual 131, 3) := by decide +kernel
theorem dX6_toldOf_133 : decode cX6_toldOf 133 = .ok (.ireturn, 1) := by decide +kernel
theorem w_toldOf {l : Launch} {D : va_G} {cI : ClassId} {ad : Nat → Nat} (hI : kInj 15 ad) {st st' : MSt} {N : Nat} {x1 : Int32} {x2 : Int32} {r0 : Int32} (h : M_toldOf  N st x1 x2 = some (r0, st')) : mV l yX6_toldOf cX6_toldOf 3 (some .int) 56 D cI ad st [.int x1, .int x2] (some (.int r0)) st' := by
  refine mm_ofV hI (by decide) rfl (Nat.le_of_ble_eq_true rfl) (fun p e s m below meth c R args ls C hr hlk hP hS hl hcs => ?_)
  have hx := C.1
  have hb := C.2.1
  have hown := C.2.2.2.1
  have hl : lv_has ls 3 [(0, .ref (ad 0)), (1, .int x1), (2, .int x2)] := hl
  have hP : mW D cI ad st s.heap := hP
  rw [M_toldOf] at h
  refine lv_iload_n hx hb dX6_toldOf_0 rfl (lv_at hl 2 rfl) ?_
  by_cases c1 : x2 = 0
  · have h := if_some_t h c1
    refine lv_tableIn (tgt := 52) hx hb dX6_toldOf_1 (by rw [c1]; decide) (by rw [c1]; decide) (by rw [c1]; rfl) (by decide) ?_
    refine lv_aload_n hx hb dX6_toldOf_52 rfl (lv_at hl 0 rfl) ?_
    refine lv_iload_n hx hb dX6_toldOf_53 rfl (lv_at hl 1 rfl) ?_
    refine lv_iconst (v := 0) hx hb dX6_toldOf_54 (by decide) ?_
    obtain ⟨v2, hv2, h⟩ := bd1_some h
    refine k_of C hP hv2 (Nat.le_of_ble_eq_true rfl) hl.1 (Nat.le_of_ble_eq_true rfl) hcs dX6_toldOf_55 ?_
    exact mm_viret hx hb hr hlk h hP hS dX6_toldOf_58
  · have h := if_some_f h c1
    by_cases c3 : x2 = 1
    · have h := if_some_t h c3
      refine lv_tableIn (tgt := 59) hx hb dX6_toldOf_1 (by rw [c3]; decide) (by rw [c3]; decide) (by rw [c3]; rfl) (by decide) ?_
      refine lv_aload_n hx hb dX6_toldOf_59 rfl (lv_at hl 0 rfl) ?_
      refine lv_iload_n hx hb dX6_toldOf_60 rfl (lv_at hl 1 rfl) ?_
      refine lv_iconst (v := 1) hx hb dX6_toldOf_61 (by decide) ?_
      obtain ⟨v4, hv4, h⟩ := bd1_some h
      refine k_of C hP hv4 (Nat.le_of_ble_eq_true rfl) hl.1 (Nat.le_of_ble_eq_true rfl) hcs dX6_toldOf_62 ?_
      exact mm_viret hx hb hr hlk h hP hS dX6_toldOf_65
    · have h := if_some_f h c3
      by_cases c5 : x2 = 2
      · have h := if_some_t h c5
        refine lv_tableIn (tgt := 66) hx hb dX6_toldOf_1 (by rw [c5]; decide) (by rw [c5]; decide) (by rw [c5]; rfl) (by decide) ?_
        refine lv_aload_n hx hb dX6_toldOf_66 rfl (lv_at hl 0 rfl) ?_
        refine lv_iload_n hx hb dX6_toldOf_67 rfl (lv_at hl 1 rfl) ?_
        refine lv_iconst (v := 2) hx hb dX6_toldOf_68 (by decide) ?_
        obtain ⟨v6, hv6, h⟩ := bd1_some h
        refine k_of C hP hv6 (Nat.le_of_ble_eq_true rfl) hl.1 (Nat.le_of_ble_eq_true rfl) hcs dX6_toldOf_69 ?_
        exact mm_viret hx hb hr hlk h hP hS dX6_toldOf_72
      · have h := if_some_f h c5
        by_cases c7 : x2 = 3
        · have h := if_some_t h c7
          refine lv_tableIn (tgt := 73) hx hb dX6_toldOf_1 (by rw [c7]; decide) (by rw [c7]; decide) (by rw [c7]; rfl) (by decide) ?_
          refine lv_aload_n hx hb dX6_toldOf_73 rfl (lv_at hl 0 rfl) ?_
          refine lv_iload_n hx hb dX6_toldOf_74 rfl (lv_at hl 1 rfl) ?_
          refine lv_iconst (v := 4) hx hb dX6_toldOf_75 (by decide) ?_
          obtain ⟨v8, hv8, h⟩ := bd1_some h
          refine k_of C hP hv8 (Nat.le_of_ble_eq_true rfl) hl.1 (Nat.le_of_ble_eq_true rfl) hcs dX6_toldOf_76 ?_
          exact mm_viret hx hb hr hlk h hP hS dX6_toldOf_79
        · have h := if_some_f h c7
          by_cases c9 : x2 = 4
          · have h := if_some_t h c9
            refine lv_tableIn (tgt := 80) hx hb dX6_toldOf_1 (by rw [c9]; decide) (by rw [c9]; decide) (by rw [c9]; rfl) (by decide) ?_
            refine lv_aload_n hx hb dX6_toldOf_80 rfl (lv_at hl 0 rfl) ?_
            refine lv_iload_n hx hb dX6_toldOf_81 rfl (lv_at hl 1 rfl) ?_
            obtain ⟨v10, hv10, h⟩ := bd1_some h
            refine k_bookOf C hP hv10 (Nat.le_of_ble_eq_true rfl) hl.1 (Nat.le_of_ble_eq_true rfl) hcs dX6_toldOf_82 ?_
            exact mm_viret hx hb hr hlk h hP hS dX6_toldOf_85
          · have h := if_some_f h c9
            by_cases c11 : x2 = 5
            · have h := if_some_t h c11
              refine lv_tableIn (tgt := 86) hx hb dX6_toldOf_1 (by rw [c11]; decide) (by rw [c11]; decide) (by rw [c11]; rfl) (by decide) ?_
              refine lv_aload_n hx hb dX6_toldOf_86 rfl (lv_at hl 0 rfl) ?_
              refine lv_iload_n hx hb dX6_toldOf_87 rfl (lv_at hl 1 rfl) ?_
              refine lv_iconst (v := 3) hx hb dX6_toldOf_88 (by decide) ?_
              obtain ⟨v12, hv12, h⟩ := bd1_some h
              refine k_of C hP hv12 (Nat.le_of_ble_eq_true rfl) hl.1 (Nat.le_of_ble_eq_true rfl) hcs dX6_toldOf_89 ?_
              exact mm_viret hx hb hr hlk h hP hS dX6_toldOf_92
            · have h := if_some_f h c11
              by_cases c13 : x2 = 6
              · have h := if_some_t h c13
                refine lv_tableIn (tgt := 93) hx hb dX6_toldOf_1 (by rw [c13]; decide) (by rw [c13]; decide) (by rw [c13]; rfl) (by decide) ?_
                refine lv_aload_n hx hb dX6_toldOf_93 rfl (lv_at hl 0 rfl) ?_
                refine lv_iload_n hx hb dX6_toldOf_94 rfl (lv_at hl 1 rfl) ?_
                obtain ⟨v14, hv14, h⟩ := bd1_some h
                refine k_dueOf C hP hv14 (Nat.le_of_ble_eq_true rfl) hl.1 (Nat.le_of_ble_eq_true rfl) hcs dX6_toldOf_95 ?_
                exact mm_viret hx hb hr hlk h hP hS dX6_toldOf_98
              · have h := if_some_f h c13
                by_cases c15 : x2 = 7
                · have h := if_some_t h c15
                  refine lv_tableIn (tgt := 99) hx hb dX6_toldOf_1 (by rw [c15]; decide) (by rw [c15]; decide) (by rw [c15]; rfl) (by decide) ?_
                  refine lv_aload_n hx hb dX6_toldOf_99 rfl (lv_at hl 0 rfl) ?_
                  refine lv_iload_n hx hb dX6_toldOf_100 rfl (lv_at hl 1 rfl) ?_
                  obtain ⟨v16, hv16, h⟩ := bd1_some h
                  refine k_openOf C hP hv16 (Nat.le_of_ble_eq_true rfl) hl.1 (Nat.le_of_ble_eq_true rfl) hcs dX6_toldOf_101 ?_
                  exact mm_viret hx hb hr hlk h hP hS dX6_toldOf_104
                · have h := if_some_f h c15
                  by_cases c17 : x2 = 8
                  · have h := if_some_t h c17
                    refine lv_tableIn (tgt := 105) hx hb dX6_toldOf_1 (by rw [c17]; decide) (by rw [c17]; decide) (by rw [c17]; rfl) (by decide) ?_
                    refine lv_aload_n hx hb dX6_toldOf_105 rfl (lv_at hl 0 rfl) ?_
                    refine lv_iload_n hx hb dX6_toldOf_106 rfl (lv_at hl 1 rfl) ?_
                    obtain ⟨v18, hv18, h⟩ := bd1_some h
                    refine k_allMay C hP hv18 (Nat.le_of_ble_eq_true rfl) hl.1 (Nat.le_of_ble_eq_true rfl) hcs dX6_toldOf_107 ?_
                    exact mm_viret hx hb hr hlk h hP hS dX6_toldOf_110
                  · have h := if_some_f h c17
                    refine lv_tableOut (tgt := 111) hx hb dX6_toldOf_1 ?_ (by decide) ?_
                    · have := lv_neT c1 (show (0 : Int32).toInt = 0 by decide)
                      have := lv_neT c3 (show (1 : Int32).toInt = 1 by decide)
                      have := lv_neT c5 (show (2 : Int32).toInt = 2 by decide)
                      have := lv_neT c7 (show (3 : Int32).toInt = 3 by decide)
                      have := lv_neT c9 (show (4 : Int32).toInt = 4 by decide)
                      have := lv_neT c11 (show (5 : Int32).toInt = 5 by decide)
                      have := lv_neT c13 (show (6 : Int32).toInt = 6 by decide)
                      have := lv_neT c15 (show (7 : Int32).toInt = 7 by decide)
                      have := lv_neT c17 (show (8 : Int32).toInt = 8 by decide)
                      omega
                    · refine lv_aload_n hx hb dX6_toldOf_111 rfl (lv_at hl 0 rfl) ?_
                      refine lv_iconst (v := 1) hx hb dX6_toldOf_112 (by decide) ?_
                      refine lv_aload_n hx hb dX6_toldOf_113 rfl (lv_at hl 0 rfl) ?_
                      refine lv_iload_n hx hb dX6_toldOf_114 rfl (lv_at hl 1 rfl) ?_
                      refine lv_iconst (v := 2) hx hb dX6_toldOf_115 (by decide) ?_
                      obtain ⟨v19, hv19, h⟩ := bd1_some h
                      refine k_of C hP hv19 (Nat.le_of_ble_eq_true rfl) hl.1 (Nat.le_of_ble_eq_true rfl) hcs dX6_toldOf_116 ?_
                      refine lv_aload_n hx hb dX6_toldOf_119 rfl (lv_at hl 0 rfl) ?_
                      refine lv_iload_n hx hb dX6_toldOf_120 rfl (lv_at hl 1 rfl) ?_
                      obtain ⟨v20, hv20, h⟩ := bd1_some h
                      refine k_openOf C hP hv20 (Nat.le_of_ble_eq_true rfl) hl.1 (Nat.le_of_ble_eq_true rfl) hcs dX6_toldOf_121 ?_
                      refine lv_aload_n hx hb dX6_toldOf_124 rfl (lv_at hl 0 rfl) ?_
                      refine lv_iload_n hx hb dX6_toldOf_125 rfl (lv_at hl 1 rfl) ?_
                      refine lv_iconst (v := 4) hx hb dX6_toldOf_126 (by decide) ?_
                      obtain ⟨v21, hv21, h⟩ := bd1_some h
                      refine k_of C hP hv21 (Nat.le_of_ble_eq_true rfl) hl.1 (Nat.le_of_ble_eq_true rfl) hcs dX6_toldOf_127 ?_
                      obtain ⟨v22, st23, hv22, h⟩ := bd2_some h
                      refine k_textGives C hP hS hv22 (Nat.le_of_ble_eq_true rfl) hl.1 (Nat.le_of_ble_eq_true rfl) hcs dX6_toldOf_130 (fun H locs hP hS => ?_)
                      exact mm_viret hx hb hr hlk h hP hS dX6_toldOf_133
theorem q1733 : (Jvm.Cond.methodLink "ChapterLoanModel" (200 : Nat) ({ cls := "ChapterLoanModel", name := "toldOf", desc := "(II)I" } : Jvm.MethodName)) ∈ lw_all := lw_g (lw_at lw_m7 209 rfl) rfl
theorem q1736 : (Jvm.Cond.code ({ cls := "ChapterLoanModel", name := "toldOf", desc := "(II)I" } : Jvm.MethodName) prog_30_method_46_code (3 : Nat) (Option.some Jvm.ClassFile.FieldType.int)) ∈ lw_all := lw_g (lw_at lw_m7 212 rfl) rfl
theorem q1735 : (Jvm.Cond.instanceMethod ({ cls := "ChapterLoanModel", name := "toldOf", desc := "(II)I" } : Jvm.MethodName)) ∈ lw_all := lw_g (lw_at lw_m7 211 rfl) rfl
theorem k_toldOf {N : Nat} {a0 : Int32} {a1 : Int32} {v : Int32} {st' : MSt} (C : mC p R d s m args c cc nL D cI ad) (hP : mW D cI ad st H) (hS : va_S (kF 15 ad) H0 H locs) (h : M_toldOf N st a0 a1 = some (v, st')) (hd : 56 + 1 ≤ d) (hsz : ls.size = nL) (hW : (rest.map fun v => v.category).sum ≤ 8) (hcs : cells ≤ R.cells ∧ slots ≤ R.slots) (hdg : decode cc pc = .ok (.invokevirtual 200, 3)) (kk : ∀ (H1 : Heap) (locs1 : List Loc), mW D cI ad st' H1 → va_S (kF 15 ad) H0 H1 locs1 → W p l e R s m args below meth c H1 locs1 cells slots Q (F0 m (pc + 3) ls (.int v :: rest))) : W p l e R s m args below meth c H locs cells slots Q (F0 m pc ls (.int a1 :: .int a0 :: .ref (ad 0) :: rest)) :=
  mm_cV (As := [.int a0, .int a1]) C hP hS (w_toldOf C.2.2.2.2.2.2.1 h) (cwV 2 C.2.2.2.2.1 (lw_V q1733 q1735 qs51 q94 q1736) rfl rfl rfl (by decide +kernel) (mr_ C.2.2.2.2.2.2.2 hd (by decide))) rfl hsz rfl hW hdg hcs kk
abbrev cX6_ofDebtor : ByteArray := prog_30_method_47_code
def yX6_ofDebtor : MethodName := ⟨RX6, "ofDebtor", "(II)I"⟩
theorem dX6_ofDebtor_0 : decode cX6_ofDebtor 0 = .ok (.aload_n 0, 1) := by decide +kernel
theorem dX6_ofDebtor_1 : decode cX6_ofDebtor 1 = .ok (.iload_n 1, 1) := by decide +kernel
theorem dX6_ofDebtor_2 : decode cX6_ofDebtor 2 = .ok (.invokevirtual 197, 3) := by decide +kernel
theorem dX6_ofDebtor_5 : decode cX6_ofDebtor 5 = .ok (.ifCond .eq 24, 3) := by decide +kernel
theorem dX6_ofDebtor_8 : decode cX6_ofDebtor 8 = .ok (.iload_n 2, 1) := by decide +kernel
theorem dX6_ofDebtor_9 : decode cX6_ofDebtor 9 = .ok (.i2l, 1) := by decide +kernel
theorem dX6_ofDebtor_10 : decode cX6_ofDebtor 10 = .ok (.lconst 0, 1) := by decide +kernel
theorem dX6_ofDebtor_11 : decode cX6_ofDebtor 11 = .ok (.ldc2_w 148, 3) := by decide +kernel
theorem dX6_ofDebtor_14 : decode cX6_ofDebtor 14 = .ok (.invokestatic 57, 3) := by decide +kernel
theorem dX6_ofDebtor_17 : decode cX6_ofDebtor 17 = .ok (.ifCond .eq 12, 3) := by decide +kernel
theorem dX6_ofDebtor_20 : decode cX6_ofDebtor 20 = .ok (.aload_n 0, 1) := by decide +kernel
theorem dX6_ofDebtor_21 : decode cX6_ofDebtor 21 = .ok (.iload_n 1, 1) := by decide +kernel
theorem dX6_ofDebtor_22 : decode cX6_ofDebtor 22 = .ok (.iload_n 2, 1) := by decide +kernel
theorem dX6_ofDebtor_23 : decode cX6_ofDebtor 23 = .ok (.invokevirtual 200, 3) := by decide +kernel
theorem dX6_ofDebtor_26 : decode cX6_ofDebtor 26 = .ok (.goto 8, 3) := by decide +kernel
theorem dX6_ofDebtor_29 : decode cX6_ofDebtor 29 = .ok (.aload_n 0, 1) := by decide +kernel
theorem dX6_ofDebtor_30 : decode cX6_ofDebtor 30 = .ok (.iconst 1, 1) := by decide +kernel
theorem dX6_ofDebtor_31 : decode cX6_ofDebtor 31 = .ok (.invokevirtual 119, 3) := by decide +kernel
theorem dX6_ofDebtor_34 : decode cX6_ofDebtor 34 = .ok (.ireturn, 1) := by decide +kernel
theorem w_ofDebtor {l : Launch} {D : va_G} {cI : ClassId} {ad : Nat → Nat} (hI : kInj 15 ad) {st st' : MSt} {N : Nat} {x1 : Int32} {x2 : Int32} {r0 : Int32} (h : M_ofDebtor  N st x1 x2 = some (r0, st')) : mV l yX6_ofDebtor cX6_ofDebtor 3 (some .int) 57 D cI ad st [.int x1, .int x2] (some (.int r0)) st' := by
  refine mm_ofV hI (by decide) rfl (Nat.le_of_ble_eq_true rfl) (fun p e s m below meth c R args ls C hr hlk hP hS hl hcs => ?_)
  have hx := C.1
  have hb := C.2.1
  have hown := C.2.2.2.1
  have hl : lv_has ls 3 [(0, .ref (ad 0)), (1, .int x1), (2, .int x2)] := hl
  have hP : mW D cI ad st s.heap := hP
  rw [M_ofDebtor] at h
  refine lv_aload_n hx hb dX6_ofDebtor_0 rfl (lv_at hl 0 rfl) ?_
  refine lv_iload_n hx hb dX6_ofDebtor_1 rfl (lv_at hl 1 rfl) ?_
  obtain ⟨v1, hv1, h⟩ := bd1_some h
  refine k_isDebtor C hP hv1 (Nat.le_of_ble_eq_true rfl) hl.1 (Nat.le_of_ble_eq_true rfl) hcs dX6_ofDebtor_2 ?_
  refine lv_if_eq (tgt := 29) hx hb dX6_ofDebtor_5 rfl (fun c2 => ?_) (fun c2 => ?_)
  · have h := if_some_t h c2
    refine lv_aload_n hx hb dX6_ofDebtor_29 rfl (lv_at hl 0 rfl) ?_
    refine lv_iconst (v := 1) hx hb dX6_ofDebtor_30 (by decide) ?_
    obtain ⟨v3, st4, hv3, h⟩ := bd2_some h
    refine k_finds C hP hS hv3 (Nat.le_of_ble_eq_true rfl) hl.1 (Nat.le_of_ble_eq_true rfl) hcs dX6_ofDebtor_31 (fun H locs hP hS => ?_)
    exact mm_viret hx hb hr hlk h hP hS dX6_ofDebtor_34
  · have h := if_some_f h c2
    refine lv_iload_n hx hb dX6_ofDebtor_8 rfl (lv_at hl 2 rfl) ?_
    refine lv_i2l (v := x2.toInt64) hx hb dX6_ofDebtor_9 rfl ?_
    refine lv_lconst (v := 0) hx hb dX6_ofDebtor_10 (by decide) ?_
    refine lv_ldc2 hx hb hown (C.2.2.2.2.1 _ q1697) dX6_ofDebtor_11 ?_
    obtain ⟨v5, hv5, h⟩ := bd1_some h
    refine k_in hx hb C.2.2.1 hown C.2.2.2.2.1 C.2.2.2.2.2.2.2 hv5 (Nat.le_of_ble_eq_true rfl) hl.1 (Nat.le_of_ble_eq_true rfl) hcs dX6_ofDebtor_14 ?_
    refine lv_if_eq (tgt := 29) hx hb dX6_ofDebtor_17 rfl (fun c6 => ?_) (fun c6 => ?_)
    · have h := if_some_t h c6
      refine lv_aload_n hx hb dX6_ofDebtor_29 rfl (lv_at hl 0 rfl) ?_
      refine lv_iconst (v := 1) hx hb dX6_ofDebtor_30 (by decide) ?_
      obtain ⟨v7, st8, hv7, h⟩ := bd2_some h
      refine k_finds C hP hS hv7 (Nat.le_of_ble_eq_true rfl) hl.1 (Nat.le_of_ble_eq_true rfl) hcs dX6_ofDebtor_31 (fun H locs hP hS => ?_)
      exact mm_viret hx hb hr hlk h hP hS dX6_ofDebtor_34
    · have h := if_some_f h c6
      refine lv_aload_n hx hb dX6_ofDebtor_20 rfl (lv_at hl 0 rfl) ?_
      refine lv_iload_n hx hb dX6_ofDebtor_21 rfl (lv_at hl 1 rfl) ?_
      refine lv_iload_n hx hb dX6_ofDebtor_22 rfl (lv_at hl 2 rfl) ?_
      obtain ⟨v9, st10, hv9, h⟩ := bd2_some h
      refine k_toldOf C hP hS hv9 (Nat.le_of_ble_eq_true rfl) hl.1 (Nat.le_of_ble_eq_true rfl) hcs dX6_ofDebtor_23 (fun H locs hP hS => ?_)
      refine lv_goto (tgt := 34) hx hb dX6_ofDebtor_26 rfl ?_
      exact mm_viret hx hb hr hlk h hP hS dX6_ofDebtor_34
abbrev cX6_paysOf : ByteArray := prog_30_method_39_code
def yX6_paysOf : MethodName := ⟨RX6, "paysOf", "(II)I"⟩
theorem dX6_paysOf_0 : decode cX6_paysOf 0 = .ok (.aload_n 0, 1) := by decide +kernel
theorem dX6_paysOf_1 : decode cX6_paysOf 1 = .ok (.iconst 0, 1) := by decide +kernel
theorem dX6_paysOf_2 : decode cX6_paysOf 2 = .ok (.iload_n 2, 1) := by decide +kernel
theorem dX6_paysOf_3 : decode cX6_paysOf 3 = .ok (.aload_n 0, 1) := by decide +kernel
theorem dX6_paysOf_4 : decode cX6_paysOf 4 = .ok (.getfield 7, 3) := by decide +kernel
theorem dX6_paysOf_7 : decode cX6_paysOf 7 = .ok (.iconst 3, 1) := by decide +kernel
theorem dX6_paysOf_8 : decode cX6_paysOf 8 = .ok (.iaload, 1) := by decide +kernel
theorem dX6_paysOf_9 : decode cX6_paysOf 9 = .ok (.aload_n 0, 1) := by decide +kernel
theorem dX6_paysOf_10 : decode cX6_paysOf 10 = .ok (.iload_n 1, 1) := by decide +kernel
theorem dX6_paysOf_11 : decode cX6_paysOf 11 = .ok (.iconst 2, 1) := by decide +kernel
theorem dX6_paysOf_12 : decode cX6_paysOf 12 = .ok (.invokevirtual 150, 3) := by decide +kernel
theorem dX6_paysOf_15 : decode cX6_paysOf 15 = .ok (.invokevirtual 131, 3) := by decide +kernel
theorem dX6_paysOf_18 : decode cX6_paysOf 18 = .ok (.istore_n 3, 1) := by decide +kernel
theorem dX6_paysOf_19 : decode cX6_paysOf 19 = .ok (.aload_n 0, 1) := by decide +kernel
theorem dX6_paysOf_20 : decode cX6_paysOf 20 = .ok (.iload_n 1, 1) := by decide +kernel
theorem dX6_paysOf_21 : decode cX6_paysOf 21 = .ok (.iconst 0, 1) := by decide +kernel
theorem dX6_paysOf_22 : decode cX6_paysOf 22 = .ok (.invokevirtual 150, 3) := by decide +kernel
theorem dX6_paysOf_25 : decode cX6_paysOf 25 = .ok (.istore 4, 2) := by decide +kernel
theorem dX6_paysOf_27 : decode cX6_paysOf 27 = .ok (.iload 4, 2) := by decide +kernel
theorem dX6_paysOf_29 : decode cX6_paysOf 29 = .ok (.iconst 5, 1) := by decide +kernel
theorem dX6_paysOf_30 : decode cX6_paysOf 30 = .ok (.if_icmp .ne 9, 3) := by decide +kernel
theorem dX6_paysOf_33 : decode cX6_paysOf 33 = .ok (.iconst 2, 1) := by decide +kernel
theorem dX6_paysOf_34 : decode cX6_paysOf 34 = .ok (.iload_n 3, 1) := by decide +kernel
theorem dX6_paysOf_35 : decode cX6_paysOf 35 = .ok (.imul, 1) := by decide +kernel
theorem dX6_paysOf_36 : decode cX6_paysOf 36 = .ok (.goto 22, 3) := by decide +kernel
theorem dX6_paysOf_39 : decode cX6_paysOf 39 = .ok (.iload 4, 2) := by decide +kernel
theorem dX6_paysOf_41 : decode cX6_paysOf 41 = .ok (.iconst 1, 1) := by decide +kernel
theorem dX6_paysOf_42 : decode cX6_paysOf 42 = .ok (.if_icmp .eq 9, 3) := by decide +kernel
theorem dX6_paysOf_45 : decode cX6_paysOf 45 = .ok (.iload 4, 2) := by decide +kernel
theorem dX6_paysOf_47 : decode cX6_paysOf 47 = .ok (.iconst 4, 1) := by decide +kernel
theorem dX6_paysOf_48 : decode cX6_paysOf 48 = .ok (.if_icmp .ne 9, 3) := by decide +kernel
theorem dX6_paysOf_51 : decode cX6_paysOf 51 = .ok (.iload_n 3, 1) := by decide +kernel
theorem dX6_paysOf_52 : decode cX6_paysOf 52 = .ok (.iconst 2, 1) := by decide +kernel
theorem dX6_paysOf_53 : decode cX6_paysOf 53 = .ok (.idiv, 1) := by decide +kernel
theorem dX6_paysOf_54 : decode cX6_paysOf 54 = .ok (.goto 4, 3) := by decide +kernel
theorem dX6_paysOf_57 : decode cX6_paysOf 57 = .ok (.iload_n 3, 1) := by decide +kernel
theorem dX6_paysOf_58 : decode cX6_paysOf 58 = .ok (.ireturn, 1) := by decide +kernel
theorem w_paysOf {l : Launch} {D : va_G} {cI : ClassId} {ad : Nat → Nat} (hI : kInj 15 ad) {st st' : MSt} {N : Nat} {x1 : Int32} {x2 : Int32} {r0 : Int32} (h : M_paysOf  N st x1 x2 = some (r0, st')) : mV l yX6_paysOf cX6_paysOf 5 (some .int) 56 D cI ad st [.int x1, .int x2] (some (.int r0)) st' := by
  refine mm_ofV hI (by decide) rfl (Nat.le_of_ble_eq_true rfl) (fun p e s m below meth c R args ls C hr hlk hP hS hl hcs => ?_)
  have hx := C.1
  have hb := C.2.1
  have hown := C.2.2.2.1
  have hl : lv_has ls 5 [(0, .ref (ad 0)), (1, .int x1), (2, .int x2)] := hl
  have hP : mW D cI ad st s.heap := hP
  rw [M_paysOf] at h
  refine lv_aload_n hx hb dX6_paysOf_0 rfl (lv_at hl 0 rfl) ?_
  refine lv_iconst (v := 0) hx hb dX6_paysOf_1 (by decide) ?_
  refine lv_iload_n hx hb dX6_paysOf_2 rfl (lv_at hl 2 rfl) ?_
  refine lv_aload_n hx hb dX6_paysOf_3 rfl (lv_at hl 0 rfl) ?_
  refine g_d C hP dX6_paysOf_4 ?_
  refine lv_iconst (v := 3) hx hb dX6_paysOf_7 (by decide) ?_
  obtain ⟨v1, hv1, h⟩ := bd1_some h
  refine mm_ld C hP 1 (by decide) rfl hv1 dX6_paysOf_8 ?_
  refine lv_aload_n hx hb dX6_paysOf_9 rfl (lv_at hl 0 rfl) ?_
  refine lv_iload_n hx hb dX6_paysOf_10 rfl (lv_at hl 1 rfl) ?_
  refine lv_iconst (v := 2) hx hb dX6_paysOf_11 (by decide) ?_
  obtain ⟨v2, hv2, h⟩ := bd1_some h
  refine k_of C hP hv2 (Nat.le_of_ble_eq_true rfl) hl.1 (Nat.le_of_ble_eq_true rfl) hcs dX6_paysOf_12 ?_
  obtain ⟨v3, st4, hv3, h⟩ := bd2_some h
  refine k_textGives C hP hS hv3 (Nat.le_of_ble_eq_true rfl) hl.1 (Nat.le_of_ble_eq_true rfl) hcs dX6_paysOf_15 (fun H locs hP hS => ?_)
  refine lv_istore_n (lv' := [(3, .int v3), (0, .ref (ad 0)), (1, .int x1), (2, .int x2)]) hx hb dX6_paysOf_18 rfl hl (by decide) rfl (fun ls hl => ?_)
  refine lv_aload_n hx hb dX6_paysOf_19 rfl (lv_at hl 1 rfl) ?_
  refine lv_iload_n hx hb dX6_paysOf_20 rfl (lv_at hl 2 rfl) ?_
  refine lv_iconst (v := 0) hx hb dX6_paysOf_21 (by decide) ?_
  obtain ⟨v5, hv5, h⟩ := bd1_some h
  refine k_of C hP hv5 (Nat.le_of_ble_eq_true rfl) hl.1 (Nat.le_of_ble_eq_true rfl) hcs dX6_paysOf_22 ?_
  refine lv_istore (lv' := [(4, .int v5), (3, .int v3), (0, .ref (ad 0)), (1, .int x1), (2, .int x2)]) hx hb dX6_paysOf_25 hl (by decide) rfl (fun ls hl => ?_)
  refine lv_iload hx hb dX6_paysOf_27 (lv_at hl 0 rfl) ?_
  refine lv_iconst (v := 5) hx hb dX6_paysOf_29 (by decide) ?_
  refine lv_icmp_ne (tgt := 39) hx hb dX6_paysOf_30 rfl (fun c6 => ?_) (fun c6 => ?_)
  · have h := if_some_f h c6
    refine lv_iload hx hb dX6_paysOf_39 (lv_at hl 0 rfl) ?_
    refine lv_iconst (v := 1) hx hb dX6_paysOf_41 (by decide) ?_
    refine lv_icmp_eq (tgt := 51) hx hb dX6_paysOf_42 rfl (fun c7 => ?_) (fun c7 => ?_)
    · have h := if_some_t h c7
      refine lv_iload_n hx hb dX6_paysOf_51 rfl (lv_at hl 1 rfl) ?_
      refine lv_iconst (v := 2) hx hb dX6_paysOf_52 (by decide) ?_
      refine lv_idiv hx hb dX6_paysOf_53 (by decide) ?_
      refine lv_goto (tgt := 58) hx hb dX6_paysOf_54 rfl ?_
      exact mm_viret hx hb hr hlk h hP hS dX6_paysOf_58
    · have h := if_some_f h c7
      refine lv_iload hx hb dX6_paysOf_45 (lv_at hl 0 rfl) ?_
      refine lv_iconst (v := 4) hx hb dX6_paysOf_47 (by decide) ?_
      refine lv_icmp_ne (tgt := 57) hx hb dX6_paysOf_48 rfl (fun c8 => ?_) (fun c8 => ?_)
      · have h := if_some_f h c8
        refine lv_iload_n hx hb dX6_paysOf_57 rfl (lv_at hl 1 rfl) ?_
        exact mm_viret hx hb hr hlk h hP hS dX6_paysOf_58
      · have h := if_some_t h c8
        refine lv_iload_n hx hb dX6_paysOf_51 rfl (lv_at hl 1 rfl) ?_
        refine lv_iconst (v := 2) hx hb dX6_paysOf_52 (by decide) ?_
        refine lv_idiv hx hb dX6_paysOf_53 (by decide) ?_
        refine lv_goto (tgt := 58) hx hb dX6_paysOf_54 rfl ?_
        exact mm_viret hx hb hr hlk h hP hS dX6_paysOf_58
  · have h := if_some_t h c6
    refine lv_iconst (v := 2) hx hb dX6_paysOf_33 (by decide) ?_
    refine lv_iload_n hx hb dX6_paysOf_34 rfl (lv_at hl 1 rfl) ?_
    refine lv_imul hx hb dX6_paysOf_35 ?_
    refine lv_goto (tgt := 58) hx hb dX6_paysOf_36 rfl ?_
    exact mm_viret hx hb hr hlk h hP hS dX6_paysOf_58
theorem q1793 : (Jvm.Cond.methodLink "ChapterLoanModel" (177 : Nat) ({ cls := "ChapterLoanModel", name := "paysOf", desc := "(II)I" } : Jvm.MethodName)) ∈ lw_all := lw_g (lw_at lw_m8 29 rfl) rfl
theorem q1796 : (Jvm.Cond.code ({ cls := "ChapterLoanModel", name := "paysOf", desc := "(II)I" } : Jvm.MethodName) prog_30_method_39_code (5 : Nat) (Option.some Jvm.ClassFile.FieldType.int)) ∈ lw_all := lw_g (lw_at lw_m8 32 rfl) rfl
theorem q1795 : (Jvm.Cond.instanceMethod ({ cls := "ChapterLoanModel", name := "paysOf", desc := "(II)I" } : Jvm.MethodName)) ∈ lw_all := lw_g (lw_at lw_m8 31 rfl) rfl
theorem k_paysOf {N : Nat} {a0 : Int32} {a1 : Int32} {v : Int32} {st' : MSt} (C : mC p R d s m args c cc nL D cI ad) (hP : mW D cI ad st H) (hS : va_S (kF 15 ad) H0 H locs) (h : M_paysOf N st a0 a1 = some (v, st')) (hd : 56 + 1 ≤ d) (hsz : ls.size = nL) (hW : (rest.map fun v => v.category).sum ≤ 8) (hcs : cells ≤ R.cells ∧ slots ≤ R.slots) (hdg : decode cc pc = .ok (.invokevirtual 177, 3)) (kk : ∀ (H1 : Heap) (locs1 : List Loc), mW D cI ad st' H1 → va_S (kF 15 ad) H0 H1 locs1 → W p l e R s m args below meth c H1 locs1 cells slots Q (F0 m (pc + 3) ls (.int v :: rest))) : W p l e R s m args below meth c H locs cells slots Q (F0 m pc ls (.int a1 :: .int a0 :: .ref (ad 0) :: rest)) :=
  mm_cV (As := [.int a0, .int a1]) C hP hS (w_paysOf C.2.2.2.2.2.2.1 h) (cwV 2 C.2.2.2.2.1 (lw_V q1793 q1795 qs59 q94 q1796) rfl rfl rfl (by decide +kernel) (mr_ C.2.2.2.2.2.2.2 hd (by decide))) rfl hsz rfl hW hdg hcs kk
abbrev cX6_tellsNow : ByteArray := prog_30_method_44_code
def yX6_tellsNow : MethodName := ⟨RX6, "tellsNow", "(II)V"⟩
theorem dX6_tellsNow_0 : decode cX6_tellsNow 0 = .ok (.aload_n 0, 1) := by decide +kernel
theorem dX6_tellsNow_1 : decode cX6_tellsNow 1 = .ok (.iload_n 1, 1) := by decide +kernel
theorem dX6_tellsNow_2 : decode cX6_tellsNow 2 = .ok (.iload_n 2, 1) := by decide +kernel
theorem dX6_tellsNow_3 : decode cX6_tellsNow 3 = .ok (.invokevirtual 177, 3) := by decide +kernel
theorem dX6_tellsNow_6 : decode cX6_tellsNow 6 = .ok (.istore_n 3, 1) := by decide +kernel
theorem dX6_tellsNow_7 : decode cX6_tellsNow 7 = .ok (.aload_n 0, 1) := by decide +kernel
theorem dX6_tellsNow_8 : decode cX6_tellsNow 8 = .ok (.iload_n 1, 1) := by decide +kernel
theorem dX6_tellsNow_9 : decode cX6_tellsNow 9 = .ok (.iload_n 2, 1) := by decide +kernel
theorem dX6_tellsNow_10 : decode cX6_tellsNow 10 = .ok (.invokevirtual 180, 3) := by decide +kernel
theorem dX6_tellsNow_13 : decode cX6_tellsNow 13 = .ok (.aload_n 0, 1) := by decide +kernel
theorem dX6_tellsNow_14 : decode cX6_tellsNow 14 = .ok (.iload_n 1, 1) := by decide +kernel
theorem dX6_tellsNow_15 : decode cX6_tellsNow 15 = .ok (.iconst 2, 1) := by decide +kernel
theorem dX6_tellsNow_16 : decode cX6_tellsNow 16 = .ok (.iload_n 3, 1) := by decide +kernel
theorem dX6_tellsNow_17 : decode cX6_tellsNow 17 = .ok (.aload_n 0, 1) := by decide +kernel
theorem dX6_tellsNow_18 : decode cX6_tellsNow 18 = .ok (.iload_n 1, 1) := by decide +kernel
theorem dX6_tellsNow_19 : decode cX6_tellsNow 19 = .ok (.iconst 2, 1) := by decide +kernel
theorem dX6_tellsNow_20 : decode cX6_tellsNow 20 = .ok (.invokevirtual 150, 3) := by decide +kernel
theorem dX6_tellsNow_23 : decode cX6_tellsNow 23 = .ok (.if_icmp .ge 14, 3) := by decide +kernel
theorem dX6_tellsNow_26 : decode cX6_tellsNow 26 = .ok (.aload_n 0, 1) := by decide +kernel
theorem dX6_tellsNow_27 : decode cX6_tellsNow 27 = .ok (.iload_n 1, 1) := by decide +kernel
theorem dX6_tellsNow_28 : decode cX6_tellsNow 28 = .ok (.iconst 2, 1) := by decide +kernel
theorem dX6_tellsNow_29 : decode cX6_tellsNow 29 = .ok (.invokevirtual 150, 3) := by decide +kernel
theorem dX6_tellsNow_32 : decode cX6_tellsNow 32 = .ok (.iload_n 3, 1) := by decide +kernel
theorem dX6_tellsNow_33 : decode cX6_tellsNow 33 = .ok (.isub, 1) := by decide +kernel
theorem dX6_tellsNow_34 : decode cX6_tellsNow 34 = .ok (.goto 4, 3) := by decide +kernel
theorem dX6_tellsNow_37 : decode cX6_tellsNow 37 = .ok (.iconst 0, 1) := by decide +kernel
theorem dX6_tellsNow_38 : decode cX6_tellsNow 38 = .ok (.invokevirtual 174, 3) := by decide +kernel
theorem dX6_tellsNow_41 : decode cX6_tellsNow 41 = .ok (.return_, 1) := by decide +kernel
theorem w_tellsNow {l : Launch} {D : va_G} {cI : ClassId} {ad : Nat → Nat} (hI : kInj 15 ad) {st st' : MSt} {N : Nat} {x1 : Int32} {x2 : Int32} (h : M_tellsNow  N st x1 x2 = some st') : mV l yX6_tellsNow cX6_tellsNow 4 none 57 D cI ad st [.int x1, .int x2] none st' := by
  refine mm_ofV hI (by decide) rfl (Nat.le_of_ble_eq_true rfl) (fun p e s m below meth c R args ls C hr hlk hP hS hl hcs => ?_)
  have hx := C.1
  have hb := C.2.1
  have hown := C.2.2.2.1
  have hl : lv_has ls 4 [(0, .ref (ad 0)), (1, .int x1), (2, .int x2)] := hl
  have hP : mW D cI ad st s.heap := hP
  rw [M_tellsNow] at h
  refine lv_aload_n hx hb dX6_tellsNow_0 rfl (lv_at hl 0 rfl) ?_
  refine lv_iload_n hx hb dX6_tellsNow_1 rfl (lv_at hl 1 rfl) ?_
  refine lv_iload_n hx hb dX6_tellsNow_2 rfl (lv_at hl 2 rfl) ?_
  obtain ⟨v1, st2, hv1, h⟩ := bd2_some h
  refine k_paysOf C hP hS hv1 (Nat.le_of_ble_eq_true rfl) hl.1 (Nat.le_of_ble_eq_true rfl) hcs dX6_tellsNow_3 (fun H locs hP hS => ?_)
  refine lv_istore_n (lv' := [(3, .int v1), (0, .ref (ad 0)), (1, .int x1), (2, .int x2)]) hx hb dX6_tellsNow_6 rfl hl (by decide) rfl (fun ls hl => ?_)
  refine lv_aload_n hx hb dX6_tellsNow_7 rfl (lv_at hl 1 rfl) ?_
  refine lv_iload_n hx hb dX6_tellsNow_8 rfl (lv_at hl 2 rfl) ?_
  refine lv_iload_n hx hb dX6_tellsNow_9 rfl (lv_at hl 3 rfl) ?_
  obtain ⟨st4, hv3, h⟩ := bd1_some h
  refine k_writes C hP hS hv3 (Nat.le_of_ble_eq_true rfl) hl.1 (Nat.le_of_ble_eq_true rfl) hcs dX6_tellsNow_10 (fun H locs hP hS => ?_)
  refine lv_aload_n hx hb dX6_tellsNow_13 rfl (lv_at hl 1 rfl) ?_
  refine lv_iload_n hx hb dX6_tellsNow_14 rfl (lv_at hl 2 rfl) ?_
  refine lv_iconst (v := 2) hx hb dX6_tellsNow_15 (by decide) ?_
  refine lv_iload_n hx hb dX6_tellsNow_16 rfl (lv_at hl 0 rfl) ?_
  refine lv_aload_n hx hb dX6_tellsNow_17 rfl (lv_at hl 1 rfl) ?_
  refine lv_iload_n hx hb dX6_tellsNow_18 rfl (lv_at hl 2 rfl) ?_
  refine lv_iconst (v := 2) hx hb dX6_tellsNow_19 (by decide) ?_
  obtain ⟨v5, hv5, h⟩ := bd1_some h
  refine k_of C hP hv5 (Nat.le_of_ble_eq_true rfl) hl.1 (Nat.le_of_ble_eq_true rfl) hcs dX6_tellsNow_20 ?_
  refine lv_icmp_ge (tgt := 37) hx hb dX6_tellsNow_23 rfl (fun c6 => ?_) (fun c6 => ?_)
  · have h := if_some_t h c6
    refine lv_iconst (v := 0) hx hb dX6_tellsNow_37 (by decide) ?_
    obtain ⟨st8, hv7, h⟩ := bd1_some h
    refine k_sets C hP hS hv7 (Nat.le_of_ble_eq_true rfl) hl.1 (Nat.le_of_ble_eq_true rfl) hcs dX6_tellsNow_38 (fun H locs hP hS => ?_)
    exact mm_vret hx hb hr hlk h hP hS dX6_tellsNow_41
  · have h := if_some_f h c6
    refine lv_aload_n hx hb dX6_tellsNow_26 rfl (lv_at hl 1 rfl) ?_
    refine lv_iload_n hx hb dX6_tellsNow_27 rfl (lv_at hl 2 rfl) ?_
    refine lv_iconst (v := 2) hx hb dX6_tellsNow_28 (by decide) ?_
    obtain ⟨v9, hv9, h⟩ := bd1_some h
    refine k_of C hP hv9 (Nat.le_of_ble_eq_true rfl) hl.1 (Nat.le_of_ble_eq_true rfl) hcs dX6_tellsNow_29 ?_
    refine lv_iload_n hx hb dX6_tellsNow_32 rfl (lv_at hl 0 rfl) ?_
    refine lv_isub hx hb dX6_tellsNow_33 ?_
    refine lv_goto (tgt := 38) hx hb dX6_tellsNow_34 rfl ?_
    obtain ⟨st11, hv10, h⟩ := bd1_some h
    refine k_sets C hP hS hv10 (Nat.le_of_ble_eq_true rfl) hl.1 (Nat.le_of_ble_eq_true rfl) hcs dX6_tellsNow_38 (fun H locs hP hS => ?_)
    exact mm_vret hx hb hr hlk h hP hS dX6_tellsNow_41
theorem q1789 : (Jvm.Cond.methodLink "ChapterLoanModel" (213 : Nat) ({ cls := "ChapterLoanModel", name := "tellsNow", desc := "(II)V" } : Jvm.MethodName)) ∈ lw_all := lw_g (lw_at lw_m8 25 rfl) rfl
theorem q1792 : (Jvm.Cond.code ({ cls := "ChapterLoanModel", name := "tellsNow", desc := "(II)V" } : Jvm.MethodName) prog_30_method_44_code (4 : Nat) (Option.none : Option Jvm.ClassFile.FieldType)) ∈ lw_all := lw_g (lw_at lw_m8 28 rfl) rfl
theorem q1791 : (Jvm.Cond.instanceMethod ({ cls := "ChapterLoanModel", name := "tellsNow", desc := "(II)V" } : Jvm.MethodName)) ∈ lw_all := lw_g (lw_at lw_m8 27 rfl) rfl
theorem k_tellsNow {N : Nat} {a0 : Int32} {a1 : Int32} {st' : MSt} (C : mC p R d s m args c cc nL D cI ad) (hP : mW D cI ad st H) (hS : va_S (kF 15 ad) H0 H locs) (h : M_tellsNow N st a0 a1 = some st') (hd : 57 + 1 ≤ d) (hsz : ls.size = nL) (hW : (rest.map fun v => v.category).sum ≤ 8) (hcs : cells ≤ R.cells ∧ slots ≤ R.slots) (hdg : decode cc pc = .ok (.invokevirtual 213, 3)) (kk : ∀ (H1 : Heap) (locs1 : List Loc), mW D cI ad st' H1 → va_S (kF 15 ad) H0 H1 locs1 → W p l e R s m args below meth c H1 locs1 cells slots Q (F0 m (pc + 3) ls (rest))) : W p l e R s m args below meth c H locs cells slots Q (F0 m pc ls (.int a1 :: .int a0 :: .ref (ad 0) :: rest)) :=
  mm_cV (As := [.int a0, .int a1]) C hP hS (w_tellsNow C.2.2.2.2.2.2.1 h) (cwV 2 C.2.2.2.2.1 (lw_V q1789 q1791 qs58 q94 q1792) rfl rfl rfl (by decide +kernel) (mr_ C.2.2.2.2.2.2.2 hd (by decide))) rfl hsz rfl hW hdg hcs kk
abbrev cX6_tells : ByteArray := prog_30_method_54_code
def yX6_tells : MethodName := ⟨RX6, "tells", "(II)I"⟩
theorem dX6_tells_0 : decode cX6_tells 0 = .ok (.aload_n 0, 1) := by decide +kernel
theorem dX6_tells_1 : decode cX6_tells 1 = .ok (.iload_n 1, 1) := by decide +kernel
theorem dX6_tells_2 : decode cX6_tells 2 = .ok (.invokevirtual 197, 3) := by decide +kernel
theorem dX6_tells_5 : decode cX6_tells 5 = .ok (.ifCond .eq 11, 3) := by decide +kernel
theorem dX6_tells_8 : decode cX6_tells 8 = .ok (.aload_n 0, 1) := by decide +kernel
theorem dX6_tells_9 : decode cX6_tells 9 = .ok (.iload_n 2, 1) := by decide +kernel
theorem dX6_tells_10 : decode cX6_tells 10 = .ok (.invokevirtual 141, 3) := by decide +kernel
theorem dX6_tells_13 : decode cX6_tells 13 = .ok (.ifCond .ne 9, 3) := by decide +kernel
theorem dX6_tells_16 : decode cX6_tells 16 = .ok (.aload_n 0, 1) := by decide +kernel
theorem dX6_tells_17 : decode cX6_tells 17 = .ok (.iconst 1, 1) := by decide +kernel
theorem dX6_tells_18 : decode cX6_tells 18 = .ok (.invokevirtual 119, 3) := by decide +kernel
theorem dX6_tells_21 : decode cX6_tells 21 = .ok (.ireturn, 1) := by decide +kernel
theorem dX6_tells_22 : decode cX6_tells 22 = .ok (.aload_n 0, 1) := by decide +kernel
theorem dX6_tells_23 : decode cX6_tells 23 = .ok (.iload_n 1, 1) := by decide +kernel
theorem dX6_tells_24 : decode cX6_tells 24 = .ok (.iconst 3, 1) := by decide +kernel
theorem dX6_tells_25 : decode cX6_tells 25 = .ok (.invokevirtual 150, 3) := by decide +kernel
theorem dX6_tells_28 : decode cX6_tells 28 = .ok (.iconst 1, 1) := by decide +kernel
theorem dX6_tells_29 : decode cX6_tells 29 = .ok (.if_icmp .eq 12, 3) := by decide +kernel
theorem dX6_tells_32 : decode cX6_tells 32 = .ok (.aload_n 0, 1) := by decide +kernel
theorem dX6_tells_33 : decode cX6_tells 33 = .ok (.iload_n 1, 1) := by decide +kernel
theorem dX6_tells_34 : decode cX6_tells 34 = .ok (.iload_n 2, 1) := by decide +kernel
theorem dX6_tells_35 : decode cX6_tells 35 = .ok (.invokevirtual 164, 3) := by decide +kernel
theorem dX6_tells_38 : decode cX6_tells 38 = .ok (.ifCond .ne 9, 3) := by decide +kernel
theorem dX6_tells_41 : decode cX6_tells 41 = .ok (.aload_n 0, 1) := by decide +kernel
theorem dX6_tells_42 : decode cX6_tells 42 = .ok (.iconst 3, 1) := by decide +kernel
theorem dX6_tells_43 : decode cX6_tells 43 = .ok (.invokevirtual 119, 3) := by decide +kernel
theorem dX6_tells_46 : decode cX6_tells 46 = .ok (.ireturn, 1) := by decide +kernel
theorem dX6_tells_47 : decode cX6_tells 47 = .ok (.aload_n 0, 1) := by decide +kernel
theorem dX6_tells_48 : decode cX6_tells 48 = .ok (.iload_n 1, 1) := by decide +kernel
theorem dX6_tells_49 : decode cX6_tells 49 = .ok (.iload_n 2, 1) := by decide +kernel
theorem dX6_tells_50 : decode cX6_tells 50 = .ok (.invokevirtual 213, 3) := by decide +kernel
theorem dX6_tells_53 : decode cX6_tells 53 = .ok (.aload_n 0, 1) := by decide +kernel
theorem dX6_tells_54 : decode cX6_tells 54 = .ok (.iload_n 1, 1) := by decide +kernel
theorem dX6_tells_55 : decode cX6_tells 55 = .ok (.iconst 2, 1) := by decide +kernel
theorem dX6_tells_56 : decode cX6_tells 56 = .ok (.invokevirtual 150, 3) := by decide +kernel
theorem dX6_tells_59 : decode cX6_tells 59 = .ok (.ireturn, 1) := by decide +kernel
theorem w_tells {l : Launch} {D : va_G} {cI : ClassId} {ad : Nat → Nat} (hI : kInj 15 ad) {st st' : MSt} {N : Nat} {x1 : Int32} {x2 : Int32} {r0 : Int32} (h : M_tells  N st x1 x2 = some (r0, st')) : mV l yX6_tells cX6_tells 3 (some .int) 58 D cI ad st [.int x1, .int x2] (some (.int r0)) st' := by
  refine mm_ofV hI (by decide) rfl (Nat.le_of_ble_eq_true rfl) (fun p e s m below meth c R args ls C hr hlk hP hS hl hcs => ?_)
  have hx := C.1
  have hb := C.2.1
  have hown := C.2.2.2.1
  have hl : lv_has ls 3 [(0, .ref (ad 0)), (1, .int x1), (2, .int x2)] := hl
  have hP : mW D cI ad st s.heap := hP
  rw [M_tells] at h
  refine lv_aload_n hx hb dX6_tells_0 rfl (lv_at hl 0 rfl) ?_
  refine lv_iload_n hx hb dX6_tells_1 rfl (lv_at hl 1 rfl) ?_
  obtain ⟨v1, hv1, h⟩ := bd1_some h
  refine k_isDebtor C hP hv1 (Nat.le_of_ble_eq_true rfl) hl.1 (Nat.le_of_ble_eq_true rfl) hcs dX6_tells_2 ?_
  refine lv_if_eq (tgt := 16) hx hb dX6_tells_5 rfl (fun c2 => ?_) (fun c2 => ?_)
  · have h := if_some_t h c2
    refine lv_aload_n hx hb dX6_tells_16 rfl (lv_at hl 0 rfl) ?_
    refine lv_iconst (v := 1) hx hb dX6_tells_17 (by decide) ?_
    obtain ⟨v3, st4, hv3, h⟩ := bd2_some h
    refine k_finds C hP hS hv3 (Nat.le_of_ble_eq_true rfl) hl.1 (Nat.le_of_ble_eq_true rfl) hcs dX6_tells_18 (fun H locs hP hS => ?_)
    exact mm_viret hx hb hr hlk h hP hS dX6_tells_21
  · have h := if_some_f h c2
    refine lv_aload_n hx hb dX6_tells_8 rfl (lv_at hl 0 rfl) ?_
    refine lv_iload_n hx hb dX6_tells_9 rfl (lv_at hl 2 rfl) ?_
    obtain ⟨v5, hv5, h⟩ := bd1_some h
    refine k_isFact C hP hv5 (Nat.le_of_ble_eq_true rfl) hl.1 (Nat.le_of_ble_eq_true rfl) hcs dX6_tells_10 ?_
    refine lv_if_ne (tgt := 22) hx hb dX6_tells_13 rfl (fun c6 => ?_) (fun c6 => ?_)
    · have h := if_some_f h c6
      refine lv_aload_n hx hb dX6_tells_22 rfl (lv_at hl 0 rfl) ?_
      refine lv_iload_n hx hb dX6_tells_23 rfl (lv_at hl 1 rfl) ?_
      refine lv_iconst (v := 3) hx hb dX6_tells_24 (by decide) ?_
      obtain ⟨v7, hv7, h⟩ := bd1_some h
      refine k_of C hP hv7 (Nat.le_of_ble_eq_true rfl) hl.1 (Nat.le_of_ble_eq_true rfl) hcs dX6_tells_25 ?_
      refine lv_iconst (v := 1) hx hb dX6_tells_28 (by decide) ?_
      refine lv_icmp_eq (tgt := 41) hx hb dX6_tells_29 rfl (fun c8 => ?_) (fun c8 => ?_)
      · have h := if_some_t h c8
        refine lv_aload_n hx hb dX6_tells_41 rfl (lv_at hl 0 rfl) ?_
        refine lv_iconst (v := 3) hx hb dX6_tells_42 (by decide) ?_
        obtain ⟨v9, st10, hv9, h⟩ := bd2_some h
        refine k_finds C hP hS hv9 (Nat.le_of_ble_eq_true rfl) hl.1 (Nat.le_of_ble_eq_true rfl) hcs dX6_tells_43 (fun H locs hP hS => ?_)
        exact mm_viret hx hb hr hlk h hP hS dX6_tells_46
      · have h := if_some_f h c8
        refine lv_aload_n hx hb dX6_tells_32 rfl (lv_at hl 0 rfl) ?_
        refine lv_iload_n hx hb dX6_tells_33 rfl (lv_at hl 1 rfl) ?_
        refine lv_iload_n hx hb dX6_tells_34 rfl (lv_at hl 2 rfl) ?_
        obtain ⟨v11, hv11, h⟩ := bd1_some h
        refine k_mayTell C hP hv11 (Nat.le_of_ble_eq_true rfl) hl.1 (Nat.le_of_ble_eq_true rfl) hcs dX6_tells_35 ?_
        refine lv_if_ne (tgt := 47) hx hb dX6_tells_38 rfl (fun c12 => ?_) (fun c12 => ?_)
        · have h := if_some_f h c12
          refine lv_aload_n hx hb dX6_tells_47 rfl (lv_at hl 0 rfl) ?_
          refine lv_iload_n hx hb dX6_tells_48 rfl (lv_at hl 1 rfl) ?_
          refine lv_iload_n hx hb dX6_tells_49 rfl (lv_at hl 2 rfl) ?_
          obtain ⟨st14, hv13, h⟩ := bd1_some h
          refine k_tellsNow C hP hS hv13 (Nat.le_of_ble_eq_true rfl) hl.1 (Nat.le_of_ble_eq_true rfl) hcs dX6_tells_50 (fun H locs hP hS => ?_)
          refine lv_aload_n hx hb dX6_tells_53 rfl (lv_at hl 0 rfl) ?_
          refine lv_iload_n hx hb dX6_tells_54 rfl (lv_at hl 1 rfl) ?_
          refine lv_iconst (v := 2) hx hb dX6_tells_55 (by decide) ?_
          obtain ⟨v15, hv15, h⟩ := bd1_some h
          refine k_of C hP hv15 (Nat.le_of_ble_eq_true rfl) hl.1 (Nat.le_of_ble_eq_true rfl) hcs dX6_tells_56 ?_
          exact mm_viret hx hb hr hlk h hP hS dX6_tells_59
        · have h := if_some_t h c12
          refine lv_aload_n hx hb dX6_tells_41 rfl (lv_at hl 0 rfl) ?_
          refine lv_iconst (v := 3) hx hb dX6_tells_42 (by decide) ?_
          obtain ⟨v16, st17, hv16, h⟩ := bd2_some h
          refine k_finds C hP hS hv16 (Nat.le_of_ble_eq_true rfl) hl.1 (Nat.le_of_ble_eq_true rfl) hcs dX6_tells_43 (fun H locs hP hS => ?_)
          exact mm_viret hx hb hr hlk h hP hS dX6_tells_46
    · have h := if_some_t h c6
      refine lv_aload_n hx hb dX6_tells_16 rfl (lv_at hl 0 rfl) ?_
      refine lv_iconst (v := 1) hx hb dX6_tells_17 (by decide) ?_
      obtain ⟨v18, st19, hv18, h⟩ := bd2_some h
      refine k_finds C hP hS hv18 (Nat.le_of_ble_eq_true rfl) hl.1 (Nat.le_of_ble_eq_true rfl) hcs dX6_tells_18 (fun H locs hP hS => ?_)
      exact mm_viret hx hb hr hlk h hP hS dX6_tells_21
abbrev cX6_serves : ByteArray := prog_30_method_56_code
def yX6_serves : MethodName := ⟨RX6, "serves", "(I)V"⟩
theorem dX6_serves_0 : decode cX6_serves 0 = .ok (.aload_n 0, 1) := by decide +kernel
theorem dX6_serves_1 : decode cX6_serves 1 = .ok (.iload_n 1, 1) := by decide +kernel
theorem dX6_serves_2 : decode cX6_serves 2 = .ok (.invokevirtual 188, 3) := by decide +kernel
theorem dX6_serves_5 : decode cX6_serves 5 = .ok (.istore_n 2, 1) := by decide +kernel
theorem dX6_serves_6 : decode cX6_serves 6 = .ok (.iconst 0, 1) := by decide +kernel
theorem dX6_serves_7 : decode cX6_serves 7 = .ok (.istore_n 3, 1) := by decide +kernel
theorem dX6_serves_8 : decode cX6_serves 8 = .ok (.iload_n 3, 1) := by decide +kernel
theorem dX6_serves_9 : decode cX6_serves 9 = .ok (.iload_n 2, 1) := by decide +kernel
theorem dX6_serves_10 : decode cX6_serves 10 = .ok (.if_icmp .ge 85, 3) := by decide +kernel
theorem dX6_serves_13 : decode cX6_serves 13 = .ok (.aload_n 0, 1) := by decide +kernel
theorem dX6_serves_14 : decode cX6_serves 14 = .ok (.iload_n 1, 1) := by decide +kernel
theorem dX6_serves_15 : decode cX6_serves 15 = .ok (.iconst 2, 1) := by decide +kernel
theorem dX6_serves_16 : decode cX6_serves 16 = .ok (.invokevirtual 150, 3) := by decide +kernel
theorem dX6_serves_19 : decode cX6_serves 19 = .ok (.ifCond .le 76, 3) := by decide +kernel
theorem dX6_serves_22 : decode cX6_serves 22 = .ok (.aload_n 0, 1) := by decide +kernel
theorem dX6_serves_23 : decode cX6_serves 23 = .ok (.iload_n 1, 1) := by decide +kernel
theorem dX6_serves_24 : decode cX6_serves 24 = .ok (.iconst 3, 1) := by decide +kernel
theorem dX6_serves_25 : decode cX6_serves 25 = .ok (.invokevirtual 150, 3) := by decide +kernel
theorem dX6_serves_28 : decode cX6_serves 28 = .ok (.ifCond .ne 67, 3) := by decide +kernel
theorem dX6_serves_31 : decode cX6_serves 31 = .ok (.iconst 0, 1) := by decide +kernel
theorem dX6_serves_32 : decode cX6_serves 32 = .ok (.istore 4, 2) := by decide +kernel
theorem dX6_serves_34 : decode cX6_serves 34 = .ok (.iload 4, 2) := by decide +kernel
theorem dX6_serves_36 : decode cX6_serves 36 = .ok (.aload_n 0, 1) := by decide +kernel
theorem dX6_serves_37 : decode cX6_serves 37 = .ok (.getfield 7, 3) := by decide +kernel
theorem dX6_serves_40 : decode cX6_serves 40 = .ok (.iconst 0, 1) := by decide +kernel
theorem dX6_serves_41 : decode cX6_serves 41 = .ok (.iaload, 1) := by decide +kernel
theorem dX6_serves_42 : decode cX6_serves 42 = .ok (.if_icmp .ge 19, 3) := by decide +kernel
theorem dX6_serves_45 : decode cX6_serves 45 = .ok (.aload_n 0, 1) := by decide +kernel
theorem dX6_serves_46 : decode cX6_serves 46 = .ok (.iload_n 1, 1) := by decide +kernel
theorem dX6_serves_47 : decode cX6_serves 47 = .ok (.iload 4, 2) := by decide +kernel
theorem dX6_serves_49 : decode cX6_serves 49 = .ok (.invokevirtual 164, 3) := by decide +kernel
theorem dX6_serves_52 : decode cX6_serves 52 = .ok (.ifCond .ne 9, 3) := by decide +kernel
theorem dX6_serves_55 : decode cX6_serves 55 = .ok (.iinc 4 1, 3) := by decide +kernel
theorem dX6_serves_58 : decode cX6_serves 58 = .ok (.goto (-24), 3) := by decide +kernel
theorem dX6_serves_61 : decode cX6_serves 61 = .ok (.iload 4, 2) := by decide +kernel
theorem dX6_serves_63 : decode cX6_serves 63 = .ok (.aload_n 0, 1) := by decide +kernel
theorem dX6_serves_64 : decode cX6_serves 64 = .ok (.getfield 7, 3) := by decide +kernel
theorem dX6_serves_67 : decode cX6_serves 67 = .ok (.iconst 0, 1) := by decide +kernel
theorem dX6_serves_68 : decode cX6_serves 68 = .ok (.iaload, 1) := by decide +kernel
theorem dX6_serves_69 : decode cX6_serves 69 = .ok (.if_icmp .ge 13, 3) := by decide +kernel
theorem dX6_serves_72 : decode cX6_serves 72 = .ok (.aload_n 0, 1) := by decide +kernel
theorem dX6_serves_73 : decode cX6_serves 73 = .ok (.iload_n 1, 1) := by decide +kernel
theorem dX6_serves_74 : decode cX6_serves 74 = .ok (.iload 4, 2) := by decide +kernel
theorem dX6_serves_76 : decode cX6_serves 76 = .ok (.invokevirtual 213, 3) := by decide +kernel
theorem dX6_serves_79 : decode cX6_serves 79 = .ok (.goto 10, 3) := by decide +kernel
theorem dX6_serves_82 : decode cX6_serves 82 = .ok (.aload_n 0, 1) := by decide +kernel
theorem dX6_serves_83 : decode cX6_serves 83 = .ok (.iload_n 1, 1) := by decide +kernel
theorem dX6_serves_84 : decode cX6_serves 84 = .ok (.iconst 3, 1) := by decide +kernel
theorem dX6_serves_85 : decode cX6_serves 85 = .ok (.iconst 1, 1) := by decide +kernel
theorem dX6_serves_86 : decode cX6_serves 86 = .ok (.invokevirtual 174, 3) := by decide +kernel
theorem dX6_serves_89 : decode cX6_serves 89 = .ok (.iinc 3 1, 3) := by decide +kernel
theorem dX6_serves_92 : decode cX6_serves 92 = .ok (.goto (-84), 3) := by decide +kernel
theorem dX6_serves_95 : decode cX6_serves 95 = .ok (.aload_n 0, 1) := by decide +kernel
theorem dX6_serves_96 : decode cX6_serves 96 = .ok (.iload_n 1, 1) := by decide +kernel
theorem dX6_serves_97 : decode cX6_serves 97 = .ok (.invokevirtual 216, 3) := by decide +kernel
theorem dX6_serves_100 : decode cX6_serves 100 = .ok (.ifCond .eq 10, 3) := by decide +kernel
theorem dX6_serves_103 : decode cX6_serves 103 = .ok (.aload_n 0, 1) := by decide +kernel
theorem dX6_serves_104 : decode cX6_serves 104 = .ok (.iload_n 1, 1) := by decide +kernel
theorem dX6_serves_105 : decode cX6_serves 105 = .ok (.iconst 3, 1) := by decide +kernel
theorem dX6_serves_106 : decode cX6_serves 106 = .ok (.iconst 1, 1) := by decide +kernel
theorem dX6_serves_107 : decode cX6_serves 107 = .ok (.invokevirtual 174, 3) := by decide +kernel
theorem dX6_serves_110 : decode cX6_serves 110 = .ok (.return_, 1) := by decide +kernel
theorem w_serves {l : Launch} {D : va_G} {cI : ClassId} {ad : Nat → Nat} (hI : kInj 15 ad) {st st' : MSt} {N : Nat} {x1 : Int32} (h : M_serves  N st x1 = some st') : mV l yX6_serves cX6_serves 5 none 58 D cI ad st [.int x1] none st' := by
  refine mm_ofV hI (by decide) rfl (Nat.le_of_ble_eq_true rfl) (fun p e s m below meth c R args ls C hr hlk hP hS hl hcs => ?_)
  have hx := C.1
  have hb := C.2.1
  have hown := C.2.2.2.1
  have hl : lv_has ls 5 [(0, .ref (ad 0)), (1, .int x1)] := hl
  have hP : mW D cI ad st s.heap := hP
  have L34 : ∀ (st : MSt), ∀ (x1 : Int32), ∀ (x2 : Int32), ∀ (x3 : Int32), ∀ (n : Nat) (x4 : Int32) (z4 : Int32), M_serves_L34 N st x1 x2 x3 n x4 = some z4 → ∀ (H : Heap) (locs : List Loc), mW D cI ad st H → va_S (kF 15 ad) s.heap H locs → ∀ ls : Array Slot, lv_has ls 5 [(0, .ref (ad 0)), (1, .int x1), (2, .int x2), (3, .int x3), (4, .int x4)] → (∀ ls : Array Slot, lv_has ls 5 [(0, .ref (ad 0)), (1, .int x1), (2, .int x2), (3, .int x3), (4, .int z4)] → mWV p l e R s m args below meth c D cI ad none st' H locs (F0 m 61 ls [])) → mWV p l e R s m args below meth c D cI ad none st' H locs (F0 m 34 ls []) := by
    intro st x1 x2 x3 n
    induction n with
    | zero =>
      intro x4 z4 h
      exact non_some h
    | succ n ih =>
      intro x4 z4 h H locs hP hS ls hl kx
      rw [M_serves_L34] at h
      refine lv_iload hx hb dX6_serves_34 (lv_at hl 4 rfl) ?_
      refine lv_aload_n hx hb dX6_serves_36 rfl (lv_at hl 0 rfl) ?_
      refine g_d C hP dX6_serves_37 ?_
      refine lv_iconst (v := 0) hx hb dX6_serves_40 (by decide) ?_
      obtain ⟨v7, hv7, h⟩ := bd1_some h
      refine mm_ld C hP 1 (by decide) rfl hv7 dX6_serves_41 ?_
      refine lv_icmp_ge (tgt := 61) hx hb dX6_serves_42 rfl (fun c8 => ?_) (fun c8 => ?_)
      · have h := if_some_t h c8
        cases h
        exact kx ls (lv_sub hl [0, 1, 2, 3, 4] rfl)
      · have h := if_some_f h c8
        refine lv_aload_n hx hb dX6_serves_45 rfl (lv_at hl 0 rfl) ?_
        refine lv_iload_n hx hb dX6_serves_46 rfl (lv_at hl 1 rfl) ?_
        refine lv_iload hx hb dX6_serves_47 (lv_at hl 4 rfl) ?_
        obtain ⟨v9, hv9, h⟩ := bd1_some h
        refine k_mayTell C hP hv9 (Nat.le_of_ble_eq_true rfl) hl.1 (Nat.le_of_ble_eq_true rfl) hcs dX6_serves_49 ?_
        refine lv_if_ne (tgt := 61) hx hb dX6_serves_52 rfl (fun c10 => ?_) (fun c10 => ?_)
        · have h := if_some_f h c10
          cases h
          exact kx ls (lv_sub hl [0, 1, 2, 3, 4] rfl)
        · have h := if_some_t h c10
          refine lv_iinc (v := x4 + 1) (lv' := [(4, .int (x4 + 1)), (0, .ref (ad 0)), (1, .int x1), (2, .int x2), (3, .int x3)]) hx hb dX6_serves_55 hl (k := 4) rfl rfl (by decide) rfl (fun ls hl => ?_)
          refine lv_goto (tgt := 34) hx hb dX6_serves_58 rfl ?_
          exact ih (x4 + 1) _ h _ _ hP hS ls (lv_sub hl [1, 2, 3, 4, 0] rfl) kx
  have L8 : ∀ (x1 : Int32), ∀ (x2 : Int32), ∀ (n : Nat) (st : MSt) (x3 : Int32) (st2 : MSt), M_serves_L8 N x1 x2 n st x3 = some st2 → ∀ (H : Heap) (locs : List Loc), mW D cI ad st H → va_S (kF 15 ad) s.heap H locs → ∀ ls : Array Slot, lv_has ls 5 [(0, .ref (ad 0)), (1, .int x1), (2, .int x2), (3, .int x3)] → (∀ (H : Heap) (locs : List Loc), mW D cI ad st2 H → va_S (kF 15 ad) s.heap H locs → ∀ ls : Array Slot, lv_has ls 5 [(0, .ref (ad 0)), (1, .int x1)] → mWV p l e R s m args below meth c D cI ad none st' H locs (F0 m 95 ls [])) → mWV p l e R s m args below meth c D cI ad none st' H locs (F0 m 8 ls []) := by
    intro x1 x2 n
    induction n with
    | zero =>
      intro st x3 st2 h
      exact non_some h
    | succ n ih =>
      intro st x3 st2 h H locs hP hS ls hl kx
      rw [M_serves_L8] at h
      refine lv_iload_n hx hb dX6_serves_8 rfl (lv_at hl 3 rfl) ?_
      refine lv_iload_n hx hb dX6_serves_9 rfl (lv_at hl 2 rfl) ?_
      refine lv_icmp_ge (tgt := 95) hx hb dX6_serves_10 rfl (fun c2 => ?_) (fun c2 => ?_)
      · have h := if_some_t h c2
        cases h
        exact kx _ _ hP hS ls (lv_sub hl [0, 1] rfl)
      · have h := if_some_f h c2
        refine lv_aload_n hx hb dX6_serves_13 rfl (lv_at hl 0 rfl) ?_
        refine lv_iload_n hx hb dX6_serves_14 rfl (lv_at hl 1 rfl) ?_
        refine lv_iconst (v := 2) hx hb dX6_serves_15 (by decide) ?_
        obtain ⟨v3, hv3, h⟩ := bd1_some h
        refine k_of C hP hv3 (Nat.le_of_ble_eq_true rfl) hl.1 (Nat.le_of_ble_eq_true rfl) hcs dX6_serves_16 ?_
        refine lv_if_le (tgt := 95) hx hb dX6_serves_19 rfl (fun c4 => ?_) (fun c4 => ?_)
        · have h := if_some_t h c4
          cases h
          exact kx _ _ hP hS ls (lv_sub hl [0, 1] rfl)
        · have h := if_some_f h c4
          refine lv_aload_n hx hb dX6_serves_22 rfl (lv_at hl 0 rfl) ?_
          refine lv_iload_n hx hb dX6_serves_23 rfl (lv_at hl 1 rfl) ?_
          refine lv_iconst (v := 3) hx hb dX6_serves_24 (by decide) ?_
          obtain ⟨v5, hv5, h⟩ := bd1_some h
          refine k_of C hP hv5 (Nat.le_of_ble_eq_true rfl) hl.1 (Nat.le_of_ble_eq_true rfl) hcs dX6_serves_25 ?_
          refine lv_if_ne (tgt := 95) hx hb dX6_serves_28 rfl (fun c6 => ?_) (fun c6 => ?_)
          · have h := if_some_f h c6
            cases h
            exact kx _ _ hP hS ls (lv_sub hl [0, 1] rfl)
          · have h := if_some_t h c6
            refine lv_iconst (v := 0) hx hb dX6_serves_31 (by decide) ?_
            refine lv_istore (lv' := [(4, .int 0), (0, .ref (ad 0)), (1, .int x1), (2, .int x2), (3, .int x3)]) hx hb dX6_serves_32 hl (by decide) rfl (fun ls hl => ?_)
            obtain ⟨z11, hz18, h⟩ := bd1_some h
            refine L34 st x1 x2 x3 N 0 _ hz18 _ _ hP hS ls (lv_sub hl [1, 2, 3, 4, 0] rfl) (fun ls hl => ?_)
            refine lv_iload hx hb dX6_serves_61 (lv_at hl 4 rfl) ?_
            refine lv_aload_n hx hb dX6_serves_63 rfl (lv_at hl 0 rfl) ?_
            refine g_d C hP dX6_serves_64 ?_
            refine lv_iconst (v := 0) hx hb dX6_serves_67 (by decide) ?_
            obtain ⟨v12, hv12, h⟩ := bd1_some h
            refine mm_ld C hP 1 (by decide) rfl hv12 dX6_serves_68 ?_
            refine lv_icmp_ge (tgt := 82) hx hb dX6_serves_69 rfl (fun c13 => ?_) (fun c13 => ?_)
            · have h := if_some_t h c13
              refine lv_aload_n hx hb dX6_serves_82 rfl (lv_at hl 0 rfl) ?_
              refine lv_iload_n hx hb dX6_serves_83 rfl (lv_at hl 1 rfl) ?_
              refine lv_iconst (v := 3) hx hb dX6_serves_84 (by decide) ?_
              refine lv_iconst (v := 1) hx hb dX6_serves_85 (by decide) ?_
              obtain ⟨st15, hv14, h⟩ := bd1_some h
              refine k_sets C hP hS hv14 (Nat.le_of_ble_eq_true rfl) hl.1 (Nat.le_of_ble_eq_true rfl) hcs dX6_serves_86 (fun H locs hP hS => ?_)
              refine lv_iinc (v := x3 + 1) (lv' := [(3, .int (x3 + 1)), (0, .ref (ad 0)), (1, .int x1), (2, .int x2), (4, .int z11)]) hx hb dX6_serves_89 hl (k := 3) rfl rfl (by decide) rfl (fun ls hl => ?_)
              refine lv_goto (tgt := 8) hx hb dX6_serves_92 rfl ?_
              exact ih st15 (x3 + 1) _ h _ _ hP hS ls (lv_sub hl [1, 2, 3, 0] rfl) kx
            · have h := if_some_f h c13
              refine lv_aload_n hx hb dX6_serves_72 rfl (lv_at hl 0 rfl) ?_
              refine lv_iload_n hx hb dX6_serves_73 rfl (lv_at hl 1 rfl) ?_
              refine lv_iload hx hb dX6_serves_74 (lv_at hl 4 rfl) ?_
              obtain ⟨st17, hv16, h⟩ := bd1_some h
              refine k_tellsNow C hP hS hv16 (Nat.le_of_ble_eq_true rfl) hl.1 (Nat.le_of_ble_eq_true rfl) hcs dX6_serves_76 (fun H locs hP hS => ?_)
              refine lv_goto (tgt := 89) hx hb dX6_serves_79 rfl ?_
              refine lv_iinc (v := x3 + 1) (lv' := [(3, .int (x3 + 1)), (0, .ref (ad 0)), (1, .int x1), (2, .int x2), (4, .int z11)]) hx hb dX6_serves_89 hl (k := 3) rfl rfl (by decide) rfl (fun ls hl => ?_)
              refine lv_goto (tgt := 8) hx hb dX6_serves_92 rfl ?_
              exact ih st17 (x3 + 1) _ h _ _ hP hS ls (lv_sub hl [1, 2, 3, 0] rfl) kx
  rw [M_serves] at h
  refine lv_aload_n hx hb dX6_serves_0 rfl (lv_at hl 0 rfl) ?_
  refine lv_iload_n hx hb dX6_serves_1 rfl (lv_at hl 1 rfl) ?_
  obtain ⟨v1, hv1, h⟩ := bd1_some h
  refine k_dueOf C hP hv1 (Nat.le_of_ble_eq_true rfl) hl.1 (Nat.le_of_ble_eq_true rfl) hcs dX6_serves_2 ?_
  refine lv_istore_n (lv' := [(2, .int v1), (0, .ref (ad 0)), (1, .int x1)]) hx hb dX6_serves_5 rfl hl (by decide) rfl (fun ls hl => ?_)
  refine lv_iconst (v := 0) hx hb dX6_serves_6 (by decide) ?_
  refine lv_istore_n (lv' := [(3, .int 0), (2, .int v1), (0, .ref (ad 0)), (1, .int x1)]) hx hb dX6_serves_7 rfl hl (by decide) rfl (fun ls hl => ?_)
  obtain ⟨st19, hz24, h⟩ := bd1_some h
  refine L8 x1 v1 N _ 0 _ hz24 _ _ hP hS ls (lv_sub hl [2, 3, 1, 0] rfl) (fun H locs hP hS ls hl => ?_)
  refine lv_aload_n hx hb dX6_serves_95 rfl (lv_at hl 0 rfl) ?_
  refine lv_iload_n hx hb dX6_serves_96 rfl (lv_at hl 1 rfl) ?_
  obtain ⟨v20, hv20, h⟩ := bd1_some h
  refine k_isOverdue C hP hv20 (Nat.le_of_ble_eq_true rfl) hl.1 (Nat.le_of_ble_eq_true rfl) hcs dX6_serves_97 ?_
  refine lv_if_eq (tgt := 110) hx hb dX6_serves_100 rfl (fun c21 => ?_) (fun c21 => ?_)
  · have h := if_some_t h c21
    exact mm_vret hx hb hr hlk h hP hS dX6_serves_110
  · have h := if_some_f h c21
    refine lv_aload_n hx hb dX6_serves_103 rfl (lv_at hl 0 rfl) ?_
    refine lv_iload_n hx hb dX6_serves_104 rfl (lv_at hl 1 rfl) ?_
    refine lv_iconst (v := 3) hx hb dX6_serves_105 (by decide) ?_
    refine lv_iconst (v := 1) hx hb dX6_serves_106 (by decide) ?_
    obtain ⟨st23, hv22, h⟩ := bd1_some h
    refine k_sets C hP hS hv22 (Nat.le_of_ble_eq_true rfl) hl.1 (Nat.le_of_ble_eq_true rfl) hcs dX6_serves_107 (fun H locs hP hS => ?_)
    exact mm_vret hx hb hr hlk h hP hS dX6_serves_110
theorem q1823 : (Jvm.Cond.methodLink "ChapterLoanModel" (219 : Nat) ({ cls := "ChapterLoanModel", name := "serves", desc := "(I)V" } : Jvm.MethodName)) ∈ lw_all := lw_g (lw_at lw_m8 59 rfl) rfl
theorem q1826 : (Jvm.Cond.code ({ cls := "ChapterLoanModel", name := "serves", desc := "(I)V" } : Jvm.MethodName) prog_30_method_56_code (5 : Nat) (Option.none : Option Jvm.ClassFile.FieldType)) ∈ lw_all := lw_g (lw_at lw_m8 62 rfl) rfl
theorem q1825 : (Jvm.Cond.instanceMethod ({ cls := "ChapterLoanModel", name := "serves", desc := "(I)V" } : Jvm.MethodName)) ∈ lw_all := lw_g (lw_at lw_m8 61 rfl) rfl
theorem k_serves {N : Nat} {a0 : Int32} {st' : MSt} (C : mC p R d s m args c cc nL D cI ad) (hP : mW D cI ad st H) (hS : va_S (kF 15 ad) H0 H locs) (h : M_serves N st a0 = some st') (hd : 58 + 1 ≤ d) (hsz : ls.size = nL) (hW : (rest.map fun v => v.category).sum ≤ 8) (hcs : cells ≤ R.cells ∧ slots ≤ R.slots) (hdg : decode cc pc = .ok (.invokevirtual 219, 3)) (kk : ∀ (H1 : Heap) (locs1 : List Loc), mW D cI ad st' H1 → va_S (kF 15 ad) H0 H1 locs1 → W p l e R s m args below meth c H1 locs1 cells slots Q (F0 m (pc + 3) ls (rest))) : W p l e R s m args below meth c H locs cells slots Q (F0 m pc ls (.int a0 :: .ref (ad 0) :: rest)) :=
  mm_cV (As := [.int a0]) C hP hS (w_serves C.2.2.2.2.2.2.1 h) (cwV 1 C.2.2.2.2.1 (lw_V q1823 q1825 qs64 q94 q1826) rfl rfl rfl (by decide +kernel) (mr_ C.2.2.2.2.2.2.2 hd (by decide))) rfl hsz rfl hW hdg hcs kk
abbrev cX6_aWeek : ByteArray := prog_30_method_57_code
def yX6_aWeek : MethodName := ⟨RX6, "aWeek", "()V"⟩
theorem dX6_aWeek_0 : decode cX6_aWeek 0 = .ok (.iconst 0, 1) := by decide +kernel
theorem dX6_aWeek_1 : decode cX6_aWeek 1 = .ok (.istore_n 1, 1) := by decide +kernel
theorem dX6_aWeek_2 : decode cX6_aWeek 2 = .ok (.iload_n 1, 1) := by decide +kernel
theorem dX6_aWeek_3 : decode cX6_aWeek 3 = .ok (.aload_n 0, 1) := by decide +kernel
theorem dX6_aWeek_4 : decode cX6_aWeek 4 = .ok (.getfield 7, 3) := by decide +kernel
theorem dX6_aWeek_7 : decode cX6_aWeek 7 = .ok (.iconst 1, 1) := by decide +kernel
theorem dX6_aWeek_8 : decode cX6_aWeek 8 = .ok (.iaload, 1) := by decide +kernel
theorem dX6_aWeek_9 : decode cX6_aWeek 9 = .ok (.if_icmp .ge 32, 3) := by decide +kernel
theorem dX6_aWeek_12 : decode cX6_aWeek 12 = .ok (.aload_n 0, 1) := by decide +kernel
theorem dX6_aWeek_13 : decode cX6_aWeek 13 = .ok (.iload_n 1, 1) := by decide +kernel
theorem dX6_aWeek_14 : decode cX6_aWeek 14 = .ok (.iconst 3, 1) := by decide +kernel
theorem dX6_aWeek_15 : decode cX6_aWeek 15 = .ok (.invokevirtual 150, 3) := by decide +kernel
theorem dX6_aWeek_18 : decode cX6_aWeek 18 = .ok (.ifCond .ne 17, 3) := by decide +kernel
theorem dX6_aWeek_21 : decode cX6_aWeek 21 = .ok (.aload_n 0, 1) := by decide +kernel
theorem dX6_aWeek_22 : decode cX6_aWeek 22 = .ok (.iload_n 1, 1) := by decide +kernel
theorem dX6_aWeek_23 : decode cX6_aWeek 23 = .ok (.iconst 2, 1) := by decide +kernel
theorem dX6_aWeek_24 : decode cX6_aWeek 24 = .ok (.invokevirtual 150, 3) := by decide +kernel
theorem dX6_aWeek_27 : decode cX6_aWeek 27 = .ok (.ifCond .le 8, 3) := by decide +kernel
theorem dX6_aWeek_30 : decode cX6_aWeek 30 = .ok (.aload_n 0, 1) := by decide +kernel
theorem dX6_aWeek_31 : decode cX6_aWeek 31 = .ok (.iload_n 1, 1) := by decide +kernel
theorem dX6_aWeek_32 : decode cX6_aWeek 32 = .ok (.invokevirtual 219, 3) := by decide +kernel
theorem dX6_aWeek_35 : decode cX6_aWeek 35 = .ok (.iinc 1 1, 3) := by decide +kernel
theorem dX6_aWeek_38 : decode cX6_aWeek 38 = .ok (.goto (-36), 3) := by decide +kernel
theorem dX6_aWeek_41 : decode cX6_aWeek 41 = .ok (.aload_n 0, 1) := by decide +kernel
theorem dX6_aWeek_42 : decode cX6_aWeek 42 = .ok (.getfield 7, 3) := by decide +kernel
theorem dX6_aWeek_45 : decode cX6_aWeek 45 = .ok (.iconst 3, 1) := by decide +kernel
theorem dX6_aWeek_46 : decode cX6_aWeek 46 = .ok (.dup2, 1) := by decide +kernel
theorem dX6_aWeek_47 : decode cX6_aWeek 47 = .ok (.iaload, 1) := by decide +kernel
theorem dX6_aWeek_48 : decode cX6_aWeek 48 = .ok (.iconst 1, 1) := by decide +kernel
theorem dX6_aWeek_49 : decode cX6_aWeek 49 = .ok (.iadd, 1) := by decide +kernel
theorem dX6_aWeek_50 : decode cX6_aWeek 50 = .ok (.iastore, 1) := by decide +kernel
theorem dX6_aWeek_51 : decode cX6_aWeek 51 = .ok (.return_, 1) := by decide +kernel
theorem w_aWeek {l : Launch} {D : va_G} {cI : ClassId} {ad : Nat → Nat} (hI : kInj 15 ad) {st st' : MSt} {N : Nat} (h : M_aWeek  N st = some st') : mV l yX6_aWeek cX6_aWeek 2 none 59 D cI ad st [] none st' := by
  refine mm_ofV hI (by decide) rfl (Nat.le_of_ble_eq_true rfl) (fun p e s m below meth c R args ls C hr hlk hP hS hl hcs => ?_)
  have hx := C.1
  have hb := C.2.1
  have hown := C.2.2.2.1
  have hl : lv_has ls 2 [(0, .ref (ad 0))] := hl
  have hP : mW D cI ad st s.heap := hP
  have L2 : ∀ (n : Nat) (st : MSt) (x1 : Int32) (st2 : MSt), M_aWeek_L2 N n st x1 = some st2 → ∀ (H : Heap) (locs : List Loc), mW D cI ad st H → va_S (kF 15 ad) s.heap H locs → ∀ ls : Array Slot, lv_has ls 2 [(0, .ref (ad 0)), (1, .int x1)] → (∀ (H : Heap) (locs : List Loc), mW D cI ad st2 H → va_S (kF 15 ad) s.heap H locs → ∀ ls : Array Slot, lv_has ls 2 [(0, .ref (ad 0))] → mWV p l e R s m args below meth c D cI ad none st' H locs (F0 m 41 ls [])) → mWV p l e R s m args below meth c D cI ad none st' H locs (F0 m 2 ls []) := by
    intro n
    induction n with
    | zero =>
      intro st x1 st2 h
      exact non_some h
    | succ n ih =>
      intro st x1 st2 h H locs hP hS ls hl kx
      rw [M_aWeek_L2] at h
      refine lv_iload_n hx hb dX6_aWeek_2 rfl (lv_at hl 1 rfl) ?_
      refine lv_aload_n hx hb dX6_aWeek_3 rfl (lv_at hl 0 rfl) ?_
      refine g_d C hP dX6_aWeek_4 ?_
      refine lv_iconst (v := 1) hx hb dX6_aWeek_7 (by decide) ?_
      obtain ⟨v1, hv1, h⟩ := bd1_some h
      refine mm_ld C hP 1 (by decide) rfl hv1 dX6_aWeek_8 ?_
      refine lv_icmp_ge (tgt := 41) hx hb dX6_aWeek_9 rfl (fun c2 => ?_) (fun c2 => ?_)
      · have h := if_some_t h c2
        cases h
        exact kx _ _ hP hS ls (lv_sub hl [0] rfl)
      · have h := if_some_f h c2
        refine lv_aload_n hx hb dX6_aWeek_12 rfl (lv_at hl 0 rfl) ?_
        refine lv_iload_n hx hb dX6_aWeek_13 rfl (lv_at hl 1 rfl) ?_
        refine lv_iconst (v := 3) hx hb dX6_aWeek_14 (by decide) ?_
        obtain ⟨v3, hv3, h⟩ := bd1_some h
        refine k_of C hP hv3 (Nat.le_of_ble_eq_true rfl) hl.1 (Nat.le_of_ble_eq_true rfl) hcs dX6_aWeek_15 ?_
        refine lv_if_ne (tgt := 35) hx hb dX6_aWeek_18 rfl (fun c4 => ?_) (fun c4 => ?_)
        · have h := if_some_f h c4
          refine lv_iinc (v := x1 + 1) (lv' := [(1, .int (x1 + 1)), (0, .ref (ad 0))]) hx hb dX6_aWeek_35 hl (k := 1) rfl rfl (by decide) rfl (fun ls hl => ?_)
          refine lv_goto (tgt := 2) hx hb dX6_aWeek_38 rfl ?_
          exact ih st (x1 + 1) _ h _ _ hP hS ls (lv_sub hl [1, 0] rfl) kx
        · have h := if_some_t h c4
          refine lv_aload_n hx hb dX6_aWeek_21 rfl (lv_at hl 0 rfl) ?_
          refine lv_iload_n hx hb dX6_aWeek_22 rfl (lv_at hl 1 rfl) ?_
          refine lv_iconst (v := 2) hx hb dX6_aWeek_23 (by decide) ?_
          obtain ⟨v5, hv5, h⟩ := bd1_some h
          refine k_of C hP hv5 (Nat.le_of_ble_eq_true rfl) hl.1 (Nat.le_of_ble_eq_true rfl) hcs dX6_aWeek_24 ?_
          refine lv_if_le (tgt := 35) hx hb dX6_aWeek_27 rfl (fun c6 => ?_) (fun c6 => ?_)
          · have h := if_some_t h c6
            refine lv_iinc (v := x1 + 1) (lv' := [(1, .int (x1 + 1)), (0, .ref (ad 0))]) hx hb dX6_aWeek_35 hl (k := 1) rfl rfl (by decide) rfl (fun ls hl => ?_)
            refine lv_goto (tgt := 2) hx hb dX6_aWeek_38 rfl ?_
            exact ih st (x1 + 1) _ h _ _ hP hS ls (lv_sub hl [1, 0] rfl) kx
          · have h := if_some_f h c6
            refine lv_aload_n hx hb dX6_aWeek_30 rfl (lv_at hl 0 rfl) ?_
            refine lv_iload_n hx hb dX6_aWeek_31 rfl (lv_at hl 1 rfl) ?_
            obtain ⟨st8, hv7, h⟩ := bd1_some h
            refine k_serves C hP hS hv7 (Nat.le_of_ble_eq_true rfl) hl.1 (Nat.le_of_ble_eq_true rfl) hcs dX6_aWeek_32 (fun H locs hP hS => ?_)
            refine lv_iinc (v := x1 + 1) (lv' := [(1, .int (x1 + 1)), (0, .ref (ad 0))]) hx hb dX6_aWeek_35 hl (k := 1) rfl rfl (by decide) rfl (fun ls hl => ?_)
            refine lv_goto (tgt := 2) hx hb dX6_aWeek_38 rfl ?_
            exact ih st8 (x1 + 1) _ h _ _ hP hS ls (lv_sub hl [1, 0] rfl) kx
  rw [M_aWeek] at h
  refine lv_iconst (v := 0) hx hb dX6_aWeek_0 (by decide) ?_
  refine lv_istore_n (lv' := [(1, .int 0), (0, .ref (ad 0))]) hx hb dX6_aWeek_1 rfl hl (by decide) rfl (fun ls hl => ?_)
  obtain ⟨st9, hz12, h⟩ := bd1_some h
  refine L2  N _ 0 _ hz12 _ _ hP hS ls (lv_sub hl [1, 0] rfl) (fun H locs hP hS ls hl => ?_)
  refine lv_aload_n hx hb dX6_aWeek_41 rfl (lv_at hl 0 rfl) ?_
  refine g_d C hP dX6_aWeek_42 ?_
  refine lv_iconst (v := 3) hx hb dX6_aWeek_45 (by decide) ?_
  refine lv_dup2_11 hx hb dX6_aWeek_46 rfl rfl ?_
  obtain ⟨v10, hv10, h⟩ := bd1_some h
  refine mm_ld C hP 1 (by decide) rfl hv10 dX6_aWeek_47 ?_
  refine lv_iconst (v := 1) hx hb dX6_aWeek_48 (by decide) ?_
  refine lv_iadd hx hb dX6_aWeek_49 ?_
  obtain ⟨b11, hb11, h⟩ := bd1_some h
  refine mm_st C hP hS 1 (by decide) rfl hb11 dX6_aWeek_50 (fun H locs hP hS => ?_)
  exact mm_vret hx hb hr hlk h hP hS dX6_aWeek_51
theorem q1819 : (Jvm.Cond.methodLink "ChapterLoanModel" (229 : Nat) ({ cls := "ChapterLoanModel", name := "aWeek", desc := "()V" } : Jvm.MethodName)) ∈ lw_all := lw_g (lw_at lw_m8 55 rfl) rfl
theorem q1822 : (Jvm.Cond.code ({ cls := "ChapterLoanModel", name := "aWeek", desc := "()V" } : Jvm.MethodName) prog_30_method_57_code (2 : Nat) (Option.none : Option Jvm.ClassFile.FieldType)) ∈ lw_all := lw_g (lw_at lw_m8 58 rfl) rfl
theorem q1821 : (Jvm.Cond.instanceMethod ({ cls := "ChapterLoanModel", name := "aWeek", desc := "()V" } : Jvm.MethodName)) ∈ lw_all := lw_g (lw_at lw_m8 57 rfl) rfl
theorem k_aWeek {N : Nat} {st' : MSt} (C : mC p R d s m args c cc nL D cI ad) (hP : mW D cI ad st H) (hS : va_S (kF 15 ad) H0 H locs) (h : M_aWeek N st = some st') (hd : 59 + 1 ≤ d) (hsz : ls.size = nL) (hW : (rest.map fun v => v.category).sum ≤ 8) (hcs : cells ≤ R.cells ∧ slots ≤ R.slots) (hdg : decode cc pc = .ok (.invokevirtual 229, 3)) (kk : ∀ (H1 : Heap) (locs1 : List Loc), mW D cI ad st' H1 → va_S (kF 15 ad) H0 H1 locs1 → W p l e R s m args below meth c H1 locs1 cells slots Q (F0 m (pc + 3) ls (rest))) : W p l e R s m args below meth c H locs cells slots Q (F0 m pc ls (.ref (ad 0) :: rest)) :=
  mm_cV (As := []) C hP hS (w_aWeek C.2.2.2.2.2.2.1 h) (cwV 0 C.2.2.2.2.1 (lw_V q1819 q1821 qs63 q94 q1822) rfl rfl rfl (by decide +kernel) (mr_ C.2.2.2.2.2.2.2 hd (by decide))) rfl hsz rfl hW hdg hcs kk
abbrev cX6_passes : ByteArray := prog_30_method_60_code
def yX6_passes : MethodName := ⟨RX6, "passes", "(IZ)I"⟩
theorem dX6_passes_0 : decode cX6_passes 0 = .ok (.iload_n 1, 1) := by decide +kernel
theorem dX6_passes_1 : decode cX6_passes 1 = .ok (.i2l, 1) := by decide +kernel
theorem dX6_passes_2 : decode cX6_passes 2 = .ok (.lconst 1, 1) := by decide +kernel
theorem dX6_passes_3 : decode cX6_passes 3 = .ok (.ldc2_w 224, 3) := by decide +kernel
theorem dX6_passes_6 : decode cX6_passes 6 = .ok (.invokestatic 57, 3) := by decide +kernel
theorem dX6_passes_9 : decode cX6_passes 9 = .ok (.ifCond .ne 9, 3) := by decide +kernel
theorem dX6_passes_12 : decode cX6_passes 12 = .ok (.aload_n 0, 1) := by decide +kernel
theorem dX6_passes_13 : decode cX6_passes 13 = .ok (.iconst 1, 1) := by decide +kernel
theorem dX6_passes_14 : decode cX6_passes 14 = .ok (.invokevirtual 119, 3) := by decide +kernel
theorem dX6_passes_17 : decode cX6_passes 17 = .ok (.ireturn, 1) := by decide +kernel
theorem dX6_passes_18 : decode cX6_passes 18 = .ok (.aload_n 0, 1) := by decide +kernel
theorem dX6_passes_19 : decode cX6_passes 19 = .ok (.getfield 7, 3) := by decide +kernel
theorem dX6_passes_22 : decode cX6_passes 22 = .ok (.iconst 3, 1) := by decide +kernel
theorem dX6_passes_23 : decode cX6_passes 23 = .ok (.iaload, 1) := by decide +kernel
theorem dX6_passes_24 : decode cX6_passes 24 = .ok (.iload_n 1, 1) := by decide +kernel
theorem dX6_passes_25 : decode cX6_passes 25 = .ok (.iadd, 1) := by decide +kernel
theorem dX6_passes_26 : decode cX6_passes 26 = .ok (.sipush 999, 3) := by decide +kernel
theorem dX6_passes_29 : decode cX6_passes 29 = .ok (.if_icmp .le 9, 3) := by decide +kernel
theorem dX6_passes_32 : decode cX6_passes 32 = .ok (.aload_n 0, 1) := by decide +kernel
theorem dX6_passes_33 : decode cX6_passes 33 = .ok (.iconst 3, 1) := by decide +kernel
theorem dX6_passes_34 : decode cX6_passes 34 = .ok (.invokevirtual 119, 3) := by decide +kernel
theorem dX6_passes_37 : decode cX6_passes 37 = .ok (.ireturn, 1) := by decide +kernel
theorem dX6_passes_38 : decode cX6_passes 38 = .ok (.iconst 0, 1) := by decide +kernel
theorem dX6_passes_39 : decode cX6_passes 39 = .ok (.istore_n 3, 1) := by decide +kernel
theorem dX6_passes_40 : decode cX6_passes 40 = .ok (.iload_n 3, 1) := by decide +kernel
theorem dX6_passes_41 : decode cX6_passes 41 = .ok (.iload_n 1, 1) := by decide +kernel
theorem dX6_passes_42 : decode cX6_passes 42 = .ok (.if_icmp .ge 73, 3) := by decide +kernel
theorem dX6_passes_45 : decode cX6_passes 45 = .ok (.iload_n 2, 1) := by decide +kernel
theorem dX6_passes_46 : decode cX6_passes 46 = .ok (.ifCond .eq 12, 3) := by decide +kernel
theorem dX6_passes_49 : decode cX6_passes 49 = .ok (.aload_n 0, 1) := by decide +kernel
theorem dX6_passes_50 : decode cX6_passes 50 = .ok (.invokevirtual 226, 3) := by decide +kernel
theorem dX6_passes_53 : decode cX6_passes 53 = .ok (.iconst 4, 1) := by decide +kernel
theorem dX6_passes_54 : decode cX6_passes 54 = .ok (.irem, 1) := by decide +kernel
theorem dX6_passes_55 : decode cX6_passes 55 = .ok (.goto 4, 3) := by decide +kernel
theorem dX6_passes_58 : decode cX6_passes 58 = .ok (.iconst 0, 1) := by decide +kernel
theorem dX6_passes_59 : decode cX6_passes 59 = .ok (.istore 4, 2) := by decide +kernel
theorem dX6_passes_61 : decode cX6_passes 61 = .ok (.iload_n 2, 1) := by decide +kernel
theorem dX6_passes_62 : decode cX6_passes 62 = .ok (.ifCond .eq 13, 3) := by decide +kernel
theorem dX6_passes_65 : decode cX6_passes 65 = .ok (.aload_n 0, 1) := by decide +kernel
theorem dX6_passes_66 : decode cX6_passes 66 = .ok (.invokevirtual 226, 3) := by decide +kernel
theorem dX6_passes_69 : decode cX6_passes 69 = .ok (.bipush 50, 2) := by decide +kernel
theorem dX6_passes_71 : decode cX6_passes 71 = .ok (.irem, 1) := by decide +kernel
theorem dX6_passes_72 : decode cX6_passes 72 = .ok (.goto 4, 3) := by decide +kernel
theorem dX6_passes_75 : decode cX6_passes 75 = .ok (.iconst 0, 1) := by decide +kernel
theorem dX6_passes_76 : decode cX6_passes 76 = .ok (.istore 5, 2) := by decide +kernel
theorem dX6_passes_78 : decode cX6_passes 78 = .ok (.aload_n 0, 1) := by decide +kernel
theorem dX6_passes_79 : decode cX6_passes 79 = .ok (.iload 4, 2) := by decide +kernel
theorem dX6_passes_81 : decode cX6_passes 81 = .ok (.invokevirtual 197, 3) := by decide +kernel
theorem dX6_passes_84 : decode cX6_passes 84 = .ok (.ifCond .eq 21, 3) := by decide +kernel
theorem dX6_passes_87 : decode cX6_passes 87 = .ok (.aload_n 0, 1) := by decide +kernel
theorem dX6_passes_88 : decode cX6_passes 88 = .ok (.iload 4, 2) := by decide +kernel
theorem dX6_passes_90 : decode cX6_passes 90 = .ok (.iconst 3, 1) := by decide +kernel
theorem dX6_passes_91 : decode cX6_passes 91 = .ok (.invokevirtual 150, 3) := by decide +kernel
theorem dX6_passes_94 : decode cX6_passes 94 = .ok (.ifCond .ne 11, 3) := by decide +kernel
theorem dX6_passes_97 : decode cX6_passes 97 = .ok (.aload_n 0, 1) := by decide +kernel
theorem dX6_passes_98 : decode cX6_passes 98 = .ok (.iload 4, 2) := by decide +kernel
theorem dX6_passes_100 : decode cX6_passes 100 = .ok (.iload 5, 2) := by decide +kernel
theorem dX6_passes_102 : decode cX6_passes 102 = .ok (.invokevirtual 210, 3) := by decide +kernel
theorem dX6_passes_105 : decode cX6_passes 105 = .ok (.aload_n 0, 1) := by decide +kernel
theorem dX6_passes_106 : decode cX6_passes 106 = .ok (.invokevirtual 229, 3) := by decide +kernel
theorem dX6_passes_109 : decode cX6_passes 109 = .ok (.iinc 3 1, 3) := by decide +kernel
theorem dX6_passes_112 : decode cX6_passes 112 = .ok (.goto (-72), 3) := by decide +kernel
theorem dX6_passes_115 : decode cX6_passes 115 = .ok (.aload_n 0, 1) := by decide +kernel
theorem dX6_passes_116 : decode cX6_passes 116 = .ok (.invokevirtual 232, 3) := by decide +kernel
theorem dX6_passes_119 : decode cX6_passes 119 = .ok (.ireturn, 1) := by decide +kernel
theorem q1813 : (Jvm.Cond.constantLong "ChapterLoanModel" (224 : Nat) (60 : Int64)) ∈ lw_all := lw_g (lw_at lw_m8 49 rfl) rfl
theorem w_passes {l : Launch} {D : va_G} {cI : ClassId} {ad : Nat → Nat} (hI : kInj 15 ad) {st st' : MSt} {N : Nat} {x1 : Int32} {x2 : Int32} {r0 : Int32} (h : M_passes  N st x1 x2 = some (r0, st')) : mV l yX6_passes cX6_passes 6 (some .int) 60 D cI ad st [.int x1, .int x2] (some (.int r0)) st' := by
  refine mm_ofV hI (by decide) rfl (Nat.le_of_ble_eq_true rfl) (fun p e s m below meth c R args ls C hr hlk hP hS hl hcs => ?_)
  have hx := C.1
  have hb := C.2.1
  have hown := C.2.2.2.1
  have hl : lv_has ls 6 [(0, .ref (ad 0)), (1, .int x1), (2, .int x2)] := hl
  have hP : mW D cI ad st s.heap := hP
  have L40 : ∀ (x1 : Int32), ∀ (x2 : Int32), ∀ (n : Nat) (st : MSt) (x3 : Int32) (st2 : MSt), M_passes_L40 N x1 x2 n st x3 = some st2 → ∀ (H : Heap) (locs : List Loc), mW D cI ad st H → va_S (kF 15 ad) s.heap H locs → ∀ ls : Array Slot, lv_has ls 6 [(0, .ref (ad 0)), (1, .int x1), (2, .int x2), (3, .int x3)] → (∀ (H : Heap) (locs : List Loc), mW D cI ad st2 H → va_S (kF 15 ad) s.heap H locs → ∀ ls : Array Slot, lv_has ls 6 [(0, .ref (ad 0))] → mWV p l e R s m args below meth c D cI ad (some (.int r0)) st' H locs (F0 m 115 ls [])) → mWV p l e R s m args below meth c D cI ad (some (.int r0)) st' H locs (F0 m 40 ls []) := by
    intro x1 x2 n
    induction n with
    | zero =>
      intro st x3 st2 h
      exact non_some h
    | succ n ih =>
      intro st x3 st2 h H locs hP hS ls hl kx
      rw [M_passes_L40] at h
      refine lv_iload_n hx hb dX6_passes_40 rfl (lv_at hl 3 rfl) ?_
      refine lv_iload_n hx hb dX6_passes_41 rfl (lv_at hl 1 rfl) ?_
      refine lv_icmp_ge (tgt := 115) hx hb dX6_passes_42 rfl (fun c5 => ?_) (fun c5 => ?_)
      · have h := if_some_t h c5
        cases h
        exact kx _ _ hP hS ls (lv_sub hl [0] rfl)
      · have h := if_some_f h c5
        refine lv_iload_n hx hb dX6_passes_45 rfl (lv_at hl 2 rfl) ?_
        refine lv_if_eq (tgt := 58) hx hb dX6_passes_46 rfl (fun c6 => ?_) (fun c6 => ?_)
        · have h := if_some_t h c6
          refine lv_iconst (v := 0) hx hb dX6_passes_58 (by decide) ?_
          refine lv_istore (lv' := [(4, .int 0), (0, .ref (ad 0)), (1, .int x1), (2, .int x2), (3, .int x3)]) hx hb dX6_passes_59 hl (by decide) rfl (fun ls hl => ?_)
          refine lv_iload_n hx hb dX6_passes_61 rfl (lv_at hl 3 rfl) ?_
          refine lv_if_eq (tgt := 75) hx hb dX6_passes_62 rfl (fun c7 => ?_) (fun c7 => ?_)
          · have h := if_some_t h c7
            refine lv_iconst (v := 0) hx hb dX6_passes_75 (by decide) ?_
            refine lv_istore (lv' := [(5, .int 0), (4, .int 0), (0, .ref (ad 0)), (1, .int x1), (2, .int x2), (3, .int x3)]) hx hb dX6_passes_76 hl (by decide) rfl (fun ls hl => ?_)
            refine lv_aload_n hx hb dX6_passes_78 rfl (lv_at hl 2 rfl) ?_
            refine lv_iload hx hb dX6_passes_79 (lv_at hl 1 rfl) ?_
            obtain ⟨v8, hv8, h⟩ := bd1_some h
            refine k_isDebtor C hP hv8 (Nat.le_of_ble_eq_true rfl) hl.1 (Nat.le_of_ble_eq_true rfl) hcs dX6_passes_81 ?_
            refine lv_if_eq (tgt := 105) hx hb dX6_passes_84 rfl (fun c9 => ?_) (fun c9 => ?_)
            · have h := if_some_t h c9
              refine lv_aload_n hx hb dX6_passes_105 rfl (lv_at hl 2 rfl) ?_
              obtain ⟨st11, hv10, h⟩ := bd1_some h
              refine k_aWeek C hP hS hv10 (Nat.le_of_ble_eq_true rfl) hl.1 (Nat.le_of_ble_eq_true rfl) hcs dX6_passes_106 (fun H locs hP hS => ?_)
              refine lv_iinc (v := x3 + 1) (lv' := [(3, .int (x3 + 1)), (5, .int 0), (4, .int 0), (0, .ref (ad 0)), (1, .int x1), (2, .int x2)]) hx hb dX6_passes_109 hl (k := 5) rfl rfl (by decide) rfl (fun ls hl => ?_)
              refine lv_goto (tgt := 40) hx hb dX6_passes_112 rfl ?_
              exact ih st11 (x3 + 1) _ h _ _ hP hS ls (lv_sub hl [3, 4, 5, 0] rfl) kx
            · have h := if_some_f h c9
              refine lv_aload_n hx hb dX6_passes_87 rfl (lv_at hl 2 rfl) ?_
              refine lv_iload hx hb dX6_passes_88 (lv_at hl 1 rfl) ?_
              refine lv_iconst (v := 3) hx hb dX6_passes_90 (by decide) ?_
              obtain ⟨v12, hv12, h⟩ := bd1_some h
              refine k_of C hP hv12 (Nat.le_of_ble_eq_true rfl) hl.1 (Nat.le_of_ble_eq_true rfl) hcs dX6_passes_91 ?_
              refine lv_if_ne (tgt := 105) hx hb dX6_passes_94 rfl (fun c13 => ?_) (fun c13 => ?_)
              · have h := if_some_f h c13
                refine lv_aload_n hx hb dX6_passes_105 rfl (lv_at hl 2 rfl) ?_
                obtain ⟨st15, hv14, h⟩ := bd1_some h
                refine k_aWeek C hP hS hv14 (Nat.le_of_ble_eq_true rfl) hl.1 (Nat.le_of_ble_eq_true rfl) hcs dX6_passes_106 (fun H locs hP hS => ?_)
                refine lv_iinc (v := x3 + 1) (lv' := [(3, .int (x3 + 1)), (5, .int 0), (4, .int 0), (0, .ref (ad 0)), (1, .int x1), (2, .int x2)]) hx hb dX6_passes_109 hl (k := 5) rfl rfl (by decide) rfl (fun ls hl => ?_)
                refine lv_goto (tgt := 40) hx hb dX6_passes_112 rfl ?_
                exact ih st15 (x3 + 1) _ h _ _ hP hS ls (lv_sub hl [3, 4, 5, 0] rfl) kx
              · have h := if_some_t h c13
                refine lv_aload_n hx hb dX6_passes_97 rfl (lv_at hl 2 rfl) ?_
                refine lv_iload hx hb dX6_passes_98 (lv_at hl 1 rfl) ?_
                refine lv_iload hx hb dX6_passes_100 (lv_at hl 0 rfl) ?_
                obtain ⟨st17, hv16, h⟩ := bd1_some h
                refine k_lends C hP hS hv16 (Nat.le_of_ble_eq_true rfl) hl.1 (Nat.le_of_ble_eq_true rfl) hcs dX6_passes_102 (fun H locs hP hS => ?_)
                refine lv_aload_n hx hb dX6_passes_105 rfl (lv_at hl 2 rfl) ?_
                obtain ⟨st19, hv18, h⟩ := bd1_some h
                refine k_aWeek C hP hS hv18 (Nat.le_of_ble_eq_true rfl) hl.1 (Nat.le_of_ble_eq_true rfl) hcs dX6_passes_106 (fun H locs hP hS => ?_)
                refine lv_iinc (v := x3 + 1) (lv' := [(3, .int (x3 + 1)), (5, .int 0), (4, .int 0), (0, .ref (ad 0)), (1, .int x1), (2, .int x2)]) hx hb dX6_passes_109 hl (k := 5) rfl rfl (by decide) rfl (fun ls hl => ?_)
                refine lv_goto (tgt := 40) hx hb dX6_passes_112 rfl ?_
                exact ih st19 (x3 + 1) _ h _ _ hP hS ls (lv_sub hl [3, 4, 5, 0] rfl) kx
          · have h := if_some_f h c7
            refine lv_aload_n hx hb dX6_passes_65 rfl (lv_at hl 1 rfl) ?_
            obtain ⟨v20, st21, hv20, h⟩ := bd2_some h
            refine k_drawn C hP hS hv20 (Nat.le_of_ble_eq_true rfl) hl.1 (Nat.le_of_ble_eq_true rfl) hcs dX6_passes_66 (fun H locs hP hS => ?_)
            refine lv_bipush (v := 50) hx hb dX6_passes_69 (by decide) ?_
            refine lv_irem hx hb dX6_passes_71 (by decide) ?_
            refine lv_goto (tgt := 76) hx hb dX6_passes_72 rfl ?_
            refine lv_istore (lv' := [(5, .int (v20 - v20 / 50 * 50)), (4, .int 0), (0, .ref (ad 0)), (1, .int x1), (2, .int x2), (3, .int x3)]) hx hb dX6_passes_76 hl (by decide) rfl (fun ls hl => ?_)
            refine lv_aload_n hx hb dX6_passes_78 rfl (lv_at hl 2 rfl) ?_
            refine lv_iload hx hb dX6_passes_79 (lv_at hl 1 rfl) ?_
            obtain ⟨v22, hv22, h⟩ := bd1_some h
            refine k_isDebtor C hP hv22 (Nat.le_of_ble_eq_true rfl) hl.1 (Nat.le_of_ble_eq_true rfl) hcs dX6_passes_81 ?_
            refine lv_if_eq (tgt := 105) hx hb dX6_passes_84 rfl (fun c23 => ?_) (fun c23 => ?_)
            · have h := if_some_t h c23
              refine lv_aload_n hx hb dX6_passes_105 rfl (lv_at hl 2 rfl) ?_
              obtain ⟨st25, hv24, h⟩ := bd1_some h
              refine k_aWeek C hP hS hv24 (Nat.le_of_ble_eq_true rfl) hl.1 (Nat.le_of_ble_eq_true rfl) hcs dX6_passes_106 (fun H locs hP hS => ?_)
              refine lv_iinc (v := x3 + 1) (lv' := [(3, .int (x3 + 1)), (5, .int (v20 - v20 / 50 * 50)), (4, .int 0), (0, .ref (ad 0)), (1, .int x1), (2, .int x2)]) hx hb dX6_passes_109 hl (k := 5) rfl rfl (by decide) rfl (fun ls hl => ?_)
              refine lv_goto (tgt := 40) hx hb dX6_passes_112 rfl ?_
              exact ih st25 (x3 + 1) _ h _ _ hP hS ls (lv_sub hl [3, 4, 5, 0] rfl) kx
            · have h := if_some_f h c23
              refine lv_aload_n hx hb dX6_passes_87 rfl (lv_at hl 2 rfl) ?_
              refine lv_iload hx hb dX6_passes_88 (lv_at hl 1 rfl) ?_
              refine lv_iconst (v := 3) hx hb dX6_passes_90 (by decide) ?_
              obtain ⟨v26, hv26, h⟩ := bd1_some h
              refine k_of C hP hv26 (Nat.le_of_ble_eq_true rfl) hl.1 (Nat.le_of_ble_eq_true rfl) hcs dX6_passes_91 ?_
              refine lv_if_ne (tgt := 105) hx hb dX6_passes_94 rfl (fun c27 => ?_) (fun c27 => ?_)
              · have h := if_some_f h c27
                refine lv_aload_n hx hb dX6_passes_105 rfl (lv_at hl 2 rfl) ?_
                obtain ⟨st29, hv28, h⟩ := bd1_some h
                refine k_aWeek C hP hS hv28 (Nat.le_of_ble_eq_true rfl) hl.1 (Nat.le_of_ble_eq_true rfl) hcs dX6_passes_106 (fun H locs hP hS => ?_)
                refine lv_iinc (v := x3 + 1) (lv' := [(3, .int (x3 + 1)), (5, .int (v20 - v20 / 50 * 50)), (4, .int 0), (0, .ref (ad 0)), (1, .int x1), (2, .int x2)]) hx hb dX6_passes_109 hl (k := 5) rfl rfl (by decide) rfl (fun ls hl => ?_)
                refine lv_goto (tgt := 40) hx hb dX6_passes_112 rfl ?_
                exact ih st29 (x3 + 1) _ h _ _ hP hS ls (lv_sub hl [3, 4, 5, 0] rfl) kx
              · have h := if_some_t h c27
                refine lv_aload_n hx hb dX6_passes_97 rfl (lv_at hl 2 rfl) ?_
                refine lv_iload hx hb dX6_passes_98 (lv_at hl 1 rfl) ?_
                refine lv_iload hx hb dX6_passes_100 (lv_at hl 0 rfl) ?_
                obtain ⟨st31, hv30, h⟩ := bd1_some h
                refine k_lends C hP hS hv30 (Nat.le_of_ble_eq_true rfl) hl.1 (Nat.le_of_ble_eq_true rfl) hcs dX6_passes_102 (fun H locs hP hS => ?_)
                refine lv_aload_n hx hb dX6_passes_105 rfl (lv_at hl 2 rfl) ?_
                obtain ⟨st33, hv32, h⟩ := bd1_some h
                refine k_aWeek C hP hS hv32 (Nat.le_of_ble_eq_true rfl) hl.1 (Nat.le_of_ble_eq_true rfl) hcs dX6_passes_106 (fun H locs hP hS => ?_)
                refine lv_iinc (v := x3 + 1) (lv' := [(3, .int (x3 + 1)), (5, .int (v20 - v20 / 50 * 50)), (4, .int 0), (0, .ref (ad 0)), (1, .int x1), (2, .int x2)]) hx hb dX6_passes_109 hl (k := 5) rfl rfl (by decide) rfl (fun ls hl => ?_)
                refine lv_goto (tgt := 40) hx hb dX6_passes_112 rfl ?_
                exact ih st33 (x3 + 1) _ h _ _ hP hS ls (lv_sub hl [3, 4, 5, 0] rfl) kx
        · have h := if_some_f h c6
          refine lv_aload_n hx hb dX6_passes_49 rfl (lv_at hl 0 rfl) ?_
          obtain ⟨v34, st35, hv34, h⟩ := bd2_some h
          refine k_drawn C hP hS hv34 (Nat.le_of_ble_eq_true rfl) hl.1 (Nat.le_of_ble_eq_true rfl) hcs dX6_passes_50 (fun H locs hP hS => ?_)
          refine lv_iconst (v := 4) hx hb dX6_passes_53 (by decide) ?_
          refine lv_irem hx hb dX6_passes_54 (by decide) ?_
          refine lv_goto (tgt := 59) hx hb dX6_passes_55 rfl ?_
          refine lv_istore (lv' := [(4, .int (v34 - v34 / 4 * 4)), (0, .ref (ad 0)), (1, .int x1), (2, .int x2), (3, .int x3)]) hx hb dX6_passes_59 hl (by decide) rfl (fun ls hl => ?_)
          refine lv_iload_n hx hb dX6_passes_61 rfl (lv_at hl 3 rfl) ?_
          refine lv_if_eq (tgt := 75) hx hb dX6_passes_62 rfl (fun c36 => ?_) (fun c36 => ?_)
          · have h := if_some_t h c36
            refine lv_iconst (v := 0) hx hb dX6_passes_75 (by decide) ?_
            refine lv_istore (lv' := [(5, .int 0), (4, .int (v34 - v34 / 4 * 4)), (0, .ref (ad 0)), (1, .int x1), (2, .int x2), (3, .int x3)]) hx hb dX6_passes_76 hl (by decide) rfl (fun ls hl => ?_)
            refine lv_aload_n hx hb dX6_passes_78 rfl (lv_at hl 2 rfl) ?_
            refine lv_iload hx hb dX6_passes_79 (lv_at hl 1 rfl) ?_
            obtain ⟨v37, hv37, h⟩ := bd1_some h
            refine k_isDebtor C hP hv37 (Nat.le_of_ble_eq_true rfl) hl.1 (Nat.le_of_ble_eq_true rfl) hcs dX6_passes_81 ?_
            refine lv_if_eq (tgt := 105) hx hb dX6_passes_84 rfl (fun c38 => ?_) (fun c38 => ?_)
            · have h := if_some_t h c38
              refine lv_aload_n hx hb dX6_passes_105 rfl (lv_at hl 2 rfl) ?_
              obtain ⟨st40, hv39, h⟩ := bd1_some h
              refine k_aWeek C hP hS hv39 (Nat.le_of_ble_eq_true rfl) hl.1 (Nat.le_of_ble_eq_true rfl) hcs dX6_passes_106 (fun H locs hP hS => ?_)
              refine lv_iinc (v := x3 + 1) (lv' := [(3, .int (x3 + 1)), (5, .int 0), (4, .int (v34 - v34 / 4 * 4)), (0, .ref (ad 0)), (1, .int x1), (2, .int x2)]) hx hb dX6_passes_109 hl (k := 5) rfl rfl (by decide) rfl (fun ls hl => ?_)
              refine lv_goto (tgt := 40) hx hb dX6_passes_112 rfl ?_
              exact ih st40 (x3 + 1) _ h _ _ hP hS ls (lv_sub hl [3, 4, 5, 0] rfl) kx
            · have h := if_some_f h c38
              refine lv_aload_n hx hb dX6_passes_87 rfl (lv_at hl 2 rfl) ?_
              refine lv_iload hx hb dX6_passes_88 (lv_at hl 1 rfl) ?_
              refine lv_iconst (v := 3) hx hb dX6_passes_90 (by decide) ?_
              obtain ⟨v41, hv41, h⟩ := bd1_some h
              refine k_of C hP hv41 (Nat.le_of_ble_eq_true rfl) hl.1 (Nat.le_of_ble_eq_true rfl) hcs dX6_passes_91 ?_
              refine lv_if_ne (tgt := 105) hx hb dX6_passes_94 rfl (fun c42 => ?_) (fun c42 => ?_)
              · have h := if_some_f h c42
                refine lv_aload_n hx hb dX6_passes_105 rfl (lv_at hl 2 rfl) ?_
                obtain ⟨st44, hv43, h⟩ := bd1_some h
                refine k_aWeek C hP hS hv43 (Nat.le_of_ble_eq_true rfl) hl.1 (Nat.le_of_ble_eq_true rfl) hcs dX6_passes_106 (fun H locs hP hS => ?_)
                refine lv_iinc (v := x3 + 1) (lv' := [(3, .int (x3 + 1)), (5, .int 0), (4, .int (v34 - v34 / 4 * 4)), (0, .ref (ad 0)), (1, .int x1), (2, .int x2)]) hx hb dX6_passes_109 hl (k := 5) rfl rfl (by decide) rfl (fun ls hl => ?_)
                refine lv_goto (tgt := 40) hx hb dX6_passes_112 rfl ?_
                exact ih st44 (x3 + 1) _ h _ _ hP hS ls (lv_sub hl [3, 4, 5, 0] rfl) kx
              · have h := if_some_t h c42
                refine lv_aload_n hx hb dX6_passes_97 rfl (lv_at hl 2 rfl) ?_
                refine lv_iload hx hb dX6_passes_98 (lv_at hl 1 rfl) ?_
                refine lv_iload hx hb dX6_passes_100 (lv_at hl 0 rfl) ?_
                obtain ⟨st46, hv45, h⟩ := bd1_some h
                refine k_lends C hP hS hv45 (Nat.le_of_ble_eq_true rfl) hl.1 (Nat.le_of_ble_eq_true rfl) hcs dX6_passes_102 (fun H locs hP hS => ?_)
                refine lv_aload_n hx hb dX6_passes_105 rfl (lv_at hl 2 rfl) ?_
                obtain ⟨st48, hv47, h⟩ := bd1_some h
                refine k_aWeek C hP hS hv47 (Nat.le_of_ble_eq_true rfl) hl.1 (Nat.le_of_ble_eq_true rfl) hcs dX6_passes_106 (fun H locs hP hS => ?_)
                refine lv_iinc (v := x3 + 1) (lv' := [(3, .int (x3 + 1)), (5, .int 0), (4, .int (v34 - v34 / 4 * 4)), (0, .ref (ad 0)), (1, .int x1), (2, .int x2)]) hx hb dX6_passes_109 hl (k := 5) rfl rfl (by decide) rfl (fun ls hl => ?_)
                refine lv_goto (tgt := 40) hx hb dX6_passes_112 rfl ?_
                exact ih st48 (x3 + 1) _ h _ _ hP hS ls (lv_sub hl [3, 4, 5, 0] rfl) kx
          · have h := if_some_f h c36
            refine lv_aload_n hx hb dX6_passes_65 rfl (lv_at hl 1 rfl) ?_
            obtain ⟨v49, st50, hv49, h⟩ := bd2_some h
            refine k_drawn C hP hS hv49 (Nat.le_of_ble_eq_true rfl) hl.1 (Nat.le_of_ble_eq_true rfl) hcs dX6_passes_66 (fun H locs hP hS => ?_)
            refine lv_bipush (v := 50) hx hb dX6_passes_69 (by decide) ?_
            refine lv_irem hx hb dX6_passes_71 (by decide) ?_
            refine lv_goto (tgt := 76) hx hb dX6_passes_72 rfl ?_
            refine lv_istore (lv' := [(5, .int (v49 - v49 / 50 * 50)), (4, .int (v34 - v34 / 4 * 4)), (0, .ref (ad 0)), (1, .int x1), (2, .int x2), (3, .int x3)]) hx hb dX6_passes_76 hl (by decide) rfl (fun ls hl => ?_)
            refine lv_aload_n hx hb dX6_passes_78 rfl (lv_at hl 2 rfl) ?_
            refine lv_iload hx hb dX6_passes_79 (lv_at hl 1 rfl) ?_
            obtain ⟨v51, hv51, h⟩ := bd1_some h
            refine k_isDebtor C hP hv51 (Nat.le_of_ble_eq_true rfl) hl.1 (Nat.le_of_ble_eq_true rfl) hcs dX6_passes_81 ?_
            refine lv_if_eq (tgt := 105) hx hb dX6_passes_84 rfl (fun c52 => ?_) (fun c52 => ?_)
            · have h := if_some_t h c52
              refine lv_aload_n hx hb dX6_passes_105 rfl (lv_at hl 2 rfl) ?_
              obtain ⟨st54, hv53, h⟩ := bd1_some h
              refine k_aWeek C hP hS hv53 (Nat.le_of_ble_eq_true rfl) hl.1 (Nat.le_of_ble_eq_true rfl) hcs dX6_passes_106 (fun H locs hP hS => ?_)
              refine lv_iinc (v := x3 + 1) (lv' := [(3, .int (x3 + 1)), (5, .int (v49 - v49 / 50 * 50)), (4, .int (v34 - v34 / 4 * 4)), (0, .ref (ad 0)), (1, .int x1), (2, .int x2)]) hx hb dX6_passes_109 hl (k := 5) rfl rfl (by decide) rfl (fun ls hl => ?_)
              refine lv_goto (tgt := 40) hx hb dX6_passes_112 rfl ?_
              exact ih st54 (x3 + 1) _ h _ _ hP hS ls (lv_sub hl [3, 4, 5, 0] rfl) kx
            · have h := if_some_f h c52
              refine lv_aload_n hx hb dX6_passes_87 rfl (lv_at hl 2 rfl) ?_
              refine lv_iload hx hb dX6_passes_88 (lv_at hl 1 rfl) ?_
              refine lv_iconst (v := 3) hx hb dX6_passes_90 (by decide) ?_
              obtain ⟨v55, hv55, h⟩ := bd1_some h
              refine k_of C hP hv55 (Nat.le_of_ble_eq_true rfl) hl.1 (Nat.le_of_ble_eq_true rfl) hcs dX6_passes_91 ?_
              refine lv_if_ne (tgt := 105) hx hb dX6_passes_94 rfl (fun c56 => ?_) (fun c56 => ?_)
              · have h := if_some_f h c56
                refine lv_aload_n hx hb dX6_passes_105 rfl (lv_at hl 2 rfl) ?_
                obtain ⟨st58, hv57, h⟩ := bd1_some h
                refine k_aWeek C hP hS hv57 (Nat.le_of_ble_eq_true rfl) hl.1 (Nat.le_of_ble_eq_true rfl) hcs dX6_passes_106 (fun H locs hP hS => ?_)
                refine lv_iinc (v := x3 + 1) (lv' := [(3, .int (x3 + 1)), (5, .int (v49 - v49 / 50 * 50)), (4, .int (v34 - v34 / 4 * 4)), (0, .ref (ad 0)), (1, .int x1), (2, .int x2)]) hx hb dX6_passes_109 hl (k := 5) rfl rfl (by decide) rfl (fun ls hl => ?_)
                refine lv_goto (tgt := 40) hx hb dX6_passes_112 rfl ?_
                exact ih st58 (x3 + 1) _ h _ _ hP hS ls (lv_sub hl [3, 4, 5, 0] rfl) kx
              · have h := if_some_t h c56
                refine lv_aload_n hx hb dX6_passes_97 rfl (lv_at hl 2 rfl) ?_
                refine lv_iload hx hb dX6_passes_98 (lv_at hl 1 rfl) ?_
                refine lv_iload hx hb dX6_passes_100 (lv_at hl 0 rfl) ?_
                obtain ⟨st60, hv59, h⟩ := bd1_some h
                refine k_lends C hP hS hv59 (Nat.le_of_ble_eq_true rfl) hl.1 (Nat.le_of_ble_eq_true rfl) hcs dX6_passes_102 (fun H locs hP hS => ?_)
                refine lv_aload_n hx hb dX6_passes_105 rfl (lv_at hl 2 rfl) ?_
                obtain ⟨st62, hv61, h⟩ := bd1_some h
                refine k_aWeek C hP hS hv61 (Nat.le_of_ble_eq_true rfl) hl.1 (Nat.le_of_ble_eq_true rfl) hcs dX6_passes_106 (fun H locs hP hS => ?_)
                refine lv_iinc (v := x3 + 1) (lv' := [(3, .int (x3 + 1)), (5, .int (v49 - v49 / 50 * 50)), (4, .int (v34 - v34 / 4 * 4)), (0, .ref (ad 0)), (1, .int x1), (2, .int x2)]) hx hb dX6_passes_109 hl (k := 5) rfl rfl (by decide) rfl (fun ls hl => ?_)
                refine lv_goto (tgt := 40) hx hb dX6_passes_112 rfl ?_
                exact ih st62 (x3 + 1) _ h _ _ hP hS ls (lv_sub hl [3, 4, 5, 0] rfl) kx
  rw [M_passes] at h
  refine lv_iload_n hx hb dX6_passes_0 rfl (lv_at hl 1 rfl) ?_
  refine lv_i2l (v := x1.toInt64) hx hb dX6_passes_1 rfl ?_
  refine lv_lconst (v := 1) hx hb dX6_passes_2 (by decide) ?_
  refine lv_ldc2 hx hb hown (C.2.2.2.2.1 _ q1813) dX6_passes_3 ?_
  obtain ⟨v1, hv1, h⟩ := bd1_some h
  refine k_in hx hb C.2.2.1 hown C.2.2.2.2.1 C.2.2.2.2.2.2.2 hv1 (Nat.le_of_ble_eq_true rfl) hl.1 (Nat.le_of_ble_eq_true rfl) hcs dX6_passes_6 ?_
  refine lv_if_ne (tgt := 18) hx hb dX6_passes_9 rfl (fun c2 => ?_) (fun c2 => ?_)
  · have h := if_some_f h c2
    refine lv_aload_n hx hb dX6_passes_18 rfl (lv_at hl 0 rfl) ?_
    refine g_d C hP dX6_passes_19 ?_
    refine lv_iconst (v := 3) hx hb dX6_passes_22 (by decide) ?_
    obtain ⟨v3, hv3, h⟩ := bd1_some h
    refine mm_ld C hP 1 (by decide) rfl hv3 dX6_passes_23 ?_
    refine lv_iload_n hx hb dX6_passes_24 rfl (lv_at hl 1 rfl) ?_
    refine lv_iadd hx hb dX6_passes_25 ?_
    refine lv_sipush (v := 999) hx hb dX6_passes_26 (by decide) ?_
    refine lv_icmp_le (tgt := 38) hx hb dX6_passes_29 rfl (fun c4 => ?_) (fun c4 => ?_)
    · have h := if_some_t h c4
      refine lv_iconst (v := 0) hx hb dX6_passes_38 (by decide) ?_
      refine lv_istore_n (lv' := [(3, .int 0), (0, .ref (ad 0)), (1, .int x1), (2, .int x2)]) hx hb dX6_passes_39 rfl hl (by decide) rfl (fun ls hl => ?_)
      obtain ⟨st63, hz65, h⟩ := bd1_some h
      refine L40 x1 x2 N _ 0 _ hz65 _ _ hP hS ls (lv_sub hl [1, 2, 3, 0] rfl) (fun H locs hP hS ls hl => ?_)
      refine lv_aload_n hx hb dX6_passes_115 rfl (lv_at hl 0 rfl) ?_
      obtain ⟨v64, hv64, h⟩ := bd1_some h
      refine k_brokenMany C hP hv64 (Nat.le_of_ble_eq_true rfl) hl.1 (Nat.le_of_ble_eq_true rfl) hcs dX6_passes_116 ?_
      exact mm_viret hx hb hr hlk h hP hS dX6_passes_119
    · have h := if_some_f h c4
      refine lv_aload_n hx hb dX6_passes_32 rfl (lv_at hl 0 rfl) ?_
      refine lv_iconst (v := 3) hx hb dX6_passes_33 (by decide) ?_
      obtain ⟨v66, st67, hv66, h⟩ := bd2_some h
      refine k_finds C hP hS hv66 (Nat.le_of_ble_eq_true rfl) hl.1 (Nat.le_of_ble_eq_true rfl) hcs dX6_passes_34 (fun H locs hP hS => ?_)
      exact mm_viret hx hb hr hlk h hP hS dX6_passes_37
  · have h := if_some_t h c2
    refine lv_aload_n hx hb dX6_passes_12 rfl (lv_at hl 0 rfl) ?_
    refine lv_iconst (v := 1) hx hb dX6_passes_13 (by decide) ?_
    obtain ⟨v68, st69, hv68, h⟩ := bd2_some h
    refine k_finds C hP hS hv68 (Nat.le_of_ble_eq_true rfl) hl.1 (Nat.le_of_ble_eq_true rfl) hcs dX6_passes_14 (fun H locs hP hS => ?_)
    exact mm_viret hx hb hr hlk h hP hS dX6_passes_17
theorem q1809 : (Jvm.Cond.methodLink "ChapterLoanModel" (235 : Nat) ({ cls := "ChapterLoanModel", name := "passes", desc := "(IZ)I" } : Jvm.MethodName)) ∈ lw_all := lw_g (lw_at lw_m8 45 rfl) rfl
theorem q1812 : (Jvm.Cond.code ({ cls := "ChapterLoanModel", name := "passes", desc := "(IZ)I" } : Jvm.MethodName) prog_30_method_60_code (6 : Nat) (Option.some Jvm.ClassFile.FieldType.int)) ∈ lw_all := lw_g (lw_at lw_m8 48 rfl) rfl
theorem q1811 : (Jvm.Cond.instanceMethod ({ cls := "ChapterLoanModel", name := "passes", desc := "(IZ)I" } : Jvm.MethodName)) ∈ lw_all := lw_g (lw_at lw_m8 47 rfl) rfl
theorem k_passes {N : Nat} {a0 : Int32} {a1 : Int32} {v : Int32} {st' : MSt} (C : mC p R d s m args c cc nL D cI ad) (hP : mW D cI ad st H) (hS : va_S (kF 15 ad) H0 H locs) (h : M_passes N st a0 a1 = some (v, st')) (hd : 60 + 1 ≤ d) (hsz : ls.size = nL) (hW : (rest.map fun v => v.category).sum ≤ 8) (hcs : cells ≤ R.cells ∧ slots ≤ R.slots) (hdg : decode cc pc = .ok (.invokevirtual 235, 3)) (kk : ∀ (H1 : Heap) (locs1 : List Loc), mW D cI ad st' H1 → va_S (kF 15 ad) H0 H1 locs1 → W p l e R s m args below meth c H1 locs1 cells slots Q (F0 m (pc + 3) ls (.int v :: rest))) : W p l e R s m args below meth c H locs cells slots Q (F0 m pc ls (.int a1 :: .int a0 :: .ref (ad 0) :: rest)) :=
  mm_cV (As := [.int a0, .int a1]) C hP hS (w_passes C.2.2.2.2.2.2.1 h) (cwV 2 C.2.2.2.2.1 (lw_V q1809 q1811 qs61 q94 q1812) rfl rfl rfl (by decide +kernel) (mr_ C.2.2.2.2.2.2.2 hd (by decide))) rfl hsz rfl hW hdg hcs kk
abbrev cX6_weeks : ByteArray := prog_30_method_61_code
def yX6_weeks : MethodName := ⟨RX6, "weeks", "(I)I"⟩
theorem dX6_weeks_0 : decode cX6_weeks 0 = .ok (.aload_n 0, 1) := by decide +kernel
theorem dX6_weeks_1 : decode cX6_weeks 1 = .ok (.iload_n 1, 1) := by decide +kernel
theorem dX6_weeks_2 : decode cX6_weeks 2 = .ok (.iconst 0, 1) := by decide +kernel
theorem dX6_weeks_3 : decode cX6_weeks 3 = .ok (.invokevirtual 235, 3) := by decide +kernel
theorem dX6_weeks_6 : decode cX6_weeks 6 = .ok (.ireturn, 1) := by decide +kernel
theorem w_weeks {l : Launch} {D : va_G} {cI : ClassId} {ad : Nat → Nat} (hI : kInj 15 ad) {st st' : MSt} {N : Nat} {x1 : Int32} {r0 : Int32} (h : M_weeks  N st x1 = some (r0, st')) : mV l yX6_weeks cX6_weeks 2 (some .int) 61 D cI ad st [.int x1] (some (.int r0)) st' := by
  refine mm_ofV hI (by decide) rfl (Nat.le_of_ble_eq_true rfl) (fun p e s m below meth c R args ls C hr hlk hP hS hl hcs => ?_)
  have hx := C.1
  have hb := C.2.1
  have hown := C.2.2.2.1
  have hl : lv_has ls 2 [(0, .ref (ad 0)), (1, .int x1)] := hl
  have hP : mW D cI ad st s.heap := hP
  rw [M_weeks] at h
  refine lv_aload_n hx hb dX6_weeks_0 rfl (lv_at hl 0 rfl) ?_
  refine lv_iload_n hx hb dX6_weeks_1 rfl (lv_at hl 1 rfl) ?_
  refine lv_iconst (v := 0) hx hb dX6_weeks_2 (by decide) ?_
  obtain ⟨v1, st2, hv1, h⟩ := bd2_some h
  refine k_passes C hP hS hv1 (Nat.le_of_ble_eq_true rfl) hl.1 (Nat.le_of_ble_eq_true rfl) hcs dX6_weeks_3 (fun H locs hP hS => ?_)
  exact mm_viret hx hb hr hlk h hP hS dX6_weeks_6
abbrev cX6_loose : ByteArray := prog_30_method_62_code
def yX6_loose : MethodName := ⟨RX6, "loose", "(I)I"⟩
theorem dX6_loose_0 : decode cX6_loose 0 = .ok (.aload_n 0, 1) := by decide +kernel
theorem dX6_loose_1 : decode cX6_loose 1 = .ok (.iload_n 1, 1) := by decide +kernel
theorem dX6_loose_2 : decode cX6_loose 2 = .ok (.iconst 1, 1) := by decide +kernel
theorem dX6_loose_3 : decode cX6_loose 3 = .ok (.invokevirtual 235, 3) := by decide +kernel
theorem dX6_loose_6 : decode cX6_loose 6 = .ok (.ireturn, 1) := by decide +kernel
theorem w_loose {l : Launch} {D : va_G} {cI : ClassId} {ad : Nat → Nat} (hI : kInj 15 ad) {st st' : MSt} {N : Nat} {x1 : Int32} {r0 : Int32} (h : M_loose  N st x1 = some (r0, st')) : mV l yX6_loose cX6_loose 2 (some .int) 61 D cI ad st [.int x1] (some (.int r0)) st' := by
  refine mm_ofV hI (by decide) rfl (Nat.le_of_ble_eq_true rfl) (fun p e s m below meth c R args ls C hr hlk hP hS hl hcs => ?_)
  have hx := C.1
  have hb := C.2.1
  have hown := C.2.2.2.1
  have hl : lv_has ls 2 [(0, .ref (ad 0)), (1, .int x1)] := hl
  have hP : mW D cI ad st s.heap := hP
  rw [M_loose] at h
  refine lv_aload_n hx hb dX6_loose_0 rfl (lv_at hl 0 rfl) ?_
  refine lv_iload_n hx hb dX6_loose_1 rfl (lv_at hl 1 rfl) ?_
  refine lv_iconst (v := 1) hx hb dX6_loose_2 (by decide) ?_
  obtain ⟨v1, st2, hv1, h⟩ := bd2_some h
  refine k_passes C hP hS hv1 (Nat.le_of_ble_eq_true rfl) hl.1 (Nat.le_of_ble_eq_true rfl) hcs dX6_loose_3 (fun H locs hP hS => ?_)
  exact mm_viret hx hb hr hlk h hP hS dX6_loose_6
abbrev cX6_then : ByteArray := prog_30_method_63_code
def yX6_then : MethodName := ⟨RX6, "then", "(III)I"⟩
theorem dX6_then_0 : decode cX6_then 0 = .ok (.iload_n 1, 1) := by decide +kernel
theorem dX6_then_1 : decode cX6_then 1 = .ok (.i2l, 1) := by decide +kernel
theorem dX6_then_2 : decode cX6_then 2 = .ok (.lconst 0, 1) := by decide +kernel
theorem dX6_then_3 : decode cX6_then 3 = .ok (.ldc2_w 224, 3) := by decide +kernel
theorem dX6_then_6 : decode cX6_then 6 = .ok (.invokestatic 57, 3) := by decide +kernel
theorem dX6_then_9 : decode cX6_then 9 = .ok (.ifCond .eq 31, 3) := by decide +kernel
theorem dX6_then_12 : decode cX6_then 12 = .ok (.aload_n 0, 1) := by decide +kernel
theorem dX6_then_13 : decode cX6_then 13 = .ok (.iload_n 2, 1) := by decide +kernel
theorem dX6_then_14 : decode cX6_then 14 = .ok (.invokevirtual 197, 3) := by decide +kernel
theorem dX6_then_17 : decode cX6_then 17 = .ok (.ifCond .eq 23, 3) := by decide +kernel
theorem dX6_then_20 : decode cX6_then 20 = .ok (.iload_n 3, 1) := by decide +kernel
theorem dX6_then_21 : decode cX6_then 21 = .ok (.i2l, 1) := by decide +kernel
theorem dX6_then_22 : decode cX6_then 22 = .ok (.ldc2_w 239, 3) := by decide +kernel
theorem dX6_then_25 : decode cX6_then 25 = .ok (.ldc2_w 241, 3) := by decide +kernel
theorem dX6_then_28 : decode cX6_then 28 = .ok (.invokestatic 57, 3) := by decide +kernel
theorem dX6_then_31 : decode cX6_then 31 = .ok (.ifCond .eq 9, 3) := by decide +kernel
theorem dX6_then_34 : decode cX6_then 34 = .ok (.iload_n 3, 1) := by decide +kernel
theorem dX6_then_35 : decode cX6_then 35 = .ok (.bipush 6, 2) := by decide +kernel
theorem dX6_then_37 : decode cX6_then 37 = .ok (.if_icmp .ne 9, 3) := by decide +kernel
theorem dX6_then_40 : decode cX6_then 40 = .ok (.aload_n 0, 1) := by decide +kernel
theorem dX6_then_41 : decode cX6_then 41 = .ok (.iconst 1, 1) := by decide +kernel
theorem dX6_then_42 : decode cX6_then 42 = .ok (.invokevirtual 119, 3) := by decide +kernel
theorem dX6_then_45 : decode cX6_then 45 = .ok (.ireturn, 1) := by decide +kernel
theorem dX6_then_46 : decode cX6_then 46 = .ok (.aload_n 0, 1) := by decide +kernel
theorem dX6_then_47 : decode cX6_then 47 = .ok (.invokevirtual 243, 3) := by decide +kernel
theorem dX6_then_50 : decode cX6_then 50 = .ok (.iconst 0, 1) := by decide +kernel
theorem dX6_then_51 : decode cX6_then 51 = .ok (.istore 4, 2) := by decide +kernel
theorem dX6_then_53 : decode cX6_then 53 = .ok (.iload 4, 2) := by decide +kernel
theorem dX6_then_55 : decode cX6_then 55 = .ok (.iload_n 1, 1) := by decide +kernel
theorem dX6_then_56 : decode cX6_then 56 = .ok (.if_icmp .ge 13, 3) := by decide +kernel
theorem dX6_then_59 : decode cX6_then 59 = .ok (.aload_n 0, 1) := by decide +kernel
theorem dX6_then_60 : decode cX6_then 60 = .ok (.invokevirtual 229, 3) := by decide +kernel
theorem dX6_then_63 : decode cX6_then 63 = .ok (.iinc 4 1, 3) := by decide +kernel
theorem dX6_then_66 : decode cX6_then 66 = .ok (.goto (-13), 3) := by decide +kernel
theorem dX6_then_69 : decode cX6_then 69 = .ok (.aload_n 0, 1) := by decide +kernel
theorem dX6_then_70 : decode cX6_then 70 = .ok (.iload_n 2, 1) := by decide +kernel
theorem dX6_then_71 : decode cX6_then 71 = .ok (.iload_n 3, 1) := by decide +kernel
theorem dX6_then_72 : decode cX6_then 72 = .ok (.invokevirtual 200, 3) := by decide +kernel
theorem dX6_then_75 : decode cX6_then 75 = .ok (.istore 4, 2) := by decide +kernel
theorem dX6_then_77 : decode cX6_then 77 = .ok (.aload_n 0, 1) := by decide +kernel
theorem dX6_then_78 : decode cX6_then 78 = .ok (.invokevirtual 246, 3) := by decide +kernel
theorem dX6_then_81 : decode cX6_then 81 = .ok (.iload 4, 2) := by decide +kernel
theorem dX6_then_83 : decode cX6_then 83 = .ok (.ireturn, 1) := by decide +kernel
theorem q1843 : (Jvm.Cond.constantLong "ChapterLoanModel" (239 : Nat) (2 : Int64)) ∈ lw_all := lw_g (lw_at lw_m8 79 rfl) rfl
theorem w_then {l : Launch} {D : va_G} {cI : ClassId} {ad : Nat → Nat} (hI : kInj 15 ad) {st st' : MSt} {N : Nat} {x1 : Int32} {x2 : Int32} {x3 : Int32} {r0 : Int32} (h : M_then  N st x1 x2 x3 = some (r0, st')) : mV l yX6_then cX6_then 5 (some .int) 60 D cI ad st [.int x1, .int x2, .int x3] (some (.int r0)) st' := by
  refine mm_ofV hI (by decide) rfl (Nat.le_of_ble_eq_true rfl) (fun p e s m below meth c R args ls C hr hlk hP hS hl hcs => ?_)
  have hx := C.1
  have hb := C.2.1
  have hown := C.2.2.2.1
  have hl : lv_has ls 5 [(0, .ref (ad 0)), (1, .int x1), (2, .int x2), (3, .int x3)] := hl
  have hP : mW D cI ad st s.heap := hP
  have L53 : ∀ (x1 : Int32), ∀ (x2 : Int32), ∀ (x3 : Int32), ∀ (n : Nat) (st : MSt) (x4 : Int32) (st2 : MSt), M_then_L53 N x1 x2 x3 n st x4 = some st2 → ∀ (H : Heap) (locs : List Loc), mW D cI ad st H → va_S (kF 15 ad) s.heap H locs → ∀ ls : Array Slot, lv_has ls 5 [(0, .ref (ad 0)), (1, .int x1), (2, .int x2), (3, .int x3), (4, .int x4)] → (∀ (H : Heap) (locs : List Loc), mW D cI ad st2 H → va_S (kF 15 ad) s.heap H locs → ∀ ls : Array Slot, lv_has ls 5 [(0, .ref (ad 0)), (2, .int x2), (3, .int x3)] → mWV p l e R s m args below meth c D cI ad (some (.int r0)) st' H locs (F0 m 69 ls [])) → mWV p l e R s m args below meth c D cI ad (some (.int r0)) st' H locs (F0 m 53 ls []) := by
    intro x1 x2 x3 n
    induction n with
    | zero =>
      intro st x4 st2 h
      exact non_some h
    | succ n ih =>
      intro st x4 st2 h H locs hP hS ls hl kx
      rw [M_then_L53] at h
      refine lv_iload hx hb dX6_then_53 (lv_at hl 4 rfl) ?_
      refine lv_iload_n hx hb dX6_then_55 rfl (lv_at hl 1 rfl) ?_
      refine lv_icmp_ge (tgt := 69) hx hb dX6_then_56 rfl (fun c16 => ?_) (fun c16 => ?_)
      · have h := if_some_t h c16
        cases h
        exact kx _ _ hP hS ls (lv_sub hl [0, 2, 3] rfl)
      · have h := if_some_f h c16
        refine lv_aload_n hx hb dX6_then_59 rfl (lv_at hl 0 rfl) ?_
        obtain ⟨st18, hv17, h⟩ := bd1_some h
        refine k_aWeek C hP hS hv17 (Nat.le_of_ble_eq_true rfl) hl.1 (Nat.le_of_ble_eq_true rfl) hcs dX6_then_60 (fun H locs hP hS => ?_)
        refine lv_iinc (v := x4 + 1) (lv' := [(4, .int (x4 + 1)), (0, .ref (ad 0)), (1, .int x1), (2, .int x2), (3, .int x3)]) hx hb dX6_then_63 hl (k := 4) rfl rfl (by decide) rfl (fun ls hl => ?_)
        refine lv_goto (tgt := 53) hx hb dX6_then_66 rfl ?_
        exact ih st18 (x4 + 1) _ h _ _ hP hS ls (lv_sub hl [1, 2, 3, 4, 0] rfl) kx
  rw [M_then] at h
  refine lv_iload_n hx hb dX6_then_0 rfl (lv_at hl 1 rfl) ?_
  refine lv_i2l (v := x1.toInt64) hx hb dX6_then_1 rfl ?_
  refine lv_lconst (v := 0) hx hb dX6_then_2 (by decide) ?_
  refine lv_ldc2 hx hb hown (C.2.2.2.2.1 _ q1813) dX6_then_3 ?_
  obtain ⟨v1, hv1, h⟩ := bd1_some h
  refine k_in hx hb C.2.2.1 hown C.2.2.2.2.1 C.2.2.2.2.2.2.2 hv1 (Nat.le_of_ble_eq_true rfl) hl.1 (Nat.le_of_ble_eq_true rfl) hcs dX6_then_6 ?_
  refine lv_if_eq (tgt := 40) hx hb dX6_then_9 rfl (fun c2 => ?_) (fun c2 => ?_)
  · have h := if_some_t h c2
    refine lv_aload_n hx hb dX6_then_40 rfl (lv_at hl 0 rfl) ?_
    refine lv_iconst (v := 1) hx hb dX6_then_41 (by decide) ?_
    obtain ⟨v3, st4, hv3, h⟩ := bd2_some h
    refine k_finds C hP hS hv3 (Nat.le_of_ble_eq_true rfl) hl.1 (Nat.le_of_ble_eq_true rfl) hcs dX6_then_42 (fun H locs hP hS => ?_)
    exact mm_viret hx hb hr hlk h hP hS dX6_then_45
  · have h := if_some_f h c2
    refine lv_aload_n hx hb dX6_then_12 rfl (lv_at hl 0 rfl) ?_
    refine lv_iload_n hx hb dX6_then_13 rfl (lv_at hl 2 rfl) ?_
    obtain ⟨v5, hv5, h⟩ := bd1_some h
    refine k_isDebtor C hP hv5 (Nat.le_of_ble_eq_true rfl) hl.1 (Nat.le_of_ble_eq_true rfl) hcs dX6_then_14 ?_
    refine lv_if_eq (tgt := 40) hx hb dX6_then_17 rfl (fun c6 => ?_) (fun c6 => ?_)
    · have h := if_some_t h c6
      refine lv_aload_n hx hb dX6_then_40 rfl (lv_at hl 0 rfl) ?_
      refine lv_iconst (v := 1) hx hb dX6_then_41 (by decide) ?_
      obtain ⟨v7, st8, hv7, h⟩ := bd2_some h
      refine k_finds C hP hS hv7 (Nat.le_of_ble_eq_true rfl) hl.1 (Nat.le_of_ble_eq_true rfl) hcs dX6_then_42 (fun H locs hP hS => ?_)
      exact mm_viret hx hb hr hlk h hP hS dX6_then_45
    · have h := if_some_f h c6
      refine lv_iload_n hx hb dX6_then_20 rfl (lv_at hl 3 rfl) ?_
      refine lv_i2l (v := x3.toInt64) hx hb dX6_then_21 rfl ?_
      refine lv_ldc2 hx hb hown (C.2.2.2.2.1 _ q1843) dX6_then_22 ?_
      refine lv_ldc2 hx hb hown (C.2.2.2.2.1 _ q1844) dX6_then_25 ?_
      obtain ⟨v9, hv9, h⟩ := bd1_some h
      refine k_in hx hb C.2.2.1 hown C.2.2.2.2.1 C.2.2.2.2.2.2.2 hv9 (Nat.le_of_ble_eq_true rfl) hl.1 (Nat.le_of_ble_eq_true rfl) hcs dX6_then_28 ?_
      refine lv_if_eq (tgt := 40) hx hb dX6_then_31 rfl (fun c10 => ?_) (fun c10 => ?_)
      · have h := if_some_t h c10
        refine lv_aload_n hx hb dX6_then_40 rfl (lv_at hl 0 rfl) ?_
        refine lv_iconst (v := 1) hx hb dX6_then_41 (by decide) ?_
        obtain ⟨v11, st12, hv11, h⟩ := bd2_some h
        refine k_finds C hP hS hv11 (Nat.le_of_ble_eq_true rfl) hl.1 (Nat.le_of_ble_eq_true rfl) hcs dX6_then_42 (fun H locs hP hS => ?_)
        exact mm_viret hx hb hr hlk h hP hS dX6_then_45
      · have h := if_some_f h c10
        refine lv_iload_n hx hb dX6_then_34 rfl (lv_at hl 3 rfl) ?_
        refine lv_bipush (v := 6) hx hb dX6_then_35 (by decide) ?_
        refine lv_icmp_ne (tgt := 46) hx hb dX6_then_37 rfl (fun c13 => ?_) (fun c13 => ?_)
        · have h := if_some_f h c13
          refine lv_aload_n hx hb dX6_then_46 rfl (lv_at hl 0 rfl) ?_
          obtain ⟨st15, hv14, h⟩ := bd1_some h
          refine k_keepAside C hP hS hv14 (Nat.le_of_ble_eq_true rfl) hl.1 (Nat.le_of_ble_eq_true rfl) hcs dX6_then_47 (fun H locs hP hS => ?_)
          refine lv_iconst (v := 0) hx hb dX6_then_50 (by decide) ?_
          refine lv_istore (lv' := [(4, .int 0), (0, .ref (ad 0)), (1, .int x1), (2, .int x2), (3, .int x3)]) hx hb dX6_then_51 hl (by decide) rfl (fun ls hl => ?_)
          obtain ⟨st19, hz24, h⟩ := bd1_some h
          refine L53 x1 x2 x3 N _ 0 _ hz24 _ _ hP hS ls (lv_sub hl [1, 2, 3, 4, 0] rfl) (fun H locs hP hS ls hl => ?_)
          refine lv_aload_n hx hb dX6_then_69 rfl (lv_at hl 0 rfl) ?_
          refine lv_iload_n hx hb dX6_then_70 rfl (lv_at hl 1 rfl) ?_
          refine lv_iload_n hx hb dX6_then_71 rfl (lv_at hl 2 rfl) ?_
          obtain ⟨v20, st21, hv20, h⟩ := bd2_some h
          refine k_toldOf C hP hS hv20 (Nat.le_of_ble_eq_true rfl) hl.1 (Nat.le_of_ble_eq_true rfl) hcs dX6_then_72 (fun H locs hP hS => ?_)
          refine lv_istore (lv' := [(4, .int v20), (0, .ref (ad 0)), (2, .int x2), (3, .int x3)]) hx hb dX6_then_75 hl (by decide) rfl (fun ls hl => ?_)
          refine lv_aload_n hx hb dX6_then_77 rfl (lv_at hl 1 rfl) ?_
          obtain ⟨st23, hv22, h⟩ := bd1_some h
          refine k_putBack C hP hS hv22 (Nat.le_of_ble_eq_true rfl) hl.1 (Nat.le_of_ble_eq_true rfl) hcs dX6_then_78 (fun H locs hP hS => ?_)
          refine lv_iload hx hb dX6_then_81 (lv_at hl 0 rfl) ?_
          exact mm_viret hx hb hr hlk h hP hS dX6_then_83
        · have h := if_some_t h c13
          refine lv_aload_n hx hb dX6_then_40 rfl (lv_at hl 0 rfl) ?_
          refine lv_iconst (v := 1) hx hb dX6_then_41 (by decide) ?_
          obtain ⟨v25, st26, hv25, h⟩ := bd2_some h
          refine k_finds C hP hS hv25 (Nat.le_of_ble_eq_true rfl) hl.1 (Nat.le_of_ble_eq_true rfl) hcs dX6_then_42 (fun H locs hP hS => ?_)
          exact mm_viret hx hb hr hlk h hP hS dX6_then_45
abbrev cX6_ratedBy : ByteArray := prog_30_method_72_code
def yX6_ratedBy : MethodName := ⟨RX6, "ratedBy", "(II)I"⟩
theorem dX6_ratedBy_0 : decode cX6_ratedBy 0 = .ok (.aload_n 0, 1) := by decide +kernel
theorem dX6_ratedBy_1 : decode cX6_ratedBy 1 = .ok (.iload_n 1, 1) := by decide +kernel
theorem dX6_ratedBy_2 : decode cX6_ratedBy 2 = .ok (.putfield 25, 3) := by decide +kernel
theorem dX6_ratedBy_5 : decode cX6_ratedBy 5 = .ok (.aload_n 0, 1) := by decide +kernel
theorem dX6_ratedBy_6 : decode cX6_ratedBy 6 = .ok (.iload_n 2, 1) := by decide +kernel
theorem dX6_ratedBy_7 : decode cX6_ratedBy 7 = .ok (.putfield 168, 3) := by decide +kernel
theorem dX6_ratedBy_10 : decode cX6_ratedBy 10 = .ok (.aload_n 0, 1) := by decide +kernel
theorem dX6_ratedBy_11 : decode cX6_ratedBy 11 = .ok (.invokevirtual 243, 3) := by decide +kernel
theorem dX6_ratedBy_14 : decode cX6_ratedBy 14 = .ok (.iconst 0, 1) := by decide +kernel
theorem dX6_ratedBy_15 : decode cX6_ratedBy 15 = .ok (.istore_n 3, 1) := by decide +kernel
theorem dX6_ratedBy_16 : decode cX6_ratedBy 16 = .ok (.iload_n 3, 1) := by decide +kernel
theorem dX6_ratedBy_17 : decode cX6_ratedBy 17 = .ok (.bipush 60, 2) := by decide +kernel
theorem dX6_ratedBy_19 : decode cX6_ratedBy 19 = .ok (.if_icmp .gt 22, 3) := by decide +kernel
theorem dX6_ratedBy_22 : decode cX6_ratedBy 22 = .ok (.aload_n 0, 1) := by decide +kernel
theorem dX6_ratedBy_23 : decode cX6_ratedBy 23 = .ok (.iload_n 1, 1) := by decide +kernel
theorem dX6_ratedBy_24 : decode cX6_ratedBy 24 = .ok (.iconst 2, 1) := by decide +kernel
theorem dX6_ratedBy_25 : decode cX6_ratedBy 25 = .ok (.invokevirtual 150, 3) := by decide +kernel
theorem dX6_ratedBy_28 : decode cX6_ratedBy 28 = .ok (.ifCond .le 13, 3) := by decide +kernel
theorem dX6_ratedBy_31 : decode cX6_ratedBy 31 = .ok (.aload_n 0, 1) := by decide +kernel
theorem dX6_ratedBy_32 : decode cX6_ratedBy 32 = .ok (.invokevirtual 229, 3) := by decide +kernel
theorem dX6_ratedBy_35 : decode cX6_ratedBy 35 = .ok (.iinc 3 1, 3) := by decide +kernel
theorem dX6_ratedBy_38 : decode cX6_ratedBy 38 = .ok (.goto (-22), 3) := by decide +kernel
theorem dX6_ratedBy_41 : decode cX6_ratedBy 41 = .ok (.aload_n 0, 1) := by decide +kernel
theorem dX6_ratedBy_42 : decode cX6_ratedBy 42 = .ok (.invokevirtual 246, 3) := by decide +kernel
theorem dX6_ratedBy_45 : decode cX6_ratedBy 45 = .ok (.aload_n 0, 1) := by decide +kernel
theorem dX6_ratedBy_46 : decode cX6_ratedBy 46 = .ok (.iconst (-1), 1) := by decide +kernel
theorem dX6_ratedBy_47 : decode cX6_ratedBy 47 = .ok (.putfield 25, 3) := by decide +kernel
theorem dX6_ratedBy_50 : decode cX6_ratedBy 50 = .ok (.iload_n 3, 1) := by decide +kernel
theorem dX6_ratedBy_51 : decode cX6_ratedBy 51 = .ok (.bipush 60, 2) := by decide +kernel
theorem dX6_ratedBy_53 : decode cX6_ratedBy 53 = .ok (.if_icmp .le 7, 3) := by decide +kernel
theorem dX6_ratedBy_56 : decode cX6_ratedBy 56 = .ok (.iconst (-1), 1) := by decide +kernel
theorem dX6_ratedBy_57 : decode cX6_ratedBy 57 = .ok (.goto 4, 3) := by decide +kernel
theorem dX6_ratedBy_60 : decode cX6_ratedBy 60 = .ok (.iload_n 3, 1) := by decide +kernel
theorem dX6_ratedBy_61 : decode cX6_ratedBy 61 = .ok (.ireturn, 1) := by decide +kernel
theorem w_ratedBy {l : Launch} {D : va_G} {cI : ClassId} {ad : Nat → Nat} (hI : kInj 15 ad) {st st' : MSt} {N : Nat} {x1 : Int32} {x2 : Int32} {r0 : Int32} (h : M_ratedBy  N st x1 x2 = some (r0, st')) : mV l yX6_ratedBy cX6_ratedBy 4 (some .int) 60 D cI ad st [.int x1, .int x2] (some (.int r0)) st' := by
  refine mm_ofV hI (by decide) rfl (Nat.le_of_ble_eq_true rfl) (fun p e s m below meth c R args ls C hr hlk hP hS hl hcs => ?_)
  have hx := C.1
  have hb := C.2.1
  have hown := C.2.2.2.1
  have hl : lv_has ls 4 [(0, .ref (ad 0)), (1, .int x1), (2, .int x2)] := hl
  have hP : mW D cI ad st s.heap := hP
  have L16 : ∀ (x1 : Int32), ∀ (n : Nat) (st : MSt) (x3 : Int32) (st2 : MSt) (z3 : Int32), M_ratedBy_L16 N x1 n st x3 = some (st2, z3) → ∀ (H : Heap) (locs : List Loc), mW D cI ad st H → va_S (kF 15 ad) s.heap H locs → ∀ ls : Array Slot, lv_has ls 4 [(0, .ref (ad 0)), (1, .int x1), (3, .int x3)] → (∀ (H : Heap) (locs : List Loc), mW D cI ad st2 H → va_S (kF 15 ad) s.heap H locs → ∀ ls : Array Slot, lv_has ls 4 [(0, .ref (ad 0)), (3, .int z3)] → mWV p l e R s m args below meth c D cI ad (some (.int r0)) st' H locs (F0 m 41 ls [])) → mWV p l e R s m args below meth c D cI ad (some (.int r0)) st' H locs (F0 m 16 ls []) := by
    intro x1 n
    induction n with
    | zero =>
      intro st x3 st2 z3 h
      exact non_some h
    | succ n ih =>
      intro st x3 st2 z3 h H locs hP hS ls hl kx
      rw [M_ratedBy_L16] at h
      refine lv_iload_n hx hb dX6_ratedBy_16 rfl (lv_at hl 2 rfl) ?_
      refine lv_bipush (v := 60) hx hb dX6_ratedBy_17 (by decide) ?_
      refine lv_icmp_gt (tgt := 41) hx hb dX6_ratedBy_19 rfl (fun c3 => ?_) (fun c3 => ?_)
      · have h := if_some_t h c3
        cases h
        exact kx _ _ hP hS ls (lv_sub hl [0, 2] rfl)
      · have h := if_some_f h c3
        refine lv_aload_n hx hb dX6_ratedBy_22 rfl (lv_at hl 0 rfl) ?_
        refine lv_iload_n hx hb dX6_ratedBy_23 rfl (lv_at hl 1 rfl) ?_
        refine lv_iconst (v := 2) hx hb dX6_ratedBy_24 (by decide) ?_
        obtain ⟨v4, hv4, h⟩ := bd1_some h
        refine k_of C hP hv4 (Nat.le_of_ble_eq_true rfl) hl.1 (Nat.le_of_ble_eq_true rfl) hcs dX6_ratedBy_25 ?_
        refine lv_if_le (tgt := 41) hx hb dX6_ratedBy_28 rfl (fun c5 => ?_) (fun c5 => ?_)
        · have h := if_some_t h c5
          cases h
          exact kx _ _ hP hS ls (lv_sub hl [0, 2] rfl)
        · have h := if_some_f h c5
          refine lv_aload_n hx hb dX6_ratedBy_31 rfl (lv_at hl 0 rfl) ?_
          obtain ⟨st7, hv6, h⟩ := bd1_some h
          refine k_aWeek C hP hS hv6 (Nat.le_of_ble_eq_true rfl) hl.1 (Nat.le_of_ble_eq_true rfl) hcs dX6_ratedBy_32 (fun H locs hP hS => ?_)
          refine lv_iinc (v := x3 + 1) (lv' := [(3, .int (x3 + 1)), (0, .ref (ad 0)), (1, .int x1)]) hx hb dX6_ratedBy_35 hl (k := 2) rfl rfl (by decide) rfl (fun ls hl => ?_)
          refine lv_goto (tgt := 16) hx hb dX6_ratedBy_38 rfl ?_
          exact ih st7 (x3 + 1) _ _ h _ _ hP hS ls (lv_sub hl [1, 2, 0] rfl) kx
  rw [M_ratedBy] at h
  refine lv_aload_n hx hb dX6_ratedBy_0 rfl (lv_at hl 0 rfl) ?_
  refine lv_iload_n hx hb dX6_ratedBy_1 rfl (lv_at hl 1 rfl) ?_
  refine p_rated0 C hP hS dX6_ratedBy_2 (fun H locs hP hS => ?_)
  refine lv_aload_n hx hb dX6_ratedBy_5 rfl (lv_at hl 0 rfl) ?_
  refine lv_iload_n hx hb dX6_ratedBy_6 rfl (lv_at hl 2 rfl) ?_
  refine p_rate C hP hS dX6_ratedBy_7 (fun H locs hP hS => ?_)
  refine lv_aload_n hx hb dX6_ratedBy_10 rfl (lv_at hl 0 rfl) ?_
  obtain ⟨st2, hv1, h⟩ := bd1_some h
  refine k_keepAside C hP hS hv1 (Nat.le_of_ble_eq_true rfl) hl.1 (Nat.le_of_ble_eq_true rfl) hcs dX6_ratedBy_11 (fun H locs hP hS => ?_)
  refine lv_iconst (v := 0) hx hb dX6_ratedBy_14 (by decide) ?_
  refine lv_istore_n (lv' := [(3, .int 0), (0, .ref (ad 0)), (1, .int x1), (2, .int x2)]) hx hb dX6_ratedBy_15 rfl hl (by decide) rfl (fun ls hl => ?_)
  obtain ⟨st8, z9, hz13, h⟩ := bd2_some h
  refine L16 x1 N _ 0 _ _ hz13 _ _ hP hS ls (lv_sub hl [1, 2, 0] rfl) (fun H locs hP hS ls hl => ?_)
  refine lv_aload_n hx hb dX6_ratedBy_41 rfl (lv_at hl 0 rfl) ?_
  obtain ⟨st11, hv10, h⟩ := bd1_some h
  refine k_putBack C hP hS hv10 (Nat.le_of_ble_eq_true rfl) hl.1 (Nat.le_of_ble_eq_true rfl) hcs dX6_ratedBy_42 (fun H locs hP hS => ?_)
  refine lv_aload_n hx hb dX6_ratedBy_45 rfl (lv_at hl 0 rfl) ?_
  refine lv_iconst (v := (-1)) hx hb dX6_ratedBy_46 (by decide) ?_
  refine p_rated0 C hP hS dX6_ratedBy_47 (fun H locs hP hS => ?_)
  refine lv_iload_n hx hb dX6_ratedBy_50 rfl (lv_at hl 1 rfl) ?_
  refine lv_bipush (v := 60) hx hb dX6_ratedBy_51 (by decide) ?_
  refine lv_icmp_le (tgt := 60) hx hb dX6_ratedBy_53 rfl (fun c12 => ?_) (fun c12 => ?_)
  · have h := if_some_t h c12
    refine lv_iload_n hx hb dX6_ratedBy_60 rfl (lv_at hl 1 rfl) ?_
    exact mm_viret hx hb hr hlk h hP hS dX6_ratedBy_61
  · have h := if_some_f h c12
    refine lv_iconst (v := (-1)) hx hb dX6_ratedBy_56 (by decide) ?_
    refine lv_goto (tgt := 61) hx hb dX6_ratedBy_57 rfl ?_
    exact mm_viret hx hb hr hlk h hP hS dX6_ratedBy_61
theorem q1891 : (Jvm.Cond.methodLink "ChapterLoanModel" (270 : Nat) ({ cls := "ChapterLoanModel", name := "ratedBy", desc := "(II)I" } : Jvm.MethodName)) ∈ lw_all := lw_g (lw_at lw_m8 127 rfl) rfl
theorem q1894 : (Jvm.Cond.code ({ cls := "ChapterLoanModel", name := "ratedBy", desc := "(II)I" } : Jvm.MethodName) prog_30_method_72_code (4 : Nat) (Option.some Jvm.ClassFile.FieldType.int)) ∈ lw_all := lw_g (lw_at lw_m8 130 rfl) rfl
theorem q1893 : (Jvm.Cond.instanceMethod ({ cls := "ChapterLoanModel", name := "ratedBy", desc := "(II)I" } : Jvm.MethodName)) ∈ lw_all := lw_g (lw_at lw_m8 129 rfl) rfl
theorem k_ratedBy {N : Nat} {a0 : Int32} {a1 : Int32} {v : Int32} {st' : MSt} (C : mC p R d s m args c cc nL D cI ad) (hP : mW D cI ad st H) (hS : va_S (kF 15 ad) H0 H locs) (h : M_ratedBy N st a0 a1 = some (v, st')) (hd : 60 + 1 ≤ d) (hsz : ls.size = nL) (hW : (rest.map fun v => v.category).sum ≤ 8) (hcs : cells ≤ R.cells ∧ slots ≤ R.slots) (hdg : decode cc pc = .ok (.invokevirtual 270, 3)) (kk : ∀ (H1 : Heap) (locs1 : List Loc), mW D cI ad st' H1 → va_S (kF 15 ad) H0 H1 locs1 → W p l e R s m args below meth c H1 locs1 cells slots Q (F0 m (pc + 3) ls (.int v :: rest))) : W p l e R s m args below meth c H locs cells slots Q (F0 m pc ls (.int a1 :: .int a0 :: .ref (ad 0) :: rest)) :=
  mm_cV (As := [.int a0, .int a1]) C hP hS (w_ratedBy C.2.2.2.2.2.2.1 h) (cwV 2 C.2.2.2.2.1 (lw_V q1891 q1893 qs73 q94 q1894) rfl rfl rfl (by decide +kernel) (mr_ C.2.2.2.2.2.2.2 hd (by decide))) rfl hsz rfl hW hdg hcs kk
abbrev cX6_rated : ByteArray := prog_30_method_73_code
def yX6_rated : MethodName := ⟨RX6, "rated", "(III)I"⟩
theorem dX6_rated_0 : decode cX6_rated 0 = .ok (.aload_n 0, 1) := by decide +kernel
theorem dX6_rated_1 : decode cX6_rated 1 = .ok (.iload_n 1, 1) := by decide +kernel
theorem dX6_rated_2 : decode cX6_rated 2 = .ok (.invokevirtual 197, 3) := by decide +kernel
theorem dX6_rated_5 : decode cX6_rated 5 = .ok (.ifCond .eq 25, 3) := by decide +kernel
theorem dX6_rated_8 : decode cX6_rated 8 = .ok (.iload_n 2, 1) := by decide +kernel
theorem dX6_rated_9 : decode cX6_rated 9 = .ok (.i2l, 1) := by decide +kernel
theorem dX6_rated_10 : decode cX6_rated 10 = .ok (.lconst 1, 1) := by decide +kernel
theorem dX6_rated_11 : decode cX6_rated 11 = .ok (.ldc2_w 268, 3) := by decide +kernel
theorem dX6_rated_14 : decode cX6_rated 14 = .ok (.invokestatic 57, 3) := by decide +kernel
theorem dX6_rated_17 : decode cX6_rated 17 = .ok (.ifCond .eq 13, 3) := by decide +kernel
theorem dX6_rated_20 : decode cX6_rated 20 = .ok (.iload_n 3, 1) := by decide +kernel
theorem dX6_rated_21 : decode cX6_rated 21 = .ok (.i2l, 1) := by decide +kernel
theorem dX6_rated_22 : decode cX6_rated 22 = .ok (.lconst 0, 1) := by decide +kernel
theorem dX6_rated_23 : decode cX6_rated 23 = .ok (.lconst 1, 1) := by decide +kernel
theorem dX6_rated_24 : decode cX6_rated 24 = .ok (.invokestatic 57, 3) := by decide +kernel
theorem dX6_rated_27 : decode cX6_rated 27 = .ok (.ifCond .ne 9, 3) := by decide +kernel
theorem dX6_rated_30 : decode cX6_rated 30 = .ok (.aload_n 0, 1) := by decide +kernel
theorem dX6_rated_31 : decode cX6_rated 31 = .ok (.iconst 1, 1) := by decide +kernel
theorem dX6_rated_32 : decode cX6_rated 32 = .ok (.invokevirtual 119, 3) := by decide +kernel
theorem dX6_rated_35 : decode cX6_rated 35 = .ok (.ireturn, 1) := by decide +kernel
theorem dX6_rated_36 : decode cX6_rated 36 = .ok (.iload_n 3, 1) := by decide +kernel
theorem dX6_rated_37 : decode cX6_rated 37 = .ok (.ifCond .ne 27, 3) := by decide +kernel
theorem dX6_rated_40 : decode cX6_rated 40 = .ok (.aload_n 0, 1) := by decide +kernel
theorem dX6_rated_41 : decode cX6_rated 41 = .ok (.iload_n 1, 1) := by decide +kernel
theorem dX6_rated_42 : decode cX6_rated 42 = .ok (.iload_n 2, 1) := by decide +kernel
theorem dX6_rated_43 : decode cX6_rated 43 = .ok (.invokevirtual 270, 3) := by decide +kernel
theorem dX6_rated_46 : decode cX6_rated 46 = .ok (.istore 4, 2) := by decide +kernel
theorem dX6_rated_48 : decode cX6_rated 48 = .ok (.iload 4, 2) := by decide +kernel
theorem dX6_rated_50 : decode cX6_rated 50 = .ok (.ifCond .ge 11, 3) := by decide +kernel
theorem dX6_rated_53 : decode cX6_rated 53 = .ok (.aload_n 0, 1) := by decide +kernel
theorem dX6_rated_54 : decode cX6_rated 54 = .ok (.iconst 2, 1) := by decide +kernel
theorem dX6_rated_55 : decode cX6_rated 55 = .ok (.invokevirtual 119, 3) := by decide +kernel
theorem dX6_rated_58 : decode cX6_rated 58 = .ok (.goto 5, 3) := by decide +kernel
theorem dX6_rated_61 : decode cX6_rated 61 = .ok (.iload 4, 2) := by decide +kernel
theorem dX6_rated_63 : decode cX6_rated 63 = .ok (.ireturn, 1) := by decide +kernel
theorem dX6_rated_64 : decode cX6_rated 64 = .ok (.iconst (-1), 1) := by decide +kernel
theorem dX6_rated_65 : decode cX6_rated 65 = .ok (.istore 4, 2) := by decide +kernel
theorem dX6_rated_67 : decode cX6_rated 67 = .ok (.iconst 0, 1) := by decide +kernel
theorem dX6_rated_68 : decode cX6_rated 68 = .ok (.istore 5, 2) := by decide +kernel
theorem dX6_rated_70 : decode cX6_rated 70 = .ok (.iconst 1, 1) := by decide +kernel
theorem dX6_rated_71 : decode cX6_rated 71 = .ok (.istore 6, 2) := by decide +kernel
theorem dX6_rated_73 : decode cX6_rated 73 = .ok (.iload 6, 2) := by decide +kernel
theorem dX6_rated_75 : decode cX6_rated 75 = .ok (.iconst 4, 1) := by decide +kernel
theorem dX6_rated_76 : decode cX6_rated 76 = .ok (.if_icmp .gt 43, 3) := by decide +kernel
theorem dX6_rated_79 : decode cX6_rated 79 = .ok (.aload_n 0, 1) := by decide +kernel
theorem dX6_rated_80 : decode cX6_rated 80 = .ok (.iload_n 1, 1) := by decide +kernel
theorem dX6_rated_81 : decode cX6_rated 81 = .ok (.iload 6, 2) := by decide +kernel
theorem dX6_rated_83 : decode cX6_rated 83 = .ok (.invokevirtual 270, 3) := by decide +kernel
theorem dX6_rated_86 : decode cX6_rated 86 = .ok (.istore 7, 2) := by decide +kernel
theorem dX6_rated_88 : decode cX6_rated 88 = .ok (.iload 7, 2) := by decide +kernel
theorem dX6_rated_90 : decode cX6_rated 90 = .ok (.ifCond .lt 23, 3) := by decide +kernel
theorem dX6_rated_93 : decode cX6_rated 93 = .ok (.iload 4, 2) := by decide +kernel
theorem dX6_rated_95 : decode cX6_rated 95 = .ok (.ifCond .lt 10, 3) := by decide +kernel
theorem dX6_rated_98 : decode cX6_rated 98 = .ok (.iload 7, 2) := by decide +kernel
theorem dX6_rated_100 : decode cX6_rated 100 = .ok (.iload 5, 2) := by decide +kernel
theorem dX6_rated_102 : decode cX6_rated 102 = .ok (.if_icmp .ge 11, 3) := by decide +kernel
theorem dX6_rated_105 : decode cX6_rated 105 = .ok (.iload 6, 2) := by decide +kernel
theorem dX6_rated_107 : decode cX6_rated 107 = .ok (.istore 4, 2) := by decide +kernel
theorem dX6_rated_109 : decode cX6_rated 109 = .ok (.iload 7, 2) := by decide +kernel
theorem dX6_rated_111 : decode cX6_rated 111 = .ok (.istore 5, 2) := by decide +kernel
theorem dX6_rated_113 : decode cX6_rated 113 = .ok (.iinc 6 1, 3) := by decide +kernel
theorem dX6_rated_116 : decode cX6_rated 116 = .ok (.goto (-43), 3) := by decide +kernel
theorem dX6_rated_119 : decode cX6_rated 119 = .ok (.iload 4, 2) := by decide +kernel
theorem dX6_rated_121 : decode cX6_rated 121 = .ok (.ifCond .ge 11, 3) := by decide +kernel
theorem dX6_rated_124 : decode cX6_rated 124 = .ok (.aload_n 0, 1) := by decide +kernel
theorem dX6_rated_125 : decode cX6_rated 125 = .ok (.iconst 2, 1) := by decide +kernel
theorem dX6_rated_126 : decode cX6_rated 126 = .ok (.invokevirtual 119, 3) := by decide +kernel
theorem dX6_rated_129 : decode cX6_rated 129 = .ok (.goto 5, 3) := by decide +kernel
theorem dX6_rated_132 : decode cX6_rated 132 = .ok (.iload 4, 2) := by decide +kernel
theorem dX6_rated_134 : decode cX6_rated 134 = .ok (.ireturn, 1) := by decide +kernel
theorem w_rated {l : Launch} {D : va_G} {cI : ClassId} {ad : Nat → Nat} (hI : kInj 15 ad) {st st' : MSt} {N : Nat} {x1 : Int32} {x2 : Int32} {x3 : Int32} {r0 : Int32} (h : M_rated  N st x1 x2 x3 = some (r0, st')) : mV l yX6_rated cX6_rated 8 (some .int) 61 D cI ad st [.int x1, .int x2, .int x3] (some (.int r0)) st' := by
  refine mm_ofV hI (by decide) rfl (Nat.le_of_ble_eq_true rfl) (fun p e s m below meth c R args ls C hr hlk hP hS hl hcs => ?_)
  have hx := C.1
  have hb := C.2.1
  have hown := C.2.2.2.1
  have hl : lv_has ls 8 [(0, .ref (ad 0)), (1, .int x1), (2, .int x2), (3, .int x3)] := hl
  have hP : mW D cI ad st s.heap := hP
  have L73 : ∀ (x1 : Int32), ∀ (n : Nat) (st : MSt) (x4 : Int32) (x5 : Int32) (x6 : Int32) (st2 : MSt) (z4 : Int32), M_rated_L73 N x1 n st x4 x5 x6 = some (st2, z4) → ∀ (H : Heap) (locs : List Loc), mW D cI ad st H → va_S (kF 15 ad) s.heap H locs → ∀ ls : Array Slot, lv_has ls 8 [(0, .ref (ad 0)), (1, .int x1), (4, .int x4), (5, .int x5), (6, .int x6)] → (∀ (H : Heap) (locs : List Loc), mW D cI ad st2 H → va_S (kF 15 ad) s.heap H locs → ∀ ls : Array Slot, lv_has ls 8 [(0, .ref (ad 0)), (4, .int z4)] → mWV p l e R s m args below meth c D cI ad (some (.int r0)) st' H locs (F0 m 119 ls [])) → mWV p l e R s m args below meth c D cI ad (some (.int r0)) st' H locs (F0 m 73 ls []) := by
    intro x1 n
    induction n with
    | zero =>
      intro st x4 x5 x6 st2 z4 h
      exact non_some h
    | succ n ih =>
      intro st x4 x5 x6 st2 z4 h H locs hP hS ls hl kx
      rw [M_rated_L73] at h
      refine lv_iload hx hb dX6_rated_73 (lv_at hl 4 rfl) ?_
      refine lv_iconst (v := 4) hx hb dX6_rated_75 (by decide) ?_
      refine lv_icmp_gt (tgt := 119) hx hb dX6_rated_76 rfl (fun c12 => ?_) (fun c12 => ?_)
      · have h := if_some_t h c12
        cases h
        exact kx _ _ hP hS ls (lv_sub hl [0, 2] rfl)
      · have h := if_some_f h c12
        refine lv_aload_n hx hb dX6_rated_79 rfl (lv_at hl 0 rfl) ?_
        refine lv_iload_n hx hb dX6_rated_80 rfl (lv_at hl 1 rfl) ?_
        refine lv_iload hx hb dX6_rated_81 (lv_at hl 4 rfl) ?_
        obtain ⟨v13, st14, hv13, h⟩ := bd2_some h
        refine k_ratedBy C hP hS hv13 (Nat.le_of_ble_eq_true rfl) hl.1 (Nat.le_of_ble_eq_true rfl) hcs dX6_rated_83 (fun H locs hP hS => ?_)
        refine lv_istore (lv' := [(7, .int v13), (0, .ref (ad 0)), (1, .int x1), (4, .int x4), (5, .int x5), (6, .int x6)]) hx hb dX6_rated_86 hl (by decide) rfl (fun ls hl => ?_)
        refine lv_iload hx hb dX6_rated_88 (lv_at hl 0 rfl) ?_
        refine lv_if_lt (tgt := 113) hx hb dX6_rated_90 rfl (fun c15 => ?_) (fun c15 => ?_)
        · have h := if_some_t h c15
          refine lv_iinc (v := x6 + 1) (lv' := [(6, .int (x6 + 1)), (7, .int v13), (0, .ref (ad 0)), (1, .int x1), (4, .int x4), (5, .int x5)]) hx hb dX6_rated_113 hl (k := 5) rfl rfl (by decide) rfl (fun ls hl => ?_)
          refine lv_goto (tgt := 73) hx hb dX6_rated_116 rfl ?_
          exact ih st14 x4 x5 (x6 + 1) _ _ h _ _ hP hS ls (lv_sub hl [2, 3, 4, 5, 0] rfl) kx
        · have h := if_some_f h c15
          refine lv_iload hx hb dX6_rated_93 (lv_at hl 3 rfl) ?_
          refine lv_if_lt (tgt := 105) hx hb dX6_rated_95 rfl (fun c16 => ?_) (fun c16 => ?_)
          · have h := if_some_t h c16
            refine lv_iload hx hb dX6_rated_105 (lv_at hl 5 rfl) ?_
            refine lv_istore (lv' := [(4, .int x6), (7, .int v13), (0, .ref (ad 0)), (1, .int x1), (5, .int x5), (6, .int x6)]) hx hb dX6_rated_107 hl (by decide) rfl (fun ls hl => ?_)
            refine lv_iload hx hb dX6_rated_109 (lv_at hl 1 rfl) ?_
            refine lv_istore (lv' := [(5, .int v13), (4, .int x6), (7, .int v13), (0, .ref (ad 0)), (1, .int x1), (6, .int x6)]) hx hb dX6_rated_111 hl (by decide) rfl (fun ls hl => ?_)
            refine lv_iinc (v := x6 + 1) (lv' := [(6, .int (x6 + 1)), (5, .int v13), (4, .int x6), (7, .int v13), (0, .ref (ad 0)), (1, .int x1)]) hx hb dX6_rated_113 hl (k := 5) rfl rfl (by decide) rfl (fun ls hl => ?_)
            refine lv_goto (tgt := 73) hx hb dX6_rated_116 rfl ?_
            exact ih st14 x6 v13 (x6 + 1) _ _ h _ _ hP hS ls (lv_sub hl [4, 5, 2, 1, 0] rfl) kx
          · have h := if_some_f h c16
            refine lv_iload hx hb dX6_rated_98 (lv_at hl 0 rfl) ?_
            refine lv_iload hx hb dX6_rated_100 (lv_at hl 4 rfl) ?_
            refine lv_icmp_ge (tgt := 113) hx hb dX6_rated_102 rfl (fun c17 => ?_) (fun c17 => ?_)
            · have h := if_some_t h c17
              refine lv_iinc (v := x6 + 1) (lv' := [(6, .int (x6 + 1)), (7, .int v13), (0, .ref (ad 0)), (1, .int x1), (4, .int x4), (5, .int x5)]) hx hb dX6_rated_113 hl (k := 5) rfl rfl (by decide) rfl (fun ls hl => ?_)
              refine lv_goto (tgt := 73) hx hb dX6_rated_116 rfl ?_
              exact ih st14 x4 x5 (x6 + 1) _ _ h _ _ hP hS ls (lv_sub hl [2, 3, 4, 5, 0] rfl) kx
            · have h := if_some_f h c17
              refine lv_iload hx hb dX6_rated_105 (lv_at hl 5 rfl) ?_
              refine lv_istore (lv' := [(4, .int x6), (7, .int v13), (0, .ref (ad 0)), (1, .int x1), (5, .int x5), (6, .int x6)]) hx hb dX6_rated_107 hl (by decide) rfl (fun ls hl => ?_)
              refine lv_iload hx hb dX6_rated_109 (lv_at hl 1 rfl) ?_
              refine lv_istore (lv' := [(5, .int v13), (4, .int x6), (7, .int v13), (0, .ref (ad 0)), (1, .int x1), (6, .int x6)]) hx hb dX6_rated_111 hl (by decide) rfl (fun ls hl => ?_)
              refine lv_iinc (v := x6 + 1) (lv' := [(6, .int (x6 + 1)), (5, .int v13), (4, .int x6), (7, .int v13), (0, .ref (ad 0)), (1, .int x1)]) hx hb dX6_rated_113 hl (k := 5) rfl rfl (by decide) rfl (fun ls hl => ?_)
              refine lv_goto (tgt := 73) hx hb dX6_rated_116 rfl ?_
              exact ih st14 x6 v13 (x6 + 1) _ _ h _ _ hP hS ls (lv_sub hl [4, 5, 2, 1, 0] rfl) kx
  rw [M_rated] at h
  refine lv_aload_n hx hb dX6_rated_0 rfl (lv_at hl 0 rfl) ?_
  refine lv_iload_n hx hb dX6_rated_1 rfl (lv_at hl 1 rfl) ?_
  obtain ⟨v1, hv1, h⟩ := bd1_some h
  refine k_isDebtor C hP hv1 (Nat.le_of_ble_eq_true rfl) hl.1 (Nat.le_of_ble_eq_true rfl) hcs dX6_rated_2 ?_
  refine lv_if_eq (tgt := 30) hx hb dX6_rated_5 rfl (fun c2 => ?_) (fun c2 => ?_)
  · have h := if_some_t h c2
    refine lv_aload_n hx hb dX6_rated_30 rfl (lv_at hl 0 rfl) ?_
    refine lv_iconst (v := 1) hx hb dX6_rated_31 (by decide) ?_
    obtain ⟨v3, st4, hv3, h⟩ := bd2_some h
    refine k_finds C hP hS hv3 (Nat.le_of_ble_eq_true rfl) hl.1 (Nat.le_of_ble_eq_true rfl) hcs dX6_rated_32 (fun H locs hP hS => ?_)
    exact mm_viret hx hb hr hlk h hP hS dX6_rated_35
  · have h := if_some_f h c2
    refine lv_iload_n hx hb dX6_rated_8 rfl (lv_at hl 2 rfl) ?_
    refine lv_i2l (v := x2.toInt64) hx hb dX6_rated_9 rfl ?_
    refine lv_lconst (v := 1) hx hb dX6_rated_10 (by decide) ?_
    refine lv_ldc2 hx hb hown (C.2.2.2.2.1 _ q1890) dX6_rated_11 ?_
    obtain ⟨v5, hv5, h⟩ := bd1_some h
    refine k_in hx hb C.2.2.1 hown C.2.2.2.2.1 C.2.2.2.2.2.2.2 hv5 (Nat.le_of_ble_eq_true rfl) hl.1 (Nat.le_of_ble_eq_true rfl) hcs dX6_rated_14 ?_
    refine lv_if_eq (tgt := 30) hx hb dX6_rated_17 rfl (fun c6 => ?_) (fun c6 => ?_)
    · have h := if_some_t h c6
      refine lv_aload_n hx hb dX6_rated_30 rfl (lv_at hl 0 rfl) ?_
      refine lv_iconst (v := 1) hx hb dX6_rated_31 (by decide) ?_
      obtain ⟨v7, st8, hv7, h⟩ := bd2_some h
      refine k_finds C hP hS hv7 (Nat.le_of_ble_eq_true rfl) hl.1 (Nat.le_of_ble_eq_true rfl) hcs dX6_rated_32 (fun H locs hP hS => ?_)
      exact mm_viret hx hb hr hlk h hP hS dX6_rated_35
    · have h := if_some_f h c6
      refine lv_iload_n hx hb dX6_rated_20 rfl (lv_at hl 3 rfl) ?_
      refine lv_i2l (v := x3.toInt64) hx hb dX6_rated_21 rfl ?_
      refine lv_lconst (v := 0) hx hb dX6_rated_22 (by decide) ?_
      refine lv_lconst (v := 1) hx hb dX6_rated_23 (by decide) ?_
      obtain ⟨v9, hv9, h⟩ := bd1_some h
      refine k_in hx hb C.2.2.1 hown C.2.2.2.2.1 C.2.2.2.2.2.2.2 hv9 (Nat.le_of_ble_eq_true rfl) hl.1 (Nat.le_of_ble_eq_true rfl) hcs dX6_rated_24 ?_
      refine lv_if_ne (tgt := 36) hx hb dX6_rated_27 rfl (fun c10 => ?_) (fun c10 => ?_)
      · have h := if_some_f h c10
        refine lv_iload_n hx hb dX6_rated_36 rfl (lv_at hl 3 rfl) ?_
        refine lv_if_ne (tgt := 64) hx hb dX6_rated_37 rfl (fun c11 => ?_) (fun c11 => ?_)
        · have h := if_some_f h c11
          refine lv_iconst (v := (-1)) hx hb dX6_rated_64 (by decide) ?_
          refine lv_istore (lv' := [(4, .int (-1)), (0, .ref (ad 0)), (1, .int x1), (2, .int x2), (3, .int x3)]) hx hb dX6_rated_65 hl (by decide) rfl (fun ls hl => ?_)
          refine lv_iconst (v := 0) hx hb dX6_rated_67 (by decide) ?_
          refine lv_istore (lv' := [(5, .int 0), (4, .int (-1)), (0, .ref (ad 0)), (1, .int x1), (2, .int x2), (3, .int x3)]) hx hb dX6_rated_68 hl (by decide) rfl (fun ls hl => ?_)
          refine lv_iconst (v := 1) hx hb dX6_rated_70 (by decide) ?_
          refine lv_istore (lv' := [(6, .int 1), (5, .int 0), (4, .int (-1)), (0, .ref (ad 0)), (1, .int x1), (2, .int x2), (3, .int x3)]) hx hb dX6_rated_71 hl (by decide) rfl (fun ls hl => ?_)
          obtain ⟨st18, z19, hz23, h⟩ := bd2_some h
          refine L73 x1 N _ (-1) 0 1 _ _ hz23 _ _ hP hS ls (lv_sub hl [3, 4, 2, 1, 0] rfl) (fun H locs hP hS ls hl => ?_)
          refine lv_iload hx hb dX6_rated_119 (lv_at hl 1 rfl) ?_
          refine lv_if_ge (tgt := 132) hx hb dX6_rated_121 rfl (fun c20 => ?_) (fun c20 => ?_)
          · have h := if_some_t h c20
            refine lv_iload hx hb dX6_rated_132 (lv_at hl 1 rfl) ?_
            exact mm_viret hx hb hr hlk h hP hS dX6_rated_134
          · have h := if_some_f h c20
            refine lv_aload_n hx hb dX6_rated_124 rfl (lv_at hl 0 rfl) ?_
            refine lv_iconst (v := 2) hx hb dX6_rated_125 (by decide) ?_
            obtain ⟨v21, st22, hv21, h⟩ := bd2_some h
            refine k_finds C hP hS hv21 (Nat.le_of_ble_eq_true rfl) hl.1 (Nat.le_of_ble_eq_true rfl) hcs dX6_rated_126 (fun H locs hP hS => ?_)
            refine lv_goto (tgt := 134) hx hb dX6_rated_129 rfl ?_
            exact mm_viret hx hb hr hlk h hP hS dX6_rated_134
        · have h := if_some_t h c11
          refine lv_aload_n hx hb dX6_rated_40 rfl (lv_at hl 0 rfl) ?_
          refine lv_iload_n hx hb dX6_rated_41 rfl (lv_at hl 1 rfl) ?_
          refine lv_iload_n hx hb dX6_rated_42 rfl (lv_at hl 2 rfl) ?_
          obtain ⟨v24, st25, hv24, h⟩ := bd2_some h
          refine k_ratedBy C hP hS hv24 (Nat.le_of_ble_eq_true rfl) hl.1 (Nat.le_of_ble_eq_true rfl) hcs dX6_rated_43 (fun H locs hP hS => ?_)
          refine lv_istore (lv' := [(4, .int v24), (0, .ref (ad 0)), (1, .int x1), (2, .int x2), (3, .int x3)]) hx hb dX6_rated_46 hl (by decide) rfl (fun ls hl => ?_)
          refine lv_iload hx hb dX6_rated_48 (lv_at hl 0 rfl) ?_
          refine lv_if_ge (tgt := 61) hx hb dX6_rated_50 rfl (fun c26 => ?_) (fun c26 => ?_)
          · have h := if_some_t h c26
            refine lv_iload hx hb dX6_rated_61 (lv_at hl 0 rfl) ?_
            exact mm_viret hx hb hr hlk h hP hS dX6_rated_63
          · have h := if_some_f h c26
            refine lv_aload_n hx hb dX6_rated_53 rfl (lv_at hl 1 rfl) ?_
            refine lv_iconst (v := 2) hx hb dX6_rated_54 (by decide) ?_
            obtain ⟨v27, st28, hv27, h⟩ := bd2_some h
            refine k_finds C hP hS hv27 (Nat.le_of_ble_eq_true rfl) hl.1 (Nat.le_of_ble_eq_true rfl) hcs dX6_rated_55 (fun H locs hP hS => ?_)
            refine lv_goto (tgt := 63) hx hb dX6_rated_58 rfl ?_
            exact mm_viret hx hb hr hlk h hP hS dX6_rated_63
      · have h := if_some_t h c10
        refine lv_aload_n hx hb dX6_rated_30 rfl (lv_at hl 0 rfl) ?_
        refine lv_iconst (v := 1) hx hb dX6_rated_31 (by decide) ?_
        obtain ⟨v29, st30, hv29, h⟩ := bd2_some h
        refine k_finds C hP hS hv29 (Nat.le_of_ble_eq_true rfl) hl.1 (Nat.le_of_ble_eq_true rfl) hcs dX6_rated_32 (fun H locs hP hS => ?_)
        exact mm_viret hx hb hr hlk h hP hS dX6_rated_35
abbrev cX6_begins : ByteArray := prog_30_method_74_code
def yX6_begins : MethodName := ⟨RX6, "begins", "(II)Z"⟩
theorem dX6_begins_0 : decode cX6_begins 0 = .ok (.aload_n 0, 1) := by decide +kernel
theorem dX6_begins_1 : decode cX6_begins 1 = .ok (.invokevirtual 243, 3) := by decide +kernel
theorem dX6_begins_4 : decode cX6_begins 4 = .ok (.aload_n 0, 1) := by decide +kernel
theorem dX6_begins_5 : decode cX6_begins 5 = .ok (.iload_n 1, 1) := by decide +kernel
theorem dX6_begins_6 : decode cX6_begins 6 = .ok (.iconst 4, 1) := by decide +kernel
theorem dX6_begins_7 : decode cX6_begins 7 = .ok (.invokevirtual 150, 3) := by decide +kernel
theorem dX6_begins_10 : decode cX6_begins 10 = .ok (.istore_n 3, 1) := by decide +kernel
theorem dX6_begins_11 : decode cX6_begins 11 = .ok (.iconst 0, 1) := by decide +kernel
theorem dX6_begins_12 : decode cX6_begins 12 = .ok (.istore 4, 2) := by decide +kernel
theorem dX6_begins_14 : decode cX6_begins 14 = .ok (.iload 4, 2) := by decide +kernel
theorem dX6_begins_16 : decode cX6_begins 16 = .ok (.bipush 60, 2) := by decide +kernel
theorem dX6_begins_18 : decode cX6_begins 18 = .ok (.if_icmp .ge 13, 3) := by decide +kernel
theorem dX6_begins_21 : decode cX6_begins 21 = .ok (.aload_n 0, 1) := by decide +kernel
theorem dX6_begins_22 : decode cX6_begins 22 = .ok (.invokevirtual 229, 3) := by decide +kernel
theorem dX6_begins_25 : decode cX6_begins 25 = .ok (.iinc 4 1, 3) := by decide +kernel
theorem dX6_begins_28 : decode cX6_begins 28 = .ok (.goto (-14), 3) := by decide +kernel
theorem dX6_begins_31 : decode cX6_begins 31 = .ok (.aload_n 0, 1) := by decide +kernel
theorem dX6_begins_32 : decode cX6_begins 32 = .ok (.iload_n 1, 1) := by decide +kernel
theorem dX6_begins_33 : decode cX6_begins 33 = .ok (.iconst 4, 1) := by decide +kernel
theorem dX6_begins_34 : decode cX6_begins 34 = .ok (.invokevirtual 150, 3) := by decide +kernel
theorem dX6_begins_37 : decode cX6_begins 37 = .ok (.iload_n 3, 1) := by decide +kernel
theorem dX6_begins_38 : decode cX6_begins 38 = .ok (.isub, 1) := by decide +kernel
theorem dX6_begins_39 : decode cX6_begins 39 = .ok (.aload_n 0, 1) := by decide +kernel
theorem dX6_begins_40 : decode cX6_begins 40 = .ok (.getfield 47, 3) := by decide +kernel
theorem dX6_begins_43 : decode cX6_begins 43 = .ok (.iload_n 2, 1) := by decide +kernel
theorem dX6_begins_44 : decode cX6_begins 44 = .ok (.iaload, 1) := by decide +kernel
theorem dX6_begins_45 : decode cX6_begins 45 = .ok (.if_icmp .lt 7, 3) := by decide +kernel
theorem dX6_begins_48 : decode cX6_begins 48 = .ok (.iconst 1, 1) := by decide +kernel
theorem dX6_begins_49 : decode cX6_begins 49 = .ok (.goto 4, 3) := by decide +kernel
theorem dX6_begins_52 : decode cX6_begins 52 = .ok (.iconst 0, 1) := by decide +kernel
theorem dX6_begins_53 : decode cX6_begins 53 = .ok (.istore 4, 2) := by decide +kernel
theorem dX6_begins_55 : decode cX6_begins 55 = .ok (.iconst 0, 1) := by decide +kernel
theorem dX6_begins_56 : decode cX6_begins 56 = .ok (.istore 5, 2) := by decide +kernel
theorem dX6_begins_58 : decode cX6_begins 58 = .ok (.iload 5, 2) := by decide +kernel
theorem dX6_begins_60 : decode cX6_begins 60 = .ok (.aload_n 0, 1) := by decide +kernel
theorem dX6_begins_61 : decode cX6_begins 61 = .ok (.getfield 47, 3) := by decide +kernel
theorem dX6_begins_64 : decode cX6_begins 64 = .ok (.iload_n 2, 1) := by decide +kernel
theorem dX6_begins_65 : decode cX6_begins 65 = .ok (.iaload, 1) := by decide +kernel
theorem dX6_begins_66 : decode cX6_begins 66 = .ok (.if_icmp .ge 47, 3) := by decide +kernel
theorem dX6_begins_69 : decode cX6_begins 69 = .ok (.iload 4, 2) := by decide +kernel
theorem dX6_begins_71 : decode cX6_begins 71 = .ok (.ifCond .eq 42, 3) := by decide +kernel
theorem dX6_begins_74 : decode cX6_begins 74 = .ok (.aload_n 0, 1) := by decide +kernel
theorem dX6_begins_75 : decode cX6_begins 75 = .ok (.iload_n 1, 1) := by decide +kernel
theorem dX6_begins_76 : decode cX6_begins 76 = .ok (.iconst 5, 1) := by decide +kernel
theorem dX6_begins_77 : decode cX6_begins 77 = .ok (.iload_n 3, 1) := by decide +kernel
theorem dX6_begins_78 : decode cX6_begins 78 = .ok (.iadd, 1) := by decide +kernel
theorem dX6_begins_79 : decode cX6_begins 79 = .ok (.iload 5, 2) := by decide +kernel
theorem dX6_begins_81 : decode cX6_begins 81 = .ok (.iadd, 1) := by decide +kernel
theorem dX6_begins_82 : decode cX6_begins 82 = .ok (.invokevirtual 150, 3) := by decide +kernel
theorem dX6_begins_85 : decode cX6_begins 85 = .ok (.aload_n 0, 1) := by decide +kernel
theorem dX6_begins_86 : decode cX6_begins 86 = .ok (.getfield 50, 3) := by decide +kernel
theorem dX6_begins_89 : decode cX6_begins 89 = .ok (.bipush 40, 2) := by decide +kernel
theorem dX6_begins_91 : decode cX6_begins 91 = .ok (.iload_n 2, 1) := by decide +kernel
theorem dX6_begins_92 : decode cX6_begins 92 = .ok (.imul, 1) := by decide +kernel
theorem dX6_begins_93 : decode cX6_begins 93 = .ok (.iload 5, 2) := by decide +kernel
theorem dX6_begins_95 : decode cX6_begins 95 = .ok (.iadd, 1) := by decide +kernel
theorem dX6_begins_96 : decode cX6_begins 96 = .ok (.iaload, 1) := by decide +kernel
theorem dX6_begins_97 : decode cX6_begins 97 = .ok (.if_icmp .ne 7, 3) := by decide +kernel
theorem dX6_begins_100 : decode cX6_begins 100 = .ok (.iconst 1, 1) := by decide +kernel
theorem dX6_begins_101 : decode cX6_begins 101 = .ok (.goto 4, 3) := by decide +kernel
theorem dX6_begins_104 : decode cX6_begins 104 = .ok (.iconst 0, 1) := by decide +kernel
theorem dX6_begins_105 : decode cX6_begins 105 = .ok (.istore 4, 2) := by decide +kernel
theorem dX6_begins_107 : decode cX6_begins 107 = .ok (.iinc 5 1, 3) := by decide +kernel
theorem dX6_begins_110 : decode cX6_begins 110 = .ok (.goto (-52), 3) := by decide +kernel
theorem dX6_begins_113 : decode cX6_begins 113 = .ok (.aload_n 0, 1) := by decide +kernel
theorem dX6_begins_114 : decode cX6_begins 114 = .ok (.invokevirtual 246, 3) := by decide +kernel
theorem dX6_begins_117 : decode cX6_begins 117 = .ok (.iload 4, 2) := by decide +kernel
theorem dX6_begins_119 : decode cX6_begins 119 = .ok (.ireturn, 1) := by decide +kernel
theorem w_begins {l : Launch} {D : va_G} {cI : ClassId} {ad : Nat → Nat} (hI : kInj 15 ad) {st st' : MSt} {N : Nat} {x1 : Int32} {x2 : Int32} {r0 : Int32} (h : M_begins  N st x1 x2 = some (r0, st')) : mV l yX6_begins cX6_begins 6 (some .boolean) 60 D cI ad st [.int x1, .int x2] (some (.int r0)) st' := by
  refine mm_ofV hI (by decide) rfl (Nat.le_of_ble_eq_true rfl) (fun p e s m below meth c R args ls C hr hlk hP hS hl hcs => ?_)
  have hx := C.1
  have hb := C.2.1
  have hown := C.2.2.2.1
  have hl : lv_has ls 6 [(0, .ref (ad 0)), (1, .int x1), (2, .int x2)] := hl
  have hP : mW D cI ad st s.heap := hP
  have L14 : ∀ (x1 : Int32), ∀ (x2 : Int32), ∀ (x3 : Int32), ∀ (n : Nat) (st : MSt) (x4 : Int32) (st2 : MSt), M_begins_L14 N x1 x2 x3 n st x4 = some st2 → ∀ (H : Heap) (locs : List Loc), mW D cI ad st H → va_S (kF 15 ad) s.heap H locs → ∀ ls : Array Slot, lv_has ls 6 [(0, .ref (ad 0)), (1, .int x1), (2, .int x2), (3, .int x3), (4, .int x4)] → (∀ (H : Heap) (locs : List Loc), mW D cI ad st2 H → va_S (kF 15 ad) s.heap H locs → ∀ ls : Array Slot, lv_has ls 6 [(0, .ref (ad 0)), (1, .int x1), (2, .int x2), (3, .int x3)] → mWV p l e R s m args below meth c D cI ad (some (.int r0)) st' H locs (F0 m 31 ls [])) → mWV p l e R s m args below meth c D cI ad (some (.int r0)) st' H locs (F0 m 14 ls []) := by
    intro x1 x2 x3 n
    induction n with
    | zero =>
      intro st x4 st2 h
      exact non_some h
    | succ n ih =>
      intro st x4 st2 h H locs hP hS ls hl kx
      rw [M_begins_L14] at h
      refine lv_iload hx hb dX6_begins_14 (lv_at hl 4 rfl) ?_
      refine lv_bipush (v := 60) hx hb dX6_begins_16 (by decide) ?_
      refine lv_icmp_ge (tgt := 31) hx hb dX6_begins_18 rfl (fun c4 => ?_) (fun c4 => ?_)
      · have h := if_some_t h c4
        cases h
        exact kx _ _ hP hS ls (lv_sub hl [0, 1, 2, 3] rfl)
      · have h := if_some_f h c4
        refine lv_aload_n hx hb dX6_begins_21 rfl (lv_at hl 0 rfl) ?_
        obtain ⟨st6, hv5, h⟩ := bd1_some h
        refine k_aWeek C hP hS hv5 (Nat.le_of_ble_eq_true rfl) hl.1 (Nat.le_of_ble_eq_true rfl) hcs dX6_begins_22 (fun H locs hP hS => ?_)
        refine lv_iinc (v := x4 + 1) (lv' := [(4, .int (x4 + 1)), (0, .ref (ad 0)), (1, .int x1), (2, .int x2), (3, .int x3)]) hx hb dX6_begins_25 hl (k := 4) rfl rfl (by decide) rfl (fun ls hl => ?_)
        refine lv_goto (tgt := 14) hx hb dX6_begins_28 rfl ?_
        exact ih st6 (x4 + 1) _ h _ _ hP hS ls (lv_sub hl [1, 2, 3, 4, 0] rfl) kx
  have L58 : ∀ (st : MSt), ∀ (x1 : Int32), ∀ (x2 : Int32), ∀ (x3 : Int32), ∀ (n : Nat) (x4 : Int32) (x5 : Int32) (z4 : Int32), M_begins_L58 N st x1 x2 x3 n x4 x5 = some z4 → ∀ (H : Heap) (locs : List Loc), mW D cI ad st H → va_S (kF 15 ad) s.heap H locs → ∀ ls : Array Slot, lv_has ls 6 [(0, .ref (ad 0)), (1, .int x1), (2, .int x2), (3, .int x3), (4, .int x4), (5, .int x5)] → (∀ ls : Array Slot, lv_has ls 6 [(0, .ref (ad 0)), (4, .int z4)] → mWV p l e R s m args below meth c D cI ad (some (.int r0)) st' H locs (F0 m 113 ls [])) → mWV p l e R s m args below meth c D cI ad (some (.int r0)) st' H locs (F0 m 58 ls []) := by
    intro st x1 x2 x3 n
    induction n with
    | zero =>
      intro x4 x5 z4 h
      exact non_some h
    | succ n ih =>
      intro x4 x5 z4 h H locs hP hS ls hl kx
      rw [M_begins_L58] at h
      refine lv_iload hx hb dX6_begins_58 (lv_at hl 5 rfl) ?_
      refine lv_aload_n hx hb dX6_begins_60 rfl (lv_at hl 0 rfl) ?_
      refine g_sizeOf C hP dX6_begins_61 ?_
      refine lv_iload_n hx hb dX6_begins_64 rfl (lv_at hl 2 rfl) ?_
      obtain ⟨v11, hv11, h⟩ := bd1_some h
      refine mm_ld C hP 12 (by decide) rfl hv11 dX6_begins_65 ?_
      refine lv_icmp_ge (tgt := 113) hx hb dX6_begins_66 rfl (fun c12 => ?_) (fun c12 => ?_)
      · have h := if_some_t h c12
        cases h
        exact kx ls (lv_sub hl [0, 4] rfl)
      · have h := if_some_f h c12
        refine lv_iload hx hb dX6_begins_69 (lv_at hl 4 rfl) ?_
        refine lv_if_eq (tgt := 113) hx hb dX6_begins_71 rfl (fun c13 => ?_) (fun c13 => ?_)
        · have h := if_some_t h c13
          cases h
          exact kx ls (lv_sub hl [0, 4] rfl)
        · have h := if_some_f h c13
          refine lv_aload_n hx hb dX6_begins_74 rfl (lv_at hl 0 rfl) ?_
          refine lv_iload_n hx hb dX6_begins_75 rfl (lv_at hl 1 rfl) ?_
          refine lv_iconst (v := 5) hx hb dX6_begins_76 (by decide) ?_
          refine lv_iload_n hx hb dX6_begins_77 rfl (lv_at hl 3 rfl) ?_
          refine lv_iadd hx hb dX6_begins_78 ?_
          refine lv_iload hx hb dX6_begins_79 (lv_at hl 5 rfl) ?_
          refine lv_iadd hx hb dX6_begins_81 ?_
          obtain ⟨v14, hv14, h⟩ := bd1_some h
          refine k_of C hP hv14 (Nat.le_of_ble_eq_true rfl) hl.1 (Nat.le_of_ble_eq_true rfl) hcs dX6_begins_82 ?_
          refine lv_aload_n hx hb dX6_begins_85 rfl (lv_at hl 0 rfl) ?_
          refine g_number C hP dX6_begins_86 ?_
          refine lv_bipush (v := 40) hx hb dX6_begins_89 (by decide) ?_
          refine lv_iload_n hx hb dX6_begins_91 rfl (lv_at hl 2 rfl) ?_
          refine lv_imul hx hb dX6_begins_92 ?_
          refine lv_iload hx hb dX6_begins_93 (lv_at hl 5 rfl) ?_
          refine lv_iadd hx hb dX6_begins_95 ?_
          obtain ⟨v15, hv15, h⟩ := bd1_some h
          refine mm_ld C hP 13 (by decide) rfl hv15 dX6_begins_96 ?_
          refine lv_icmp_ne (tgt := 104) hx hb dX6_begins_97 rfl (fun c16 => ?_) (fun c16 => ?_)
          · have h := if_some_f h c16
            refine lv_iconst (v := 0) hx hb dX6_begins_104 (by decide) ?_
            refine lv_istore (lv' := [(4, .int 0), (0, .ref (ad 0)), (1, .int x1), (2, .int x2), (3, .int x3), (5, .int x5)]) hx hb dX6_begins_105 hl (by decide) rfl (fun ls hl => ?_)
            refine lv_iinc (v := x5 + 1) (lv' := [(5, .int (x5 + 1)), (4, .int 0), (0, .ref (ad 0)), (1, .int x1), (2, .int x2), (3, .int x3)]) hx hb dX6_begins_107 hl (k := 5) rfl rfl (by decide) rfl (fun ls hl => ?_)
            refine lv_goto (tgt := 58) hx hb dX6_begins_110 rfl ?_
            exact ih 0 (x5 + 1) _ h _ _ hP hS ls (lv_sub hl [2, 3, 4, 5, 1, 0] rfl) kx
          · have h := if_some_t h c16
            refine lv_iconst (v := 1) hx hb dX6_begins_100 (by decide) ?_
            refine lv_goto (tgt := 105) hx hb dX6_begins_101 rfl ?_
            refine lv_istore (lv' := [(4, .int 1), (0, .ref (ad 0)), (1, .int x1), (2, .int x2), (3, .int x3), (5, .int x5)]) hx hb dX6_begins_105 hl (by decide) rfl (fun ls hl => ?_)
            refine lv_iinc (v := x5 + 1) (lv' := [(5, .int (x5 + 1)), (4, .int 1), (0, .ref (ad 0)), (1, .int x1), (2, .int x2), (3, .int x3)]) hx hb dX6_begins_107 hl (k := 5) rfl rfl (by decide) rfl (fun ls hl => ?_)
            refine lv_goto (tgt := 58) hx hb dX6_begins_110 rfl ?_
            exact ih 1 (x5 + 1) _ h _ _ hP hS ls (lv_sub hl [2, 3, 4, 5, 1, 0] rfl) kx
  rw [M_begins] at h
  refine lv_aload_n hx hb dX6_begins_0 rfl (lv_at hl 0 rfl) ?_
  obtain ⟨st2, hv1, h⟩ := bd1_some h
  refine k_keepAside C hP hS hv1 (Nat.le_of_ble_eq_true rfl) hl.1 (Nat.le_of_ble_eq_true rfl) hcs dX6_begins_1 (fun H locs hP hS => ?_)
  refine lv_aload_n hx hb dX6_begins_4 rfl (lv_at hl 0 rfl) ?_
  refine lv_iload_n hx hb dX6_begins_5 rfl (lv_at hl 1 rfl) ?_
  refine lv_iconst (v := 4) hx hb dX6_begins_6 (by decide) ?_
  obtain ⟨v3, hv3, h⟩ := bd1_some h
  refine k_of C hP hv3 (Nat.le_of_ble_eq_true rfl) hl.1 (Nat.le_of_ble_eq_true rfl) hcs dX6_begins_7 ?_
  refine lv_istore_n (lv' := [(3, .int v3), (0, .ref (ad 0)), (1, .int x1), (2, .int x2)]) hx hb dX6_begins_10 rfl hl (by decide) rfl (fun ls hl => ?_)
  refine lv_iconst (v := 0) hx hb dX6_begins_11 (by decide) ?_
  refine lv_istore (lv' := [(4, .int 0), (3, .int v3), (0, .ref (ad 0)), (1, .int x1), (2, .int x2)]) hx hb dX6_begins_12 hl (by decide) rfl (fun ls hl => ?_)
  obtain ⟨st7, hz25, h⟩ := bd1_some h
  refine L14 x1 x2 v3 N _ 0 _ hz25 _ _ hP hS ls (lv_sub hl [2, 3, 4, 1, 0] rfl) (fun H locs hP hS ls hl => ?_)
  refine lv_aload_n hx hb dX6_begins_31 rfl (lv_at hl 0 rfl) ?_
  refine lv_iload_n hx hb dX6_begins_32 rfl (lv_at hl 1 rfl) ?_
  refine lv_iconst (v := 4) hx hb dX6_begins_33 (by decide) ?_
  obtain ⟨v8, hv8, h⟩ := bd1_some h
  refine k_of C hP hv8 (Nat.le_of_ble_eq_true rfl) hl.1 (Nat.le_of_ble_eq_true rfl) hcs dX6_begins_34 ?_
  refine lv_iload_n hx hb dX6_begins_37 rfl (lv_at hl 3 rfl) ?_
  refine lv_isub hx hb dX6_begins_38 ?_
  refine lv_aload_n hx hb dX6_begins_39 rfl (lv_at hl 0 rfl) ?_
  refine g_sizeOf C hP dX6_begins_40 ?_
  refine lv_iload_n hx hb dX6_begins_43 rfl (lv_at hl 2 rfl) ?_
  obtain ⟨v9, hv9, h⟩ := bd1_some h
  refine mm_ld C hP 12 (by decide) rfl hv9 dX6_begins_44 ?_
  refine lv_icmp_lt (tgt := 52) hx hb dX6_begins_45 rfl (fun c10 => ?_) (fun c10 => ?_)
  · have h := if_some_t h c10
    refine lv_iconst (v := 0) hx hb dX6_begins_52 (by decide) ?_
    refine lv_istore (lv' := [(4, .int 0), (0, .ref (ad 0)), (1, .int x1), (2, .int x2), (3, .int v3)]) hx hb dX6_begins_53 hl (by decide) rfl (fun ls hl => ?_)
    refine lv_iconst (v := 0) hx hb dX6_begins_55 (by decide) ?_
    refine lv_istore (lv' := [(5, .int 0), (4, .int 0), (0, .ref (ad 0)), (1, .int x1), (2, .int x2), (3, .int v3)]) hx hb dX6_begins_56 hl (by decide) rfl (fun ls hl => ?_)
    obtain ⟨z17, hz20, h⟩ := bd1_some h
    refine L58 st7 x1 x2 v3 N 0 0 _ hz20 _ _ hP hS ls (lv_sub hl [2, 3, 4, 5, 1, 0] rfl) (fun ls hl => ?_)
    refine lv_aload_n hx hb dX6_begins_113 rfl (lv_at hl 0 rfl) ?_
    obtain ⟨st19, hv18, h⟩ := bd1_some h
    refine k_putBack C hP hS hv18 (Nat.le_of_ble_eq_true rfl) hl.1 (Nat.le_of_ble_eq_true rfl) hcs dX6_begins_114 (fun H locs hP hS => ?_)
    refine lv_iload hx hb dX6_begins_117 (lv_at hl 1 rfl) ?_
    obtain ⟨z0, hz0, h⟩ := bd1_some h
    exact mm_vzretV hx hb hr hlk hz0 h hP hS dX6_begins_119
  · have h := if_some_f h c10
    refine lv_iconst (v := 1) hx hb dX6_begins_48 (by decide) ?_
    refine lv_goto (tgt := 53) hx hb dX6_begins_49 rfl ?_
    refine lv_istore (lv' := [(4, .int 1), (0, .ref (ad 0)), (1, .int x1), (2, .int x2), (3, .int v3)]) hx hb dX6_begins_53 hl (by decide) rfl (fun ls hl => ?_)
    refine lv_iconst (v := 0) hx hb dX6_begins_55 (by decide) ?_
    refine lv_istore (lv' := [(5, .int 0), (4, .int 1), (0, .ref (ad 0)), (1, .int x1), (2, .int x2), (3, .int v3)]) hx hb dX6_begins_56 hl (by decide) rfl (fun ls hl => ?_)
    obtain ⟨z21, hz24, h⟩ := bd1_some h
    refine L58 st7 x1 x2 v3 N 1 0 _ hz24 _ _ hP hS ls (lv_sub hl [2, 3, 4, 5, 1, 0] rfl) (fun ls hl => ?_)
    refine lv_aload_n hx hb dX6_begins_113 rfl (lv_at hl 0 rfl) ?_
    obtain ⟨st23, hv22, h⟩ := bd1_some h
    refine k_putBack C hP hS hv22 (Nat.le_of_ble_eq_true rfl) hl.1 (Nat.le_of_ble_eq_true rfl) hcs dX6_begins_114 (fun H locs hP hS => ?_)
    refine lv_iload hx hb dX6_begins_117 (lv_at hl 1 rfl) ?_
    obtain ⟨z0, hz0, h⟩ := bd1_some h
    exact mm_vzretV hx hb hr hlk hz0 h hP hS dX6_begins_119
theorem q1903 : (Jvm.Cond.methodLink "ChapterLoanModel" (276 : Nat) ({ cls := "ChapterLoanModel", name := "begins", desc := "(II)Z" } : Jvm.MethodName)) ∈ lw_all := lw_g (lw_at lw_m8 139 rfl) rfl
theorem q1906 : (Jvm.Cond.code ({ cls := "ChapterLoanModel", name := "begins", desc := "(II)Z" } : Jvm.MethodName) prog_30_method_74_code (6 : Nat) (Option.some Jvm.ClassFile.FieldType.boolean)) ∈ lw_all := lw_g (lw_at lw_m8 142 rfl) rfl
theorem q1905 : (Jvm.Cond.instanceMethod ({ cls := "ChapterLoanModel", name := "begins", desc := "(II)Z" } : Jvm.MethodName)) ∈ lw_all := lw_g (lw_at lw_m8 141 rfl) rfl
theorem k_begins {N : Nat} {a0 : Int32} {a1 : Int32} {v : Int32} {st' : MSt} (C : mC p R d s m args c cc nL D cI ad) (hP : mW D cI ad st H) (hS : va_S (kF 15 ad) H0 H locs) (h : M_begins N st a0 a1 = some (v, st')) (hd : 60 + 1 ≤ d) (hsz : ls.size = nL) (hW : (rest.map fun v => v.category).sum ≤ 8) (hcs : cells ≤ R.cells ∧ slots ≤ R.slots) (hdg : decode cc pc = .ok (.invokevirtual 276, 3)) (kk : ∀ (H1 : Heap) (locs1 : List Loc), mW D cI ad st' H1 → va_S (kF 15 ad) H0 H1 locs1 → W p l e R s m args below meth c H1 locs1 cells slots Q (F0 m (pc + 3) ls (.int v :: rest))) : W p l e R s m args below meth c H locs cells slots Q (F0 m pc ls (.int a1 :: .int a0 :: .ref (ad 0) :: rest)) :=
  mm_cV (As := [.int a0, .int a1]) C hP hS (w_begins C.2.2.2.2.2.2.1 h) (cwV 2 C.2.2.2.2.1 (lw_V q1903 q1905 qs74 q94 q1906) rfl rfl rfl (by decide +kernel) (mr_ C.2.2.2.2.2.2.2 hd (by decide))) rfl hsz rfl hW hdg hcs kk
abbrev cX6_explained : ByteArray := prog_30_method_75_code
def yX6_explained : MethodName := ⟨RX6, "explained", "(II)I"⟩
theorem dX6_explained_0 : decode cX6_explained 0 = .ok (.aload_n 0, 1) := by decide +kernel
theorem dX6_explained_1 : decode cX6_explained 1 = .ok (.iload_n 1, 1) := by decide +kernel
theorem dX6_explained_2 : decode cX6_explained 2 = .ok (.invokevirtual 197, 3) := by decide +kernel
theorem dX6_explained_5 : decode cX6_explained 5 = .ok (.ifCond .eq 10, 3) := by decide +kernel
theorem dX6_explained_8 : decode cX6_explained 8 = .ok (.iload_n 2, 1) := by decide +kernel
theorem dX6_explained_9 : decode cX6_explained 9 = .ok (.invokestatic 273, 3) := by decide +kernel
theorem dX6_explained_12 : decode cX6_explained 12 = .ok (.ifCond .ne 9, 3) := by decide +kernel
theorem dX6_explained_15 : decode cX6_explained 15 = .ok (.aload_n 0, 1) := by decide +kernel
theorem dX6_explained_16 : decode cX6_explained 16 = .ok (.iconst 1, 1) := by decide +kernel
theorem dX6_explained_17 : decode cX6_explained 17 = .ok (.invokevirtual 119, 3) := by decide +kernel
theorem dX6_explained_20 : decode cX6_explained 20 = .ok (.ireturn, 1) := by decide +kernel
theorem dX6_explained_21 : decode cX6_explained 21 = .ok (.aload_n 0, 1) := by decide +kernel
theorem dX6_explained_22 : decode cX6_explained 22 = .ok (.getfield 44, 3) := by decide +kernel
theorem dX6_explained_25 : decode cX6_explained 25 = .ok (.iload_n 2, 1) := by decide +kernel
theorem dX6_explained_26 : decode cX6_explained 26 = .ok (.iaload, 1) := by decide +kernel
theorem dX6_explained_27 : decode cX6_explained 27 = .ok (.ifCond .ne 9, 3) := by decide +kernel
theorem dX6_explained_30 : decode cX6_explained 30 = .ok (.aload_n 0, 1) := by decide +kernel
theorem dX6_explained_31 : decode cX6_explained 31 = .ok (.iconst 2, 1) := by decide +kernel
theorem dX6_explained_32 : decode cX6_explained 32 = .ok (.invokevirtual 119, 3) := by decide +kernel
theorem dX6_explained_35 : decode cX6_explained 35 = .ok (.ireturn, 1) := by decide +kernel
theorem dX6_explained_36 : decode cX6_explained 36 = .ok (.aload_n 0, 1) := by decide +kernel
theorem dX6_explained_37 : decode cX6_explained 37 = .ok (.iload_n 1, 1) := by decide +kernel
theorem dX6_explained_38 : decode cX6_explained 38 = .ok (.iconst 0, 1) := by decide +kernel
theorem dX6_explained_39 : decode cX6_explained 39 = .ok (.invokevirtual 150, 3) := by decide +kernel
theorem dX6_explained_42 : decode cX6_explained 42 = .ok (.istore_n 3, 1) := by decide +kernel
theorem dX6_explained_43 : decode cX6_explained 43 = .ok (.iconst (-1), 1) := by decide +kernel
theorem dX6_explained_44 : decode cX6_explained 44 = .ok (.istore 4, 2) := by decide +kernel
theorem dX6_explained_46 : decode cX6_explained 46 = .ok (.iconst 0, 1) := by decide +kernel
theorem dX6_explained_47 : decode cX6_explained 47 = .ok (.istore 5, 2) := by decide +kernel
theorem dX6_explained_49 : decode cX6_explained 49 = .ok (.iload 5, 2) := by decide +kernel
theorem dX6_explained_51 : decode cX6_explained 51 = .ok (.bipush 6, 2) := by decide +kernel
theorem dX6_explained_53 : decode cX6_explained 53 = .ok (.if_icmp .gt 39, 3) := by decide +kernel
theorem dX6_explained_56 : decode cX6_explained 56 = .ok (.iload 4, 2) := by decide +kernel
theorem dX6_explained_58 : decode cX6_explained 58 = .ok (.ifCond .ge 34, 3) := by decide +kernel
theorem dX6_explained_61 : decode cX6_explained 61 = .ok (.aload_n 0, 1) := by decide +kernel
theorem dX6_explained_62 : decode cX6_explained 62 = .ok (.iload_n 1, 1) := by decide +kernel
theorem dX6_explained_63 : decode cX6_explained 63 = .ok (.iconst 0, 1) := by decide +kernel
theorem dX6_explained_64 : decode cX6_explained 64 = .ok (.iload 5, 2) := by decide +kernel
theorem dX6_explained_66 : decode cX6_explained 66 = .ok (.invokevirtual 174, 3) := by decide +kernel
theorem dX6_explained_69 : decode cX6_explained 69 = .ok (.aload_n 0, 1) := by decide +kernel
theorem dX6_explained_70 : decode cX6_explained 70 = .ok (.iload_n 1, 1) := by decide +kernel
theorem dX6_explained_71 : decode cX6_explained 71 = .ok (.iload_n 2, 1) := by decide +kernel
theorem dX6_explained_72 : decode cX6_explained 72 = .ok (.invokevirtual 276, 3) := by decide +kernel
theorem dX6_explained_75 : decode cX6_explained 75 = .ok (.ifCond .eq 8, 3) := by decide +kernel
theorem dX6_explained_78 : decode cX6_explained 78 = .ok (.iload 5, 2) := by decide +kernel
theorem dX6_explained_80 : decode cX6_explained 80 = .ok (.goto 4, 3) := by decide +kernel
theorem dX6_explained_83 : decode cX6_explained 83 = .ok (.iconst (-1), 1) := by decide +kernel
theorem dX6_explained_84 : decode cX6_explained 84 = .ok (.istore 4, 2) := by decide +kernel
theorem dX6_explained_86 : decode cX6_explained 86 = .ok (.iinc 5 1, 3) := by decide +kernel
theorem dX6_explained_89 : decode cX6_explained 89 = .ok (.goto (-40), 3) := by decide +kernel
theorem dX6_explained_92 : decode cX6_explained 92 = .ok (.aload_n 0, 1) := by decide +kernel
theorem dX6_explained_93 : decode cX6_explained 93 = .ok (.iload_n 1, 1) := by decide +kernel
theorem dX6_explained_94 : decode cX6_explained 94 = .ok (.iconst 0, 1) := by decide +kernel
theorem dX6_explained_95 : decode cX6_explained 95 = .ok (.iload_n 3, 1) := by decide +kernel
theorem dX6_explained_96 : decode cX6_explained 96 = .ok (.invokevirtual 174, 3) := by decide +kernel
theorem dX6_explained_99 : decode cX6_explained 99 = .ok (.iload 4, 2) := by decide +kernel
theorem dX6_explained_101 : decode cX6_explained 101 = .ok (.ifCond .ge 11, 3) := by decide +kernel
theorem dX6_explained_104 : decode cX6_explained 104 = .ok (.aload_n 0, 1) := by decide +kernel
theorem dX6_explained_105 : decode cX6_explained 105 = .ok (.iconst 2, 1) := by decide +kernel
theorem dX6_explained_106 : decode cX6_explained 106 = .ok (.invokevirtual 119, 3) := by decide +kernel
theorem dX6_explained_109 : decode cX6_explained 109 = .ok (.goto 5, 3) := by decide +kernel
theorem dX6_explained_112 : decode cX6_explained 112 = .ok (.iload 4, 2) := by decide +kernel
theorem dX6_explained_114 : decode cX6_explained 114 = .ok (.ireturn, 1) := by decide +kernel
theorem w_explained {l : Launch} {D : va_G} {cI : ClassId} {ad : Nat → Nat} (hI : kInj 15 ad) {st st' : MSt} {N : Nat} {x1 : Int32} {x2 : Int32} {r0 : Int32} (h : M_explained  N st x1 x2 = some (r0, st')) : mV l yX6_explained cX6_explained 6 (some .int) 61 D cI ad st [.int x1, .int x2] (some (.int r0)) st' := by
  refine mm_ofV hI (by decide) rfl (Nat.le_of_ble_eq_true rfl) (fun p e s m below meth c R args ls C hr hlk hP hS hl hcs => ?_)
  have hx := C.1
  have hb := C.2.1
  have hown := C.2.2.2.1
  have hl : lv_has ls 6 [(0, .ref (ad 0)), (1, .int x1), (2, .int x2)] := hl
  have hP : mW D cI ad st s.heap := hP
  have L49 : ∀ (x1 : Int32), ∀ (x2 : Int32), ∀ (x3 : Int32), ∀ (n : Nat) (st : MSt) (x4 : Int32) (x5 : Int32) (st2 : MSt) (z4 : Int32), M_explained_L49 N x1 x2 x3 n st x4 x5 = some (st2, z4) → ∀ (H : Heap) (locs : List Loc), mW D cI ad st H → va_S (kF 15 ad) s.heap H locs → ∀ ls : Array Slot, lv_has ls 6 [(0, .ref (ad 0)), (1, .int x1), (2, .int x2), (3, .int x3), (4, .int x4), (5, .int x5)] → (∀ (H : Heap) (locs : List Loc), mW D cI ad st2 H → va_S (kF 15 ad) s.heap H locs → ∀ ls : Array Slot, lv_has ls 6 [(0, .ref (ad 0)), (1, .int x1), (3, .int x3), (4, .int z4)] → mWV p l e R s m args below meth c D cI ad (some (.int r0)) st' H locs (F0 m 92 ls [])) → mWV p l e R s m args below meth c D cI ad (some (.int r0)) st' H locs (F0 m 49 ls []) := by
    intro x1 x2 x3 n
    induction n with
    | zero =>
      intro st x4 x5 st2 z4 h
      exact non_some h
    | succ n ih =>
      intro st x4 x5 st2 z4 h H locs hP hS ls hl kx
      rw [M_explained_L49] at h
      refine lv_iload hx hb dX6_explained_49 (lv_at hl 5 rfl) ?_
      refine lv_bipush (v := 6) hx hb dX6_explained_51 (by decide) ?_
      refine lv_icmp_gt (tgt := 92) hx hb dX6_explained_53 rfl (fun c10 => ?_) (fun c10 => ?_)
      · have h := if_some_t h c10
        cases h
        exact kx _ _ hP hS ls (lv_sub hl [0, 1, 3, 4] rfl)
      · have h := if_some_f h c10
        refine lv_iload hx hb dX6_explained_56 (lv_at hl 4 rfl) ?_
        refine lv_if_ge (tgt := 92) hx hb dX6_explained_58 rfl (fun c11 => ?_) (fun c11 => ?_)
        · have h := if_some_t h c11
          cases h
          exact kx _ _ hP hS ls (lv_sub hl [0, 1, 3, 4] rfl)
        · have h := if_some_f h c11
          refine lv_aload_n hx hb dX6_explained_61 rfl (lv_at hl 0 rfl) ?_
          refine lv_iload_n hx hb dX6_explained_62 rfl (lv_at hl 1 rfl) ?_
          refine lv_iconst (v := 0) hx hb dX6_explained_63 (by decide) ?_
          refine lv_iload hx hb dX6_explained_64 (lv_at hl 5 rfl) ?_
          obtain ⟨st13, hv12, h⟩ := bd1_some h
          refine k_sets C hP hS hv12 (Nat.le_of_ble_eq_true rfl) hl.1 (Nat.le_of_ble_eq_true rfl) hcs dX6_explained_66 (fun H locs hP hS => ?_)
          refine lv_aload_n hx hb dX6_explained_69 rfl (lv_at hl 0 rfl) ?_
          refine lv_iload_n hx hb dX6_explained_70 rfl (lv_at hl 1 rfl) ?_
          refine lv_iload_n hx hb dX6_explained_71 rfl (lv_at hl 2 rfl) ?_
          obtain ⟨v14, st15, hv14, h⟩ := bd2_some h
          refine k_begins C hP hS hv14 (Nat.le_of_ble_eq_true rfl) hl.1 (Nat.le_of_ble_eq_true rfl) hcs dX6_explained_72 (fun H locs hP hS => ?_)
          refine lv_if_eq (tgt := 83) hx hb dX6_explained_75 rfl (fun c16 => ?_) (fun c16 => ?_)
          · have h := if_some_t h c16
            refine lv_iconst (v := (-1)) hx hb dX6_explained_83 (by decide) ?_
            refine lv_istore (lv' := [(4, .int (-1)), (0, .ref (ad 0)), (1, .int x1), (2, .int x2), (3, .int x3), (5, .int x5)]) hx hb dX6_explained_84 hl (by decide) rfl (fun ls hl => ?_)
            refine lv_iinc (v := x5 + 1) (lv' := [(5, .int (x5 + 1)), (4, .int (-1)), (0, .ref (ad 0)), (1, .int x1), (2, .int x2), (3, .int x3)]) hx hb dX6_explained_86 hl (k := 5) rfl rfl (by decide) rfl (fun ls hl => ?_)
            refine lv_goto (tgt := 49) hx hb dX6_explained_89 rfl ?_
            exact ih st15 (-1) (x5 + 1) _ _ h _ _ hP hS ls (lv_sub hl [2, 3, 4, 5, 1, 0] rfl) kx
          · have h := if_some_f h c16
            refine lv_iload hx hb dX6_explained_78 (lv_at hl 5 rfl) ?_
            refine lv_goto (tgt := 84) hx hb dX6_explained_80 rfl ?_
            refine lv_istore (lv' := [(4, .int x5), (0, .ref (ad 0)), (1, .int x1), (2, .int x2), (3, .int x3), (5, .int x5)]) hx hb dX6_explained_84 hl (by decide) rfl (fun ls hl => ?_)
            refine lv_iinc (v := x5 + 1) (lv' := [(5, .int (x5 + 1)), (4, .int x5), (0, .ref (ad 0)), (1, .int x1), (2, .int x2), (3, .int x3)]) hx hb dX6_explained_86 hl (k := 5) rfl rfl (by decide) rfl (fun ls hl => ?_)
            refine lv_goto (tgt := 49) hx hb dX6_explained_89 rfl ?_
            exact ih st15 x5 (x5 + 1) _ _ h _ _ hP hS ls (lv_sub hl [2, 3, 4, 5, 1, 0] rfl) kx
  rw [M_explained] at h
  refine lv_aload_n hx hb dX6_explained_0 rfl (lv_at hl 0 rfl) ?_
  refine lv_iload_n hx hb dX6_explained_1 rfl (lv_at hl 1 rfl) ?_
  obtain ⟨v1, hv1, h⟩ := bd1_some h
  refine k_isDebtor C hP hv1 (Nat.le_of_ble_eq_true rfl) hl.1 (Nat.le_of_ble_eq_true rfl) hcs dX6_explained_2 ?_
  refine lv_if_eq (tgt := 15) hx hb dX6_explained_5 rfl (fun c2 => ?_) (fun c2 => ?_)
  · have h := if_some_t h c2
    refine lv_aload_n hx hb dX6_explained_15 rfl (lv_at hl 0 rfl) ?_
    refine lv_iconst (v := 1) hx hb dX6_explained_16 (by decide) ?_
    obtain ⟨v3, st4, hv3, h⟩ := bd2_some h
    refine k_finds C hP hS hv3 (Nat.le_of_ble_eq_true rfl) hl.1 (Nat.le_of_ble_eq_true rfl) hcs dX6_explained_17 (fun H locs hP hS => ?_)
    exact mm_viret hx hb hr hlk h hP hS dX6_explained_20
  · have h := if_some_f h c2
    refine lv_iload_n hx hb dX6_explained_8 rfl (lv_at hl 2 rfl) ?_
    obtain ⟨v5, hv5, h⟩ := bd1_some h
    refine k_isSheet hx hb C.2.2.1 hown C.2.2.2.2.1 C.2.2.2.2.2.2.2 hv5 (Nat.le_of_ble_eq_true rfl) hl.1 (Nat.le_of_ble_eq_true rfl) hcs dX6_explained_9 ?_
    refine lv_if_ne (tgt := 21) hx hb dX6_explained_12 rfl (fun c6 => ?_) (fun c6 => ?_)
    · have h := if_some_f h c6
      refine lv_aload_n hx hb dX6_explained_21 rfl (lv_at hl 0 rfl) ?_
      refine g_bitsOf C hP dX6_explained_22 ?_
      refine lv_iload_n hx hb dX6_explained_25 rfl (lv_at hl 2 rfl) ?_
      obtain ⟨v7, hv7, h⟩ := bd1_some h
      refine mm_ld C hP 11 (by decide) rfl hv7 dX6_explained_26 ?_
      refine lv_if_ne (tgt := 36) hx hb dX6_explained_27 rfl (fun c8 => ?_) (fun c8 => ?_)
      · have h := if_some_f h c8
        refine lv_aload_n hx hb dX6_explained_36 rfl (lv_at hl 0 rfl) ?_
        refine lv_iload_n hx hb dX6_explained_37 rfl (lv_at hl 1 rfl) ?_
        refine lv_iconst (v := 0) hx hb dX6_explained_38 (by decide) ?_
        obtain ⟨v9, hv9, h⟩ := bd1_some h
        refine k_of C hP hv9 (Nat.le_of_ble_eq_true rfl) hl.1 (Nat.le_of_ble_eq_true rfl) hcs dX6_explained_39 ?_
        refine lv_istore_n (lv' := [(3, .int v9), (0, .ref (ad 0)), (1, .int x1), (2, .int x2)]) hx hb dX6_explained_42 rfl hl (by decide) rfl (fun ls hl => ?_)
        refine lv_iconst (v := (-1)) hx hb dX6_explained_43 (by decide) ?_
        refine lv_istore (lv' := [(4, .int (-1)), (3, .int v9), (0, .ref (ad 0)), (1, .int x1), (2, .int x2)]) hx hb dX6_explained_44 hl (by decide) rfl (fun ls hl => ?_)
        refine lv_iconst (v := 0) hx hb dX6_explained_46 (by decide) ?_
        refine lv_istore (lv' := [(5, .int 0), (4, .int (-1)), (3, .int v9), (0, .ref (ad 0)), (1, .int x1), (2, .int x2)]) hx hb dX6_explained_47 hl (by decide) rfl (fun ls hl => ?_)
        obtain ⟨st17, z18, hz24, h⟩ := bd2_some h
        refine L49 x1 x2 v9 N _ (-1) 0 _ _ hz24 _ _ hP hS ls (lv_sub hl [3, 4, 5, 2, 1, 0] rfl) (fun H locs hP hS ls hl => ?_)
        refine lv_aload_n hx hb dX6_explained_92 rfl (lv_at hl 0 rfl) ?_
        refine lv_iload_n hx hb dX6_explained_93 rfl (lv_at hl 1 rfl) ?_
        refine lv_iconst (v := 0) hx hb dX6_explained_94 (by decide) ?_
        refine lv_iload_n hx hb dX6_explained_95 rfl (lv_at hl 2 rfl) ?_
        obtain ⟨st20, hv19, h⟩ := bd1_some h
        refine k_sets C hP hS hv19 (Nat.le_of_ble_eq_true rfl) hl.1 (Nat.le_of_ble_eq_true rfl) hcs dX6_explained_96 (fun H locs hP hS => ?_)
        refine lv_iload hx hb dX6_explained_99 (lv_at hl 3 rfl) ?_
        refine lv_if_ge (tgt := 112) hx hb dX6_explained_101 rfl (fun c21 => ?_) (fun c21 => ?_)
        · have h := if_some_t h c21
          refine lv_iload hx hb dX6_explained_112 (lv_at hl 3 rfl) ?_
          exact mm_viret hx hb hr hlk h hP hS dX6_explained_114
        · have h := if_some_f h c21
          refine lv_aload_n hx hb dX6_explained_104 rfl (lv_at hl 0 rfl) ?_
          refine lv_iconst (v := 2) hx hb dX6_explained_105 (by decide) ?_
          obtain ⟨v22, st23, hv22, h⟩ := bd2_some h
          refine k_finds C hP hS hv22 (Nat.le_of_ble_eq_true rfl) hl.1 (Nat.le_of_ble_eq_true rfl) hcs dX6_explained_106 (fun H locs hP hS => ?_)
          refine lv_goto (tgt := 114) hx hb dX6_explained_109 rfl ?_
          exact mm_viret hx hb hr hlk h hP hS dX6_explained_114
      · have h := if_some_t h c8
        refine lv_aload_n hx hb dX6_explained_30 rfl (lv_at hl 0 rfl) ?_
        refine lv_iconst (v := 2) hx hb dX6_explained_31 (by decide) ?_
        obtain ⟨v25, st26, hv25, h⟩ := bd2_some h
        refine k_finds C hP hS hv25 (Nat.le_of_ble_eq_true rfl) hl.1 (Nat.le_of_ble_eq_true rfl) hcs dX6_explained_32 (fun H locs hP hS => ?_)
        exact mm_viret hx hb hr hlk h hP hS dX6_explained_35
    · have h := if_some_t h c6
      refine lv_aload_n hx hb dX6_explained_15 rfl (lv_at hl 0 rfl) ?_
      refine lv_iconst (v := 1) hx hb dX6_explained_16 (by decide) ?_
      obtain ⟨v27, st28, hv27, h⟩ := bd2_some h
      refine k_finds C hP hS hv27 (Nat.le_of_ble_eq_true rfl) hl.1 (Nat.le_of_ble_eq_true rfl) hcs dX6_explained_17 (fun H locs hP hS => ?_)
      exact mm_viret hx hb hr hlk h hP hS dX6_explained_20
abbrev cX6_voice : ByteArray := prog_30_method_89_code
def yX6_voice : MethodName := ⟨RX6, "voice", "(III)I"⟩
theorem dX6_voice_0 : decode cX6_voice 0 = .ok (.aload_n 0, 1) := by decide +kernel
theorem dX6_voice_1 : decode cX6_voice 1 = .ok (.iload_n 1, 1) := by decide +kernel
theorem dX6_voice_2 : decode cX6_voice 2 = .ok (.invokevirtual 197, 3) := by decide +kernel
theorem dX6_voice_5 : decode cX6_voice 5 = .ok (.ifCond .eq 15, 3) := by decide +kernel
theorem dX6_voice_8 : decode cX6_voice 8 = .ok (.iload_n 2, 1) := by decide +kernel
theorem dX6_voice_9 : decode cX6_voice 9 = .ok (.i2l, 1) := by decide +kernel
theorem dX6_voice_10 : decode cX6_voice 10 = .ok (.lconst 0, 1) := by decide +kernel
theorem dX6_voice_11 : decode cX6_voice 11 = .ok (.ldc2_w 309, 3) := by decide +kernel
theorem dX6_voice_14 : decode cX6_voice 14 = .ok (.invokestatic 57, 3) := by decide +kernel
theorem dX6_voice_17 : decode cX6_voice 17 = .ok (.ifCond .ne 9, 3) := by decide +kernel
theorem dX6_voice_20 : decode cX6_voice 20 = .ok (.aload_n 0, 1) := by decide +kernel
theorem dX6_voice_21 : decode cX6_voice 21 = .ok (.iconst 1, 1) := by decide +kernel
theorem dX6_voice_22 : decode cX6_voice 22 = .ok (.invokevirtual 119, 3) := by decide +kernel
theorem dX6_voice_25 : decode cX6_voice 25 = .ok (.ireturn, 1) := by decide +kernel
theorem dX6_voice_26 : decode cX6_voice 26 = .ok (.aload_n 0, 1) := by decide +kernel
theorem dX6_voice_27 : decode cX6_voice 27 = .ok (.iconst 0, 1) := by decide +kernel
theorem dX6_voice_28 : decode cX6_voice 28 = .ok (.putfield 285, 3) := by decide +kernel
theorem dX6_voice_31 : decode cX6_voice 31 = .ok (.aload_n 0, 1) := by decide +kernel
theorem dX6_voice_32 : decode cX6_voice 32 = .ok (.iload_n 1, 1) := by decide +kernel
theorem dX6_voice_33 : decode cX6_voice 33 = .ok (.putfield 288, 3) := by decide +kernel
theorem dX6_voice_36 : decode cX6_voice 36 = .ok (.aload_n 0, 1) := by decide +kernel
theorem dX6_voice_37 : decode cX6_voice 37 = .ok (.invokevirtual 297, 3) := by decide +kernel
theorem dX6_voice_40 : decode cX6_voice 40 = .ok (.istore 4, 2) := by decide +kernel
theorem dX6_voice_42 : decode cX6_voice 42 = .ok (.iload_n 2, 1) := by decide +kernel
theorem dX6_voice_43 : decode cX6_voice 43 = .ok (.ifCond .ne 13, 3) := by decide +kernel
theorem dX6_voice_46 : decode cX6_voice 46 = .ok (.aload_n 0, 1) := by decide +kernel
theorem dX6_voice_47 : decode cX6_voice 47 = .ok (.iload 4, 2) := by decide +kernel
theorem dX6_voice_49 : decode cX6_voice 49 = .ok (.iload_n 3, 1) := by decide +kernel
theorem dX6_voice_50 : decode cX6_voice 50 = .ok (.invokevirtual 294, 3) := by decide +kernel
theorem dX6_voice_53 : decode cX6_voice 53 = .ok (.goto 40, 3) := by decide +kernel
theorem dX6_voice_56 : decode cX6_voice 56 = .ok (.iload_n 2, 1) := by decide +kernel
theorem dX6_voice_57 : decode cX6_voice 57 = .ok (.iconst 1, 1) := by decide +kernel
theorem dX6_voice_58 : decode cX6_voice 58 = .ok (.if_icmp .ne 13, 3) := by decide +kernel
theorem dX6_voice_61 : decode cX6_voice 61 = .ok (.aload_n 0, 1) := by decide +kernel
theorem dX6_voice_62 : decode cX6_voice 62 = .ok (.iload 4, 2) := by decide +kernel
theorem dX6_voice_64 : decode cX6_voice 64 = .ok (.iload_n 3, 1) := by decide +kernel
theorem dX6_voice_65 : decode cX6_voice 65 = .ok (.invokevirtual 300, 3) := by decide +kernel
theorem dX6_voice_68 : decode cX6_voice 68 = .ok (.goto 25, 3) := by decide +kernel
theorem dX6_voice_71 : decode cX6_voice 71 = .ok (.iload_n 2, 1) := by decide +kernel
theorem dX6_voice_72 : decode cX6_voice 72 = .ok (.iconst 2, 1) := by decide +kernel
theorem dX6_voice_73 : decode cX6_voice 73 = .ok (.if_icmp .ne 13, 3) := by decide +kernel
theorem dX6_voice_76 : decode cX6_voice 76 = .ok (.aload_n 0, 1) := by decide +kernel
theorem dX6_voice_77 : decode cX6_voice 77 = .ok (.iload 4, 2) := by decide +kernel
theorem dX6_voice_79 : decode cX6_voice 79 = .ok (.iload_n 3, 1) := by decide +kernel
theorem dX6_voice_80 : decode cX6_voice 80 = .ok (.invokevirtual 303, 3) := by decide +kernel
theorem dX6_voice_83 : decode cX6_voice 83 = .ok (.goto 10, 3) := by decide +kernel
theorem dX6_voice_86 : decode cX6_voice 86 = .ok (.aload_n 0, 1) := by decide +kernel
theorem dX6_voice_87 : decode cX6_voice 87 = .ok (.iload 4, 2) := by decide +kernel
theorem dX6_voice_89 : decode cX6_voice 89 = .ok (.iload_n 3, 1) := by decide +kernel
theorem dX6_voice_90 : decode cX6_voice 90 = .ok (.invokevirtual 306, 3) := by decide +kernel
theorem dX6_voice_93 : decode cX6_voice 93 = .ok (.ireturn, 1) := by decide +kernel
theorem w_voice {l : Launch} {D : va_G} {cI : ClassId} {ad : Nat → Nat} (hI : kInj 15 ad) {st st' : MSt} {x1 : Int32} {x2 : Int32} {x3 : Int32} {r0 : Int32} (h : M_voice st x1 x2 x3 = some (r0, st')) : mV l yX6_voice cX6_voice 5 (some .int) 25 D cI ad st [.int x1, .int x2, .int x3] (some (.int r0)) st' := by
  refine mm_ofV hI (by decide) rfl (Nat.le_of_ble_eq_true rfl) (fun p e s m below meth c R args ls C hr hlk hP hS hl hcs => ?_)
  have hx := C.1
  have hb := C.2.1
  have hown := C.2.2.2.1
  have hl : lv_has ls 5 [(0, .ref (ad 0)), (1, .int x1), (2, .int x2), (3, .int x3)] := hl
  have hP : mW D cI ad st s.heap := hP
  rw [M_voice] at h
  refine lv_aload_n hx hb dX6_voice_0 rfl (lv_at hl 0 rfl) ?_
  refine lv_iload_n hx hb dX6_voice_1 rfl (lv_at hl 1 rfl) ?_
  obtain ⟨v1, hv1, h⟩ := bd1_some h
  refine k_isDebtor C hP hv1 (Nat.le_of_ble_eq_true rfl) hl.1 (Nat.le_of_ble_eq_true rfl) hcs dX6_voice_2 ?_
  refine lv_if_eq (tgt := 20) hx hb dX6_voice_5 rfl (fun c2 => ?_) (fun c2 => ?_)
  · have h := if_some_t h c2
    refine lv_aload_n hx hb dX6_voice_20 rfl (lv_at hl 0 rfl) ?_
    refine lv_iconst (v := 1) hx hb dX6_voice_21 (by decide) ?_
    obtain ⟨v3, st4, hv3, h⟩ := bd2_some h
    refine k_finds C hP hS hv3 (Nat.le_of_ble_eq_true rfl) hl.1 (Nat.le_of_ble_eq_true rfl) hcs dX6_voice_22 (fun H locs hP hS => ?_)
    exact mm_viret hx hb hr hlk h hP hS dX6_voice_25
  · have h := if_some_f h c2
    refine lv_iload_n hx hb dX6_voice_8 rfl (lv_at hl 2 rfl) ?_
    refine lv_i2l (v := x2.toInt64) hx hb dX6_voice_9 rfl ?_
    refine lv_lconst (v := 0) hx hb dX6_voice_10 (by decide) ?_
    refine lv_ldc2 hx hb hown (C.2.2.2.2.1 _ q1902) dX6_voice_11 ?_
    obtain ⟨v5, hv5, h⟩ := bd1_some h
    refine k_in hx hb C.2.2.1 hown C.2.2.2.2.1 C.2.2.2.2.2.2.2 hv5 (Nat.le_of_ble_eq_true rfl) hl.1 (Nat.le_of_ble_eq_true rfl) hcs dX6_voice_14 ?_
    refine lv_if_ne (tgt := 26) hx hb dX6_voice_17 rfl (fun c6 => ?_) (fun c6 => ?_)
    · have h := if_some_f h c6
      refine lv_aload_n hx hb dX6_voice_26 rfl (lv_at hl 0 rfl) ?_
      refine lv_iconst (v := 0) hx hb dX6_voice_27 (by decide) ?_
      refine p_traceMany C hP hS dX6_voice_28 (fun H locs hP hS => ?_)
      refine lv_aload_n hx hb dX6_voice_31 rfl (lv_at hl 0 rfl) ?_
      refine lv_iload_n hx hb dX6_voice_32 rfl (lv_at hl 1 rfl) ?_
      refine p_who C hP hS dX6_voice_33 (fun H locs hP hS => ?_)
      refine lv_aload_n hx hb dX6_voice_36 rfl (lv_at hl 0 rfl) ?_
      obtain ⟨v7, hv7, h⟩ := bd1_some h
      refine k_own C hP hv7 (Nat.le_of_ble_eq_true rfl) hl.1 (Nat.le_of_ble_eq_true rfl) hcs dX6_voice_37 ?_
      refine lv_istore (lv' := [(4, .int v7), (0, .ref (ad 0)), (1, .int x1), (2, .int x2), (3, .int x3)]) hx hb dX6_voice_40 hl (by decide) rfl (fun ls hl => ?_)
      refine lv_iload_n hx hb dX6_voice_42 rfl (lv_at hl 3 rfl) ?_
      refine lv_if_ne (tgt := 56) hx hb dX6_voice_43 rfl (fun c8 => ?_) (fun c8 => ?_)
      · have h := if_some_f h c8
        refine lv_iload_n hx hb dX6_voice_56 rfl (lv_at hl 3 rfl) ?_
        refine lv_iconst (v := 1) hx hb dX6_voice_57 (by decide) ?_
        refine lv_icmp_ne (tgt := 71) hx hb dX6_voice_58 rfl (fun c9 => ?_) (fun c9 => ?_)
        · have h := if_some_f h c9
          refine lv_iload_n hx hb dX6_voice_71 rfl (lv_at hl 3 rfl) ?_
          refine lv_iconst (v := 2) hx hb dX6_voice_72 (by decide) ?_
          refine lv_icmp_ne (tgt := 86) hx hb dX6_voice_73 rfl (fun c10 => ?_) (fun c10 => ?_)
          · have h := if_some_f h c10
            refine lv_aload_n hx hb dX6_voice_86 rfl (lv_at hl 1 rfl) ?_
            refine lv_iload hx hb dX6_voice_87 (lv_at hl 0 rfl) ?_
            refine lv_iload_n hx hb dX6_voice_89 rfl (lv_at hl 4 rfl) ?_
            obtain ⟨v11, st12, hv11, h⟩ := bd2_some h
            refine k_tellsBy C hP hS hv11 (Nat.le_of_ble_eq_true rfl) hl.1 (Nat.le_of_ble_eq_true rfl) hcs dX6_voice_90 (fun H locs hP hS => ?_)
            exact mm_viret hx hb hr hlk h hP hS dX6_voice_93
          · have h := if_some_t h c10
            refine lv_aload_n hx hb dX6_voice_76 rfl (lv_at hl 1 rfl) ?_
            refine lv_iload hx hb dX6_voice_77 (lv_at hl 0 rfl) ?_
            refine lv_iload_n hx hb dX6_voice_79 rfl (lv_at hl 4 rfl) ?_
            obtain ⟨v13, st14, hv13, h⟩ := bd2_some h
            refine k_readsBy C hP hS hv13 (Nat.le_of_ble_eq_true rfl) hl.1 (Nat.le_of_ble_eq_true rfl) hcs dX6_voice_80 (fun H locs hP hS => ?_)
            refine lv_goto (tgt := 93) hx hb dX6_voice_83 rfl ?_
            exact mm_viret hx hb hr hlk h hP hS dX6_voice_93
        · have h := if_some_t h c9
          refine lv_aload_n hx hb dX6_voice_61 rfl (lv_at hl 1 rfl) ?_
          refine lv_iload hx hb dX6_voice_62 (lv_at hl 0 rfl) ?_
          refine lv_iload_n hx hb dX6_voice_64 rfl (lv_at hl 4 rfl) ?_
          obtain ⟨v15, st16, hv15, h⟩ := bd2_some h
          refine k_writesBy C hP hS hv15 (Nat.le_of_ble_eq_true rfl) hl.1 (Nat.le_of_ble_eq_true rfl) hcs dX6_voice_65 (fun H locs hP hS => ?_)
          refine lv_goto (tgt := 93) hx hb dX6_voice_68 rfl ?_
          exact mm_viret hx hb hr hlk h hP hS dX6_voice_93
      · have h := if_some_t h c8
        refine lv_aload_n hx hb dX6_voice_46 rfl (lv_at hl 1 rfl) ?_
        refine lv_iload hx hb dX6_voice_47 (lv_at hl 0 rfl) ?_
        refine lv_iload_n hx hb dX6_voice_49 rfl (lv_at hl 4 rfl) ?_
        obtain ⟨v17, st18, hv17, h⟩ := bd2_some h
        refine k_owesBy C hP hS hv17 (Nat.le_of_ble_eq_true rfl) hl.1 (Nat.le_of_ble_eq_true rfl) hcs dX6_voice_50 (fun H locs hP hS => ?_)
        refine lv_goto (tgt := 93) hx hb dX6_voice_53 rfl ?_
        exact mm_viret hx hb hr hlk h hP hS dX6_voice_93
    · have h := if_some_t h c6
      refine lv_aload_n hx hb dX6_voice_20 rfl (lv_at hl 0 rfl) ?_
      refine lv_iconst (v := 1) hx hb dX6_voice_21 (by decide) ?_
      obtain ⟨v19, st20, hv19, h⟩ := bd2_some h
      refine k_finds C hP hS hv19 (Nat.le_of_ble_eq_true rfl) hl.1 (Nat.le_of_ble_eq_true rfl) hcs dX6_voice_22 (fun H locs hP hS => ?_)
      exact mm_viret hx hb hr hlk h hP hS dX6_voice_25
abbrev cX6_reads : ByteArray := prog_30_method_95_code
def yX6_reads : MethodName := ⟨RX6, "reads", "(I)I"⟩
theorem dX6_reads_0 : decode cX6_reads 0 = .ok (.iload_n 1, 1) := by decide +kernel
theorem dX6_reads_1 : decode cX6_reads 1 = .ok (.invokestatic 273, 3) := by decide +kernel
theorem dX6_reads_4 : decode cX6_reads 4 = .ok (.ifCond .ne 9, 3) := by decide +kernel
theorem dX6_reads_7 : decode cX6_reads 7 = .ok (.aload_n 0, 1) := by decide +kernel
theorem dX6_reads_8 : decode cX6_reads 8 = .ok (.iconst 1, 1) := by decide +kernel
theorem dX6_reads_9 : decode cX6_reads 9 = .ok (.invokevirtual 119, 3) := by decide +kernel
theorem dX6_reads_12 : decode cX6_reads 12 = .ok (.ireturn, 1) := by decide +kernel
theorem dX6_reads_13 : decode cX6_reads 13 = .ok (.aload_n 0, 1) := by decide +kernel
theorem dX6_reads_14 : decode cX6_reads 14 = .ok (.getfield 44, 3) := by decide +kernel
theorem dX6_reads_17 : decode cX6_reads 17 = .ok (.iload_n 1, 1) := by decide +kernel
theorem dX6_reads_18 : decode cX6_reads 18 = .ok (.iaload, 1) := by decide +kernel
theorem dX6_reads_19 : decode cX6_reads 19 = .ok (.ifCond .ne 9, 3) := by decide +kernel
theorem dX6_reads_22 : decode cX6_reads 22 = .ok (.aload_n 0, 1) := by decide +kernel
theorem dX6_reads_23 : decode cX6_reads 23 = .ok (.iconst 2, 1) := by decide +kernel
theorem dX6_reads_24 : decode cX6_reads 24 = .ok (.invokevirtual 119, 3) := by decide +kernel
theorem dX6_reads_27 : decode cX6_reads 27 = .ok (.ireturn, 1) := by decide +kernel
theorem dX6_reads_28 : decode cX6_reads 28 = .ok (.iconst 0, 1) := by decide +kernel
theorem dX6_reads_29 : decode cX6_reads 29 = .ok (.istore_n 2, 1) := by decide +kernel
theorem dX6_reads_30 : decode cX6_reads 30 = .ok (.aload_n 0, 1) := by decide +kernel
theorem dX6_reads_31 : decode cX6_reads 31 = .ok (.iconst 0, 1) := by decide +kernel
theorem dX6_reads_32 : decode cX6_reads 32 = .ok (.invokevirtual 197, 3) := by decide +kernel
theorem dX6_reads_35 : decode cX6_reads 35 = .ok (.ifCond .eq 16, 3) := by decide +kernel
theorem dX6_reads_38 : decode cX6_reads 38 = .ok (.aload_n 0, 1) := by decide +kernel
theorem dX6_reads_39 : decode cX6_reads 39 = .ok (.iconst 0, 1) := by decide +kernel
theorem dX6_reads_40 : decode cX6_reads 40 = .ok (.iconst 3, 1) := by decide +kernel
theorem dX6_reads_41 : decode cX6_reads 41 = .ok (.invokevirtual 150, 3) := by decide +kernel
theorem dX6_reads_44 : decode cX6_reads 44 = .ok (.ifCond .ne 7, 3) := by decide +kernel
theorem dX6_reads_47 : decode cX6_reads 47 = .ok (.iconst 1, 1) := by decide +kernel
theorem dX6_reads_48 : decode cX6_reads 48 = .ok (.goto 4, 3) := by decide +kernel
theorem dX6_reads_51 : decode cX6_reads 51 = .ok (.iconst 0, 1) := by decide +kernel
theorem dX6_reads_52 : decode cX6_reads 52 = .ok (.istore_n 3, 1) := by decide +kernel
theorem dX6_reads_53 : decode cX6_reads 53 = .ok (.iload_n 2, 1) := by decide +kernel
theorem dX6_reads_54 : decode cX6_reads 54 = .ok (.aload_n 0, 1) := by decide +kernel
theorem dX6_reads_55 : decode cX6_reads 55 = .ok (.getfield 47, 3) := by decide +kernel
theorem dX6_reads_58 : decode cX6_reads 58 = .ok (.iload_n 1, 1) := by decide +kernel
theorem dX6_reads_59 : decode cX6_reads 59 = .ok (.iaload, 1) := by decide +kernel
theorem dX6_reads_60 : decode cX6_reads 60 = .ok (.if_icmp .ge 62, 3) := by decide +kernel
theorem dX6_reads_63 : decode cX6_reads 63 = .ok (.iload_n 3, 1) := by decide +kernel
theorem dX6_reads_64 : decode cX6_reads 64 = .ok (.ifCond .eq 58, 3) := by decide +kernel
theorem dX6_reads_67 : decode cX6_reads 67 = .ok (.aload_n 0, 1) := by decide +kernel
theorem dX6_reads_68 : decode cX6_reads 68 = .ok (.getfield 50, 3) := by decide +kernel
theorem dX6_reads_71 : decode cX6_reads 71 = .ok (.bipush 40, 2) := by decide +kernel
theorem dX6_reads_73 : decode cX6_reads 73 = .ok (.iload_n 1, 1) := by decide +kernel
theorem dX6_reads_74 : decode cX6_reads 74 = .ok (.imul, 1) := by decide +kernel
theorem dX6_reads_75 : decode cX6_reads 75 = .ok (.iload_n 2, 1) := by decide +kernel
theorem dX6_reads_76 : decode cX6_reads 76 = .ok (.iadd, 1) := by decide +kernel
theorem dX6_reads_77 : decode cX6_reads 77 = .ok (.iaload, 1) := by decide +kernel
theorem dX6_reads_78 : decode cX6_reads 78 = .ok (.istore 4, 2) := by decide +kernel
theorem dX6_reads_80 : decode cX6_reads 80 = .ok (.aload_n 0, 1) := by decide +kernel
theorem dX6_reads_81 : decode cX6_reads 81 = .ok (.iload 4, 2) := by decide +kernel
theorem dX6_reads_83 : decode cX6_reads 83 = .ok (.invokevirtual 141, 3) := by decide +kernel
theorem dX6_reads_86 : decode cX6_reads 86 = .ok (.ifCond .eq 17, 3) := by decide +kernel
theorem dX6_reads_89 : decode cX6_reads 89 = .ok (.aload_n 0, 1) := by decide +kernel
theorem dX6_reads_90 : decode cX6_reads 90 = .ok (.iconst 0, 1) := by decide +kernel
theorem dX6_reads_91 : decode cX6_reads 91 = .ok (.iload 4, 2) := by decide +kernel
theorem dX6_reads_93 : decode cX6_reads 93 = .ok (.invokevirtual 164, 3) := by decide +kernel
theorem dX6_reads_96 : decode cX6_reads 96 = .ok (.ifCond .eq 7, 3) := by decide +kernel
theorem dX6_reads_99 : decode cX6_reads 99 = .ok (.iconst 1, 1) := by decide +kernel
theorem dX6_reads_100 : decode cX6_reads 100 = .ok (.goto 4, 3) := by decide +kernel
theorem dX6_reads_103 : decode cX6_reads 103 = .ok (.iconst 0, 1) := by decide +kernel
theorem dX6_reads_104 : decode cX6_reads 104 = .ok (.istore_n 3, 1) := by decide +kernel
theorem dX6_reads_105 : decode cX6_reads 105 = .ok (.iload_n 3, 1) := by decide +kernel
theorem dX6_reads_106 : decode cX6_reads 106 = .ok (.ifCond .eq 13, 3) := by decide +kernel
theorem dX6_reads_109 : decode cX6_reads 109 = .ok (.aload_n 0, 1) := by decide +kernel
theorem dX6_reads_110 : decode cX6_reads 110 = .ok (.iconst 0, 1) := by decide +kernel
theorem dX6_reads_111 : decode cX6_reads 111 = .ok (.iload 4, 2) := by decide +kernel
theorem dX6_reads_113 : decode cX6_reads 113 = .ok (.invokevirtual 213, 3) := by decide +kernel
theorem dX6_reads_116 : decode cX6_reads 116 = .ok (.iinc 2 1, 3) := by decide +kernel
theorem dX6_reads_119 : decode cX6_reads 119 = .ok (.goto (-66), 3) := by decide +kernel
theorem dX6_reads_122 : decode cX6_reads 122 = .ok (.iload_n 2, 1) := by decide +kernel
theorem dX6_reads_123 : decode cX6_reads 123 = .ok (.ireturn, 1) := by decide +kernel
theorem w_reads {l : Launch} {D : va_G} {cI : ClassId} {ad : Nat → Nat} (hI : kInj 15 ad) {st st' : MSt} {N : Nat} {x1 : Int32} {r0 : Int32} (h : M_reads  N st x1 = some (r0, st')) : mV l yX6_reads cX6_reads 5 (some .int) 58 D cI ad st [.int x1] (some (.int r0)) st' := by
  refine mm_ofV hI (by decide) rfl (Nat.le_of_ble_eq_true rfl) (fun p e s m below meth c R args ls C hr hlk hP hS hl hcs => ?_)
  have hx := C.1
  have hb := C.2.1
  have hown := C.2.2.2.1
  have hl : lv_has ls 5 [(0, .ref (ad 0)), (1, .int x1)] := hl
  have hP : mW D cI ad st s.heap := hP
  have L53 : ∀ (x1 : Int32), ∀ (n : Nat) (st : MSt) (x2 : Int32) (x3 : Int32) (st2 : MSt) (z2 : Int32), M_reads_L53 N x1 n st x2 x3 = some (st2, z2) → ∀ (H : Heap) (locs : List Loc), mW D cI ad st H → va_S (kF 15 ad) s.heap H locs → ∀ ls : Array Slot, lv_has ls 5 [(0, .ref (ad 0)), (1, .int x1), (2, .int x2), (3, .int x3)] → (∀ (H : Heap) (locs : List Loc), mW D cI ad st2 H → va_S (kF 15 ad) s.heap H locs → ∀ ls : Array Slot, lv_has ls 5 [(2, .int z2)] → mWV p l e R s m args below meth c D cI ad (some (.int r0)) st' H locs (F0 m 122 ls [])) → mWV p l e R s m args below meth c D cI ad (some (.int r0)) st' H locs (F0 m 53 ls []) := by
    intro x1 n
    induction n with
    | zero =>
      intro st x2 x3 st2 z2 h
      exact non_some h
    | succ n ih =>
      intro st x2 x3 st2 z2 h H locs hP hS ls hl kx
      rw [M_reads_L53] at h
      refine lv_iload_n hx hb dX6_reads_53 rfl (lv_at hl 2 rfl) ?_
      refine lv_aload_n hx hb dX6_reads_54 rfl (lv_at hl 0 rfl) ?_
      refine g_sizeOf C hP dX6_reads_55 ?_
      refine lv_iload_n hx hb dX6_reads_58 rfl (lv_at hl 1 rfl) ?_
      obtain ⟨v7, hv7, h⟩ := bd1_some h
      refine mm_ld C hP 12 (by decide) rfl hv7 dX6_reads_59 ?_
      refine lv_icmp_ge (tgt := 122) hx hb dX6_reads_60 rfl (fun c8 => ?_) (fun c8 => ?_)
      · have h := if_some_t h c8
        cases h
        exact kx _ _ hP hS ls (lv_sub hl [2] rfl)
      · have h := if_some_f h c8
        refine lv_iload_n hx hb dX6_reads_63 rfl (lv_at hl 3 rfl) ?_
        refine lv_if_eq (tgt := 122) hx hb dX6_reads_64 rfl (fun c9 => ?_) (fun c9 => ?_)
        · have h := if_some_t h c9
          cases h
          exact kx _ _ hP hS ls (lv_sub hl [2] rfl)
        · have h := if_some_f h c9
          refine lv_aload_n hx hb dX6_reads_67 rfl (lv_at hl 0 rfl) ?_
          refine g_number C hP dX6_reads_68 ?_
          refine lv_bipush (v := 40) hx hb dX6_reads_71 (by decide) ?_
          refine lv_iload_n hx hb dX6_reads_73 rfl (lv_at hl 1 rfl) ?_
          refine lv_imul hx hb dX6_reads_74 ?_
          refine lv_iload_n hx hb dX6_reads_75 rfl (lv_at hl 2 rfl) ?_
          refine lv_iadd hx hb dX6_reads_76 ?_
          obtain ⟨v10, hv10, h⟩ := bd1_some h
          refine mm_ld C hP 13 (by decide) rfl hv10 dX6_reads_77 ?_
          refine lv_istore (lv' := [(4, .int v10), (0, .ref (ad 0)), (1, .int x1), (2, .int x2), (3, .int x3)]) hx hb dX6_reads_78 hl (by decide) rfl (fun ls hl => ?_)
          refine lv_aload_n hx hb dX6_reads_80 rfl (lv_at hl 1 rfl) ?_
          refine lv_iload hx hb dX6_reads_81 (lv_at hl 0 rfl) ?_
          obtain ⟨v11, hv11, h⟩ := bd1_some h
          refine k_isFact C hP hv11 (Nat.le_of_ble_eq_true rfl) hl.1 (Nat.le_of_ble_eq_true rfl) hcs dX6_reads_83 ?_
          refine lv_if_eq (tgt := 103) hx hb dX6_reads_86 rfl (fun c12 => ?_) (fun c12 => ?_)
          · have h := if_some_t h c12
            refine lv_iconst (v := 0) hx hb dX6_reads_103 (by decide) ?_
            refine lv_istore_n (lv' := [(3, .int 0), (4, .int v10), (0, .ref (ad 0)), (1, .int x1), (2, .int x2)]) hx hb dX6_reads_104 rfl hl (by decide) rfl (fun ls hl => ?_)
            refine lv_iload_n hx hb dX6_reads_105 rfl (lv_at hl 0 rfl) ?_
            refine lv_if_eq (tgt := 119) hx hb dX6_reads_106 rfl (fun _ => ?_) (fun c => absurd c (by decide))
            refine lv_goto (tgt := 53) hx hb dX6_reads_119 rfl ?_
            exact ih st x2 0 _ _ h _ _ hP hS ls (lv_sub hl [2, 3, 4, 0] rfl) kx
          · have h := if_some_f h c12
            refine lv_aload_n hx hb dX6_reads_89 rfl (lv_at hl 1 rfl) ?_
            refine lv_iconst (v := 0) hx hb dX6_reads_90 (by decide) ?_
            refine lv_iload hx hb dX6_reads_91 (lv_at hl 0 rfl) ?_
            obtain ⟨v13, hv13, h⟩ := bd1_some h
            refine k_mayTell C hP hv13 (Nat.le_of_ble_eq_true rfl) hl.1 (Nat.le_of_ble_eq_true rfl) hcs dX6_reads_93 ?_
            refine lv_if_eq (tgt := 103) hx hb dX6_reads_96 rfl (fun c14 => ?_) (fun c14 => ?_)
            · have h := if_some_t h c14
              refine lv_iconst (v := 0) hx hb dX6_reads_103 (by decide) ?_
              refine lv_istore_n (lv' := [(3, .int 0), (4, .int v10), (0, .ref (ad 0)), (1, .int x1), (2, .int x2)]) hx hb dX6_reads_104 rfl hl (by decide) rfl (fun ls hl => ?_)
              refine lv_iload_n hx hb dX6_reads_105 rfl (lv_at hl 0 rfl) ?_
              refine lv_if_eq (tgt := 119) hx hb dX6_reads_106 rfl (fun _ => ?_) (fun c => absurd c (by decide))
              refine lv_goto (tgt := 53) hx hb dX6_reads_119 rfl ?_
              exact ih st x2 0 _ _ h _ _ hP hS ls (lv_sub hl [2, 3, 4, 0] rfl) kx
            · have h := if_some_f h c14
              refine lv_iconst (v := 1) hx hb dX6_reads_99 (by decide) ?_
              refine lv_goto (tgt := 104) hx hb dX6_reads_100 rfl ?_
              refine lv_istore_n (lv' := [(3, .int 1), (4, .int v10), (0, .ref (ad 0)), (1, .int x1), (2, .int x2)]) hx hb dX6_reads_104 rfl hl (by decide) rfl (fun ls hl => ?_)
              refine lv_iload_n hx hb dX6_reads_105 rfl (lv_at hl 0 rfl) ?_
              refine lv_if_eq (tgt := 119) hx hb dX6_reads_106 rfl (fun c => absurd c (by decide)) (fun _ => ?_)
              refine lv_aload_n hx hb dX6_reads_109 rfl (lv_at hl 2 rfl) ?_
              refine lv_iconst (v := 0) hx hb dX6_reads_110 (by decide) ?_
              refine lv_iload hx hb dX6_reads_111 (lv_at hl 1 rfl) ?_
              obtain ⟨st16, hv15, h⟩ := bd1_some h
              refine k_tellsNow C hP hS hv15 (Nat.le_of_ble_eq_true rfl) hl.1 (Nat.le_of_ble_eq_true rfl) hcs dX6_reads_113 (fun H locs hP hS => ?_)
              refine lv_iinc (v := x2 + 1) (lv' := [(2, .int (x2 + 1)), (3, .int 1), (4, .int v10), (0, .ref (ad 0)), (1, .int x1)]) hx hb dX6_reads_116 hl (k := 4) rfl rfl (by decide) rfl (fun ls hl => ?_)
              refine lv_goto (tgt := 53) hx hb dX6_reads_119 rfl ?_
              exact ih st16 (x2 + 1) 1 _ _ h _ _ hP hS ls (lv_sub hl [3, 4, 0, 1] rfl) kx
  rw [M_reads] at h
  refine lv_iload_n hx hb dX6_reads_0 rfl (lv_at hl 1 rfl) ?_
  obtain ⟨v1, hv1, h⟩ := bd1_some h
  refine k_isSheet hx hb C.2.2.1 hown C.2.2.2.2.1 C.2.2.2.2.2.2.2 hv1 (Nat.le_of_ble_eq_true rfl) hl.1 (Nat.le_of_ble_eq_true rfl) hcs dX6_reads_1 ?_
  refine lv_if_ne (tgt := 13) hx hb dX6_reads_4 rfl (fun c2 => ?_) (fun c2 => ?_)
  · have h := if_some_f h c2
    refine lv_aload_n hx hb dX6_reads_13 rfl (lv_at hl 0 rfl) ?_
    refine g_bitsOf C hP dX6_reads_14 ?_
    refine lv_iload_n hx hb dX6_reads_17 rfl (lv_at hl 1 rfl) ?_
    obtain ⟨v3, hv3, h⟩ := bd1_some h
    refine mm_ld C hP 11 (by decide) rfl hv3 dX6_reads_18 ?_
    refine lv_if_ne (tgt := 28) hx hb dX6_reads_19 rfl (fun c4 => ?_) (fun c4 => ?_)
    · have h := if_some_f h c4
      refine lv_iconst (v := 0) hx hb dX6_reads_28 (by decide) ?_
      refine lv_istore_n (lv' := [(2, .int 0), (0, .ref (ad 0)), (1, .int x1)]) hx hb dX6_reads_29 rfl hl (by decide) rfl (fun ls hl => ?_)
      refine lv_aload_n hx hb dX6_reads_30 rfl (lv_at hl 1 rfl) ?_
      refine lv_iconst (v := 0) hx hb dX6_reads_31 (by decide) ?_
      obtain ⟨v5, hv5, h⟩ := bd1_some h
      refine k_isDebtor C hP hv5 (Nat.le_of_ble_eq_true rfl) hl.1 (Nat.le_of_ble_eq_true rfl) hcs dX6_reads_32 ?_
      refine lv_if_eq (tgt := 51) hx hb dX6_reads_35 rfl (fun c6 => ?_) (fun c6 => ?_)
      · have h := if_some_t h c6
        refine lv_iconst (v := 0) hx hb dX6_reads_51 (by decide) ?_
        refine lv_istore_n (lv' := [(3, .int 0), (2, .int 0), (0, .ref (ad 0)), (1, .int x1)]) hx hb dX6_reads_52 rfl hl (by decide) rfl (fun ls hl => ?_)
        obtain ⟨st17, z18, hz19, h⟩ := bd2_some h
        refine L53 x1 N _ 0 0 _ _ hz19 _ _ hP hS ls (lv_sub hl [2, 3, 1, 0] rfl) (fun H locs hP hS ls hl => ?_)
        refine lv_iload_n hx hb dX6_reads_122 rfl (lv_at hl 0 rfl) ?_
        exact mm_viret hx hb hr hlk h hP hS dX6_reads_123
      · have h := if_some_f h c6
        refine lv_aload_n hx hb dX6_reads_38 rfl (lv_at hl 1 rfl) ?_
        refine lv_iconst (v := 0) hx hb dX6_reads_39 (by decide) ?_
        refine lv_iconst (v := 3) hx hb dX6_reads_40 (by decide) ?_
        obtain ⟨v20, hv20, h⟩ := bd1_some h
        refine k_of C hP hv20 (Nat.le_of_ble_eq_true rfl) hl.1 (Nat.le_of_ble_eq_true rfl) hcs dX6_reads_41 ?_
        refine lv_if_ne (tgt := 51) hx hb dX6_reads_44 rfl (fun c21 => ?_) (fun c21 => ?_)
        · have h := if_some_f h c21
          refine lv_iconst (v := 0) hx hb dX6_reads_51 (by decide) ?_
          refine lv_istore_n (lv' := [(3, .int 0), (2, .int 0), (0, .ref (ad 0)), (1, .int x1)]) hx hb dX6_reads_52 rfl hl (by decide) rfl (fun ls hl => ?_)
          obtain ⟨st22, z23, hz24, h⟩ := bd2_some h
          refine L53 x1 N _ 0 0 _ _ hz24 _ _ hP hS ls (lv_sub hl [2, 3, 1, 0] rfl) (fun H locs hP hS ls hl => ?_)
          refine lv_iload_n hx hb dX6_reads_122 rfl (lv_at hl 0 rfl) ?_
          exact mm_viret hx hb hr hlk h hP hS dX6_reads_123
        · have h := if_some_t h c21
          refine lv_iconst (v := 1) hx hb dX6_reads_47 (by decide) ?_
          refine lv_goto (tgt := 52) hx hb dX6_reads_48 rfl ?_
          refine lv_istore_n (lv' := [(3, .int 1), (2, .int 0), (0, .ref (ad 0)), (1, .int x1)]) hx hb dX6_reads_52 rfl hl (by decide) rfl (fun ls hl => ?_)
          obtain ⟨st25, z26, hz27, h⟩ := bd2_some h
          refine L53 x1 N _ 0 1 _ _ hz27 _ _ hP hS ls (lv_sub hl [2, 3, 1, 0] rfl) (fun H locs hP hS ls hl => ?_)
          refine lv_iload_n hx hb dX6_reads_122 rfl (lv_at hl 0 rfl) ?_
          exact mm_viret hx hb hr hlk h hP hS dX6_reads_123
    · have h := if_some_t h c4
      refine lv_aload_n hx hb dX6_reads_22 rfl (lv_at hl 0 rfl) ?_
      refine lv_iconst (v := 2) hx hb dX6_reads_23 (by decide) ?_
      obtain ⟨v28, st29, hv28, h⟩ := bd2_some h
      refine k_finds C hP hS hv28 (Nat.le_of_ble_eq_true rfl) hl.1 (Nat.le_of_ble_eq_true rfl) hcs dX6_reads_24 (fun H locs hP hS => ?_)
      exact mm_viret hx hb hr hlk h hP hS dX6_reads_27
  · have h := if_some_t h c2
    refine lv_aload_n hx hb dX6_reads_7 rfl (lv_at hl 0 rfl) ?_
    refine lv_iconst (v := 1) hx hb dX6_reads_8 (by decide) ?_
    obtain ⟨v30, st31, hv30, h⟩ := bd2_some h
    refine k_finds C hP hS hv30 (Nat.le_of_ble_eq_true rfl) hl.1 (Nat.le_of_ble_eq_true rfl) hcs dX6_reads_9 (fun H locs hP hS => ?_)
    exact mm_viret hx hb hr hlk h hP hS dX6_reads_12
abbrev cX6_check : ByteArray := prog_30_method_101_code
def yX6_check : MethodName := ⟨RX6, "check", "()I"⟩
theorem dX6_check_0 : decode cX6_check 0 = .ok (.aload_n 0, 1) := by decide +kernel
theorem dX6_check_1 : decode cX6_check 1 = .ok (.getfield 7, 3) := by decide +kernel
theorem dX6_check_4 : decode cX6_check 4 = .ok (.bipush 6, 2) := by decide +kernel
theorem dX6_check_6 : decode cX6_check 6 = .ok (.iaload, 1) := by decide +kernel
theorem dX6_check_7 : decode cX6_check 7 = .ok (.istore_n 1, 1) := by decide +kernel
theorem dX6_check_8 : decode cX6_check 8 = .ok (.aload_n 0, 1) := by decide +kernel
theorem dX6_check_9 : decode cX6_check 9 = .ok (.getfield 7, 3) := by decide +kernel
theorem dX6_check_12 : decode cX6_check 12 = .ok (.bipush 6, 2) := by decide +kernel
theorem dX6_check_14 : decode cX6_check 14 = .ok (.iconst 0, 1) := by decide +kernel
theorem dX6_check_15 : decode cX6_check 15 = .ok (.iastore, 1) := by decide +kernel
theorem dX6_check_16 : decode cX6_check 16 = .ok (.aload_n 0, 1) := by decide +kernel
theorem dX6_check_17 : decode cX6_check 17 = .ok (.invokevirtual 243, 3) := by decide +kernel
theorem dX6_check_20 : decode cX6_check 20 = .ok (.iconst 0, 1) := by decide +kernel
theorem dX6_check_21 : decode cX6_check 21 = .ok (.istore_n 2, 1) := by decide +kernel
theorem dX6_check_22 : decode cX6_check 22 = .ok (.iconst 1, 1) := by decide +kernel
theorem dX6_check_23 : decode cX6_check 23 = .ok (.istore_n 3, 1) := by decide +kernel
theorem dX6_check_24 : decode cX6_check 24 = .ok (.iload_n 2, 1) := by decide +kernel
theorem dX6_check_25 : decode cX6_check 25 = .ok (.iload_n 1, 1) := by decide +kernel
theorem dX6_check_26 : decode cX6_check 26 = .ok (.if_icmp .ge 49, 3) := by decide +kernel
theorem dX6_check_29 : decode cX6_check 29 = .ok (.iload_n 3, 1) := by decide +kernel
theorem dX6_check_30 : decode cX6_check 30 = .ok (.ifCond .eq 45, 3) := by decide +kernel
theorem dX6_check_33 : decode cX6_check 33 = .ok (.aload_n 0, 1) := by decide +kernel
theorem dX6_check_34 : decode cX6_check 34 = .ok (.invokevirtual 229, 3) := by decide +kernel
theorem dX6_check_37 : decode cX6_check 37 = .ok (.aload_n 0, 1) := by decide +kernel
theorem dX6_check_38 : decode cX6_check 38 = .ok (.invokevirtual 314, 3) := by decide +kernel
theorem dX6_check_41 : decode cX6_check 41 = .ok (.aload_n 0, 1) := by decide +kernel
theorem dX6_check_42 : decode cX6_check 42 = .ok (.getfield 7, 3) := by decide +kernel
theorem dX6_check_45 : decode cX6_check 45 = .ok (.sipush 172, 3) := by decide +kernel
theorem dX6_check_48 : decode cX6_check 48 = .ok (.iload_n 2, 1) := by decide +kernel
theorem dX6_check_49 : decode cX6_check 49 = .ok (.iadd, 1) := by decide +kernel
theorem dX6_check_50 : decode cX6_check 50 = .ok (.iaload, 1) := by decide +kernel
theorem dX6_check_51 : decode cX6_check 51 = .ok (.if_icmp .ne 7, 3) := by decide +kernel
theorem dX6_check_54 : decode cX6_check 54 = .ok (.iconst 1, 1) := by decide +kernel
theorem dX6_check_55 : decode cX6_check 55 = .ok (.goto 4, 3) := by decide +kernel
theorem dX6_check_58 : decode cX6_check 58 = .ok (.iconst 0, 1) := by decide +kernel
theorem dX6_check_59 : decode cX6_check 59 = .ok (.istore_n 3, 1) := by decide +kernel
theorem dX6_check_60 : decode cX6_check 60 = .ok (.iload_n 2, 1) := by decide +kernel
theorem dX6_check_61 : decode cX6_check 61 = .ok (.iload_n 3, 1) := by decide +kernel
theorem dX6_check_62 : decode cX6_check 62 = .ok (.ifCond .eq 7, 3) := by decide +kernel
theorem dX6_check_65 : decode cX6_check 65 = .ok (.iconst 1, 1) := by decide +kernel
theorem dX6_check_66 : decode cX6_check 66 = .ok (.goto 4, 3) := by decide +kernel
theorem dX6_check_69 : decode cX6_check 69 = .ok (.iconst 0, 1) := by decide +kernel
theorem dX6_check_70 : decode cX6_check 70 = .ok (.iadd, 1) := by decide +kernel
theorem dX6_check_71 : decode cX6_check 71 = .ok (.istore_n 2, 1) := by decide +kernel
theorem dX6_check_72 : decode cX6_check 72 = .ok (.goto (-48), 3) := by decide +kernel
theorem dX6_check_75 : decode cX6_check 75 = .ok (.aload_n 0, 1) := by decide +kernel
theorem dX6_check_76 : decode cX6_check 76 = .ok (.invokevirtual 246, 3) := by decide +kernel
theorem dX6_check_79 : decode cX6_check 79 = .ok (.iload_n 2, 1) := by decide +kernel
theorem dX6_check_80 : decode cX6_check 80 = .ok (.iload_n 1, 1) := by decide +kernel
theorem dX6_check_81 : decode cX6_check 81 = .ok (.if_icmp .ne 7, 3) := by decide +kernel
theorem dX6_check_84 : decode cX6_check 84 = .ok (.iconst 0, 1) := by decide +kernel
theorem dX6_check_85 : decode cX6_check 85 = .ok (.goto 6, 3) := by decide +kernel
theorem dX6_check_88 : decode cX6_check 88 = .ok (.iconst 1, 1) := by decide +kernel
theorem dX6_check_89 : decode cX6_check 89 = .ok (.iload_n 2, 1) := by decide +kernel
theorem dX6_check_90 : decode cX6_check 90 = .ok (.iadd, 1) := by decide +kernel
theorem dX6_check_91 : decode cX6_check 91 = .ok (.ireturn, 1) := by decide +kernel
theorem w_check {l : Launch} {D : va_G} {cI : ClassId} {ad : Nat → Nat} (hI : kInj 15 ad) {st st' : MSt} {N : Nat} {r0 : Int32} (h : M_check  N st = some (r0, st')) : mV l yX6_check cX6_check 4 (some .int) 60 D cI ad st [] (some (.int r0)) st' := by
  refine mm_ofV hI (by decide) rfl (Nat.le_of_ble_eq_true rfl) (fun p e s m below meth c R args ls C hr hlk hP hS hl hcs => ?_)
  have hx := C.1
  have hb := C.2.1
  have hown := C.2.2.2.1
  have hl : lv_has ls 4 [(0, .ref (ad 0))] := hl
  have hP : mW D cI ad st s.heap := hP
  have L24 : ∀ (x1 : Int32), ∀ (n : Nat) (st : MSt) (x2 : Int32) (x3 : Int32) (st2 : MSt) (z2 : Int32), M_check_L24 N x1 n st x2 x3 = some (st2, z2) → ∀ (H : Heap) (locs : List Loc), mW D cI ad st H → va_S (kF 15 ad) s.heap H locs → ∀ ls : Array Slot, lv_has ls 4 [(0, .ref (ad 0)), (1, .int x1), (2, .int x2), (3, .int x3)] → (∀ (H : Heap) (locs : List Loc), mW D cI ad st2 H → va_S (kF 15 ad) s.heap H locs → ∀ ls : Array Slot, lv_has ls 4 [(0, .ref (ad 0)), (1, .int x1), (2, .int z2)] → mWV p l e R s m args below meth c D cI ad (some (.int r0)) st' H locs (F0 m 75 ls [])) → mWV p l e R s m args below meth c D cI ad (some (.int r0)) st' H locs (F0 m 24 ls []) := by
    intro x1 n
    induction n with
    | zero =>
      intro st x2 x3 st2 z2 h
      exact non_some h
    | succ n ih =>
      intro st x2 x3 st2 z2 h H locs hP hS ls hl kx
      rw [M_check_L24] at h
      refine lv_iload_n hx hb dX6_check_24 rfl (lv_at hl 2 rfl) ?_
      refine lv_iload_n hx hb dX6_check_25 rfl (lv_at hl 1 rfl) ?_
      refine lv_icmp_ge (tgt := 75) hx hb dX6_check_26 rfl (fun c5 => ?_) (fun c5 => ?_)
      · have h := if_some_t h c5
        cases h
        exact kx _ _ hP hS ls (lv_sub hl [0, 1, 2] rfl)
      · have h := if_some_f h c5
        refine lv_iload_n hx hb dX6_check_29 rfl (lv_at hl 3 rfl) ?_
        refine lv_if_eq (tgt := 75) hx hb dX6_check_30 rfl (fun c6 => ?_) (fun c6 => ?_)
        · have h := if_some_t h c6
          cases h
          exact kx _ _ hP hS ls (lv_sub hl [0, 1, 2] rfl)
        · have h := if_some_f h c6
          refine lv_aload_n hx hb dX6_check_33 rfl (lv_at hl 0 rfl) ?_
          obtain ⟨st8, hv7, h⟩ := bd1_some h
          refine k_aWeek C hP hS hv7 (Nat.le_of_ble_eq_true rfl) hl.1 (Nat.le_of_ble_eq_true rfl) hcs dX6_check_34 (fun H locs hP hS => ?_)
          refine lv_aload_n hx hb dX6_check_37 rfl (lv_at hl 0 rfl) ?_
          obtain ⟨v9, hv9, h⟩ := bd1_some h
          refine k_debts C hP hv9 (Nat.le_of_ble_eq_true rfl) hl.1 (Nat.le_of_ble_eq_true rfl) hcs dX6_check_38 ?_
          refine lv_aload_n hx hb dX6_check_41 rfl (lv_at hl 0 rfl) ?_
          refine g_d C hP dX6_check_42 ?_
          refine lv_sipush (v := 172) hx hb dX6_check_45 (by decide) ?_
          refine lv_iload_n hx hb dX6_check_48 rfl (lv_at hl 2 rfl) ?_
          refine lv_iadd hx hb dX6_check_49 ?_
          obtain ⟨v10, hv10, h⟩ := bd1_some h
          refine mm_ld C hP 1 (by decide) rfl hv10 dX6_check_50 ?_
          refine lv_icmp_ne (tgt := 58) hx hb dX6_check_51 rfl (fun c11 => ?_) (fun c11 => ?_)
          · have h := if_some_f h c11
            refine lv_iconst (v := 0) hx hb dX6_check_58 (by decide) ?_
            refine lv_istore_n (lv' := [(3, .int 0), (0, .ref (ad 0)), (1, .int x1), (2, .int x2)]) hx hb dX6_check_59 rfl hl (by decide) rfl (fun ls hl => ?_)
            refine lv_iload_n hx hb dX6_check_60 rfl (lv_at hl 3 rfl) ?_
            refine lv_iload_n hx hb dX6_check_61 rfl (lv_at hl 0 rfl) ?_
            refine lv_if_eq (tgt := 69) hx hb dX6_check_62 rfl (fun _ => ?_) (fun c => absurd c (by decide))
            refine lv_iconst (v := 0) hx hb dX6_check_69 (by decide) ?_
            refine lv_iadd hx hb dX6_check_70 ?_
            refine lv_istore_n (lv' := [(2, .int (x2 + 0)), (3, .int 0), (0, .ref (ad 0)), (1, .int x1)]) hx hb dX6_check_71 rfl hl (by decide) rfl (fun ls hl => ?_)
            refine lv_goto (tgt := 24) hx hb dX6_check_72 rfl ?_
            exact ih st8 (x2 + 0) 0 _ _ h _ _ hP hS ls (lv_sub hl [2, 3, 0, 1] rfl) kx
          · have h := if_some_t h c11
            refine lv_iconst (v := 1) hx hb dX6_check_54 (by decide) ?_
            refine lv_goto (tgt := 59) hx hb dX6_check_55 rfl ?_
            refine lv_istore_n (lv' := [(3, .int 1), (0, .ref (ad 0)), (1, .int x1), (2, .int x2)]) hx hb dX6_check_59 rfl hl (by decide) rfl (fun ls hl => ?_)
            refine lv_iload_n hx hb dX6_check_60 rfl (lv_at hl 3 rfl) ?_
            refine lv_iload_n hx hb dX6_check_61 rfl (lv_at hl 0 rfl) ?_
            refine lv_if_eq (tgt := 69) hx hb dX6_check_62 rfl (fun c => absurd c (by decide)) (fun _ => ?_)
            refine lv_iconst (v := 1) hx hb dX6_check_65 (by decide) ?_
            refine lv_goto (tgt := 70) hx hb dX6_check_66 rfl ?_
            refine lv_iadd hx hb dX6_check_70 ?_
            refine lv_istore_n (lv' := [(2, .int (x2 + 1)), (3, .int 1), (0, .ref (ad 0)), (1, .int x1)]) hx hb dX6_check_71 rfl hl (by decide) rfl (fun ls hl => ?_)
            refine lv_goto (tgt := 24) hx hb dX6_check_72 rfl ?_
            exact ih st8 (x2 + 1) 1 _ _ h _ _ hP hS ls (lv_sub hl [2, 3, 0, 1] rfl) kx
  rw [M_check] at h
  refine lv_aload_n hx hb dX6_check_0 rfl (lv_at hl 0 rfl) ?_
  refine g_d C hP dX6_check_1 ?_
  refine lv_bipush (v := 6) hx hb dX6_check_4 (by decide) ?_
  obtain ⟨v1, hv1, h⟩ := bd1_some h
  refine mm_ld C hP 1 (by decide) rfl hv1 dX6_check_6 ?_
  refine lv_istore_n (lv' := [(1, .int v1), (0, .ref (ad 0))]) hx hb dX6_check_7 rfl hl (by decide) rfl (fun ls hl => ?_)
  refine lv_aload_n hx hb dX6_check_8 rfl (lv_at hl 1 rfl) ?_
  refine g_d C hP dX6_check_9 ?_
  refine lv_bipush (v := 6) hx hb dX6_check_12 (by decide) ?_
  refine lv_iconst (v := 0) hx hb dX6_check_14 (by decide) ?_
  obtain ⟨b2, hb2, h⟩ := bd1_some h
  refine mm_st C hP hS 1 (by decide) rfl hb2 dX6_check_15 (fun H locs hP hS => ?_)
  refine lv_aload_n hx hb dX6_check_16 rfl (lv_at hl 1 rfl) ?_
  obtain ⟨st4, hv3, h⟩ := bd1_some h
  refine k_keepAside C hP hS hv3 (Nat.le_of_ble_eq_true rfl) hl.1 (Nat.le_of_ble_eq_true rfl) hcs dX6_check_17 (fun H locs hP hS => ?_)
  refine lv_iconst (v := 0) hx hb dX6_check_20 (by decide) ?_
  refine lv_istore_n (lv' := [(2, .int 0), (1, .int v1), (0, .ref (ad 0))]) hx hb dX6_check_21 rfl hl (by decide) rfl (fun ls hl => ?_)
  refine lv_iconst (v := 1) hx hb dX6_check_22 (by decide) ?_
  refine lv_istore_n (lv' := [(3, .int 1), (2, .int 0), (1, .int v1), (0, .ref (ad 0))]) hx hb dX6_check_23 rfl hl (by decide) rfl (fun ls hl => ?_)
  obtain ⟨st12, z13, hz17, h⟩ := bd2_some h
  refine L24 v1 N _ 0 1 _ _ hz17 _ _ hP hS ls (lv_sub hl [3, 2, 1, 0] rfl) (fun H locs hP hS ls hl => ?_)
  refine lv_aload_n hx hb dX6_check_75 rfl (lv_at hl 0 rfl) ?_
  obtain ⟨st15, hv14, h⟩ := bd1_some h
  refine k_putBack C hP hS hv14 (Nat.le_of_ble_eq_true rfl) hl.1 (Nat.le_of_ble_eq_true rfl) hcs dX6_check_76 (fun H locs hP hS => ?_)
  refine lv_iload_n hx hb dX6_check_79 rfl (lv_at hl 2 rfl) ?_
  refine lv_iload_n hx hb dX6_check_80 rfl (lv_at hl 1 rfl) ?_
  refine lv_icmp_ne (tgt := 88) hx hb dX6_check_81 rfl (fun c16 => ?_) (fun c16 => ?_)
  · have h := if_some_f h c16
    refine lv_iconst (v := 1) hx hb dX6_check_88 (by decide) ?_
    refine lv_iload_n hx hb dX6_check_89 rfl (lv_at hl 2 rfl) ?_
    refine lv_iadd hx hb dX6_check_90 ?_
    exact mm_viret hx hb hr hlk h hP hS dX6_check_91
  · have h := if_some_t h c16
    refine lv_iconst (v := 0) hx hb dX6_check_84 (by decide) ?_
    refine lv_goto (tgt := 91) hx hb dX6_check_85 rfl ?_
    exact mm_viret hx hb hr hlk h hP hS dX6_check_91
end
