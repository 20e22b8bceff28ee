/-! the rest of a town: walks -/
set_option maxRecDepth 100000
section
variable {p : Program} {l : Launch} {e : Env} {R : Room} {s : State} {m : MethodId} {args : Array Value} {below : List Frame} {meth : Method} {c : Code} {H : Heap} {locs : List Loc} {cells slots d : Nat} {Q : State → Prop} {cc : ByteArray} {pc nL : Nat} {ls : Array Slot} {rest : List Value} {D : va_G} {cA : Nat → ClassId} {ks : List Nat} {ad : Nat → Nat} {A : Nat → Prop} {st : CS} {H0 : Heap} {own : String} {index : Nat} {t : Nat}
abbrev cX3_with : ByteArray := prog_5_method_2_code
def yX3_with : MethodName := ⟨RX3, "with", "(CI)LChapterLoan$Facts;"⟩
theorem dX3_with_0 : decode cX3_with 0 = .ok (.aload_n 0, 1) := by decide +kernel
theorem dX3_with_1 : decode cX3_with 1 = .ok (.getfield 7, 3) := by decide +kernel
theorem dX3_with_4 : decode cX3_with 4 = .ok (.iload_n 1, 1) := by decide +kernel
theorem dX3_with_5 : decode cX3_with 5 = .ok (.iload_n 2, 1) := by decide +kernel
theorem dX3_with_6 : decode cX3_with 6 = .ok (.iastore, 1) := by decide +kernel
theorem dX3_with_7 : decode cX3_with 7 = .ok (.aload_n 0, 1) := by decide +kernel
theorem dX3_with_8 : decode cX3_with 8 = .ok (.areturn, 1) := by decide +kernel
theorem q670 : (Jvm.Cond.code ({ cls := "ChapterLoan$Facts", name := "with", desc := "(CI)LChapterLoan$Facts;" } : Jvm.MethodName) prog_5_method_2_code (3 : Nat) (Option.some (Jvm.ClassFile.FieldType.object "ChapterLoan$Facts"))) ∈ lw_all := lw_g (lw_at lw_m3 106 rfl) rfl
theorem q668 : (Jvm.Cond.instanceMethod ({ cls := "ChapterLoan$Facts", name := "with", desc := "(CI)LChapterLoan$Facts;" } : Jvm.MethodName)) ∈ lw_all := lw_g (lw_at lw_m3 104 rfl) rfl
theorem q91 : (Jvm.Cond.initialized "ChapterLoan$Facts") ∈ lw_all := lw_g (lw_at lw_m1 7 rfl) rfl
theorem q669 : (Jvm.Cond.selects "ChapterLoan$Facts" ({ cls := "ChapterLoan$Facts", name := "with", desc := "(CI)LChapterLoan$Facts;" } : Jvm.MethodName) ({ cls := "ChapterLoan$Facts", name := "with", desc := "(CI)LChapterLoan$Facts;" } : Jvm.MethodName)) ∈ lw_all := lw_g (lw_at lw_m3 105 rfl) rfl
theorem q214 : (Jvm.Cond.fieldLink "ChapterLoan$Facts" (7 : Nat) "ChapterLoan$Facts" "named" "[I") ∈ lw_all := lw_g (lw_at lw_m1 130 rfl) rfl
theorem onq_none {β : Type} {x : Option β} {f : Nat → Option β} : onq none x f = x := rfl
theorem onq_some {β : Type} {a : Nat} {x : Option β} {f : Nat → Option β} : onq (some a) x f = f a := rfl
theorem tk61 {t j : Nat} (ht : t < 3) (hj : j < 20 := by decide) : 20 * t + j ≠ 61 := by omega
theorem tk68 {t j : Nat} (ht : t < 3) (hj : j < 20 := by decide) : 20 * t + j ≠ 68 := by omega
theorem w_with {l : Launch} {D : va_G} {cA : Nat → ClassId} {ks : List Nat} {ad : Nat → Nat} {A : Nat → Prop} (hO : klOk A ks ad) {t : Nat} (ht : t < 3) {st st' : CS} {x1 x2 : Int32} (h : T_with t st x1 x2 = some st') : cV l yX3_with cX3_with 3 (some (.object "ChapterLoan$Facts")) 0 D cA ks ad A st [.ref (ad (20 * t + 19)), .int x1, .int x2] (some (.ref (ad (20 * t + 19)))) st' := by
  refine cc_ofV (own := RX3) (by decide) rfl (Nat.le_of_ble_eq_true rfl) (fun p e s m below meth c R args ls C hr hlk hP hS hl hcs => ?_)
  have hx := C.1
  have hb := C.2.1
  have hl : lv_has ls 3 [(0, .ref (ad (20 * t + 19))), (1, .int x1), (2, .int x2)] := hl
  rw [T_with] at h
  refine lv_aload_n hx hb dX3_with_0 rfl (lv_at hl 0 rfl) ?_
  refine fg C hO ht hP q214 dX3_with_1 ?_
  refine lv_iload_n hx hb dX3_with_4 rfl (lv_at hl 1 rfl) ?_
  refine lv_iload_n hx hb dX3_with_5 rfl (lv_at hl 2 rfl) ?_
  obtain ⟨b, hb1, h⟩ := bd1_some h
  refine cc_ist C hO hP hS (hO.2.2.2 _ (tk_ 16 ht (by decide))) (cg_t 16 ht (by decide)) hb1 (cg_At 16 ht (by decide)) hP.2 dX3_with_6 (fun H locs hP hS => ?_)
  refine lv_aload_n hx hb dX3_with_7 rfl (lv_at hl 0 rfl) ?_
  cases h
  exact W.aret hx hb hr (Or.inl ⟨_, rfl⟩) (Or.inr ⟨_, rfl⟩) (fun t ht _ => ⟨rfl, by rw [ht]; exact hP, hS.F ht⟩) hS.2.2 dX3_with_8
theorem k_with {x1 x2 : Int32} {st' : CS} (C : cC p R d s m args c cc nL own D cA A) (hO : klOk A ks ad) (ht : t < 3) (hP : cW D cA ks ad st H) (hS : va_S A s.heap H locs) (h : T_with t st x1 x2 = some st') (hl : Cond.methodLink own index yX3_with ∈ lw_all) (hd : 0 + 1 ≤ d) (hsz : ls.size = nL) (hW : (rest.map fun v => v.category).sum ≤ 8) (hcs : cells ≤ R.cells ∧ slots ≤ R.slots) (hdg : decode cc pc = .ok (.invokevirtual index, 3)) (kk : ∀ (H1 : Heap) (locs1 : List Loc), cW D cA ks ad st' H1 → va_S A s.heap H1 locs1 → W p l e R s m args below meth c H1 locs1 cells slots Q (F0 m (pc + 3) ls (.ref (ad (20 * t + 19)) :: rest))) : W p l e R s m args below meth c H locs cells slots Q (F0 m pc ls (.int x2 :: .int x1 :: .ref (ad (20 * t + 19)) :: rest)) :=
  cc_cV (As := [.int x1, .int x2]) C hP hS (w_with hO ht h) (cwV 2 C.2.2.2.2.1 (lw_V hl q668 q669 q91 q670) rfl rfl rfl (by decide +kernel) (mr_ C.2.2.2.2.2.1 hd (by decide))) (cc_recv C hP (hO.2.2.2 _ (tk_ 19 ht (by decide))) (cg_f ht) (q := (RX3, TX3, 1)) rfl) rfl hsz rfl hW hdg hcs kk
abbrev cX2_payBy : ByteArray := prog_23_method_4_code
def yX2_payBy : MethodName := ⟨RX2, "payBy", "(III)I"⟩
theorem dX2_payBy_0 : decode cX2_payBy 0 = .ok (.aload_n 0, 1) := by decide +kernel
theorem dX2_payBy_1 : decode cX2_payBy 1 = .ok (.getfield 60, 3) := by decide +kernel
theorem dX2_payBy_4 : decode cX2_payBy 4 = .ok (.iconst 0, 1) := by decide +kernel
theorem dX2_payBy_5 : decode cX2_payBy 5 = .ok (.aaload, 1) := by decide +kernel
theorem dX2_payBy_6 : decode cX2_payBy 6 = .ok (.ifnonnull 8, 3) := by decide +kernel
theorem dX2_payBy_9 : decode cX2_payBy 9 = .ok (.bipush 10, 2) := by decide +kernel
theorem dX2_payBy_11 : decode cX2_payBy 11 = .ok (.goto 34, 3) := by decide +kernel
theorem dX2_payBy_14 : decode cX2_payBy 14 = .ok (.aload_n 0, 1) := by decide +kernel
theorem dX2_payBy_15 : decode cX2_payBy 15 = .ok (.getfield 60, 3) := by decide +kernel
theorem dX2_payBy_18 : decode cX2_payBy 18 = .ok (.iconst 0, 1) := by decide +kernel
theorem dX2_payBy_19 : decode cX2_payBy 19 = .ok (.aaload, 1) := by decide +kernel
theorem dX2_payBy_20 : decode cX2_payBy 20 = .ok (.aload_n 0, 1) := by decide +kernel
theorem dX2_payBy_21 : decode cX2_payBy 21 = .ok (.getfield 78, 3) := by decide +kernel
theorem dX2_payBy_24 : decode cX2_payBy 24 = .ok (.bipush 102, 2) := by decide +kernel
theorem dX2_payBy_26 : decode cX2_payBy 26 = .ok (.iload_n 1, 1) := by decide +kernel
theorem dX2_payBy_27 : decode cX2_payBy 27 = .ok (.invokevirtual 118, 3) := by decide +kernel
theorem dX2_payBy_30 : decode cX2_payBy 30 = .ok (.bipush 119, 2) := by decide +kernel
theorem dX2_payBy_32 : decode cX2_payBy 32 = .ok (.iload_n 2, 1) := by decide +kernel
theorem dX2_payBy_33 : decode cX2_payBy 33 = .ok (.invokevirtual 118, 3) := by decide +kernel
theorem dX2_payBy_36 : decode cX2_payBy 36 = .ok (.bipush 100, 2) := by decide +kernel
theorem dX2_payBy_38 : decode cX2_payBy 38 = .ok (.iload_n 3, 1) := by decide +kernel
theorem dX2_payBy_39 : decode cX2_payBy 39 = .ok (.invokevirtual 118, 3) := by decide +kernel
theorem dX2_payBy_42 : decode cX2_payBy 42 = .ok (.invokevirtual 122, 3) := by decide +kernel
theorem dX2_payBy_45 : decode cX2_payBy 45 = .ok (.istore 4, 2) := by decide +kernel
theorem dX2_payBy_47 : decode cX2_payBy 47 = .ok (.iload 4, 2) := by decide +kernel
theorem dX2_payBy_49 : decode cX2_payBy 49 = .ok (.iconst 0, 1) := by decide +kernel
theorem dX2_payBy_50 : decode cX2_payBy 50 = .ok (.sipush 999, 3) := by decide +kernel
theorem dX2_payBy_53 : decode cX2_payBy 53 = .ok (.invokestatic 126, 3) := by decide +kernel
theorem dX2_payBy_56 : decode cX2_payBy 56 = .ok (.ireturn, 1) := by decide +kernel
theorem q667 : (Jvm.Cond.methodLink "ChapterLoan$Town" (118 : Nat) ({ cls := "ChapterLoan$Facts", name := "with", desc := "(CI)LChapterLoan$Facts;" } : Jvm.MethodName)) ∈ lw_all := lw_g (lw_at lw_m3 103 rfl) rfl
theorem q671 : (Jvm.Cond.methodLink "ChapterLoan$Town" (122 : Nat) ({ cls := "ChapterLoan$Term", name := "value", desc := "(LChapterLoan$Facts;)I" } : Jvm.MethodName)) ∈ lw_all := lw_g (lw_at lw_m3 107 rfl) rfl
theorem q691 : (Jvm.Cond.methodLink "ChapterLoan$Town" (126 : Nat) ({ cls := "ChapterLoan$Town", name := "held", desc := "(III)I" } : Jvm.MethodName)) ∈ lw_all := lw_g (lw_at lw_m3 127 rfl) rfl
theorem w_T_payBy {l : Launch} {D : va_G} {cA : Nat → ClassId} {ks : List Nat} {ad : Nat → Nat} {A : Nat → Prop} (hO : klOk A ks ad) {t : Nat} (ht : t < 3) {st st' : CS} {x1 : Int32} {x2 : Int32} {x3 : Int32} {r0 : Int32} (h : T_payBy t st x1 x2 x3 = some (r0, st')) : cV l yX2_payBy cX2_payBy 5 (some .int) 62 D cA ks ad A st [.ref (ad (20 * t)), .int x1, .int x2, .int x3] (some (.int r0)) st' := by
  refine cc_ofV (own := RX2) (by decide) rfl (Nat.le_of_ble_eq_true rfl) (fun p e s m below meth c R args ls C hr hlk hP hS hl hcs => ?_)
  have hx := C.1
  have hb := C.2.1
  have hown := C.2.2.2.1
  have hNst := C.2.2.2.2.2.2.2.1
  have hl : lv_has ls 5 [(0, .ref (ad (20 * t))), (1, .int x1), (2, .int x2), (3, .int x3)] := hl
  rw [T_payBy] at h
  refine lv_aload_n hx hb dX2_payBy_0 rfl (lv_at hl 0 rfl) ?_
  refine tg_text (t := t) C hO ht hP dX2_payBy_1 ?_
  refine lv_iconst (v := 0) hx hb dX2_payBy_4 (by decide) ?_
  obtain ⟨r1, hr1, h⟩ := bd1_some h
  refine cc_ald C hP 5 (hO.2.2.2 _ (tk_ 18 ht (by decide))) (cg_t 18 ht (by decide)) rfl hr1 dX2_payBy_5 ?_
  rcases r1 with _ | a2
  · rw [onq_none] at h
    refine lv_ifnonnullN hx hb dX2_payBy_6 ?_
    refine lv_bipush (v := 10) hx hb dX2_payBy_9 (by decide) ?_
    refine lv_goto (tgt := 45) hx hb dX2_payBy_11 rfl ?_
    refine lv_istore (lv' := [(4, .int 10), (0, .ref (ad (20 * t))), (1, .int x1), (2, .int x2), (3, .int x3)]) hx hb dX2_payBy_45 hl (by decide) rfl (fun ls hl => ?_)
    refine lv_iload hx hb dX2_payBy_47 (lv_at hl 0 rfl) ?_
    refine lv_iconst (v := 0) hx hb dX2_payBy_49 (by decide) ?_
    refine lv_sipush (v := 999) hx hb dX2_payBy_50 (by decide) ?_
    obtain ⟨v3, hv3, h⟩ := bd1_some h
    refine k_L_held hx hb C.2.2.1 hown C.2.2.2.2.1 C.2.2.2.2.2.1 q691 hv3 (Nat.le_of_ble_eq_true rfl) hl.1 (Nat.le_of_ble_eq_true rfl) hcs dX2_payBy_53 ?_
    exact cc_viret hx hb hr hlk h hP hS dX2_payBy_56
  · rw [onq_some] at h
    refine lv_ifnonnull (tgt := 14) hx hb dX2_payBy_6 rfl ?_
    refine lv_aload_n hx hb dX2_payBy_14 rfl (lv_at hl 0 rfl) ?_
    refine tg_text (t := t) C hO ht hP dX2_payBy_15 ?_
    refine lv_iconst (v := 0) hx hb dX2_payBy_18 (by decide) ?_
    obtain ⟨r4, hr4, h⟩ := bd1_some h
    refine cc_ald C hP 5 (hO.2.2.2 _ (tk_ 18 ht (by decide))) (cg_t 18 ht (by decide)) rfl hr4 dX2_payBy_19 ?_
    rcases r4 with _ | a5
    · exact non_some h
    · rw [onq_some] at h
      have hla5 := ref_live hP hr4 (tk_ 18 ht (by decide)) (tk61 ht) (tk68 ht)
      refine lv_aload_n hx hb dX2_payBy_20 rfl (lv_at hl 0 rfl) ?_
      refine tg_names (t := t) C hO ht hP dX2_payBy_21 ?_
      refine lv_bipush (v := 102) hx hb dX2_payBy_24 (by decide) ?_
      refine lv_iload_n hx hb dX2_payBy_26 rfl (lv_at hl 1 rfl) ?_
      obtain ⟨st6, hst6, h⟩ := bd1_some h
      refine k_with (t := t) C hO ht hP hS hst6 q667 (Nat.le_of_ble_eq_true rfl) hl.1 (Nat.le_of_ble_eq_true rfl) hcs dX2_payBy_27 (fun H locs hP hS => ?_)
      refine lv_bipush (v := 119) hx hb dX2_payBy_30 (by decide) ?_
      refine lv_iload_n hx hb dX2_payBy_32 rfl (lv_at hl 2 rfl) ?_
      obtain ⟨st7, hst7, h⟩ := bd1_some h
      refine k_with (t := t) C hO ht hP hS hst7 q667 (Nat.le_of_ble_eq_true rfl) hl.1 (Nat.le_of_ble_eq_true rfl) hcs dX2_payBy_33 (fun H locs hP hS => ?_)
      refine lv_bipush (v := 100) hx hb dX2_payBy_36 (by decide) ?_
      refine lv_iload_n hx hb dX2_payBy_38 rfl (lv_at hl 3 rfl) ?_
      obtain ⟨st8, hst8, h⟩ := bd1_some h
      refine k_with (t := t) C hO ht hP hS hst8 q667 (Nat.le_of_ble_eq_true rfl) hl.1 (Nat.le_of_ble_eq_true rfl) hcs dX2_payBy_39 (fun H locs hP hS => ?_)
      obtain ⟨v9, hv9, h⟩ := bd1_some h
      refine k_tmV (t := t) hO ht 60 a5 v9 hv9 hla5 C hP hS.1 q671 (Nat.le_of_ble_eq_true rfl) hl.1 (Nat.le_of_ble_eq_true rfl) hcs dX2_payBy_42 ?_
      refine lv_istore (lv' := [(4, .int v9), (0, .ref (ad (20 * t))), (1, .int x1), (2, .int x2), (3, .int x3)]) hx hb dX2_payBy_45 hl (by decide) rfl (fun ls hl => ?_)
      refine lv_iload hx hb dX2_payBy_47 (lv_at hl 0 rfl) ?_
      refine lv_iconst (v := 0) hx hb dX2_payBy_49 (by decide) ?_
      refine lv_sipush (v := 999) hx hb dX2_payBy_50 (by decide) ?_
      obtain ⟨v10, hv10, h⟩ := bd1_some h
      refine k_L_held hx hb C.2.2.1 hown C.2.2.2.2.1 C.2.2.2.2.2.1 q691 hv10 (Nat.le_of_ble_eq_true rfl) hl.1 (Nat.le_of_ble_eq_true rfl) hcs dX2_payBy_53 ?_
      exact cc_viret hx hb hr hlk h hP hS dX2_payBy_56
theorem q770 : (Jvm.Cond.code ({ cls := "ChapterLoan$Town", name := "payBy", desc := "(III)I" } : Jvm.MethodName) prog_23_method_4_code (5 : Nat) (Option.some Jvm.ClassFile.FieldType.int)) ∈ lw_all := lw_g (lw_at lw_m3 206 rfl) rfl
theorem q768 : (Jvm.Cond.instanceMethod ({ cls := "ChapterLoan$Town", name := "payBy", desc := "(III)I" } : Jvm.MethodName)) ∈ lw_all := lw_g (lw_at lw_m3 204 rfl) rfl
theorem q769 : (Jvm.Cond.selects "ChapterLoan$Town" ({ cls := "ChapterLoan$Town", name := "payBy", desc := "(III)I" } : Jvm.MethodName) ({ cls := "ChapterLoan$Town", name := "payBy", desc := "(III)I" } : Jvm.MethodName)) ∈ lw_all := lw_g (lw_at lw_m3 205 rfl) rfl
theorem k_T_payBy {a0 : Int32} {a1 : Int32} {a2 : Int32} {v : Int32} {st' : CS} (C : cC p R d s m args c cc nL own D cA A) (hO : klOk A ks ad) (ht : t < 3) (hP : cW D cA ks ad st H) (hS : va_S A s.heap H locs) (h : T_payBy t st a0 a1 a2 = some (v, st')) (hl : Cond.methodLink own index yX2_payBy ∈ lw_all) (hd : 62 + 1 ≤ d) (hsz : ls.size = nL) (hW : (rest.map fun v => v.category).sum ≤ 8) (hcs : cells ≤ R.cells ∧ slots ≤ R.slots) (hdg : decode cc pc = .ok (.invokevirtual index, 3)) (kk : ∀ (H1 : Heap) (locs1 : List Loc), cW D cA ks ad st' H1 → va_S A s.heap H1 locs1 → W p l e R s m args below meth c H1 locs1 cells slots Q (F0 m (pc + 3) ls (.int v :: rest))) : W p l e R s m args below meth c H locs cells slots Q (F0 m pc ls (.int a2 :: .int a1 :: .int a0 :: .ref (ad (20 * t)) :: rest)) :=
  cc_cV (As := [.int a0, .int a1, .int a2]) C hP hS (w_T_payBy hO ht h) (cwV 3 C.2.2.2.2.1 (lw_V hl q768 q769 q90 q770) rfl rfl rfl (by decide +kernel) (mr_ C.2.2.2.2.2.1 hd (by decide))) (cc_recv C hP (hO.2.2.2 _ (tk0 ht)) (cg_t0 ht) (q := (RX2, TX2, 27)) rfl) rfl hsz rfl hW hdg hcs kk
abbrev cX2_trustBy : ByteArray := prog_23_method_5_code
def yX2_trustBy : MethodName := ⟨RX2, "trustBy", "(III)I"⟩
theorem dX2_trustBy_0 : decode cX2_trustBy 0 = .ok (.bipush 10, 2) := by decide +kernel
theorem dX2_trustBy_2 : decode cX2_trustBy 2 = .ok (.iload_n 3, 1) := by decide +kernel
theorem dX2_trustBy_3 : decode cX2_trustBy 3 = .ok (.imul, 1) := by decide +kernel
theorem dX2_trustBy_4 : decode cX2_trustBy 4 = .ok (.iconst 5, 1) := by decide +kernel
theorem dX2_trustBy_5 : decode cX2_trustBy 5 = .ok (.iload_n 2, 1) := by decide +kernel
theorem dX2_trustBy_6 : decode cX2_trustBy 6 = .ok (.imul, 1) := by decide +kernel
theorem dX2_trustBy_7 : decode cX2_trustBy 7 = .ok (.isub, 1) := by decide +kernel
theorem dX2_trustBy_8 : decode cX2_trustBy 8 = .ok (.iload_n 1, 1) := by decide +kernel
theorem dX2_trustBy_9 : decode cX2_trustBy 9 = .ok (.isub, 1) := by decide +kernel
theorem dX2_trustBy_10 : decode cX2_trustBy 10 = .ok (.istore 4, 2) := by decide +kernel
theorem dX2_trustBy_12 : decode cX2_trustBy 12 = .ok (.aload_n 0, 1) := by decide +kernel
theorem dX2_trustBy_13 : decode cX2_trustBy 13 = .ok (.getfield 60, 3) := by decide +kernel
theorem dX2_trustBy_16 : decode cX2_trustBy 16 = .ok (.iconst 1, 1) := by decide +kernel
theorem dX2_trustBy_17 : decode cX2_trustBy 17 = .ok (.aaload, 1) := by decide +kernel
theorem dX2_trustBy_18 : decode cX2_trustBy 18 = .ok (.ifnull 36, 3) := by decide +kernel
theorem dX2_trustBy_21 : decode cX2_trustBy 21 = .ok (.aload_n 0, 1) := by decide +kernel
theorem dX2_trustBy_22 : decode cX2_trustBy 22 = .ok (.getfield 60, 3) := by decide +kernel
theorem dX2_trustBy_25 : decode cX2_trustBy 25 = .ok (.iconst 1, 1) := by decide +kernel
theorem dX2_trustBy_26 : decode cX2_trustBy 26 = .ok (.aaload, 1) := by decide +kernel
theorem dX2_trustBy_27 : decode cX2_trustBy 27 = .ok (.aload_n 0, 1) := by decide +kernel
theorem dX2_trustBy_28 : decode cX2_trustBy 28 = .ok (.getfield 78, 3) := by decide +kernel
theorem dX2_trustBy_31 : decode cX2_trustBy 31 = .ok (.bipush 100, 2) := by decide +kernel
theorem dX2_trustBy_33 : decode cX2_trustBy 33 = .ok (.iload_n 1, 1) := by decide +kernel
theorem dX2_trustBy_34 : decode cX2_trustBy 34 = .ok (.invokevirtual 118, 3) := by decide +kernel
theorem dX2_trustBy_37 : decode cX2_trustBy 37 = .ok (.bipush 111, 2) := by decide +kernel
theorem dX2_trustBy_39 : decode cX2_trustBy 39 = .ok (.iload_n 2, 1) := by decide +kernel
theorem dX2_trustBy_40 : decode cX2_trustBy 40 = .ok (.invokevirtual 118, 3) := by decide +kernel
theorem dX2_trustBy_43 : decode cX2_trustBy 43 = .ok (.bipush 110, 2) := by decide +kernel
theorem dX2_trustBy_45 : decode cX2_trustBy 45 = .ok (.iload_n 3, 1) := by decide +kernel
theorem dX2_trustBy_46 : decode cX2_trustBy 46 = .ok (.invokevirtual 118, 3) := by decide +kernel
theorem dX2_trustBy_49 : decode cX2_trustBy 49 = .ok (.invokevirtual 122, 3) := by decide +kernel
theorem dX2_trustBy_52 : decode cX2_trustBy 52 = .ok (.istore 4, 2) := by decide +kernel
theorem dX2_trustBy_54 : decode cX2_trustBy 54 = .ok (.iload 4, 2) := by decide +kernel
theorem dX2_trustBy_56 : decode cX2_trustBy 56 = .ok (.sipush (-999), 3) := by decide +kernel
theorem dX2_trustBy_59 : decode cX2_trustBy 59 = .ok (.sipush 999, 3) := by decide +kernel
theorem dX2_trustBy_62 : decode cX2_trustBy 62 = .ok (.invokestatic 126, 3) := by decide +kernel
theorem dX2_trustBy_65 : decode cX2_trustBy 65 = .ok (.ireturn, 1) := by decide +kernel
theorem w_T_trustBy {l : Launch} {D : va_G} {cA : Nat → ClassId} {ks : List Nat} {ad : Nat → Nat} {A : Nat → Prop} (hO : klOk A ks ad) {t : Nat} (ht : t < 3) {st st' : CS} {x1 : Int32} {x2 : Int32} {x3 : Int32} {r0 : Int32} (h : T_trustBy t st x1 x2 x3 = some (r0, st')) : cV l yX2_trustBy cX2_trustBy 5 (some .int) 62 D cA ks ad A st [.ref (ad (20 * t)), .int x1, .int x2, .int x3] (some (.int r0)) st' := by
  refine cc_ofV (own := RX2) (by decide) rfl (Nat.le_of_ble_eq_true rfl) (fun p e s m below meth c R args ls C hr hlk hP hS hl hcs => ?_)
  have hx := C.1
  have hb := C.2.1
  have hown := C.2.2.2.1
  have hNst := C.2.2.2.2.2.2.2.1
  have hl : lv_has ls 5 [(0, .ref (ad (20 * t))), (1, .int x1), (2, .int x2), (3, .int x3)] := hl
  rw [T_trustBy] at h
  refine lv_bipush (v := 10) hx hb dX2_trustBy_0 (by decide) ?_
  refine lv_iload_n hx hb dX2_trustBy_2 rfl (lv_at hl 3 rfl) ?_
  refine lv_imul hx hb dX2_trustBy_3 ?_
  refine lv_iconst (v := 5) hx hb dX2_trustBy_4 (by decide) ?_
  refine lv_iload_n hx hb dX2_trustBy_5 rfl (lv_at hl 2 rfl) ?_
  refine lv_imul hx hb dX2_trustBy_6 ?_
  refine lv_isub hx hb dX2_trustBy_7 ?_
  refine lv_iload_n hx hb dX2_trustBy_8 rfl (lv_at hl 1 rfl) ?_
  refine lv_isub hx hb dX2_trustBy_9 ?_
  refine lv_istore (lv' := [(4, .int (((10 * x3) - (5 * x2)) - x1)), (0, .ref (ad (20 * t))), (1, .int x1), (2, .int x2), (3, .int x3)]) hx hb dX2_trustBy_10 hl (by decide) rfl (fun ls hl => ?_)
  refine lv_aload_n hx hb dX2_trustBy_12 rfl (lv_at hl 1 rfl) ?_
  refine tg_text (t := t) C hO ht hP dX2_trustBy_13 ?_
  refine lv_iconst (v := 1) hx hb dX2_trustBy_16 (by decide) ?_
  obtain ⟨r1, hr1, h⟩ := bd1_some h
  refine cc_ald C hP 5 (hO.2.2.2 _ (tk_ 18 ht (by decide))) (cg_t 18 ht (by decide)) rfl hr1 dX2_trustBy_17 ?_
  rcases r1 with _ | a2
  · rw [onq_none] at h
    refine lv_ifnullN (tgt := 54) hx hb dX2_trustBy_18 rfl ?_
    refine lv_iload hx hb dX2_trustBy_54 (lv_at hl 0 rfl) ?_
    refine lv_sipush (v := (-999)) hx hb dX2_trustBy_56 (by decide) ?_
    refine lv_sipush (v := 999) hx hb dX2_trustBy_59 (by decide) ?_
    obtain ⟨v3, hv3, h⟩ := bd1_some h
    refine k_L_held hx hb C.2.2.1 hown C.2.2.2.2.1 C.2.2.2.2.2.1 q691 hv3 (Nat.le_of_ble_eq_true rfl) hl.1 (Nat.le_of_ble_eq_true rfl) hcs dX2_trustBy_62 ?_
    exact cc_viret hx hb hr hlk h hP hS dX2_trustBy_65
  · rw [onq_some] at h
    refine lv_ifnull hx hb dX2_trustBy_18 ?_
    refine lv_aload_n hx hb dX2_trustBy_21 rfl (lv_at hl 1 rfl) ?_
    refine tg_text (t := t) C hO ht hP dX2_trustBy_22 ?_
    refine lv_iconst (v := 1) hx hb dX2_trustBy_25 (by decide) ?_
    obtain ⟨r4, hr4, h⟩ := bd1_some h
    refine cc_ald C hP 5 (hO.2.2.2 _ (tk_ 18 ht (by decide))) (cg_t 18 ht (by decide)) rfl hr4 dX2_trustBy_26 ?_
    rcases r4 with _ | a5
    · exact non_some h
    · rw [onq_some] at h
      have hla5 := ref_live hP hr4 (tk_ 18 ht (by decide)) (tk61 ht) (tk68 ht)
      refine lv_aload_n hx hb dX2_trustBy_27 rfl (lv_at hl 1 rfl) ?_
      refine tg_names (t := t) C hO ht hP dX2_trustBy_28 ?_
      refine lv_bipush (v := 100) hx hb dX2_trustBy_31 (by decide) ?_
      refine lv_iload_n hx hb dX2_trustBy_33 rfl (lv_at hl 2 rfl) ?_
      obtain ⟨st6, hst6, h⟩ := bd1_some h
      refine k_with (t := t) C hO ht hP hS hst6 q667 (Nat.le_of_ble_eq_true rfl) hl.1 (Nat.le_of_ble_eq_true rfl) hcs dX2_trustBy_34 (fun H locs hP hS => ?_)
      refine lv_bipush (v := 111) hx hb dX2_trustBy_37 (by decide) ?_
      refine lv_iload_n hx hb dX2_trustBy_39 rfl (lv_at hl 3 rfl) ?_
      obtain ⟨st7, hst7, h⟩ := bd1_some h
      refine k_with (t := t) C hO ht hP hS hst7 q667 (Nat.le_of_ble_eq_true rfl) hl.1 (Nat.le_of_ble_eq_true rfl) hcs dX2_trustBy_40 (fun H locs hP hS => ?_)
      refine lv_bipush (v := 110) hx hb dX2_trustBy_43 (by decide) ?_
      refine lv_iload_n hx hb dX2_trustBy_45 rfl (lv_at hl 4 rfl) ?_
      obtain ⟨st8, hst8, h⟩ := bd1_some h
      refine k_with (t := t) C hO ht hP hS hst8 q667 (Nat.le_of_ble_eq_true rfl) hl.1 (Nat.le_of_ble_eq_true rfl) hcs dX2_trustBy_46 (fun H locs hP hS => ?_)
      obtain ⟨v9, hv9, h⟩ := bd1_some h
      refine k_tmV (t := t) hO ht 60 a5 v9 hv9 hla5 C hP hS.1 q671 (Nat.le_of_ble_eq_true rfl) hl.1 (Nat.le_of_ble_eq_true rfl) hcs dX2_trustBy_49 ?_
      refine lv_istore (lv' := [(4, .int v9), (0, .ref (ad (20 * t))), (1, .int x1), (2, .int x2), (3, .int x3)]) hx hb dX2_trustBy_52 hl (by decide) rfl (fun ls hl => ?_)
      refine lv_iload hx hb dX2_trustBy_54 (lv_at hl 0 rfl) ?_
      refine lv_sipush (v := (-999)) hx hb dX2_trustBy_56 (by decide) ?_
      refine lv_sipush (v := 999) hx hb dX2_trustBy_59 (by decide) ?_
      obtain ⟨v10, hv10, h⟩ := bd1_some h
      refine k_L_held hx hb C.2.2.1 hown C.2.2.2.2.1 C.2.2.2.2.2.1 q691 hv10 (Nat.le_of_ble_eq_true rfl) hl.1 (Nat.le_of_ble_eq_true rfl) hcs dX2_trustBy_62 ?_
      exact cc_viret hx hb hr hlk h hP hS dX2_trustBy_65
theorem q666 : (Jvm.Cond.code ({ cls := "ChapterLoan$Town", name := "trustBy", desc := "(III)I" } : Jvm.MethodName) prog_23_method_5_code (5 : Nat) (Option.some Jvm.ClassFile.FieldType.int)) ∈ lw_all := lw_g (lw_at lw_m3 102 rfl) rfl
theorem q664 : (Jvm.Cond.instanceMethod ({ cls := "ChapterLoan$Town", name := "trustBy", desc := "(III)I" } : Jvm.MethodName)) ∈ lw_all := lw_g (lw_at lw_m3 100 rfl) rfl
theorem q665 : (Jvm.Cond.selects "ChapterLoan$Town" ({ cls := "ChapterLoan$Town", name := "trustBy", desc := "(III)I" } : Jvm.MethodName) ({ cls := "ChapterLoan$Town", name := "trustBy", desc := "(III)I" } : Jvm.MethodName)) ∈ lw_all := lw_g (lw_at lw_m3 101 rfl) rfl
theorem k_T_trustBy {a0 : Int32} {a1 : Int32} {a2 : Int32} {v : Int32} {st' : CS} (C : cC p R d s m args c cc nL own D cA A) (hO : klOk A ks ad) (ht : t < 3) (hP : cW D cA ks ad st H) (hS : va_S A s.heap H locs) (h : T_trustBy t st a0 a1 a2 = some (v, st')) (hl : Cond.methodLink own index yX2_trustBy ∈ lw_all) (hd : 62 + 1 ≤ d) (hsz : ls.size = nL) (hW : (rest.map fun v => v.category).sum ≤ 8) (hcs : cells ≤ R.cells ∧ slots ≤ R.slots) (hdg : decode cc pc = .ok (.invokevirtual index, 3)) (kk : ∀ (H1 : Heap) (locs1 : List Loc), cW D cA ks ad st' H1 → va_S A s.heap H1 locs1 → W p l e R s m args below meth c H1 locs1 cells slots Q (F0 m (pc + 3) ls (.int v :: rest))) : W p l e R s m args below meth c H locs cells slots Q (F0 m pc ls (.int a2 :: .int a1 :: .int a0 :: .ref (ad (20 * t)) :: rest)) :=
  cc_cV (As := [.int a0, .int a1, .int a2]) C hP hS (w_T_trustBy hO ht h) (cwV 3 C.2.2.2.2.1 (lw_V hl q664 q665 q90 q666) rfl rfl rfl (by decide +kernel) (mr_ C.2.2.2.2.2.1 hd (by decide))) (cc_recv C hP (hO.2.2.2 _ (tk0 ht)) (cg_t0 ht) (q := (RX2, TX2, 27)) rfl) rfl hsz rfl hW hdg hcs kk
abbrev cX2_may : ByteArray := prog_23_method_9_code
def yX2_may : MethodName := ⟨RX2, "may", "(II)Z"⟩
theorem dX2_may_0 : decode cX2_may 0 = .ok (.aload_n 0, 1) := by decide +kernel
theorem dX2_may_1 : decode cX2_may 1 = .ok (.iload_n 1, 1) := by decide +kernel
theorem dX2_may_2 : decode cX2_may 2 = .ok (.invokevirtual 133, 3) := by decide +kernel
theorem dX2_may_5 : decode cX2_may 5 = .ok (.istore_n 3, 1) := by decide +kernel
theorem dX2_may_6 : decode cX2_may 6 = .ok (.aload_n 0, 1) := by decide +kernel
theorem dX2_may_7 : decode cX2_may 7 = .ok (.getfield 9, 3) := by decide +kernel
theorem dX2_may_10 : decode cX2_may 10 = .ok (.iload_n 2, 1) := by decide +kernel
theorem dX2_may_11 : decode cX2_may 11 = .ok (.iaload, 1) := by decide +kernel
theorem dX2_may_12 : decode cX2_may 12 = .ok (.iload_n 3, 1) := by decide +kernel
theorem dX2_may_13 : decode cX2_may 13 = .ok (.iconst (-1), 1) := by decide +kernel
theorem dX2_may_14 : decode cX2_may 14 = .ok (.ixor, 1) := by decide +kernel
theorem dX2_may_15 : decode cX2_may 15 = .ok (.iand, 1) := by decide +kernel
theorem dX2_may_16 : decode cX2_may 16 = .ok (.invokestatic 141, 3) := by decide +kernel
theorem dX2_may_19 : decode cX2_may 19 = .ok (.istore 4, 2) := by decide +kernel
theorem dX2_may_21 : decode cX2_may 21 = .ok (.iload_n 3, 1) := by decide +kernel
theorem dX2_may_22 : decode cX2_may 22 = .ok (.iload_n 2, 1) := by decide +kernel
theorem dX2_may_23 : decode cX2_may 23 = .ok (.invokestatic 137, 3) := by decide +kernel
theorem dX2_may_26 : decode cX2_may 26 = .ok (.ifCond .ne 44, 3) := by decide +kernel
theorem dX2_may_29 : decode cX2_may 29 = .ok (.aload_n 0, 1) := by decide +kernel
theorem dX2_may_30 : decode cX2_may 30 = .ok (.getfield 29, 3) := by decide +kernel
theorem dX2_may_33 : decode cX2_may 33 = .ok (.iload_n 1, 1) := by decide +kernel
theorem dX2_may_34 : decode cX2_may 34 = .ok (.aaload, 1) := by decide +kernel
theorem dX2_may_35 : decode cX2_may 35 = .ok (.iload_n 2, 1) := by decide +kernel
theorem dX2_may_36 : decode cX2_may 36 = .ok (.iload 4, 2) := by decide +kernel
theorem dX2_may_38 : decode cX2_may 38 = .ok (.aload_n 0, 1) := by decide +kernel
theorem dX2_may_39 : decode cX2_may 39 = .ok (.getfield 15, 3) := by decide +kernel
theorem dX2_may_42 : decode cX2_may 42 = .ok (.iload_n 2, 1) := by decide +kernel
theorem dX2_may_43 : decode cX2_may 43 = .ok (.iaload, 1) := by decide +kernel
theorem dX2_may_44 : decode cX2_may 44 = .ok (.iload_n 3, 1) := by decide +kernel
theorem dX2_may_45 : decode cX2_may 45 = .ok (.iand, 1) := by decide +kernel
theorem dX2_may_46 : decode cX2_may 46 = .ok (.ifCond .ne 7, 3) := by decide +kernel
theorem dX2_may_49 : decode cX2_may 49 = .ok (.iconst 1, 1) := by decide +kernel
theorem dX2_may_50 : decode cX2_may 50 = .ok (.goto 4, 3) := by decide +kernel
theorem dX2_may_53 : decode cX2_may 53 = .ok (.iconst 0, 1) := by decide +kernel
theorem dX2_may_54 : decode cX2_may 54 = .ok (.aload_n 0, 1) := by decide +kernel
theorem dX2_may_55 : decode cX2_may 55 = .ok (.iload_n 1, 1) := by decide +kernel
theorem dX2_may_56 : decode cX2_may 56 = .ok (.iload_n 2, 1) := by decide +kernel
theorem dX2_may_57 : decode cX2_may 57 = .ok (.invokevirtual 146, 3) := by decide +kernel
theorem dX2_may_60 : decode cX2_may 60 = .ok (.invokevirtual 149, 3) := by decide +kernel
theorem dX2_may_63 : decode cX2_may 63 = .ok (.ifCond .eq 7, 3) := by decide +kernel
theorem dX2_may_66 : decode cX2_may 66 = .ok (.iconst 1, 1) := by decide +kernel
theorem dX2_may_67 : decode cX2_may 67 = .ok (.goto 4, 3) := by decide +kernel
theorem dX2_may_70 : decode cX2_may 70 = .ok (.iconst 0, 1) := by decide +kernel
theorem dX2_may_71 : decode cX2_may 71 = .ok (.ireturn, 1) := by decide +kernel
theorem q616 : (Jvm.Cond.methodLink "ChapterLoan$Town" (141 : Nat) ({ cls := "java/lang/Integer", name := "bitCount", desc := "(I)I" } : Jvm.MethodName)) ∈ lw_all := lw_g (lw_at lw_m3 52 rfl) rfl
theorem q623 : (Jvm.Cond.methodLink "ChapterLoan$Town" (146 : Nat) ({ cls := "ChapterLoan$Town", name := "isElsewhere", desc := "(II)Z" } : Jvm.MethodName)) ∈ lw_all := lw_g (lw_at lw_m3 59 rfl) rfl
theorem q627 : (Jvm.Cond.methodLink "ChapterLoan$Town" (149 : Nat) ({ cls := "ChapterLoan$Debtor", name := "may", desc := "(IIZZ)Z" } : Jvm.MethodName)) ∈ lw_all := lw_g (lw_at lw_m3 63 rfl) rfl
theorem w_T_may {l : Launch} {D : va_G} {cA : Nat → ClassId} {ks : List Nat} {ad : Nat → Nat} {A : Nat → Prop} (hO : klOk A ks ad) {t : Nat} (ht : t < 3) {st : CS} {N : Nat} {x1 : Int32} {x2 : Int32} {r : Int32} (h : T_may t N st x1 x2 = some r) : cR l yX2_may cX2_may 5 (some .boolean) 3 D cA ks ad A st [.ref (ad (20 * t)), .int x1, .int x2] r := by
  refine cc_ofR (own := RX2) (by decide) rfl (Nat.le_of_ble_eq_true rfl) (fun p e s m below meth c R args ls C hr hlk hP hl hcs => ?_)
  have hx := C.1
  have hb := C.2.1
  have hown := C.2.2.2.1
  have hNst := C.2.2.2.2.2.2.2.1
  have hl : lv_has ls 5 [(0, .ref (ad (20 * t))), (1, .int x1), (2, .int x2)] := hl
  rw [T_may] at h
  refine lv_aload_n hx hb dX2_may_0 rfl (lv_at hl 0 rfl) ?_
  refine lv_iload_n hx hb dX2_may_1 rfl (lv_at hl 1 rfl) ?_
  obtain ⟨v1, hv1, h⟩ := bd1_some h
  refine k_T_told (t := t) C hO ht hP hv1 q615 (Nat.le_of_ble_eq_true rfl) (Nat.le_refl _) hl.1 (Nat.le_of_ble_eq_true rfl) hcs dX2_may_2 ?_
  refine lv_istore_n (lv' := [(3, .int v1), (0, .ref (ad (20 * t))), (1, .int x1), (2, .int x2)]) hx hb dX2_may_5 rfl hl (by decide) rfl (fun ls hl => ?_)
  refine lv_aload_n hx hb dX2_may_6 rfl (lv_at hl 1 rfl) ?_
  refine tg_needs (t := t) C hO ht hP dX2_may_7 ?_
  refine lv_iload_n hx hb dX2_may_10 rfl (lv_at hl 3 rfl) ?_
  obtain ⟨v2, hv2, h⟩ := bd1_some h
  refine cc_ild C hP (hO.2.2.2 _ (tk_ 1 ht (by decide))) (cg_t 1 ht (by decide)) hv2 dX2_may_11 ?_
  refine lv_iload_n hx hb dX2_may_12 rfl (lv_at hl 0 rfl) ?_
  refine lv_iconst (v := (-1)) hx hb dX2_may_13 (by decide) ?_
  refine lv_ixor hx hb dX2_may_14 ?_
  refine lv_iand hx hb dX2_may_15 ?_
  obtain ⟨v3, hv3, h⟩ := bd1_some h
  refine k_J_bitCount hx hb C.2.2.1 hown C.2.2.2.2.1 C.2.2.2.2.2.1 q616 hv3 (Nat.le_of_ble_eq_true rfl) hl.1 (Nat.le_of_ble_eq_true rfl) hcs dX2_may_16 ?_
  refine lv_istore (lv' := [(4, .int v3), (3, .int v1), (0, .ref (ad (20 * t))), (1, .int x1), (2, .int x2)]) hx hb dX2_may_19 hl (by decide) rfl (fun ls hl => ?_)
  refine lv_iload_n hx hb dX2_may_21 rfl (lv_at hl 1 rfl) ?_
  refine lv_iload_n hx hb dX2_may_22 rfl (lv_at hl 4 rfl) ?_
  obtain ⟨v4, hv4, h⟩ := bd1_some h
  refine k_L_isInN hx hb C.2.2.1 hown C.2.2.2.2.1 C.2.2.2.2.2.1 hNst (List.mem_of_getElem? (i := 42) rfl) hv4 (Nat.le_of_ble_eq_true rfl) hl.1 (Nat.le_of_ble_eq_true rfl) hcs dX2_may_23 ?_
  refine lv_if_ne (tgt := 70) hx hb dX2_may_26 rfl (fun c5 => ?_) (fun c5 => ?_)
  · have h := if_some_f h c5
    refine lv_iconst (v := 0) hx hb dX2_may_70 (by decide) ?_
    exact mm_zret hx hb hr hlk rfl h dX2_may_71
  · have h := if_some_t h c5
    refine lv_aload_n hx hb dX2_may_29 rfl (lv_at hl 2 rfl) ?_
    refine tg_debtor (t := t) C hO ht hP dX2_may_30 ?_
    refine lv_iload_n hx hb dX2_may_33 rfl (lv_at hl 3 rfl) ?_
    obtain ⟨r6, hr6, h⟩ := bd1_some h
    refine cc_ald C hP 4 (hO.2.2.2 _ (tk_ 17 ht (by decide))) (cg_t 17 ht (by decide)) rfl hr6 dX2_may_34 ?_
    rcases r6 with _ | a7
    · exact non_some h
    · rw [onq_some] at h
      have hla7 := ref_live hP hr6 (tk_ 17 ht (by decide)) (tk61 ht) (tk68 ht)
      refine lv_iload_n hx hb dX2_may_35 rfl (lv_at hl 4 rfl) ?_
      refine lv_iload hx hb dX2_may_36 (lv_at hl 0 rfl) ?_
      refine lv_aload_n hx hb dX2_may_38 rfl (lv_at hl 2 rfl) ?_
      refine tg_clashes (t := t) C hO ht hP dX2_may_39 ?_
      refine lv_iload_n hx hb dX2_may_42 rfl (lv_at hl 4 rfl) ?_
      obtain ⟨v8, hv8, h⟩ := bd1_some h
      refine cc_ild C hP (hO.2.2.2 _ (tk_ 2 ht (by decide))) (cg_t 2 ht (by decide)) hv8 dX2_may_43 ?_
      refine lv_iload_n hx hb dX2_may_44 rfl (lv_at hl 1 rfl) ?_
      refine lv_iand hx hb dX2_may_45 ?_
      refine lv_if_ne (tgt := 53) hx hb dX2_may_46 rfl (fun c9 => ?_) (fun c9 => ?_)
      · have h := if_some_f h c9
        refine lv_iconst (v := 0) hx hb dX2_may_53 (by decide) ?_
        refine lv_aload_n hx hb dX2_may_54 rfl (lv_at hl 2 rfl) ?_
        refine lv_iload_n hx hb dX2_may_55 rfl (lv_at hl 3 rfl) ?_
        refine lv_iload_n hx hb dX2_may_56 rfl (lv_at hl 4 rfl) ?_
        obtain ⟨v10, hv10, h⟩ := bd1_some h
        refine k_T_isElsewhere (t := t) C hO ht hP hv10 q623 (Nat.le_of_ble_eq_true rfl) (Nat.le_refl _) hl.1 (Nat.le_of_ble_eq_true rfl) hcs dX2_may_57 ?_
        obtain ⟨k11, tr12, dn13, dm14, hdk11, h⟩ := bd4_some h
        have hbk11 : dbAt ks ad st.2.2.2 a7 k11 tr12 dn13 dm14 := ⟨hla7, dvOf_some hdk11⟩
        obtain ⟨v15, hv15, h⟩ := bd1_some h
        refine k_D_may C hP (Nat.le_refl _) hbk11 hv15 q627 (Nat.le_of_ble_eq_true rfl) hl.1 (Nat.le_of_ble_eq_true rfl) hcs dX2_may_60 ?_
        refine lv_if_eq (tgt := 70) hx hb dX2_may_63 rfl (fun c16 => ?_) (fun c16 => ?_)
        · have h := if_some_t h c16
          refine lv_iconst (v := 0) hx hb dX2_may_70 (by decide) ?_
          exact mm_zret hx hb hr hlk rfl h dX2_may_71
        · have h := if_some_f h c16
          refine lv_iconst (v := 1) hx hb dX2_may_66 (by decide) ?_
          refine lv_goto (tgt := 71) hx hb dX2_may_67 rfl ?_
          exact mm_zret hx hb hr hlk rfl h dX2_may_71
      · have h := if_some_t h c9
        refine lv_iconst (v := 1) hx hb dX2_may_49 (by decide) ?_
        refine lv_goto (tgt := 54) hx hb dX2_may_50 rfl ?_
        refine lv_aload_n hx hb dX2_may_54 rfl (lv_at hl 2 rfl) ?_
        refine lv_iload_n hx hb dX2_may_55 rfl (lv_at hl 3 rfl) ?_
        refine lv_iload_n hx hb dX2_may_56 rfl (lv_at hl 4 rfl) ?_
        obtain ⟨v17, hv17, h⟩ := bd1_some h
        refine k_T_isElsewhere (t := t) C hO ht hP hv17 q623 (Nat.le_of_ble_eq_true rfl) (Nat.le_refl _) hl.1 (Nat.le_of_ble_eq_true rfl) hcs dX2_may_57 ?_
        obtain ⟨k18, tr19, dn20, dm21, hdk18, h⟩ := bd4_some h
        have hbk18 : dbAt ks ad st.2.2.2 a7 k18 tr19 dn20 dm21 := ⟨hla7, dvOf_some hdk18⟩
        obtain ⟨v22, hv22, h⟩ := bd1_some h
        refine k_D_may C hP (Nat.le_refl _) hbk18 hv22 q627 (Nat.le_of_ble_eq_true rfl) hl.1 (Nat.le_of_ble_eq_true rfl) hcs dX2_may_60 ?_
        refine lv_if_eq (tgt := 70) hx hb dX2_may_63 rfl (fun c23 => ?_) (fun c23 => ?_)
        · have h := if_some_t h c23
          refine lv_iconst (v := 0) hx hb dX2_may_70 (by decide) ?_
          exact mm_zret hx hb hr hlk rfl h dX2_may_71
        · have h := if_some_f h c23
          refine lv_iconst (v := 1) hx hb dX2_may_66 (by decide) ?_
          refine lv_goto (tgt := 71) hx hb dX2_may_67 rfl ?_
          exact mm_zret hx hb hr hlk rfl h dX2_may_71
theorem q614 : (Jvm.Cond.code ({ cls := "ChapterLoan$Town", name := "may", desc := "(II)Z" } : Jvm.MethodName) prog_23_method_9_code (5 : Nat) (Option.some Jvm.ClassFile.FieldType.boolean)) ∈ lw_all := lw_g (lw_at lw_m3 50 rfl) rfl
theorem q612 : (Jvm.Cond.instanceMethod ({ cls := "ChapterLoan$Town", name := "may", desc := "(II)Z" } : Jvm.MethodName)) ∈ lw_all := lw_g (lw_at lw_m3 48 rfl) rfl
theorem q613 : (Jvm.Cond.selects "ChapterLoan$Town" ({ cls := "ChapterLoan$Town", name := "may", desc := "(II)Z" } : Jvm.MethodName) ({ cls := "ChapterLoan$Town", name := "may", desc := "(II)Z" } : Jvm.MethodName)) ∈ lw_all := lw_g (lw_at lw_m3 49 rfl) rfl
theorem k_T_may {N : Nat} {a0 : Int32} {a1 : Int32} {v : Int32} (C : cC p R d s m args c cc nL own D cA A) (hO : klOk A ks ad) (ht : t < 3) (hP : cW D cA ks ad st H) (h : T_may t N st a0 a1 = some v) (hl : Cond.methodLink own index yX2_may ∈ lw_all) (hd : 3 + 1 ≤ d) (hz : s.heap.size ≤ H.size) (hsz : ls.size = nL) (hW : (rest.map fun v => v.category).sum ≤ 8) (hcs : cells ≤ R.cells ∧ slots ≤ R.slots) (hdg : decode cc pc = .ok (.invokevirtual index, 3)) (kk : W p l e R s m args below meth c H locs cells slots Q (F0 m (pc + 3) ls (.int v :: rest))) : W p l e R s m args below meth c H locs cells slots Q (F0 m pc ls (.int a1 :: .int a0 :: .ref (ad (20 * t)) :: rest)) :=
  cc_cR (As := [.int a0, .int a1]) C hP hz (w_T_may hO ht h) (cwV 2 C.2.2.2.2.1 (lw_V hl q612 q613 q90 q614) rfl rfl rfl (by decide +kernel) (mr_ C.2.2.2.2.2.1 hd (by decide))) (cc_recv C hP (hO.2.2.2 _ (tk0 ht)) (cg_t0 ht) (q := (RX2, TX2, 27)) rfl) rfl hsz rfl hW hdg hcs kk
abbrev cX2_mayAll : ByteArray := prog_23_method_10_code
def yX2_mayAll : MethodName := ⟨RX2, "mayAll", "(I)I"⟩
theorem dX2_mayAll_0 : decode cX2_mayAll 0 = .ok (.iconst 0, 1) := by decide +kernel
theorem dX2_mayAll_1 : decode cX2_mayAll 1 = .ok (.istore_n 2, 1) := by decide +kernel
theorem dX2_mayAll_2 : decode cX2_mayAll 2 = .ok (.iconst 0, 1) := by decide +kernel
theorem dX2_mayAll_3 : decode cX2_mayAll 3 = .ok (.istore_n 3, 1) := by decide +kernel
theorem dX2_mayAll_4 : decode cX2_mayAll 4 = .ok (.iload_n 3, 1) := by decide +kernel
theorem dX2_mayAll_5 : decode cX2_mayAll 5 = .ok (.aload_n 0, 1) := by decide +kernel
theorem dX2_mayAll_6 : decode cX2_mayAll 6 = .ok (.getfield 85, 3) := by decide +kernel
theorem dX2_mayAll_9 : decode cX2_mayAll 9 = .ok (.if_icmp .ge 28, 3) := by decide +kernel
theorem dX2_mayAll_12 : decode cX2_mayAll 12 = .ok (.iload_n 2, 1) := by decide +kernel
theorem dX2_mayAll_13 : decode cX2_mayAll 13 = .ok (.aload_n 0, 1) := by decide +kernel
theorem dX2_mayAll_14 : decode cX2_mayAll 14 = .ok (.iload_n 1, 1) := by decide +kernel
theorem dX2_mayAll_15 : decode cX2_mayAll 15 = .ok (.iload_n 3, 1) := by decide +kernel
theorem dX2_mayAll_16 : decode cX2_mayAll 16 = .ok (.invokevirtual 153, 3) := by decide +kernel
theorem dX2_mayAll_19 : decode cX2_mayAll 19 = .ok (.ifCond .eq 9, 3) := by decide +kernel
theorem dX2_mayAll_22 : decode cX2_mayAll 22 = .ok (.iconst 1, 1) := by decide +kernel
theorem dX2_mayAll_23 : decode cX2_mayAll 23 = .ok (.iload_n 3, 1) := by decide +kernel
theorem dX2_mayAll_24 : decode cX2_mayAll 24 = .ok (.ishl, 1) := by decide +kernel
theorem dX2_mayAll_25 : decode cX2_mayAll 25 = .ok (.goto 4, 3) := by decide +kernel
theorem dX2_mayAll_28 : decode cX2_mayAll 28 = .ok (.iconst 0, 1) := by decide +kernel
theorem dX2_mayAll_29 : decode cX2_mayAll 29 = .ok (.ior, 1) := by decide +kernel
theorem dX2_mayAll_30 : decode cX2_mayAll 30 = .ok (.istore_n 2, 1) := by decide +kernel
theorem dX2_mayAll_31 : decode cX2_mayAll 31 = .ok (.iinc 3 1, 3) := by decide +kernel
theorem dX2_mayAll_34 : decode cX2_mayAll 34 = .ok (.goto (-30), 3) := by decide +kernel
theorem dX2_mayAll_37 : decode cX2_mayAll 37 = .ok (.iload_n 2, 1) := by decide +kernel
theorem dX2_mayAll_38 : decode cX2_mayAll 38 = .ok (.ireturn, 1) := by decide +kernel
theorem q611 : (Jvm.Cond.methodLink "ChapterLoan$Town" (153 : Nat) ({ cls := "ChapterLoan$Town", name := "may", desc := "(II)Z" } : Jvm.MethodName)) ∈ lw_all := lw_g (lw_at lw_m3 47 rfl) rfl
theorem w_T_mayAll {l : Launch} {D : va_G} {cA : Nat → ClassId} {ks : List Nat} {ad : Nat → Nat} {A : Nat → Prop} (hO : klOk A ks ad) {t : Nat} (ht : t < 3) {st : CS} {N : Nat} {x1 : Int32} {r : Int32} (h : T_mayAll t N st x1 = some r) : cR l yX2_mayAll cX2_mayAll 4 (some .int) 4 D cA ks ad A st [.ref (ad (20 * t)), .int x1] r := by
  refine cc_ofR (own := RX2) (by decide) rfl (Nat.le_of_ble_eq_true rfl) (fun p e s m below meth c R args ls C hr hlk hP hl hcs => ?_)
  have hx := C.1
  have hb := C.2.1
  have hown := C.2.2.2.1
  have hNst := C.2.2.2.2.2.2.2.1
  have hl : lv_has ls 4 [(0, .ref (ad (20 * t))), (1, .int x1)] := hl
  have L4 : ∀ (x1 : Int32), ∀ (n : Nat) (x2 : Int32) (x3 : Int32) (z2 : Int32), T_mayAll_L4 N t st x1 n x2 x3 = some z2 → ∀ ls : Array Slot, lv_has ls 4 [(0, .ref (ad (20 * t))), (1, .int x1), (2, .int x2), (3, .int x3)] → (∀ ls : Array Slot, lv_has ls 4 [(2, .int z2)] → mWR p l e R s m args below meth c r (F0 m 37 ls [])) → mWR p l e R s m args below meth c r (F0 m 4 ls []) := by
    intro x1 n
    induction n with
    | zero =>
      intro x2 x3 z2 h
      exact non_some h
    | succ n ih =>
      intro x2 x3 z2 h ls hl kx
      rw [T_mayAll_L4] at h
      refine lv_iload_n hx hb dX2_mayAll_4 rfl (lv_at hl 3 rfl) ?_
      refine lv_aload_n hx hb dX2_mayAll_5 rfl (lv_at hl 0 rfl) ?_
      refine tg_facts (t := t) C hO ht hP dX2_mayAll_6 ?_
      refine lv_icmp_ge (tgt := 37) hx hb dX2_mayAll_9 rfl (fun c1 => ?_) (fun c1 => ?_)
      · have h := if_some_t h c1
        cases h
        exact kx ls (lv_sub hl [2] rfl)
      · have h := if_some_f h c1
        refine lv_iload_n hx hb dX2_mayAll_12 rfl (lv_at hl 2 rfl) ?_
        refine lv_aload_n hx hb dX2_mayAll_13 rfl (lv_at hl 0 rfl) ?_
        refine lv_iload_n hx hb dX2_mayAll_14 rfl (lv_at hl 1 rfl) ?_
        refine lv_iload_n hx hb dX2_mayAll_15 rfl (lv_at hl 3 rfl) ?_
        obtain ⟨v2, hv2, h⟩ := bd1_some h
        refine k_T_may (t := t) C hO ht hP hv2 q611 (Nat.le_of_ble_eq_true rfl) (Nat.le_refl _) hl.1 (Nat.le_of_ble_eq_true rfl) hcs dX2_mayAll_16 ?_
        refine lv_if_eq (tgt := 28) hx hb dX2_mayAll_19 rfl (fun c3 => ?_) (fun c3 => ?_)
        · have h := if_some_t h c3
          refine lv_iconst (v := 0) hx hb dX2_mayAll_28 (by decide) ?_
          refine lv_ior hx hb dX2_mayAll_29 ?_
          refine lv_istore_n (lv' := [(2, .int (x2 ||| 0)), (0, .ref (ad (20 * t))), (1, .int x1), (3, .int x3)]) hx hb dX2_mayAll_30 rfl hl (by decide) rfl (fun ls hl => ?_)
          refine lv_iinc (v := x3 + 1) (lv' := [(3, .int (x3 + 1)), (2, .int (x2 ||| 0)), (0, .ref (ad (20 * t))), (1, .int x1)]) hx hb dX2_mayAll_31 hl (k := 3) rfl rfl (by decide) rfl (fun ls hl => ?_)
          refine lv_goto (tgt := 4) hx hb dX2_mayAll_34 rfl ?_
          exact ih (x2 ||| 0) (x3 + 1) _ h ls (lv_sub hl [2, 3, 1, 0] rfl) kx
        · have h := if_some_f h c3
          refine lv_iconst (v := 1) hx hb dX2_mayAll_22 (by decide) ?_
          refine lv_iload_n hx hb dX2_mayAll_23 rfl (lv_at hl 3 rfl) ?_
          refine lv_ishl hx hb dX2_mayAll_24 ?_
          refine lv_goto (tgt := 29) hx hb dX2_mayAll_25 rfl ?_
          refine lv_ior hx hb dX2_mayAll_29 ?_
          refine lv_istore_n (lv' := [(2, .int (x2 ||| (1 <<< (x3 &&& 31)))), (0, .ref (ad (20 * t))), (1, .int x1), (3, .int x3)]) hx hb dX2_mayAll_30 rfl hl (by decide) rfl (fun ls hl => ?_)
          refine lv_iinc (v := x3 + 1) (lv' := [(3, .int (x3 + 1)), (2, .int (x2 ||| (1 <<< (x3 &&& 31)))), (0, .ref (ad (20 * t))), (1, .int x1)]) hx hb dX2_mayAll_31 hl (k := 3) rfl rfl (by decide) rfl (fun ls hl => ?_)
          refine lv_goto (tgt := 4) hx hb dX2_mayAll_34 rfl ?_
          exact ih (x2 ||| (1 <<< (x3 &&& 31))) (x3 + 1) _ h ls (lv_sub hl [2, 3, 1, 0] rfl) kx
  rw [T_mayAll] at h
  refine lv_iconst (v := 0) hx hb dX2_mayAll_0 (by decide) ?_
  refine lv_istore_n (lv' := [(2, .int 0), (0, .ref (ad (20 * t))), (1, .int x1)]) hx hb dX2_mayAll_1 rfl hl (by decide) rfl (fun ls hl => ?_)
  refine lv_iconst (v := 0) hx hb dX2_mayAll_2 (by decide) ?_
  refine lv_istore_n (lv' := [(3, .int 0), (2, .int 0), (0, .ref (ad (20 * t))), (1, .int x1)]) hx hb dX2_mayAll_3 rfl hl (by decide) rfl (fun ls hl => ?_)
  obtain ⟨z4, hz5, h⟩ := bd1_some h
  refine L4 x1 N 0 0 _ hz5 ls (lv_sub hl [2, 3, 1, 0] rfl) (fun ls hl => ?_)
  refine lv_iload_n hx hb dX2_mayAll_37 rfl (lv_at hl 0 rfl) ?_
  exact mm_iret hx hb hr hlk h dX2_mayAll_38
theorem q610 : (Jvm.Cond.code ({ cls := "ChapterLoan$Town", name := "mayAll", desc := "(I)I" } : Jvm.MethodName) prog_23_method_10_code (4 : Nat) (Option.some Jvm.ClassFile.FieldType.int)) ∈ lw_all := lw_g (lw_at lw_m3 46 rfl) rfl
theorem q608 : (Jvm.Cond.instanceMethod ({ cls := "ChapterLoan$Town", name := "mayAll", desc := "(I)I" } : Jvm.MethodName)) ∈ lw_all := lw_g (lw_at lw_m3 44 rfl) rfl
theorem q609 : (Jvm.Cond.selects "ChapterLoan$Town" ({ cls := "ChapterLoan$Town", name := "mayAll", desc := "(I)I" } : Jvm.MethodName) ({ cls := "ChapterLoan$Town", name := "mayAll", desc := "(I)I" } : Jvm.MethodName)) ∈ lw_all := lw_g (lw_at lw_m3 45 rfl) rfl
theorem k_T_mayAll {N : Nat} {a0 : Int32} {v : Int32} (C : cC p R d s m args c cc nL own D cA A) (hO : klOk A ks ad) (ht : t < 3) (hP : cW D cA ks ad st H) (h : T_mayAll t N st a0 = some v) (hl : Cond.methodLink own index yX2_mayAll ∈ lw_all) (hd : 4 + 1 ≤ d) (hz : s.heap.size ≤ H.size) (hsz : ls.size = nL) (hW : (rest.map fun v => v.category).sum ≤ 8) (hcs : cells ≤ R.cells ∧ slots ≤ R.slots) (hdg : decode cc pc = .ok (.invokevirtual index, 3)) (kk : W p l e R s m args below meth c H locs cells slots Q (F0 m (pc + 3) ls (.int v :: rest))) : W p l e R s m args below meth c H locs cells slots Q (F0 m pc ls (.int a0 :: .ref (ad (20 * t)) :: rest)) :=
  cc_cR (As := [.int a0]) C hP hz (w_T_mayAll hO ht h) (cwV 1 C.2.2.2.2.1 (lw_V hl q608 q609 q90 q610) rfl rfl rfl (by decide +kernel) (mr_ C.2.2.2.2.2.1 hd (by decide))) (cc_recv C hP (hO.2.2.2 _ (tk0 ht)) (cg_t0 ht) (q := (RX2, TX2, 27)) rfl) rfl hsz rfl hW hdg hcs kk
abbrev cX2_trust : ByteArray := prog_23_method_16_code
def yX2_trust : MethodName := ⟨RX2, "trust", "(I)I"⟩
theorem dX2_trust_0 : decode cX2_trust 0 = .ok (.aload_n 0, 1) := by decide +kernel
theorem dX2_trust_1 : decode cX2_trust 1 = .ok (.aload_n 0, 1) := by decide +kernel
theorem dX2_trust_2 : decode cX2_trust 2 = .ok (.getfield 33, 3) := by decide +kernel
theorem dX2_trust_5 : decode cX2_trust 5 = .ok (.iload_n 1, 1) := by decide +kernel
theorem dX2_trust_6 : decode cX2_trust 6 = .ok (.iaload, 1) := by decide +kernel
theorem dX2_trust_7 : decode cX2_trust 7 = .ok (.aload_n 0, 1) := by decide +kernel
theorem dX2_trust_8 : decode cX2_trust 8 = .ok (.iload_n 1, 1) := by decide +kernel
theorem dX2_trust_9 : decode cX2_trust 9 = .ok (.invokevirtual 168, 3) := by decide +kernel
theorem dX2_trust_12 : decode cX2_trust 12 = .ok (.aload_n 0, 1) := by decide +kernel
theorem dX2_trust_13 : decode cX2_trust 13 = .ok (.getfield 40, 3) := by decide +kernel
theorem dX2_trust_16 : decode cX2_trust 16 = .ok (.iload_n 1, 1) := by decide +kernel
theorem dX2_trust_17 : decode cX2_trust 17 = .ok (.iaload, 1) := by decide +kernel
theorem dX2_trust_18 : decode cX2_trust 18 = .ok (.invokevirtual 171, 3) := by decide +kernel
theorem dX2_trust_21 : decode cX2_trust 21 = .ok (.ireturn, 1) := by decide +kernel
theorem q655 : (Jvm.Cond.methodLink "ChapterLoan$Town" (168 : Nat) ({ cls := "ChapterLoan$Town", name := "open", desc := "(I)I" } : Jvm.MethodName)) ∈ lw_all := lw_g (lw_at lw_m3 91 rfl) rfl
theorem q663 : (Jvm.Cond.methodLink "ChapterLoan$Town" (171 : Nat) ({ cls := "ChapterLoan$Town", name := "trustBy", desc := "(III)I" } : Jvm.MethodName)) ∈ lw_all := lw_g (lw_at lw_m3 99 rfl) rfl
theorem w_T_trust {l : Launch} {D : va_G} {cA : Nat → ClassId} {ks : List Nat} {ad : Nat → Nat} {A : Nat → Prop} (hO : klOk A ks ad) {t : Nat} (ht : t < 3) {st st' : CS} {N : Nat} {x1 : Int32} {r0 : Int32} (h : T_trust t N st x1 = some (r0, st')) : cV l yX2_trust cX2_trust 2 (some .int) 63 D cA ks ad A st [.ref (ad (20 * t)), .int x1] (some (.int r0)) st' := by
  refine cc_ofV (own := RX2) (by decide) rfl (Nat.le_of_ble_eq_true rfl) (fun p e s m below meth c R args ls C hr hlk hP hS hl hcs => ?_)
  have hx := C.1
  have hb := C.2.1
  have hown := C.2.2.2.1
  have hNst := C.2.2.2.2.2.2.2.1
  have hl : lv_has ls 2 [(0, .ref (ad (20 * t))), (1, .int x1)] := hl
  rw [T_trust] at h
  refine lv_aload_n hx hb dX2_trust_0 rfl (lv_at hl 0 rfl) ?_
  refine lv_aload_n hx hb dX2_trust_1 rfl (lv_at hl 0 rfl) ?_
  refine tg_debt (t := t) C hO ht hP dX2_trust_2 ?_
  refine lv_iload_n hx hb dX2_trust_5 rfl (lv_at hl 1 rfl) ?_
  obtain ⟨v1, hv1, h⟩ := bd1_some h
  refine cc_ild C hP (hO.2.2.2 _ (tk_ 6 ht (by decide))) (cg_t 6 ht (by decide)) hv1 dX2_trust_6 ?_
  refine lv_aload_n hx hb dX2_trust_7 rfl (lv_at hl 0 rfl) ?_
  refine lv_iload_n hx hb dX2_trust_8 rfl (lv_at hl 1 rfl) ?_
  obtain ⟨v2, hv2, h⟩ := bd1_some h
  refine k_T_open (t := t) C hO ht hP hv2 q655 (Nat.le_of_ble_eq_true rfl) hS.1 hl.1 (Nat.le_of_ble_eq_true rfl) hcs dX2_trust_9 ?_
  refine lv_aload_n hx hb dX2_trust_12 rfl (lv_at hl 0 rfl) ?_
  refine tg_many (t := t) C hO ht hP dX2_trust_13 ?_
  refine lv_iload_n hx hb dX2_trust_16 rfl (lv_at hl 1 rfl) ?_
  obtain ⟨v3, hv3, h⟩ := bd1_some h
  refine cc_ild C hP (hO.2.2.2 _ (tk_ 8 ht (by decide))) (cg_t 8 ht (by decide)) hv3 dX2_trust_17 ?_
  obtain ⟨v4, st5, hv4, h⟩ := bd2_some h
  refine k_T_trustBy (t := t) C hO ht hP hS hv4 q663 (Nat.le_of_ble_eq_true rfl) hl.1 (Nat.le_of_ble_eq_true rfl) hcs dX2_trust_18 (fun H locs hP hS => ?_)
  exact cc_viret hx hb hr hlk h hP hS dX2_trust_21
theorem q654 : (Jvm.Cond.code ({ cls := "ChapterLoan$Town", name := "trust", desc := "(I)I" } : Jvm.MethodName) prog_23_method_16_code (2 : Nat) (Option.some Jvm.ClassFile.FieldType.int)) ∈ lw_all := lw_g (lw_at lw_m3 90 rfl) rfl
theorem q652 : (Jvm.Cond.instanceMethod ({ cls := "ChapterLoan$Town", name := "trust", desc := "(I)I" } : Jvm.MethodName)) ∈ lw_all := lw_g (lw_at lw_m3 88 rfl) rfl
theorem q653 : (Jvm.Cond.selects "ChapterLoan$Town" ({ cls := "ChapterLoan$Town", name := "trust", desc := "(I)I" } : Jvm.MethodName) ({ cls := "ChapterLoan$Town", name := "trust", desc := "(I)I" } : Jvm.MethodName)) ∈ lw_all := lw_g (lw_at lw_m3 89 rfl) rfl
theorem k_T_trust {N : Nat} {a0 : Int32} {v : Int32} {st' : CS} (C : cC p R d s m args c cc nL own D cA A) (hO : klOk A ks ad) (ht : t < 3) (hP : cW D cA ks ad st H) (hS : va_S A s.heap H locs) (h : T_trust t N st a0 = some (v, st')) (hl : Cond.methodLink own index yX2_trust ∈ lw_all) (hd : 63 + 1 ≤ d) (hsz : ls.size = nL) (hW : (rest.map fun v => v.category).sum ≤ 8) (hcs : cells ≤ R.cells ∧ slots ≤ R.slots) (hdg : decode cc pc = .ok (.invokevirtual index, 3)) (kk : ∀ (H1 : Heap) (locs1 : List Loc), cW D cA ks ad st' H1 → va_S A s.heap H1 locs1 → W p l e R s m args below meth c H1 locs1 cells slots Q (F0 m (pc + 3) ls (.int v :: rest))) : W p l e R s m args below meth c H locs cells slots Q (F0 m pc ls (.int a0 :: .ref (ad (20 * t)) :: rest)) :=
  cc_cV (As := [.int a0]) C hP hS (w_T_trust hO ht h) (cwV 1 C.2.2.2.2.1 (lw_V hl q652 q653 q90 q654) rfl rfl rfl (by decide +kernel) (mr_ C.2.2.2.2.2.1 hd (by decide))) (cc_recv C hP (hO.2.2.2 _ (tk0 ht)) (cg_t0 ht) (q := (RX2, TX2, 27)) rfl) rfl hsz rfl hW hdg hcs kk
abbrev cX2_due : ByteArray := prog_23_method_17_code
def yX2_due : MethodName := ⟨RX2, "due", "(I)I"⟩
theorem dX2_due_0 : decode cX2_due 0 = .ok (.iload_n 1, 1) := by decide +kernel
theorem dX2_due_1 : decode cX2_due 1 = .ok (.aload_n 0, 1) := by decide +kernel
theorem dX2_due_2 : decode cX2_due 2 = .ok (.getfield 82, 3) := by decide +kernel
theorem dX2_due_5 : decode cX2_due 5 = .ok (.if_icmp .ne 10, 3) := by decide +kernel
theorem dX2_due_8 : decode cX2_due 8 = .ok (.aload_n 0, 1) := by decide +kernel
theorem dX2_due_9 : decode cX2_due 9 = .ok (.getfield 174, 3) := by decide +kernel
theorem dX2_due_12 : decode cX2_due 12 = .ok (.goto 12, 3) := by decide +kernel
theorem dX2_due_15 : decode cX2_due 15 = .ok (.aload_n 0, 1) := by decide +kernel
theorem dX2_due_16 : decode cX2_due 16 = .ok (.getfield 29, 3) := by decide +kernel
theorem dX2_due_19 : decode cX2_due 19 = .ok (.iload_n 1, 1) := by decide +kernel
theorem dX2_due_20 : decode cX2_due 20 = .ok (.aaload, 1) := by decide +kernel
theorem dX2_due_21 : decode cX2_due 21 = .ok (.invokevirtual 177, 3) := by decide +kernel
theorem dX2_due_24 : decode cX2_due 24 = .ok (.ireturn, 1) := by decide +kernel
theorem q818 : (Jvm.Cond.methodLink "ChapterLoan$Town" (177 : Nat) ({ cls := "ChapterLoan$Debtor", name := "due", desc := "()I" } : Jvm.MethodName)) ∈ lw_all := lw_g (lw_at lw_m4 14 rfl) rfl
theorem w_T_due {l : Launch} {D : va_G} {cA : Nat → ClassId} {ks : List Nat} {ad : Nat → Nat} {A : Nat → Prop} (hO : klOk A ks ad) {t : Nat} (ht : t < 3) {st : CS} {x1 : Int32} {r : Int32} (h : T_due t st x1 = some r) : cR l yX2_due cX2_due 2 (some .int) 2 D cA ks ad A st [.ref (ad (20 * t)), .int x1] r := by
  refine cc_ofR (own := RX2) (by decide) rfl (Nat.le_of_ble_eq_true rfl) (fun p e s m below meth c R args ls C hr hlk hP hl hcs => ?_)
  have hx := C.1
  have hb := C.2.1
  have hown := C.2.2.2.1
  have hNst := C.2.2.2.2.2.2.2.1
  have hl : lv_has ls 2 [(0, .ref (ad (20 * t))), (1, .int x1)] := hl
  rw [T_due] at h
  refine lv_iload_n hx hb dX2_due_0 rfl (lv_at hl 1 rfl) ?_
  refine lv_aload_n hx hb dX2_due_1 rfl (lv_at hl 0 rfl) ?_
  refine tg_ratedOne (t := t) C hO ht hP dX2_due_2 ?_
  refine lv_icmp_ne (tgt := 15) hx hb dX2_due_5 rfl (fun c1 => ?_) (fun c1 => ?_)
  · have h := if_some_f h c1
    refine lv_aload_n hx hb dX2_due_15 rfl (lv_at hl 0 rfl) ?_
    refine tg_debtor (t := t) C hO ht hP dX2_due_16 ?_
    refine lv_iload_n hx hb dX2_due_19 rfl (lv_at hl 1 rfl) ?_
    obtain ⟨r2, hr2, h⟩ := bd1_some h
    refine cc_ald C hP 4 (hO.2.2.2 _ (tk_ 17 ht (by decide))) (cg_t 17 ht (by decide)) rfl hr2 dX2_due_20 ?_
    rcases r2 with _ | a3
    · exact non_some h
    · rw [onq_some] at h
      have hla3 := ref_live hP hr2 (tk_ 17 ht (by decide)) (tk61 ht) (tk68 ht)
      obtain ⟨k4, tr5, dn6, dm7, hdk4, h⟩ := bd4_some h
      have hbk4 : dbAt ks ad st.2.2.2 a3 k4 tr5 dn6 dm7 := ⟨hla3, dvOf_some hdk4⟩
      obtain ⟨v8, hv8, h⟩ := bd1_some h
      refine k_D_due C hP (Nat.le_refl _) hbk4 hv8 q818 (Nat.le_of_ble_eq_true rfl) hl.1 (Nat.le_of_ble_eq_true rfl) hcs dX2_due_21 ?_
      exact mm_iret hx hb hr hlk h dX2_due_24
  · have h := if_some_t h c1
    refine lv_aload_n hx hb dX2_due_8 rfl (lv_at hl 0 rfl) ?_
    refine tg_rate (t := t) C hO ht hP dX2_due_9 ?_
    refine lv_goto (tgt := 24) hx hb dX2_due_12 rfl ?_
    exact mm_iret hx hb hr hlk h dX2_due_24
theorem q817 : (Jvm.Cond.code ({ cls := "ChapterLoan$Town", name := "due", desc := "(I)I" } : Jvm.MethodName) prog_23_method_17_code (2 : Nat) (Option.some Jvm.ClassFile.FieldType.int)) ∈ lw_all := lw_g (lw_at lw_m4 13 rfl) rfl
theorem q816 : (Jvm.Cond.instanceMethod ({ cls := "ChapterLoan$Town", name := "due", desc := "(I)I" } : Jvm.MethodName)) ∈ lw_all := lw_g (lw_at lw_m4 12 rfl) rfl
theorem k_T_due {a0 : Int32} {v : Int32} (C : cC p R d s m args c cc nL own D cA A) (hO : klOk A ks ad) (ht : t < 3) (hP : cW D cA ks ad st H) (h : T_due t st a0 = some v) (hl : Cond.methodLink own index yX2_due ∈ lw_all) (hd : 2 + 1 ≤ d) (hz : s.heap.size ≤ H.size) (hsz : ls.size = nL) (hW : (rest.map fun v => v.category).sum ≤ 8) (hcs : cells ≤ R.cells ∧ slots ≤ R.slots) (hdg : decode cc pc = .ok (.invokevirtual index, 3)) (kk : W p l e R s m args below meth c H locs cells slots Q (F0 m (pc + 3) ls (.int v :: rest))) : W p l e R s m args below meth c H locs cells slots Q (F0 m pc ls (.int a0 :: .ref (ad (20 * t)) :: rest)) :=
  cc_cR (As := [.int a0]) C hP hz (w_T_due hO ht h) (cwV 1 C.2.2.2.2.1 (lw_V hl q816 qs11 q90 q817) rfl rfl rfl (by decide +kernel) (mr_ C.2.2.2.2.2.1 hd (by decide))) (cc_recv C hP (hO.2.2.2 _ (tk0 ht)) (cg_t0 ht) (q := (RX2, TX2, 27)) rfl) rfl hsz rfl hW hdg hcs kk
abbrev cX2_tells : ByteArray := prog_23_method_15_code
def yX2_tells : MethodName := ⟨RX2, "tells", "(II)V"⟩
theorem dX2_tells_0 : decode cX2_tells 0 = .ok (.aload_n 0, 1) := by decide +kernel
theorem dX2_tells_1 : decode cX2_tells 1 = .ok (.getfield 29, 3) := by decide +kernel
theorem dX2_tells_4 : decode cX2_tells 4 = .ok (.iload_n 1, 1) := by decide +kernel
theorem dX2_tells_5 : decode cX2_tells 5 = .ok (.aaload, 1) := by decide +kernel
theorem dX2_tells_6 : decode cX2_tells 6 = .ok (.aload_n 0, 1) := by decide +kernel
theorem dX2_tells_7 : decode cX2_tells 7 = .ok (.iload_n 2, 1) := by decide +kernel
theorem dX2_tells_8 : decode cX2_tells 8 = .ok (.aload_n 0, 1) := by decide +kernel
theorem dX2_tells_9 : decode cX2_tells 9 = .ok (.getfield 97, 3) := by decide +kernel
theorem dX2_tells_12 : decode cX2_tells 12 = .ok (.aload_n 0, 1) := by decide +kernel
theorem dX2_tells_13 : decode cX2_tells 13 = .ok (.getfield 33, 3) := by decide +kernel
theorem dX2_tells_16 : decode cX2_tells 16 = .ok (.iload_n 1, 1) := by decide +kernel
theorem dX2_tells_17 : decode cX2_tells 17 = .ok (.iaload, 1) := by decide +kernel
theorem dX2_tells_18 : decode cX2_tells 18 = .ok (.invokevirtual 158, 3) := by decide +kernel
theorem dX2_tells_21 : decode cX2_tells 21 = .ok (.invokevirtual 161, 3) := by decide +kernel
theorem dX2_tells_24 : decode cX2_tells 24 = .ok (.istore_n 3, 1) := by decide +kernel
theorem dX2_tells_25 : decode cX2_tells 25 = .ok (.aload_n 0, 1) := by decide +kernel
theorem dX2_tells_26 : decode cX2_tells 26 = .ok (.iload_n 1, 1) := by decide +kernel
theorem dX2_tells_27 : decode cX2_tells 27 = .ok (.iload_n 2, 1) := by decide +kernel
theorem dX2_tells_28 : decode cX2_tells 28 = .ok (.invokevirtual 164, 3) := by decide +kernel
theorem dX2_tells_31 : decode cX2_tells 31 = .ok (.aload_n 0, 1) := by decide +kernel
theorem dX2_tells_32 : decode cX2_tells 32 = .ok (.getfield 33, 3) := by decide +kernel
theorem dX2_tells_35 : decode cX2_tells 35 = .ok (.iload_n 1, 1) := by decide +kernel
theorem dX2_tells_36 : decode cX2_tells 36 = .ok (.iconst 0, 1) := by decide +kernel
theorem dX2_tells_37 : decode cX2_tells 37 = .ok (.aload_n 0, 1) := by decide +kernel
theorem dX2_tells_38 : decode cX2_tells 38 = .ok (.getfield 33, 3) := by decide +kernel
theorem dX2_tells_41 : decode cX2_tells 41 = .ok (.iload_n 1, 1) := by decide +kernel
theorem dX2_tells_42 : decode cX2_tells 42 = .ok (.iaload, 1) := by decide +kernel
theorem dX2_tells_43 : decode cX2_tells 43 = .ok (.iload_n 3, 1) := by decide +kernel
theorem dX2_tells_44 : decode cX2_tells 44 = .ok (.isub, 1) := by decide +kernel
theorem dX2_tells_45 : decode cX2_tells 45 = .ok (.invokestatic 115, 3) := by decide +kernel
theorem dX2_tells_48 : decode cX2_tells 48 = .ok (.iastore, 1) := by decide +kernel
theorem dX2_tells_49 : decode cX2_tells 49 = .ok (.return_, 1) := by decide +kernel
theorem q767 : (Jvm.Cond.methodLink "ChapterLoan$Town" (158 : Nat) ({ cls := "ChapterLoan$Town", name := "payBy", desc := "(III)I" } : Jvm.MethodName)) ∈ lw_all := lw_g (lw_at lw_m3 203 rfl) rfl
theorem q771 : (Jvm.Cond.methodLink "ChapterLoan$Town" (161 : Nat) ({ cls := "ChapterLoan$Debtor", name := "pays", desc := "(I)I" } : Jvm.MethodName)) ∈ lw_all := lw_g (lw_at lw_m3 207 rfl) rfl
theorem q790 : (Jvm.Cond.methodLink "ChapterLoan$Town" (164 : Nat) ({ cls := "ChapterLoan$Town", name := "writes", desc := "(II)V" } : Jvm.MethodName)) ∈ lw_all := lw_g (lw_at lw_m3 226 rfl) rfl
theorem w_T_tells {l : Launch} {D : va_G} {cA : Nat → ClassId} {ks : List Nat} {ad : Nat → Nat} {A : Nat → Prop} (hO : klOk A ks ad) {t : Nat} (ht : t < 3) {st st' : CS} {x1 : Int32} {x2 : Int32} (h : T_tells t st x1 x2 = some st') : cV l yX2_tells cX2_tells 4 none 63 D cA ks ad A st [.ref (ad (20 * t)), .int x1, .int x2] none st' := by
  refine cc_ofV (own := RX2) (by decide) rfl (Nat.le_of_ble_eq_true rfl) (fun p e s m below meth c R args ls C hr hlk hP hS hl hcs => ?_)
  have hx := C.1
  have hb := C.2.1
  have hown := C.2.2.2.1
  have hNst := C.2.2.2.2.2.2.2.1
  have hl : lv_has ls 4 [(0, .ref (ad (20 * t))), (1, .int x1), (2, .int x2)] := hl
  rw [T_tells] at h
  refine lv_aload_n hx hb dX2_tells_0 rfl (lv_at hl 0 rfl) ?_
  refine tg_debtor (t := t) C hO ht hP dX2_tells_1 ?_
  refine lv_iload_n hx hb dX2_tells_4 rfl (lv_at hl 1 rfl) ?_
  obtain ⟨r1, hr1, h⟩ := bd1_some h
  refine cc_ald C hP 4 (hO.2.2.2 _ (tk_ 17 ht (by decide))) (cg_t 17 ht (by decide)) rfl hr1 dX2_tells_5 ?_
  rcases r1 with _ | a2
  · exact non_some h
  · rw [onq_some] at h
    have hla2 := ref_live hP hr1 (tk_ 17 ht (by decide)) (tk61 ht) (tk68 ht)
    refine lv_aload_n hx hb dX2_tells_6 rfl (lv_at hl 0 rfl) ?_
    refine lv_iload_n hx hb dX2_tells_7 rfl (lv_at hl 2 rfl) ?_
    refine lv_aload_n hx hb dX2_tells_8 rfl (lv_at hl 0 rfl) ?_
    refine tg_week (t := t) C hO ht hP dX2_tells_9 ?_
    refine lv_aload_n hx hb dX2_tells_12 rfl (lv_at hl 0 rfl) ?_
    refine tg_debt (t := t) C hO ht hP dX2_tells_13 ?_
    refine lv_iload_n hx hb dX2_tells_16 rfl (lv_at hl 1 rfl) ?_
    obtain ⟨v3, hv3, h⟩ := bd1_some h
    refine cc_ild C hP (hO.2.2.2 _ (tk_ 6 ht (by decide))) (cg_t 6 ht (by decide)) hv3 dX2_tells_17 ?_
    obtain ⟨v4, st5, hv4, h⟩ := bd2_some h
    refine k_T_payBy (t := t) C hO ht hP hS hv4 q767 (Nat.le_of_ble_eq_true rfl) hl.1 (Nat.le_of_ble_eq_true rfl) hcs dX2_tells_18 (fun H locs hP hS => ?_)
    obtain ⟨k6, tr7, dn8, dm9, hdk6, h⟩ := bd4_some h
    have hbk6 : dbAt ks ad st5.2.2.2 a2 k6 tr7 dn8 dm9 := ⟨hla2, dvOf_some hdk6⟩
    obtain ⟨v10, hv10, h⟩ := bd1_some h
    refine k_D_pays C hP hS.1 hbk6 hv10 q771 (Nat.le_of_ble_eq_true rfl) hl.1 (Nat.le_of_ble_eq_true rfl) hcs dX2_tells_21 ?_
    refine lv_istore_n (lv' := [(3, .int v10), (0, .ref (ad (20 * t))), (1, .int x1), (2, .int x2)]) hx hb dX2_tells_24 rfl hl (by decide) rfl (fun ls hl => ?_)
    refine lv_aload_n hx hb dX2_tells_25 rfl (lv_at hl 1 rfl) ?_
    refine lv_iload_n hx hb dX2_tells_26 rfl (lv_at hl 2 rfl) ?_
    refine lv_iload_n hx hb dX2_tells_27 rfl (lv_at hl 3 rfl) ?_
    obtain ⟨st12, hv11, h⟩ := bd1_some h
    refine k_T_writes (t := t) C hO ht hP hS hv11 q790 (Nat.le_of_ble_eq_true rfl) hl.1 (Nat.le_of_ble_eq_true rfl) hcs dX2_tells_28 (fun H locs hP hS => ?_)
    refine lv_aload_n hx hb dX2_tells_31 rfl (lv_at hl 1 rfl) ?_
    refine tg_debt (t := t) C hO ht hP dX2_tells_32 ?_
    refine lv_iload_n hx hb dX2_tells_35 rfl (lv_at hl 2 rfl) ?_
    refine lv_iconst (v := 0) hx hb dX2_tells_36 (by decide) ?_
    refine lv_aload_n hx hb dX2_tells_37 rfl (lv_at hl 1 rfl) ?_
    refine tg_debt (t := t) C hO ht hP dX2_tells_38 ?_
    refine lv_iload_n hx hb dX2_tells_41 rfl (lv_at hl 2 rfl) ?_
    obtain ⟨v13, hv13, h⟩ := bd1_some h
    refine cc_ild C hP (hO.2.2.2 _ (tk_ 6 ht (by decide))) (cg_t 6 ht (by decide)) hv13 dX2_tells_42 ?_
    refine lv_iload_n hx hb dX2_tells_43 rfl (lv_at hl 0 rfl) ?_
    refine lv_isub hx hb dX2_tells_44 ?_
    obtain ⟨v14, hv14, h⟩ := bd1_some h
    refine k_J_max hx hb C.2.2.1 hown C.2.2.2.2.1 C.2.2.2.2.2.1 q697 hv14 (Nat.le_of_ble_eq_true rfl) hl.1 (Nat.le_of_ble_eq_true rfl) hcs dX2_tells_45 ?_
    obtain ⟨b15, hb15, h⟩ := bd1_some h
    refine cc_ist C hO hP hS (hO.2.2.2 _ (tk_ 6 ht (by decide))) (cg_t 6 ht (by decide)) hb15 (cg_At 6 ht (by decide)) hP.2 dX2_tells_48 (fun H locs hP hS => ?_)
    exact cc_vret hx hb hr hlk h hP hS dX2_tells_49
theorem q766 : (Jvm.Cond.code ({ cls := "ChapterLoan$Town", name := "tells", desc := "(II)V" } : Jvm.MethodName) prog_23_method_15_code (4 : Nat) (Option.none : Option Jvm.ClassFile.FieldType)) ∈ lw_all := lw_g (lw_at lw_m3 202 rfl) rfl
theorem q764 : (Jvm.Cond.instanceMethod ({ cls := "ChapterLoan$Town", name := "tells", desc := "(II)V" } : Jvm.MethodName)) ∈ lw_all := lw_g (lw_at lw_m3 200 rfl) rfl
theorem q765 : (Jvm.Cond.selects "ChapterLoan$Town" ({ cls := "ChapterLoan$Town", name := "tells", desc := "(II)V" } : Jvm.MethodName) ({ cls := "ChapterLoan$Town", name := "tells", desc := "(II)V" } : Jvm.MethodName)) ∈ lw_all := lw_g (lw_at lw_m3 201 rfl) rfl
theorem k_T_tells {a0 : Int32} {a1 : Int32} {st' : CS} (C : cC p R d s m args c cc nL own D cA A) (hO : klOk A ks ad) (ht : t < 3) (hP : cW D cA ks ad st H) (hS : va_S A s.heap H locs) (h : T_tells t st a0 a1 = some st') (hl : Cond.methodLink own index yX2_tells ∈ lw_all) (hd : 63 + 1 ≤ d) (hsz : ls.size = nL) (hW : (rest.map fun v => v.category).sum ≤ 8) (hcs : cells ≤ R.cells ∧ slots ≤ R.slots) (hdg : decode cc pc = .ok (.invokevirtual index, 3)) (kk : ∀ (H1 : Heap) (locs1 : List Loc), cW D cA ks ad st' H1 → va_S A s.heap H1 locs1 → W p l e R s m args below meth c H1 locs1 cells slots Q (F0 m (pc + 3) ls (rest))) : W p l e R s m args below meth c H locs cells slots Q (F0 m pc ls (.int a1 :: .int a0 :: .ref (ad (20 * t)) :: rest)) :=
  cc_cV (As := [.int a0, .int a1]) C hP hS (w_T_tells hO ht h) (cwV 2 C.2.2.2.2.1 (lw_V hl q764 q765 q90 q766) rfl rfl rfl (by decide +kernel) (mr_ C.2.2.2.2.2.1 hd (by decide))) (cc_recv C hP (hO.2.2.2 _ (tk0 ht)) (cg_t0 ht) (q := (RX2, TX2, 27)) rfl) rfl hsz rfl hW hdg hcs kk
abbrev cX2_passes : ByteArray := prog_23_method_18_code
def yX2_passes : MethodName := ⟨RX2, "passes", "(I)V"⟩
theorem dX2_passes_0 : decode cX2_passes 0 = .ok (.aload_n 0, 1) := by decide +kernel
theorem dX2_passes_1 : decode cX2_passes 1 = .ok (.getfield 36, 3) := by decide +kernel
theorem dX2_passes_4 : decode cX2_passes 4 = .ok (.iload_n 1, 1) := by decide +kernel
theorem dX2_passes_5 : decode cX2_passes 5 = .ok (.baload, 1) := by decide +kernel
theorem dX2_passes_6 : decode cX2_passes 6 = .ok (.ifCond .ne 12, 3) := by decide +kernel
theorem dX2_passes_9 : decode cX2_passes 9 = .ok (.aload_n 0, 1) := by decide +kernel
theorem dX2_passes_10 : decode cX2_passes 10 = .ok (.getfield 33, 3) := by decide +kernel
theorem dX2_passes_13 : decode cX2_passes 13 = .ok (.iload_n 1, 1) := by decide +kernel
theorem dX2_passes_14 : decode cX2_passes 14 = .ok (.iaload, 1) := by decide +kernel
theorem dX2_passes_15 : decode cX2_passes 15 = .ok (.ifCond .ne 4, 3) := by decide +kernel
theorem dX2_passes_18 : decode cX2_passes 18 = .ok (.return_, 1) := by decide +kernel
theorem dX2_passes_19 : decode cX2_passes 19 = .ok (.aload_n 0, 1) := by decide +kernel
theorem dX2_passes_20 : decode cX2_passes 20 = .ok (.iload_n 1, 1) := by decide +kernel
theorem dX2_passes_21 : decode cX2_passes 21 = .ok (.invokevirtual 181, 3) := by decide +kernel
theorem dX2_passes_24 : decode cX2_passes 24 = .ok (.istore_n 2, 1) := by decide +kernel
theorem dX2_passes_25 : decode cX2_passes 25 = .ok (.iload_n 2, 1) := by decide +kernel
theorem dX2_passes_26 : decode cX2_passes 26 = .ok (.ifCond .le 61, 3) := by decide +kernel
theorem dX2_passes_29 : decode cX2_passes 29 = .ok (.aload_n 0, 1) := by decide +kernel
theorem dX2_passes_30 : decode cX2_passes 30 = .ok (.getfield 33, 3) := by decide +kernel
theorem dX2_passes_33 : decode cX2_passes 33 = .ok (.iload_n 1, 1) := by decide +kernel
theorem dX2_passes_34 : decode cX2_passes 34 = .ok (.iaload, 1) := by decide +kernel
theorem dX2_passes_35 : decode cX2_passes 35 = .ok (.ifCond .le 52, 3) := by decide +kernel
theorem dX2_passes_38 : decode cX2_passes 38 = .ok (.aload_n 0, 1) := by decide +kernel
theorem dX2_passes_39 : decode cX2_passes 39 = .ok (.getfield 36, 3) := by decide +kernel
theorem dX2_passes_42 : decode cX2_passes 42 = .ok (.iload_n 1, 1) := by decide +kernel
theorem dX2_passes_43 : decode cX2_passes 43 = .ok (.baload, 1) := by decide +kernel
theorem dX2_passes_44 : decode cX2_passes 44 = .ok (.ifCond .ne 43, 3) := by decide +kernel
theorem dX2_passes_47 : decode cX2_passes 47 = .ok (.aload_n 0, 1) := by decide +kernel
theorem dX2_passes_48 : decode cX2_passes 48 = .ok (.iload_n 1, 1) := by decide +kernel
theorem dX2_passes_49 : decode cX2_passes 49 = .ok (.invokevirtual 183, 3) := by decide +kernel
theorem dX2_passes_52 : decode cX2_passes 52 = .ok (.istore_n 3, 1) := by decide +kernel
theorem dX2_passes_53 : decode cX2_passes 53 = .ok (.aload_n 0, 1) := by decide +kernel
theorem dX2_passes_54 : decode cX2_passes 54 = .ok (.getfield 36, 3) := by decide +kernel
theorem dX2_passes_57 : decode cX2_passes 57 = .ok (.iload_n 1, 1) := by decide +kernel
theorem dX2_passes_58 : decode cX2_passes 58 = .ok (.iload_n 3, 1) := by decide +kernel
theorem dX2_passes_59 : decode cX2_passes 59 = .ok (.ifCond .ne 7, 3) := by decide +kernel
theorem dX2_passes_62 : decode cX2_passes 62 = .ok (.iconst 1, 1) := by decide +kernel
theorem dX2_passes_63 : decode cX2_passes 63 = .ok (.goto 4, 3) := by decide +kernel
theorem dX2_passes_66 : decode cX2_passes 66 = .ok (.iconst 0, 1) := by decide +kernel
theorem dX2_passes_67 : decode cX2_passes 67 = .ok (.bastore, 1) := by decide +kernel
theorem dX2_passes_68 : decode cX2_passes 68 = .ok (.iload_n 3, 1) := by decide +kernel
theorem dX2_passes_69 : decode cX2_passes 69 = .ok (.ifCond .eq 12, 3) := by decide +kernel
theorem dX2_passes_72 : decode cX2_passes 72 = .ok (.aload_n 0, 1) := by decide +kernel
theorem dX2_passes_73 : decode cX2_passes 73 = .ok (.iload_n 1, 1) := by decide +kernel
theorem dX2_passes_74 : decode cX2_passes 74 = .ok (.iload_n 3, 1) := by decide +kernel
theorem dX2_passes_75 : decode cX2_passes 75 = .ok (.invokestatic 186, 3) := by decide +kernel
theorem dX2_passes_78 : decode cX2_passes 78 = .ok (.invokevirtual 189, 3) := by decide +kernel
theorem dX2_passes_81 : decode cX2_passes 81 = .ok (.iinc 2 (-1), 3) := by decide +kernel
theorem dX2_passes_84 : decode cX2_passes 84 = .ok (.goto (-59), 3) := by decide +kernel
theorem dX2_passes_87 : decode cX2_passes 87 = .ok (.aload_n 0, 1) := by decide +kernel
theorem dX2_passes_88 : decode cX2_passes 88 = .ok (.getfield 36, 3) := by decide +kernel
theorem dX2_passes_91 : decode cX2_passes 91 = .ok (.iload_n 1, 1) := by decide +kernel
theorem dX2_passes_92 : decode cX2_passes 92 = .ok (.dup2, 1) := by decide +kernel
theorem dX2_passes_93 : decode cX2_passes 93 = .ok (.baload, 1) := by decide +kernel
theorem dX2_passes_94 : decode cX2_passes 94 = .ok (.aload_n 0, 1) := by decide +kernel
theorem dX2_passes_95 : decode cX2_passes 95 = .ok (.iload_n 1, 1) := by decide +kernel
theorem dX2_passes_96 : decode cX2_passes 96 = .ok (.invokevirtual 192, 3) := by decide +kernel
theorem dX2_passes_99 : decode cX2_passes 99 = .ok (.ior, 1) := by decide +kernel
theorem dX2_passes_100 : decode cX2_passes 100 = .ok (.bastore, 1) := by decide +kernel
theorem dX2_passes_101 : decode cX2_passes 101 = .ok (.return_, 1) := by decide +kernel
theorem q814 : (Jvm.Cond.methodLink "ChapterLoan$Town" (181 : Nat) ({ cls := "ChapterLoan$Town", name := "due", desc := "(I)I" } : Jvm.MethodName)) ∈ lw_all := lw_g (lw_at lw_m4 10 rfl) rfl
theorem q819 : (Jvm.Cond.methodLink "ChapterLoan$Town" (183 : Nat) ({ cls := "ChapterLoan$Town", name := "mayAll", desc := "(I)I" } : Jvm.MethodName)) ∈ lw_all := lw_g (lw_at lw_m4 15 rfl) rfl
theorem q820 : (Jvm.Cond.methodLink "ChapterLoan$Town" (186 : Nat) ({ cls := "java/lang/Integer", name := "numberOfTrailingZeros", desc := "(I)I" } : Jvm.MethodName)) ∈ lw_all := lw_g (lw_at lw_m4 16 rfl) rfl
theorem q824 : (Jvm.Cond.methodLink "ChapterLoan$Town" (189 : Nat) ({ cls := "ChapterLoan$Town", name := "tells", desc := "(II)V" } : Jvm.MethodName)) ∈ lw_all := lw_g (lw_at lw_m4 20 rfl) rfl
theorem q825 : (Jvm.Cond.methodLink "ChapterLoan$Town" (192 : Nat) ({ cls := "ChapterLoan$Town", name := "isOverdue", desc := "(I)Z" } : Jvm.MethodName)) ∈ lw_all := lw_g (lw_at lw_m4 21 rfl) rfl
theorem w_T_passes {l : Launch} {D : va_G} {cA : Nat → ClassId} {ks : List Nat} {ad : Nat → Nat} {A : Nat → Prop} (hO : klOk A ks ad) {t : Nat} (ht : t < 3) {st st' : CS} {N : Nat} {x1 : Int32} (h : T_passes t N st x1 = some st') : cV l yX2_passes cX2_passes 4 none 64 D cA ks ad A st [.ref (ad (20 * t)), .int x1] none st' := by
  refine cc_ofV (own := RX2) (by decide) rfl (Nat.le_of_ble_eq_true rfl) (fun p e s m below meth c R args ls C hr hlk hP hS hl hcs => ?_)
  have hx := C.1
  have hb := C.2.1
  have hown := C.2.2.2.1
  have hNst := C.2.2.2.2.2.2.2.1
  have hl : lv_has ls 4 [(0, .ref (ad (20 * t))), (1, .int x1)] := hl
  have L25 : ∀ (x1 : Int32), ∀ (n : Nat) (st : CS) (x2 : Int32) (st2 : CS), T_passes_L25 N t x1 n st x2 = some st2 → ∀ (H : Heap) (locs : List Loc), cW D cA ks ad st H → va_S A s.heap H locs → ∀ ls : Array Slot, lv_has ls 4 [(0, .ref (ad (20 * t))), (1, .int x1), (2, .int x2)] → (∀ (H : Heap) (locs : List Loc), cW D cA ks ad st2 H → va_S A s.heap H locs → ∀ ls : Array Slot, lv_has ls 4 [(0, .ref (ad (20 * t))), (1, .int x1)] → cWV p l e R s m args below meth c D cA ks ad A none st' H locs (F0 m 87 ls [])) → cWV p l e R s m args below meth c D cA ks ad A none st' H locs (F0 m 25 ls []) := by
    intro x1 n
    induction n with
    | zero =>
      intro st x2 st2 h
      exact non_some h
    | succ n ih =>
      intro st x2 st2 h H locs hP hS ls hl kx
      rw [T_passes_L25] at h
      refine lv_iload_n hx hb dX2_passes_25 rfl (lv_at hl 2 rfl) ?_
      refine lv_if_le (tgt := 87) hx hb dX2_passes_26 rfl (fun c6 => ?_) (fun c6 => ?_)
      · have h := if_some_t h c6
        cases h
        exact kx _ _ hP hS ls (lv_sub hl [0, 1] rfl)
      · have h := if_some_f h c6
        refine lv_aload_n hx hb dX2_passes_29 rfl (lv_at hl 0 rfl) ?_
        refine tg_debt (t := t) C hO ht hP dX2_passes_30 ?_
        refine lv_iload_n hx hb dX2_passes_33 rfl (lv_at hl 1 rfl) ?_
        obtain ⟨v7, hv7, h⟩ := bd1_some h
        refine cc_ild C hP (hO.2.2.2 _ (tk_ 6 ht (by decide))) (cg_t 6 ht (by decide)) hv7 dX2_passes_34 ?_
        refine lv_if_le (tgt := 87) hx hb dX2_passes_35 rfl (fun c8 => ?_) (fun c8 => ?_)
        · have h := if_some_t h c8
          cases h
          exact kx _ _ hP hS ls (lv_sub hl [0, 1] rfl)
        · have h := if_some_f h c8
          refine lv_aload_n hx hb dX2_passes_38 rfl (lv_at hl 0 rfl) ?_
          refine tg_isBroken (t := t) C hO ht hP dX2_passes_39 ?_
          refine lv_iload_n hx hb dX2_passes_42 rfl (lv_at hl 1 rfl) ?_
          obtain ⟨v9, hv9, h⟩ := bd1_some h
          refine cc_zld C hP (hO.2.2.2 _ (tk_ 7 ht (by decide))) (cg_t 7 ht (by decide)) hv9 dX2_passes_43 ?_
          refine lv_if_ne (tgt := 87) hx hb dX2_passes_44 rfl (fun c10 => ?_) (fun c10 => ?_)
          · have h := if_some_f h c10
            cases h
            exact kx _ _ hP hS ls (lv_sub hl [0, 1] rfl)
          · have h := if_some_t h c10
            refine lv_aload_n hx hb dX2_passes_47 rfl (lv_at hl 0 rfl) ?_
            refine lv_iload_n hx hb dX2_passes_48 rfl (lv_at hl 1 rfl) ?_
            obtain ⟨v11, hv11, h⟩ := bd1_some h
            refine k_T_mayAll (t := t) C hO ht hP hv11 q819 (Nat.le_of_ble_eq_true rfl) hS.1 hl.1 (Nat.le_of_ble_eq_true rfl) hcs dX2_passes_49 ?_
            refine lv_istore_n (lv' := [(3, .int v11), (0, .ref (ad (20 * t))), (1, .int x1), (2, .int x2)]) hx hb dX2_passes_52 rfl hl (by decide) rfl (fun ls hl => ?_)
            refine lv_aload_n hx hb dX2_passes_53 rfl (lv_at hl 1 rfl) ?_
            refine tg_isBroken (t := t) C hO ht hP dX2_passes_54 ?_
            refine lv_iload_n hx hb dX2_passes_57 rfl (lv_at hl 2 rfl) ?_
            refine lv_iload_n hx hb dX2_passes_58 rfl (lv_at hl 0 rfl) ?_
            refine lv_if_ne (tgt := 66) hx hb dX2_passes_59 rfl (fun c12 => ?_) (fun c12 => ?_)
            · have h := if_some_f h c12
              refine lv_iconst (v := 0) hx hb dX2_passes_66 (by decide) ?_
              obtain ⟨b13, hb13, h⟩ := bd1_some h
              refine cc_zst C hO hP hS (hO.2.2.2 _ (tk_ 7 ht (by decide))) (cg_t 7 ht (by decide)) rfl hb13 (cg_At 7 ht (by decide)) hP.2 dX2_passes_67 (fun H locs hP hS => ?_)
              refine lv_iload_n hx hb dX2_passes_68 rfl (lv_at hl 0 rfl) ?_
              refine lv_if_eq (tgt := 81) hx hb dX2_passes_69 rfl (fun c14 => ?_) (fun c14 => ?_)
              · have h := if_some_t h c14
                refine lv_iinc (v := x2 + (-1)) (lv' := [(2, .int (x2 + (-1))), (3, .int v11), (0, .ref (ad (20 * t))), (1, .int x1)]) hx hb dX2_passes_81 hl (k := 3) rfl rfl (by decide) rfl (fun ls hl => ?_)
                refine lv_goto (tgt := 25) hx hb dX2_passes_84 rfl ?_
                exact ih (csA st (20 * t + 7) b13) (x2 + (-1)) _ h _ _ hP hS ls (lv_sub hl [2, 3, 0] rfl) kx
              · have h := if_some_f h c14
                refine lv_aload_n hx hb dX2_passes_72 rfl (lv_at hl 1 rfl) ?_
                refine lv_iload_n hx hb dX2_passes_73 rfl (lv_at hl 2 rfl) ?_
                refine lv_iload_n hx hb dX2_passes_74 rfl (lv_at hl 0 rfl) ?_
                obtain ⟨v15, hv15, h⟩ := bd1_some h
                refine k_J_ntz hx hb C.2.2.1 hown C.2.2.2.2.1 C.2.2.2.2.2.1 q820 hv15 (Nat.le_of_ble_eq_true rfl) hl.1 (Nat.le_of_ble_eq_true rfl) hcs dX2_passes_75 ?_
                obtain ⟨st17, hv16, h⟩ := bd1_some h
                refine k_T_tells (t := t) C hO ht hP hS hv16 q824 (Nat.le_of_ble_eq_true rfl) hl.1 (Nat.le_of_ble_eq_true rfl) hcs dX2_passes_78 (fun H locs hP hS => ?_)
                refine lv_iinc (v := x2 + (-1)) (lv' := [(2, .int (x2 + (-1))), (3, .int v11), (0, .ref (ad (20 * t))), (1, .int x1)]) hx hb dX2_passes_81 hl (k := 3) rfl rfl (by decide) rfl (fun ls hl => ?_)
                refine lv_goto (tgt := 25) hx hb dX2_passes_84 rfl ?_
                exact ih st17 (x2 + (-1)) _ h _ _ hP hS ls (lv_sub hl [2, 3, 0] rfl) kx
            · have h := if_some_t h c12
              refine lv_iconst (v := 1) hx hb dX2_passes_62 (by decide) ?_
              refine lv_goto (tgt := 67) hx hb dX2_passes_63 rfl ?_
              obtain ⟨b18, hb18, h⟩ := bd1_some h
              refine cc_zst C hO hP hS (hO.2.2.2 _ (tk_ 7 ht (by decide))) (cg_t 7 ht (by decide)) rfl hb18 (cg_At 7 ht (by decide)) hP.2 dX2_passes_67 (fun H locs hP hS => ?_)
              refine lv_iload_n hx hb dX2_passes_68 rfl (lv_at hl 0 rfl) ?_
              refine lv_if_eq (tgt := 81) hx hb dX2_passes_69 rfl (fun c19 => ?_) (fun c19 => ?_)
              · have h := if_some_t h c19
                refine lv_iinc (v := x2 + (-1)) (lv' := [(2, .int (x2 + (-1))), (3, .int v11), (0, .ref (ad (20 * t))), (1, .int x1)]) hx hb dX2_passes_81 hl (k := 3) rfl rfl (by decide) rfl (fun ls hl => ?_)
                refine lv_goto (tgt := 25) hx hb dX2_passes_84 rfl ?_
                exact ih (csA st (20 * t + 7) b18) (x2 + (-1)) _ h _ _ hP hS ls (lv_sub hl [2, 3, 0] rfl) kx
              · have h := if_some_f h c19
                refine lv_aload_n hx hb dX2_passes_72 rfl (lv_at hl 1 rfl) ?_
                refine lv_iload_n hx hb dX2_passes_73 rfl (lv_at hl 2 rfl) ?_
                refine lv_iload_n hx hb dX2_passes_74 rfl (lv_at hl 0 rfl) ?_
                obtain ⟨v20, hv20, h⟩ := bd1_some h
                refine k_J_ntz hx hb C.2.2.1 hown C.2.2.2.2.1 C.2.2.2.2.2.1 q820 hv20 (Nat.le_of_ble_eq_true rfl) hl.1 (Nat.le_of_ble_eq_true rfl) hcs dX2_passes_75 ?_
                obtain ⟨st22, hv21, h⟩ := bd1_some h
                refine k_T_tells (t := t) C hO ht hP hS hv21 q824 (Nat.le_of_ble_eq_true rfl) hl.1 (Nat.le_of_ble_eq_true rfl) hcs dX2_passes_78 (fun H locs hP hS => ?_)
                refine lv_iinc (v := x2 + (-1)) (lv' := [(2, .int (x2 + (-1))), (3, .int v11), (0, .ref (ad (20 * t))), (1, .int x1)]) hx hb dX2_passes_81 hl (k := 3) rfl rfl (by decide) rfl (fun ls hl => ?_)
                refine lv_goto (tgt := 25) hx hb dX2_passes_84 rfl ?_
                exact ih st22 (x2 + (-1)) _ h _ _ hP hS ls (lv_sub hl [2, 3, 0] rfl) kx
  rw [T_passes] at h
  refine lv_aload_n hx hb dX2_passes_0 rfl (lv_at hl 0 rfl) ?_
  refine tg_isBroken (t := t) C hO ht hP dX2_passes_1 ?_
  refine lv_iload_n hx hb dX2_passes_4 rfl (lv_at hl 1 rfl) ?_
  obtain ⟨v1, hv1, h⟩ := bd1_some h
  refine cc_zld C hP (hO.2.2.2 _ (tk_ 7 ht (by decide))) (cg_t 7 ht (by decide)) hv1 dX2_passes_5 ?_
  refine lv_if_ne (tgt := 18) hx hb dX2_passes_6 rfl (fun c2 => ?_) (fun c2 => ?_)
  · have h := if_some_f h c2
    exact cc_vret hx hb hr hlk h hP hS dX2_passes_18
  · have h := if_some_t h c2
    refine lv_aload_n hx hb dX2_passes_9 rfl (lv_at hl 0 rfl) ?_
    refine tg_debt (t := t) C hO ht hP dX2_passes_10 ?_
    refine lv_iload_n hx hb dX2_passes_13 rfl (lv_at hl 1 rfl) ?_
    obtain ⟨v3, hv3, h⟩ := bd1_some h
    refine cc_ild C hP (hO.2.2.2 _ (tk_ 6 ht (by decide))) (cg_t 6 ht (by decide)) hv3 dX2_passes_14 ?_
    refine lv_if_ne (tgt := 19) hx hb dX2_passes_15 rfl (fun c4 => ?_) (fun c4 => ?_)
    · have h := if_some_f h c4
      refine lv_aload_n hx hb dX2_passes_19 rfl (lv_at hl 0 rfl) ?_
      refine lv_iload_n hx hb dX2_passes_20 rfl (lv_at hl 1 rfl) ?_
      obtain ⟨v5, hv5, h⟩ := bd1_some h
      refine k_T_due (t := t) C hO ht hP hv5 q814 (Nat.le_of_ble_eq_true rfl) hS.1 hl.1 (Nat.le_of_ble_eq_true rfl) hcs dX2_passes_21 ?_
      refine lv_istore_n (lv' := [(2, .int v5), (0, .ref (ad (20 * t))), (1, .int x1)]) hx hb dX2_passes_24 rfl hl (by decide) rfl (fun ls hl => ?_)
      obtain ⟨st23, hz28, h⟩ := bd1_some h
      refine L25 x1 N _ v5 _ hz28 _ _ hP hS ls (lv_sub hl [1, 2, 0] rfl) (fun H locs hP hS ls hl => ?_)
      refine lv_aload_n hx hb dX2_passes_87 rfl (lv_at hl 0 rfl) ?_
      refine tg_isBroken (t := t) C hO ht hP dX2_passes_88 ?_
      refine lv_iload_n hx hb dX2_passes_91 rfl (lv_at hl 1 rfl) ?_
      refine lv_dup2_11 hx hb dX2_passes_92 rfl rfl ?_
      obtain ⟨v24, hv24, h⟩ := bd1_some h
      refine cc_zld C hP (hO.2.2.2 _ (tk_ 7 ht (by decide))) (cg_t 7 ht (by decide)) hv24 dX2_passes_93 ?_
      refine lv_aload_n hx hb dX2_passes_94 rfl (lv_at hl 0 rfl) ?_
      refine lv_iload_n hx hb dX2_passes_95 rfl (lv_at hl 1 rfl) ?_
      obtain ⟨v25, hv25, h⟩ := bd1_some h
      refine k_T_isOverdue (t := t) C hO ht hP hv25 q825 (Nat.le_of_ble_eq_true rfl) hS.1 hl.1 (Nat.le_of_ble_eq_true rfl) hcs dX2_passes_96 ?_
      refine lv_ior hx hb dX2_passes_99 ?_
      obtain ⟨w27, hw27, h⟩ := bd1_some h
      obtain ⟨b26, hb26, h⟩ := bd1_some h
      refine cc_zst C hO hP hS (hO.2.2.2 _ (tk_ 7 ht (by decide))) (cg_t 7 ht (by decide)) (zr_nar hw27) hb26 (cg_At 7 ht (by decide)) hP.2 dX2_passes_100 (fun H locs hP hS => ?_)
      exact cc_vret hx hb hr hlk h hP hS dX2_passes_101
    · have h := if_some_t h c4
      exact cc_vret hx hb hr hlk h hP hS dX2_passes_18
theorem q813 : (Jvm.Cond.code ({ cls := "ChapterLoan$Town", name := "passes", desc := "(I)V" } : Jvm.MethodName) prog_23_method_18_code (4 : Nat) (Option.none : Option Jvm.ClassFile.FieldType)) ∈ lw_all := lw_g (lw_at lw_m4 9 rfl) rfl
theorem q812 : (Jvm.Cond.instanceMethod ({ cls := "ChapterLoan$Town", name := "passes", desc := "(I)V" } : Jvm.MethodName)) ∈ lw_all := lw_g (lw_at lw_m4 8 rfl) rfl
theorem k_T_passes {N : Nat} {a0 : Int32} {st' : CS} (C : cC p R d s m args c cc nL own D cA A) (hO : klOk A ks ad) (ht : t < 3) (hP : cW D cA ks ad st H) (hS : va_S A s.heap H locs) (h : T_passes t N st a0 = some st') (hl : Cond.methodLink own index yX2_passes ∈ lw_all) (hd : 64 + 1 ≤ d) (hsz : ls.size = nL) (hW : (rest.map fun v => v.category).sum ≤ 8) (hcs : cells ≤ R.cells ∧ slots ≤ R.slots) (hdg : decode cc pc = .ok (.invokevirtual index, 3)) (kk : ∀ (H1 : Heap) (locs1 : List Loc), cW D cA ks ad st' H1 → va_S A s.heap H1 locs1 → W p l e R s m args below meth c H1 locs1 cells slots Q (F0 m (pc + 3) ls (rest))) : W p l e R s m args below meth c H locs cells slots Q (F0 m pc ls (.int a0 :: .ref (ad (20 * t)) :: rest)) :=
  cc_cV (As := [.int a0]) C hP hS (w_T_passes hO ht h) (cwV 1 C.2.2.2.2.1 (lw_V hl q812 qs10 q90 q813) rfl rfl rfl (by decide +kernel) (mr_ C.2.2.2.2.2.1 hd (by decide))) (cc_recv C hP (hO.2.2.2 _ (tk0 ht)) (cg_t0 ht) (q := (RX2, TX2, 27)) rfl) rfl hsz rfl hW hdg hcs kk
abbrev cX2_goes : ByteArray := prog_23_method_19_code
def yX2_goes : MethodName := ⟨RX2, "goes", "()V"⟩
theorem dX2_goes_0 : decode cX2_goes 0 = .ok (.iconst 0, 1) := by decide +kernel
theorem dX2_goes_1 : decode cX2_goes 1 = .ok (.istore_n 1, 1) := by decide +kernel
theorem dX2_goes_2 : decode cX2_goes 2 = .ok (.iload_n 1, 1) := by decide +kernel
theorem dX2_goes_3 : decode cX2_goes 3 = .ok (.aload_n 0, 1) := by decide +kernel
theorem dX2_goes_4 : decode cX2_goes 4 = .ok (.getfield 94, 3) := by decide +kernel
theorem dX2_goes_7 : decode cX2_goes 7 = .ok (.if_icmp .ge 14, 3) := by decide +kernel
theorem dX2_goes_10 : decode cX2_goes 10 = .ok (.aload_n 0, 1) := by decide +kernel
theorem dX2_goes_11 : decode cX2_goes 11 = .ok (.iload_n 1, 1) := by decide +kernel
theorem dX2_goes_12 : decode cX2_goes 12 = .ok (.invokevirtual 196, 3) := by decide +kernel
theorem dX2_goes_15 : decode cX2_goes 15 = .ok (.iinc 1 1, 3) := by decide +kernel
theorem dX2_goes_18 : decode cX2_goes 18 = .ok (.goto (-16), 3) := by decide +kernel
theorem dX2_goes_21 : decode cX2_goes 21 = .ok (.aload_n 0, 1) := by decide +kernel
theorem dX2_goes_22 : decode cX2_goes 22 = .ok (.dup, 1) := by decide +kernel
theorem dX2_goes_23 : decode cX2_goes 23 = .ok (.getfield 97, 3) := by decide +kernel
theorem dX2_goes_26 : decode cX2_goes 26 = .ok (.iconst 1, 1) := by decide +kernel
theorem dX2_goes_27 : decode cX2_goes 27 = .ok (.iadd, 1) := by decide +kernel
theorem dX2_goes_28 : decode cX2_goes 28 = .ok (.putfield 97, 3) := by decide +kernel
theorem dX2_goes_31 : decode cX2_goes 31 = .ok (.return_, 1) := by decide +kernel
theorem q810 : (Jvm.Cond.methodLink "ChapterLoan$Town" (196 : Nat) ({ cls := "ChapterLoan$Town", name := "passes", desc := "(I)V" } : Jvm.MethodName)) ∈ lw_all := lw_g (lw_at lw_m4 6 rfl) rfl
theorem w_T_goes {l : Launch} {D : va_G} {cA : Nat → ClassId} {ks : List Nat} {ad : Nat → Nat} {A : Nat → Prop} (hO : klOk A ks ad) {t : Nat} (ht : t < 3) {st st' : CS} {N : Nat} (h : T_goes t N st = some st') : cV l yX2_goes cX2_goes 2 none 65 D cA ks ad A st [.ref (ad (20 * t))] none st' := by
  refine cc_ofV (own := RX2) (by decide) rfl (Nat.le_of_ble_eq_true rfl) (fun p e s m below meth c R args ls C hr hlk hP hS hl hcs => ?_)
  have hx := C.1
  have hb := C.2.1
  have hown := C.2.2.2.1
  have hNst := C.2.2.2.2.2.2.2.1
  have hl : lv_has ls 2 [(0, .ref (ad (20 * t)))] := hl
  have L2 : ∀ (n : Nat) (st : CS) (x1 : Int32) (st2 : CS), T_goes_L2 N t n st x1 = some st2 → ∀ (H : Heap) (locs : List Loc), cW D cA ks ad st H → va_S A s.heap H locs → ∀ ls : Array Slot, lv_has ls 2 [(0, .ref (ad (20 * t))), (1, .int x1)] → (∀ (H : Heap) (locs : List Loc), cW D cA ks ad st2 H → va_S A s.heap H locs → ∀ ls : Array Slot, lv_has ls 2 [(0, .ref (ad (20 * t)))] → cWV p l e R s m args below meth c D cA ks ad A none st' H locs (F0 m 21 ls [])) → cWV p l e R s m args below meth c D cA ks ad A none st' H locs (F0 m 2 ls []) := by
    intro n
    induction n with
    | zero =>
      intro st x1 st2 h
      exact non_some h
    | succ n ih =>
      intro st x1 st2 h H locs hP hS ls hl kx
      rw [T_goes_L2] at h
      refine lv_iload_n hx hb dX2_goes_2 rfl (lv_at hl 1 rfl) ?_
      refine lv_aload_n hx hb dX2_goes_3 rfl (lv_at hl 0 rfl) ?_
      refine tg_debtors (t := t) C hO ht hP dX2_goes_4 ?_
      refine lv_icmp_ge (tgt := 21) hx hb dX2_goes_7 rfl (fun c1 => ?_) (fun c1 => ?_)
      · have h := if_some_t h c1
        cases h
        exact kx _ _ hP hS ls (lv_sub hl [0] rfl)
      · have h := if_some_f h c1
        refine lv_aload_n hx hb dX2_goes_10 rfl (lv_at hl 0 rfl) ?_
        refine lv_iload_n hx hb dX2_goes_11 rfl (lv_at hl 1 rfl) ?_
        obtain ⟨st3, hv2, h⟩ := bd1_some h
        refine k_T_passes (t := t) C hO ht hP hS hv2 q810 (Nat.le_of_ble_eq_true rfl) hl.1 (Nat.le_of_ble_eq_true rfl) hcs dX2_goes_12 (fun H locs hP hS => ?_)
        refine lv_iinc (v := x1 + 1) (lv' := [(1, .int (x1 + 1)), (0, .ref (ad (20 * t)))]) hx hb dX2_goes_15 hl (k := 1) rfl rfl (by decide) rfl (fun ls hl => ?_)
        refine lv_goto (tgt := 2) hx hb dX2_goes_18 rfl ?_
        exact ih st3 (x1 + 1) _ h _ _ hP hS ls (lv_sub hl [1, 0] rfl) kx
  rw [T_goes] at h
  refine lv_iconst (v := 0) hx hb dX2_goes_0 (by decide) ?_
  refine lv_istore_n (lv' := [(1, .int 0), (0, .ref (ad (20 * t)))]) hx hb dX2_goes_1 rfl hl (by decide) rfl (fun ls hl => ?_)
  obtain ⟨st4, hz5, h⟩ := bd1_some h
  refine L2  N _ 0 _ hz5 _ _ hP hS ls (lv_sub hl [1, 0] rfl) (fun H locs hP hS ls hl => ?_)
  refine lv_aload_n hx hb dX2_goes_21 rfl (lv_at hl 0 rfl) ?_
  refine lv_dup hx hb dX2_goes_22 rfl ?_
  refine tg_week (t := t) C hO ht hP dX2_goes_23 ?_
  refine lv_iconst (v := 1) hx hb dX2_goes_26 (by decide) ?_
  refine lv_iadd hx hb dX2_goes_27 ?_
  refine tp_week (t := t) C hO ht hP hS dX2_goes_28 (fun H locs hP hS => ?_)
  exact cc_vret hx hb hr hlk h hP hS dX2_goes_31
theorem q809 : (Jvm.Cond.code ({ cls := "ChapterLoan$Town", name := "goes", desc := "()V" } : Jvm.MethodName) prog_23_method_19_code (2 : Nat) (Option.none : Option Jvm.ClassFile.FieldType)) ∈ lw_all := lw_g (lw_at lw_m4 5 rfl) rfl
theorem q807 : (Jvm.Cond.instanceMethod ({ cls := "ChapterLoan$Town", name := "goes", desc := "()V" } : Jvm.MethodName)) ∈ lw_all := lw_g (lw_at lw_m4 3 rfl) rfl
theorem q808 : (Jvm.Cond.selects "ChapterLoan$Town" ({ cls := "ChapterLoan$Town", name := "goes", desc := "()V" } : Jvm.MethodName) ({ cls := "ChapterLoan$Town", name := "goes", desc := "()V" } : Jvm.MethodName)) ∈ lw_all := lw_g (lw_at lw_m4 4 rfl) rfl
theorem k_T_goes {N : Nat} {st' : CS} (C : cC p R d s m args c cc nL own D cA A) (hO : klOk A ks ad) (ht : t < 3) (hP : cW D cA ks ad st H) (hS : va_S A s.heap H locs) (h : T_goes t N st = some st') (hl : Cond.methodLink own index yX2_goes ∈ lw_all) (hd : 65 + 1 ≤ d) (hsz : ls.size = nL) (hW : (rest.map fun v => v.category).sum ≤ 8) (hcs : cells ≤ R.cells ∧ slots ≤ R.slots) (hdg : decode cc pc = .ok (.invokevirtual index, 3)) (kk : ∀ (H1 : Heap) (locs1 : List Loc), cW D cA ks ad st' H1 → va_S A s.heap H1 locs1 → W p l e R s m args below meth c H1 locs1 cells slots Q (F0 m (pc + 3) ls (rest))) : W p l e R s m args below meth c H locs cells slots Q (F0 m pc ls (.ref (ad (20 * t)) :: rest)) :=
  cc_cV (As := []) C hP hS (w_T_goes hO ht h) (cwV 0 C.2.2.2.2.1 (lw_V hl q807 q808 q90 q809) rfl rfl rfl (by decide +kernel) (mr_ C.2.2.2.2.2.1 hd (by decide))) (cc_recv C hP (hO.2.2.2 _ (tk0 ht)) (cg_t0 ht) (q := (RX2, TX2, 27)) rfl) rfl hsz rfl hW hdg hcs kk
abbrev cX2_goesLoose : ByteArray := prog_23_method_22_code
def yX2_goesLoose : MethodName := ⟨RX2, "goesLoose", "()V"⟩
theorem dX2_goesLoose_0 : decode cX2_goesLoose 0 = .ok (.aload_n 0, 1) := by decide +kernel
theorem dX2_goesLoose_1 : decode cX2_goesLoose 1 = .ok (.invokevirtual 201, 3) := by decide +kernel
theorem dX2_goesLoose_4 : decode cX2_goesLoose 4 = .ok (.iconst 4, 1) := by decide +kernel
theorem dX2_goesLoose_5 : decode cX2_goesLoose 5 = .ok (.irem, 1) := by decide +kernel
theorem dX2_goesLoose_6 : decode cX2_goesLoose 6 = .ok (.istore_n 1, 1) := by decide +kernel
theorem dX2_goesLoose_7 : decode cX2_goesLoose 7 = .ok (.aload_n 0, 1) := by decide +kernel
theorem dX2_goesLoose_8 : decode cX2_goesLoose 8 = .ok (.invokevirtual 201, 3) := by decide +kernel
theorem dX2_goesLoose_11 : decode cX2_goesLoose 11 = .ok (.bipush 50, 2) := by decide +kernel
theorem dX2_goesLoose_13 : decode cX2_goesLoose 13 = .ok (.irem, 1) := by decide +kernel
theorem dX2_goesLoose_14 : decode cX2_goesLoose 14 = .ok (.istore_n 2, 1) := by decide +kernel
theorem dX2_goesLoose_15 : decode cX2_goesLoose 15 = .ok (.iload_n 1, 1) := by decide +kernel
theorem dX2_goesLoose_16 : decode cX2_goesLoose 16 = .ok (.aload_n 0, 1) := by decide +kernel
theorem dX2_goesLoose_17 : decode cX2_goesLoose 17 = .ok (.getfield 94, 3) := by decide +kernel
theorem dX2_goesLoose_20 : decode cX2_goesLoose 20 = .ok (.if_icmp .ge 18, 3) := by decide +kernel
theorem dX2_goesLoose_23 : decode cX2_goesLoose 23 = .ok (.aload_n 0, 1) := by decide +kernel
theorem dX2_goesLoose_24 : decode cX2_goesLoose 24 = .ok (.getfield 36, 3) := by decide +kernel
theorem dX2_goesLoose_27 : decode cX2_goesLoose 27 = .ok (.iload_n 1, 1) := by decide +kernel
theorem dX2_goesLoose_28 : decode cX2_goesLoose 28 = .ok (.baload, 1) := by decide +kernel
theorem dX2_goesLoose_29 : decode cX2_goesLoose 29 = .ok (.ifCond .ne 9, 3) := by decide +kernel
theorem dX2_goesLoose_32 : decode cX2_goesLoose 32 = .ok (.aload_n 0, 1) := by decide +kernel
theorem dX2_goesLoose_33 : decode cX2_goesLoose 33 = .ok (.iload_n 1, 1) := by decide +kernel
theorem dX2_goesLoose_34 : decode cX2_goesLoose 34 = .ok (.iload_n 2, 1) := by decide +kernel
theorem dX2_goesLoose_35 : decode cX2_goesLoose 35 = .ok (.invokevirtual 204, 3) := by decide +kernel
theorem dX2_goesLoose_38 : decode cX2_goesLoose 38 = .ok (.aload_n 0, 1) := by decide +kernel
theorem dX2_goesLoose_39 : decode cX2_goesLoose 39 = .ok (.invokevirtual 207, 3) := by decide +kernel
theorem dX2_goesLoose_42 : decode cX2_goesLoose 42 = .ok (.return_, 1) := by decide +kernel
theorem q841 : (Jvm.Cond.methodLink "ChapterLoan$Town" (201 : Nat) ({ cls := "ChapterLoan$Town", name := "draw", desc := "()I" } : Jvm.MethodName)) ∈ lw_all := lw_g (lw_at lw_m4 37 rfl) rfl
theorem q846 : (Jvm.Cond.methodLink "ChapterLoan$Town" (204 : Nat) ({ cls := "ChapterLoan$Town", name := "lends", desc := "(II)V" } : Jvm.MethodName)) ∈ lw_all := lw_g (lw_at lw_m4 42 rfl) rfl
theorem q847 : (Jvm.Cond.methodLink "ChapterLoan$Town" (207 : Nat) ({ cls := "ChapterLoan$Town", name := "goes", desc := "()V" } : Jvm.MethodName)) ∈ lw_all := lw_g (lw_at lw_m4 43 rfl) rfl
theorem w_T_goesLoose {l : Launch} {D : va_G} {cA : Nat → ClassId} {ks : List Nat} {ad : Nat → Nat} {A : Nat → Prop} (hO : klOk A ks ad) {t : Nat} (ht : t < 3) {st st' : CS} {N : Nat} (h : T_goesLoose t N st = some st') : cV l yX2_goesLoose cX2_goesLoose 3 none 66 D cA ks ad A st [.ref (ad (20 * t))] none st' := by
  refine cc_ofV (own := RX2) (by decide) rfl (Nat.le_of_ble_eq_true rfl) (fun p e s m below meth c R args ls C hr hlk hP hS hl hcs => ?_)
  have hx := C.1
  have hb := C.2.1
  have hown := C.2.2.2.1
  have hNst := C.2.2.2.2.2.2.2.1
  have hl : lv_has ls 3 [(0, .ref (ad (20 * t)))] := hl
  rw [T_goesLoose] at h
  refine lv_aload_n hx hb dX2_goesLoose_0 rfl (lv_at hl 0 rfl) ?_
  obtain ⟨v1, st2, hv1, h⟩ := bd2_some h
  refine k_T_draw (t := t) C hO ht hP hS hv1 q841 (Nat.le_of_ble_eq_true rfl) hl.1 (Nat.le_of_ble_eq_true rfl) hcs dX2_goesLoose_1 (fun H locs hP hS => ?_)
  refine lv_iconst (v := 4) hx hb dX2_goesLoose_4 (by decide) ?_
  refine lv_irem hx hb dX2_goesLoose_5 (by decide) ?_
  refine lv_istore_n (lv' := [(1, .int (v1 - v1 / 4 * 4)), (0, .ref (ad (20 * t)))]) hx hb dX2_goesLoose_6 rfl hl (by decide) rfl (fun ls hl => ?_)
  refine lv_aload_n hx hb dX2_goesLoose_7 rfl (lv_at hl 1 rfl) ?_
  obtain ⟨v3, st4, hv3, h⟩ := bd2_some h
  refine k_T_draw (t := t) C hO ht hP hS hv3 q841 (Nat.le_of_ble_eq_true rfl) hl.1 (Nat.le_of_ble_eq_true rfl) hcs dX2_goesLoose_8 (fun H locs hP hS => ?_)
  refine lv_bipush (v := 50) hx hb dX2_goesLoose_11 (by decide) ?_
  refine lv_irem hx hb dX2_goesLoose_13 (by decide) ?_
  refine lv_istore_n (lv' := [(2, .int (v3 - v3 / 50 * 50)), (1, .int (v1 - v1 / 4 * 4)), (0, .ref (ad (20 * t)))]) hx hb dX2_goesLoose_14 rfl hl (by decide) rfl (fun ls hl => ?_)
  refine lv_iload_n hx hb dX2_goesLoose_15 rfl (lv_at hl 1 rfl) ?_
  refine lv_aload_n hx hb dX2_goesLoose_16 rfl (lv_at hl 2 rfl) ?_
  refine tg_debtors (t := t) C hO ht hP dX2_goesLoose_17 ?_
  refine lv_icmp_ge (tgt := 38) hx hb dX2_goesLoose_20 rfl (fun c5 => ?_) (fun c5 => ?_)
  · have h := if_some_t h c5
    refine lv_aload_n hx hb dX2_goesLoose_38 rfl (lv_at hl 2 rfl) ?_
    obtain ⟨st7, hv6, h⟩ := bd1_some h
    refine k_T_goes (t := t) C hO ht hP hS hv6 q847 (Nat.le_of_ble_eq_true rfl) hl.1 (Nat.le_of_ble_eq_true rfl) hcs dX2_goesLoose_39 (fun H locs hP hS => ?_)
    exact cc_vret hx hb hr hlk h hP hS dX2_goesLoose_42
  · have h := if_some_f h c5
    refine lv_aload_n hx hb dX2_goesLoose_23 rfl (lv_at hl 2 rfl) ?_
    refine tg_isBroken (t := t) C hO ht hP dX2_goesLoose_24 ?_
    refine lv_iload_n hx hb dX2_goesLoose_27 rfl (lv_at hl 1 rfl) ?_
    obtain ⟨v8, hv8, h⟩ := bd1_some h
    refine cc_zld C hP (hO.2.2.2 _ (tk_ 7 ht (by decide))) (cg_t 7 ht (by decide)) hv8 dX2_goesLoose_28 ?_
    refine lv_if_ne (tgt := 38) hx hb dX2_goesLoose_29 rfl (fun c9 => ?_) (fun c9 => ?_)
    · have h := if_some_f h c9
      refine lv_aload_n hx hb dX2_goesLoose_38 rfl (lv_at hl 2 rfl) ?_
      obtain ⟨st11, hv10, h⟩ := bd1_some h
      refine k_T_goes (t := t) C hO ht hP hS hv10 q847 (Nat.le_of_ble_eq_true rfl) hl.1 (Nat.le_of_ble_eq_true rfl) hcs dX2_goesLoose_39 (fun H locs hP hS => ?_)
      exact cc_vret hx hb hr hlk h hP hS dX2_goesLoose_42
    · have h := if_some_t h c9
      refine lv_aload_n hx hb dX2_goesLoose_32 rfl (lv_at hl 2 rfl) ?_
      refine lv_iload_n hx hb dX2_goesLoose_33 rfl (lv_at hl 1 rfl) ?_
      refine lv_iload_n hx hb dX2_goesLoose_34 rfl (lv_at hl 0 rfl) ?_
      obtain ⟨st13, hv12, h⟩ := bd1_some h
      refine k_T_lends (t := t) C hO ht hP hS hv12 q846 (Nat.le_of_ble_eq_true rfl) hl.1 (Nat.le_of_ble_eq_true rfl) hcs dX2_goesLoose_35 (fun H locs hP hS => ?_)
      refine lv_aload_n hx hb dX2_goesLoose_38 rfl (lv_at hl 2 rfl) ?_
      obtain ⟨st15, hv14, h⟩ := bd1_some h
      refine k_T_goes (t := t) C hO ht hP hS hv14 q847 (Nat.le_of_ble_eq_true rfl) hl.1 (Nat.le_of_ble_eq_true rfl) hcs dX2_goesLoose_39 (fun H locs hP hS => ?_)
      exact cc_vret hx hb hr hlk h hP hS dX2_goesLoose_42
theorem q840 : (Jvm.Cond.code ({ cls := "ChapterLoan$Town", name := "goesLoose", desc := "()V" } : Jvm.MethodName) prog_23_method_22_code (3 : Nat) (Option.none : Option Jvm.ClassFile.FieldType)) ∈ lw_all := lw_g (lw_at lw_m4 36 rfl) rfl
theorem q838 : (Jvm.Cond.instanceMethod ({ cls := "ChapterLoan$Town", name := "goesLoose", desc := "()V" } : Jvm.MethodName)) ∈ lw_all := lw_g (lw_at lw_m4 34 rfl) rfl
theorem q839 : (Jvm.Cond.selects "ChapterLoan$Town" ({ cls := "ChapterLoan$Town", name := "goesLoose", desc := "()V" } : Jvm.MethodName) ({ cls := "ChapterLoan$Town", name := "goesLoose", desc := "()V" } : Jvm.MethodName)) ∈ lw_all := lw_g (lw_at lw_m4 35 rfl) rfl
theorem k_T_goesLoose {N : Nat} {st' : CS} (C : cC p R d s m args c cc nL own D cA A) (hO : klOk A ks ad) (ht : t < 3) (hP : cW D cA ks ad st H) (hS : va_S A s.heap H locs) (h : T_goesLoose t N st = some st') (hl : Cond.methodLink own index yX2_goesLoose ∈ lw_all) (hd : 66 + 1 ≤ d) (hsz : ls.size = nL) (hW : (rest.map fun v => v.category).sum ≤ 8) (hcs : cells ≤ R.cells ∧ slots ≤ R.slots) (hdg : decode cc pc = .ok (.invokevirtual index, 3)) (kk : ∀ (H1 : Heap) (locs1 : List Loc), cW D cA ks ad st' H1 → va_S A s.heap H1 locs1 → W p l e R s m args below meth c H1 locs1 cells slots Q (F0 m (pc + 3) ls (rest))) : W p l e R s m args below meth c H locs cells slots Q (F0 m pc ls (.ref (ad (20 * t)) :: rest)) :=
  cc_cV (As := []) C hP hS (w_T_goesLoose hO ht h) (cwV 0 C.2.2.2.2.1 (lw_V hl q838 q839 q90 q840) rfl rfl rfl (by decide +kernel) (mr_ C.2.2.2.2.2.1 hd (by decide))) (cc_recv C hP (hO.2.2.2 _ (tk0 ht)) (cg_t0 ht) (q := (RX2, TX2, 27)) rfl) rfl hsz rfl hW hdg hcs kk
end
