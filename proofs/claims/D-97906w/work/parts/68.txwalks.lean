/-! text: walks -/
set_option maxRecDepth 100000
section
variable {p : Program} {l : Launch} {e : Env} {R : Room} {s : State} {m : MethodId} {args : Array Value} {below : List Frame} {meth : Method} {c : Code} {H : Heap} {locs : List Loc} {cells slots d : Nat} {Q : State → Prop} {cc : ByteArray} {pc nL : Nat} {ls : Array Slot} {rest : List Value} {D : va_G} {cA : Nat → ClassId} {ks : List Nat} {ad : Nat → Nat} {A : Nat → Prop} {st : CS} {H0 : Heap} {own : String} {index : Nat} {adK adV : Nat → Nat} {i ra M nx0 : Nat} {sz : Int32} {ks0 : List Nat} {z : PS}
abbrev cX0_text : ByteArray := prog_1_method_36_code
def yX0_text : MethodName := ⟨RX0, "text", "(I)I"⟩
theorem dX0_text_0 : decode cX0_text 0 = .ok (.aload_n 0, 1) := by decide +kernel
theorem dX0_text_1 : decode cX0_text 1 = .ok (.iload_n 1, 1) := by decide +kernel
theorem dX0_text_2 : decode cX0_text 2 = .ok (.iconst 0, 1) := by decide +kernel
theorem dX0_text_3 : decode cX0_text 3 = .ok (.iconst 1, 1) := by decide +kernel
theorem dX0_text_4 : decode cX0_text 4 = .ok (.invokestatic 91, 3) := by decide +kernel
theorem dX0_text_7 : decode cX0_text 7 = .ok (.iconst 1, 1) := by decide +kernel
theorem dX0_text_8 : decode cX0_text 8 = .ok (.invokevirtual 102, 3) := by decide +kernel
theorem dX0_text_11 : decode cX0_text 11 = .ok (.aload_n 0, 1) := by decide +kernel
theorem dX0_text_12 : decode cX0_text 12 = .ok (.getfield 46, 3) := by decide +kernel
theorem dX0_text_15 : decode cX0_text 15 = .ok (.getfield 233, 3) := by decide +kernel
theorem dX0_text_18 : decode cX0_text 18 = .ok (.istore_n 2, 1) := by decide +kernel
theorem dX0_text_19 : decode cX0_text 19 = .ok (.aload_n 0, 1) := by decide +kernel
theorem dX0_text_20 : decode cX0_text 20 = .ok (.getfield 46, 3) := by decide +kernel
theorem dX0_text_23 : decode cX0_text 23 = .ok (.iconst 0, 1) := by decide +kernel
theorem dX0_text_24 : decode cX0_text 24 = .ok (.putfield 233, 3) := by decide +kernel
theorem dX0_text_27 : decode cX0_text 27 = .ok (.aload_n 0, 1) := by decide +kernel
theorem dX0_text_28 : decode cX0_text 28 = .ok (.getfield 46, 3) := by decide +kernel
theorem dX0_text_31 : decode cX0_text 31 = .ok (.getfield 240, 3) := by decide +kernel
theorem dX0_text_34 : decode cX0_text 34 = .ok (.iload_n 1, 1) := by decide +kernel
theorem dX0_text_35 : decode cX0_text 35 = .ok (.new 244, 3) := by decide +kernel
theorem dX0_text_38 : decode cX0_text 38 = .ok (.dup, 1) := by decide +kernel
theorem dX0_text_39 : decode cX0_text 39 = .ok (.iload_n 1, 1) := by decide +kernel
theorem dX0_text_40 : decode cX0_text 40 = .ok (.ifCond .ne 8, 3) := by decide +kernel
theorem dX0_text_43 : decode cX0_text 43 = .ok (.ldc 246, 2) := by decide +kernel
theorem dX0_text_45 : decode cX0_text 45 = .ok (.goto 5, 3) := by decide +kernel
theorem dX0_text_48 : decode cX0_text 48 = .ok (.ldc 248, 2) := by decide +kernel
theorem dX0_text_50 : decode cX0_text 50 = .ok (.aload_n 0, 1) := by decide +kernel
theorem dX0_text_51 : decode cX0_text 51 = .ok (.getfield 46, 3) := by decide +kernel
theorem dX0_text_54 : decode cX0_text 54 = .ok (.getfield 236, 3) := by decide +kernel
theorem dX0_text_57 : decode cX0_text 57 = .ok (.iload_n 2, 1) := by decide +kernel
theorem dX0_text_58 : decode cX0_text 58 = .ok (.invokespecial 250, 3) := by decide +kernel
theorem dX0_text_61 : decode cX0_text 61 = .ok (.invokevirtual 253, 3) := by decide +kernel
theorem dX0_text_64 : decode cX0_text 64 = .ok (.aastore, 1) := by decide +kernel
theorem dX0_text_65 : decode cX0_text 65 = .ok (.iconst 1, 1) := by decide +kernel
theorem dX0_text_66 : decode cX0_text 66 = .ok (.ireturn, 1) := by decide +kernel
theorem dX0_text_67 : decode cX0_text 67 = .ok (.astore_n 2, 1) := by decide +kernel
theorem dX0_text_68 : decode cX0_text 68 = .ok (.bipush (-10), 2) := by decide +kernel
theorem dX0_text_70 : decode cX0_text 70 = .ok (.aload_n 2, 1) := by decide +kernel
theorem dX0_text_71 : decode cX0_text 71 = .ok (.getfield 259, 3) := by decide +kernel
theorem dX0_text_74 : decode cX0_text 74 = .ok (.isub, 1) := by decide +kernel
theorem dX0_text_75 : decode cX0_text 75 = .ok (.ireturn, 1) := by decide +kernel
theorem dX0_text_76 : decode cX0_text 76 = .ok (.astore_n 2, 1) := by decide +kernel
theorem dX0_text_77 : decode cX0_text 77 = .ok (.aload_n 0, 1) := by decide +kernel
theorem dX0_text_78 : decode cX0_text 78 = .ok (.aload_n 2, 1) := by decide +kernel
theorem dX0_text_79 : decode cX0_text 79 = .ok (.invokevirtual 123, 3) := by decide +kernel
theorem dX0_text_82 : decode cX0_text 82 = .ok (.ireturn, 1) := by decide +kernel
theorem q867 : (Jvm.Cond.classLink "ChapterLoan" (257 : Nat) "ChapterLoan$Fault") ∈ lw_all := lw_g (lw_at lw_m4 63 rfl) rfl
theorem q868 : (Jvm.Cond.classLink "ChapterLoan" (244 : Nat) "ChapterLoan$Reader") ∈ lw_all := lw_g (lw_at lw_m4 64 rfl) rfl
theorem q869 : (Jvm.Cond.instantiable "ChapterLoan$Reader" (5 : Nat)) ∈ lw_all := lw_g (lw_at lw_m4 65 rfl) rfl
theorem q872 : (Jvm.Cond.methodLink "ChapterLoan" (250 : Nat) ({ cls := "ChapterLoan$Reader", name := "<init>", desc := "(Ljava/lang/String;[BI)V" } : Jvm.MethodName)) ∈ lw_all := lw_g (lw_at lw_m4 68 rfl) rfl
theorem q873 : (Jvm.Cond.instanceMethod ({ cls := "ChapterLoan$Reader", name := "<init>", desc := "(Ljava/lang/String;[BI)V" } : Jvm.MethodName)) ∈ lw_all := lw_g (lw_at lw_m4 69 rfl) rfl
theorem q874 : (Jvm.Cond.code ({ cls := "ChapterLoan$Reader", name := "<init>", desc := "(Ljava/lang/String;[BI)V" } : Jvm.MethodName) prog_14_method_1_code (4 : Nat) (Option.none : Option Jvm.ClassFile.FieldType)) ∈ lw_all := lw_g (lw_at lw_m4 70 rfl) rfl
theorem q892 : (Jvm.Cond.methodLink "ChapterLoan" (253 : Nat) ({ cls := "ChapterLoan$Reader", name := "read", desc := "()LChapterLoan$Term;" } : Jvm.MethodName)) ∈ lw_all := lw_g (lw_at lw_m4 88 rfl) rfl
theorem q893 : (Jvm.Cond.instanceMethod ({ cls := "ChapterLoan$Reader", name := "read", desc := "()LChapterLoan$Term;" } : Jvm.MethodName)) ∈ lw_all := lw_g (lw_at lw_m4 89 rfl) rfl
theorem q894 : (Jvm.Cond.selects "ChapterLoan$Reader" ({ cls := "ChapterLoan$Reader", name := "read", desc := "()LChapterLoan$Term;" } : Jvm.MethodName) ({ cls := "ChapterLoan$Reader", name := "read", desc := "()LChapterLoan$Term;" } : Jvm.MethodName)) ∈ lw_all := lw_g (lw_at lw_m4 90 rfl) rfl
theorem q895 : (Jvm.Cond.code ({ cls := "ChapterLoan$Reader", name := "read", desc := "()LChapterLoan$Term;" } : Jvm.MethodName) prog_14_method_2_code (2 : Nat) (Option.some (Jvm.ClassFile.FieldType.object "ChapterLoan$Term"))) ∈ lw_all := lw_g (lw_at lw_m4 91 rfl) rfl
theorem fltOf_some {e : va_E} {a : Int32} (h : fltOf e = some a) : e = .inr (6, [.null, .null, .null, .null, .null, .int 0, .int a]) := by
  unfold fltOf at h
  split at h
  · cases h; rfl
  · cases h
theorem tm_getN {host : String} (C : cC p R d s m args c cc nL own D cA A) (hP : cW D cA ks ad st H) {a : Nat} (hta : live ks ad a) {ci : Nat} {fs : List Value} (e0 : st.2.2.2 (1000 + a) = .inr (ci, fs)) {Cn ref : String} {T : u_T} {N : Nat} (hcl : cCl[ci]? = some (Cn, T, N)) (hin : ∀ w ∈ u_ws Cn T N, w ∈ lw_all) (j : Nat) (hj : j < N) (hl : Cond.fieldLinkNest own index ref (T j).2.1 (T j).2.2.1 host ∈ lw_nest) (hsame : ∀ x, s.fieldFound? (T j).1 (T j).2.1 (T j).2.2.1 = some x → s.fieldFound? ref (T j).2.1 (T j).2.2.1 = some x) {v : Value} (hv : fs[j]? = some v) (hdg : decode cc pc = .ok (.getfield index, 3)) (kk : W p l e R s m args below meth c H locs cells slots Q (F0 m (pc + 3) ls (v :: rest))) : W p l e R s m args below meth c H locs cells slots Q (F0 m pc ls (.ref a :: rest)) := by
  have h := cc_getN (pc := pc) (ls := ls) (rest := rest) (l := l) (e := e) (below := below) (meth := meth) (locs := locs) (cells := cells) (slots := slots) (Q := Q) C hP hta.1 (by rw [cg_pool]; exact e0) hcl hin j hj hl hsame hv hdg kk
  rw [hta.2] at h
  exact h
/-- what text needs beside the world -/
def tX (adK adV : Nat → Nat) (A : Nat → Prop) (U : State) : Prop := sX adK adV A U ∧ va_Nc "ChapterLoan$Finding" "ChapterLoan$Fault" U
theorem cc_ofHT {y : MethodName} {bytes : ByteArray} {maxL kc kn nx : Nat} {ret : Option FieldType} {As : List Value} {Qc : Array Value → State → Outcome → State → Prop} {hh : List (Nat × Nat × Nat × Nat)} (hy : plainName y.cls = true) (hyc : y.cls = own) (hnl : (lg_sl As).length ≤ maxL)
    (body : ∀ (p : Program) (e : Env) (s : State) (m : MethodId) (below : List Frame) (meth : Method) (c : Code) (R : Room) (args : Array Value) (ls : Array Slot), cC p R d s m args c bytes maxL own D cA A → meth.sig.returnType = ret → meth.locks = false → c.exceptionTable.toList.map xkey = hh → cW D cA ks ad st s.heap → va_S A s.heap s.heap [] → lv_has ls maxL (lv_args 0 As) → (kc ≤ R.cells ∧ kn ≤ R.slots) → s.heap.size = nx → tX adK adV A s →
      W p l e R s m args below meth c s.heap [] 0 0 (MQ below Qc args s kc kn A) (F0 m 0 ls [])) : Met l y (wsW_ y bytes maxL ret hh) (rmA d kc kn) (fun a U => nPre nx D cA ks ad A st As a U ∧ tX adK adV A U) Qc kc kn A := by
  refine MetFree.of_bodyS (code := bytes) (maxLocals := maxL) (ret := ret) hy ?_ ?_
  · intro args s m h hn
    obtain ⟨m9, meth, c, hn9, h1, h2, h3, h4, -, h5, h6, -⟩ := Cond.codeWith_spec (atoms_spec (ws := wsW_ y bytes maxL ret hh) h _ List.mem_cons_self)
    cases hn.symm.trans hn9
    exact ⟨meth, c, h1, h2, h3, h4, h5, h6⟩
  · intro p e s m args below meth c s₁ B hml hv _
    obtain ⟨⟨⟨rfl, hP, hK, hN, hA⟩, hnx⟩, hX⟩ := hv
    have hts0 := atoms_spec (ws := wsW_ y bytes maxL ret hh) B.pre
    have hts : ∀ w ∈ lw_all, w.before _ s = true := fun w h => hts0 w (List.mem_cons_of_mem _ h)
    have hown : s.vm.findClass y.cls = some m.cls := findClass_of_methodNamed B.named
    rw [hyc] at hown
    have hh0 : s₁.heap = s.heap := by rw [B.state]; rfl
    obtain ⟨m9, meth', c', hn9, hm', hc', -, -, htab, -, -, -⟩ := Cond.codeWith_spec (hts0 _ List.mem_cons_self)
    cases B.named.symm.trans hn9
    have hcm : c' = c := by
      cases B.method.symm.trans hm'
      cases (Stand.of_body B).code.symm.trans hc'
      rfl
    subst hcm
    have K := body p e s m below meth c' (headSpec (wsW_ y bytes maxL ret hh) (rmA d kc kn)).room As.toArray _ ⟨B.exec, B.bytes, hml, hown, hts, ⟨Nat.le_refl _, Nat.le_refl _⟩, hK, hN, hA⟩ B.returns B.notSynchronized htab hP va_S.rf (lv_entry _ hnl) ⟨Nat.le_refl _, Nat.le_refl _⟩ hnx hX
    rw [← lg_entry_eq] at K
    obtain ⟨t, a1, oc, b1, b2, b3⟩ := K s₁ hh0 (Stand.of_body B)
    exact ⟨t, oc, a1, b1, b2, b3⟩
theorem tI_str {x : Int32} (h : sX adK adV A s) : (x = 0 → vk_R RX0 246 "fwd" (adK (tI x)) s) ∧ (¬ x = 0 → vk_R RX0 248 "don" (adK (tI x)) s) := by
  refine ⟨fun e => ?_, fun e => ?_⟩
  · rw [tI, if_pos e]; exact h.2.1 0 (by decide)
  · rw [tI, if_neg e]; exact h.2.1 1 (by decide)
theorem tI_lt {x : Int32} : tI x < 9 := by unfold tI; split <;> decide
theorem w_L_text {l : Launch} {D : va_G} {cA : Nat → ClassId} {ks : List Nat} {ad : Nat → Nat} {A : Nat → Prop} {adK adV : Nat → Nat} (had : adP ad) (hO : klOk A ks ad) {N : Nat} {st st' : CS} {nx : Nat} {x1 r0 : Int32} (h : L_text adK ad nx N st x1 = some (r0, st')) : Met l yX0_text (wsW_ yX0_text cX0_text 3 (some .int) [(0, 66, 67, 257), (0, 66, 76, 8)]) (rmA 70 60 420) (fun a U => nPre nx D cA ks ad A st [.ref (ad 60), .int x1] a U ∧ tX adK adV A U) (aQ (some (.int r0)) D cA ks ad A st') 60 420 A := by
  refine cc_ofHT (own := RX0) (by decide) rfl (Nat.le_of_ble_eq_true rfl) (fun p e s m below meth c R args ls C hr hlk htab hP hS hl hcsA hnx hX => ?_)
  have hx := C.1
  have hb := C.2.1
  have hown := C.2.2.2.1
  have hts := C.2.2.2.2.1
  have hcs : 0 ≤ R.cells ∧ 0 ≤ R.slots := ⟨Nat.zero_le _, Nat.zero_le _⟩
  have hl : lv_has ls 3 [(0, .ref (ad 60)), (1, .int x1)] := hl
  unfold L_text at h
  obtain ⟨v1, hv1, h⟩ := bd1_some h
  obtain ⟨o, st1, hn1, h⟩ := bd2_some h
  refine lv_aload_n hx hb dX0_text_0 rfl (lv_at hl 0 rfl) ?_
  refine lv_iload_n hx hb dX0_text_1 rfl (lv_at hl 1 rfl) ?_
  refine lv_iconst (v := 0) hx hb dX0_text_2 (by decide) ?_
  refine lv_iconst (v := 1) hx hb dX0_text_3 (by decide) ?_
  refine k_L_in hx hb C.2.2.1 hown hts C.2.2.2.2.2.1 q399 hv1 (Nat.le_of_ble_eq_true rfl) hl.1 (Nat.le_of_ble_eq_true rfl) hcs dX0_text_4 ?_
  refine lv_iconst (v := 1) hx hb dX0_text_7 (by decide) ?_
  rcases o with _ | u
  · rw [onx_none] at h
    obtain ⟨v, st2, hf, h⟩ := bd2_some h
    cases h
    refine k_L_needT C hO hP hS hn1 q402 (Nat.le_of_ble_eq_true rfl) hl.1 (Nat.le_of_ble_eq_true rfl) hcs dX0_text_8 (fun H locs hP hS => ?_)
    obtain ⟨cell, g1, g2, g3⟩ := find_cell C hO hP
    obtain ⟨cF, cT, n1, n2, n3⟩ := hX.2
    cases n1.symm.trans g3
    refine WT.catch2 (pre := []) (mid := []) (rest := []) hown htab rfl rfl rfl (by decide) rfl (by decide) (hts _ q867) n2 n3 (hts _ q129) g3 g1 g2 (asg_self _ _) ?_
    refine lv_astore_n (lv' := [(2, .ref (ad 61)), (0, .ref (ad 60)), (1, .int x1)]) hx hb dX0_text_76 rfl hl (by decide) rfl (fun ls hl => ?_)
    refine lv_aload_n hx hb dX0_text_77 rfl (lv_at hl 1 rfl) ?_
    refine lv_aload_n hx hb dX0_text_78 rfl (lv_at hl 0 rfl) ?_
    refine k_L_finds C hO hP hS hf q410 (Nat.le_of_ble_eq_true rfl) hl.1 (Nat.le_of_ble_eq_true rfl) hcs dX0_text_79 (fun H locs hP hS => ?_)
    refine W.widen (k := 60) (n := 420) (by omega) (by omega) ?_
    exact W.iret hx hb hr (fun t ht _ => ⟨rfl, hS.F ht, ks, fun _ h => h, hO, by rw [ht]; exact hP⟩) hS.2.2 dX0_text_82
  · rw [onx_some] at h
    obtain ⟨o2, z2, hrd, h⟩ := bd2_some h
    refine k_L_needR C hO hP hS hn1 q402 (Nat.le_of_ble_eq_true rfl) hl.1 (Nat.le_of_ble_eq_true rfl) hcs dX0_text_8 (fun H locs hP hS => ?_)
    refine lv_aload_n hx hb dX0_text_11 rfl (lv_at hl 0 rfl) ?_
    refine lg_town C hO hP dX0_text_12 ?_
    refine tgN_taped (t := 0) C hO (by decide) hP dX0_text_15 ?_
    refine lv_istore_n (lv' := [(2, .int (st1.1 (20 * 0) 21)), (0, .ref (ad 60)), (1, .int x1)]) hx hb dX0_text_18 rfl hl (by decide) rfl (fun ls hl => ?_)
    refine lv_aload_n hx hb dX0_text_19 rfl (lv_at hl 1 rfl) ?_
    refine lg_town C hO hP dX0_text_20 ?_
    refine lv_iconst (v := 0) hx hb dX0_text_23 (by decide) ?_
    refine tpN_taped (t := 0) C hO (by decide) hP hS dX0_text_24 (fun H locs hP hS => ?_)
    refine lv_aload_n hx hb dX0_text_27 rfl (lv_at hl 1 rfl) ?_
    refine lg_town C hO hP dX0_text_28 ?_
    refine tgN_text (t := 0) C hO (by decide) hP dX0_text_31 ?_
    refine lv_iload_n hx hb dX0_text_34 rfl (lv_at hl 2 rfl) ?_
    refine W.size0 (fun hH => ?_)
    rw [hnx] at hH
    generalize hst2 : csF st1 (20 * 0) 21 0 = st2 at hP hrd
    generalize hsz2 : st1.1 (20 * 0) 21 = sz2 at hrd h hl
    refine cc_new (ci := 18) (Cn := RX16) (T := TX16) (N := 5) (ty0 := tyX16) (fs := [.null, .null, .int 0, .int 0, .int 0]) C had hO hP hS rfl in_X16 tyX16_ok q868 q869 q107 (fun j hj => by match j, hj with | 0, _ => rfl | 1, _ => rfl | 2, _ => rfl | 3, _ => rfl | 4, _ => rfl) (fun b h => by simp at h) (by omega) (by omega) dX0_text_35 (fun H hz1 hO1 hP hS => ?_)
    rw [hH] at hO1 hP hz1 ⊢
    refine lv_dup hx hb dX0_text_38 rfl ?_
    refine lv_iload_n hx hb dX0_text_39 rfl (lv_at hl 2 rfl) ?_
    have key : W p l e R s m args below meth c H locs (0 + 1) (0 + 5) (MQ below (aQ (some (.int r0)) D cA ks ad A st') args s 60 420 A) (F0 m 50 ls [.ref (adK (tI x1)), .ref nx, .ref nx, .int x1, .ref (ad (20 * 0 + 18))]) := by
      refine lv_aload_n hx hb dX0_text_50 rfl (lv_at hl 1 rfl) ?_
      refine lg_town C hO1 hP dX0_text_51 ?_
      refine tgN_tape (t := 0) C hO1 (by decide) hP dX0_text_54 ?_
      refine lv_iload_n hx hb dX0_text_57 rfl (lv_at hl 0 rfl) ?_
      refine cc_cI (As := [.ref (adK (tI x1)), .ref (ad (20 * 0 + 14)), .int sz2]) (n := 3) C hP hS (w_ReaderI hO1 (live_new had) csP_at) (cwI 3 hts (lw_meth q874) rfl rfl rfl (hts _ q107) (hts _ q872) (hts _ q873) rfl (by decide +kernel) (mr_ C.2.2.2.2.2.1 (Nat.le_of_ble_eq_true rfl) (by decide))) rfl hl.1 rfl (Nat.le_of_ble_eq_true rfl) dX0_text_58 ⟨by omega, by omega⟩ (fun H locs hP hS => ?_)
      rw [csP_csP] at hP
      have hP : cW D cA (ks ++ [1000 + nx]) ad (wS adK ad (tI x1) nx sz2 (st2, nx + 1, 0, 0)) H := hP
      refine W.sizeLe (fun hzz => ?_)
      have hz3 := ad_lt hP (k := 1000 + nx) (by simp)
      rw [had] at hz3
      have K : rC p R 70 s m args c _ _ RX0 D cA A adK adV ad (nx + 60) nx := ⟨C, hX.1, had, hnx, by omega, by omega⟩
      have J : rI D cA ad A adK (tI x1) nx sz2 s.heap (nx + 60) nx ks (ks ++ [1000 + nx]) (st2, nx + 1, 0, 0) H locs := ⟨hO1, live_new had, hP, hS, (by omega : H.size = nx + 1), Nat.le_succ _, (by omega : nx + 1 ≤ nx + 60), fun x hx => List.mem_append_left _ hx⟩
      refine W.widen (k := (nx + 1) - nx) (n := 7 * ((nx + 1) - nx)) (by omega) (by omega) ?_
      refine pp_callF (z := (st2, nx + 1, 0, 0)) K J (w_R_read had tI_lt) hrd (cwV 0 hts (lw_V q892 q893 q894 q107 q895) rfl rfl rfl (by decide +kernel) (mrA C.2.2.2.2.2.1 (Nat.le_of_ble_eq_true rfl) (by decide))) (by decide +kernel) hl.1 (Nat.le_of_ble_eq_true rfl) dX0_text_61 (fun a ho ks2 H locs J hs2 hla => ?_) (fun ho ks2 H locs J hL => ?_)
      · subst ho
        rw [onx_some] at h
        have hM := J.2.2.2.2.2.2.1
        by_cases hq : isTm (wS adK ad (tI x1) nx sz2 z2).2.2.2 a = true
        · have h := if_some_t h hq
          obtain ⟨b, hb2, h⟩ := bd1_some h
          cases h
          have hb3 := wrq_some hb2
          refine cc_astM (st2 := csQ (wS adK ad (tI x1) nx sz2 z2) 18 b) (k := 18) (n := 2) (ca := cA 5) (E := "ChapterLoan$Term") (f := z2.1.2.2.1 18) C J.1 J.2.2.1 J.2.2.2.1 5 (J.1.2.2.2 18 (by decide)) rfl rfl hb2 (tm_any C J.2.2.1 hla hq) (cg_Q rfl) (by rw [hb3.2]; exact refOk_set J.2.2.1.2 (by decide) hla) dX0_text_64 (fun H locs hP hS => ?_)
          refine lv_iconst (v := 1) hx hb dX0_text_65 (by decide) ?_
          refine W.widen (k := 60) (n := 420) (by omega) (by omega) ?_
          exact W.iret hx hb hr (fun t ht _ => ⟨rfl, hS.F ht, ks2, J.2.2.2.2.2.2.2, J.1, by rw [ht]; exact hP⟩) hS.2.2 dX0_text_66
        · exact non_some (if_some_f h hq)
      · subst ho
        rw [onx_none] at h
        have hM := J.2.2.2.2.2.2.1
        obtain ⟨pa, hpa, h⟩ := bd1_some h
        obtain ⟨e2, e3⟩ := Prod.mk.inj (Option.some.inj h)
        subst e2
        subst e3
        have hce := fltOf_some hpa
        obtain ⟨cell, g1, g2, g3⟩ := tm_recv C J.2.2.1 hL hce (q := (RX18, TX18, 7)) rfl
        refine WT.catch1 (pre := []) (rest := [(0, 66, 76, 8)]) hown htab rfl rfl (by decide) (hts _ q867) g3 g1 g2 (asg_self _ _) ?_
        refine lv_astore_n (lv' := [(2, .ref (z2.2.1 - 1)), (0, .ref (ad 60)), (1, .int x1)]) hx hb dX0_text_67 rfl hl (by decide) rfl (fun ls hl => ?_)
        refine lv_bipush (v := -10) hx hb dX0_text_68 (by decide) ?_
        refine lv_aload_n hx hb dX0_text_70 rfl (lv_at hl 0 rfl) ?_
        refine tm_getN C J.2.2.1 hL hce (Cn := RX18) (ref := RX18) (T := TX18) (N := 7) rfl in_X18 6 (by decide) (List.mem_of_getElem? (i := 47) rfl) (fun _ h => h) rfl dX0_text_71 ?_
        refine lv_isub hx hb dX0_text_74 ?_
        refine W.widen (k := 60) (n := 420) (by omega) (by omega) ?_
        exact W.iret hx hb hr (fun t ht _ => ⟨rfl, J.2.2.2.1.F ht, ks2, J.2.2.2.2.2.2.2, J.1, by rw [ht]; exact J.2.2.1⟩) J.2.2.2.1.2.2 dX0_text_75
    refine lv_if_ne (tgt := 48) hx hb dX0_text_40 rfl (fun c1 => ?_) (fun c1 => ?_)
    · refine va_ldcS hx hb hown ((tI_str hX.1).2 c1) dX0_text_48 ?_
      exact key
    · have c1 : x1 = 0 := by first | exact c1 | exact Classical.not_not.mp c1
      refine va_ldcS hx hb hown ((tI_str hX.1).1 c1) dX0_text_43 ?_
      refine lv_goto (tgt := 50) hx hb dX0_text_45 rfl ?_
      exact key
end
