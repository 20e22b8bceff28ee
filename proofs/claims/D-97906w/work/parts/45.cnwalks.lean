/-! debtorOf: walks -/
set_option maxRecDepth 100000
section
variable {p : Program} {l : Launch} {e : Env} {R : Room} {s : State} {m : MethodId} {args : Array Value} {below : List Frame} {meth : Method} {c : Code} {H : Heap} {locs : List Loc} {cells slots d : Nat} {Q : State → Prop} {cc : ByteArray} {pc nL : Nat} {ls : Array Slot} {rest : List Value} {D : va_G} {cA : Nat → ClassId} {ks : List Nat} {ad : Nat → Nat} {A : Nat → Prop} {st : CS} {H0 : Heap} {own : String} {index : Nat}
/-- room for new cells -/
def rmA (d kc kn : Nat) : Room := { frames := d, cells := kc, slots := kn, locals := 40 * d }
abbrev nPre (nx : Nat) (D : va_G) (cA : Nat → ClassId) (ks : List Nat) (ad : Nat → Nat) (A : Nat → Prop) (st : CS) (As : List Value) : Array Value → State → Prop := fun a U => cPre D cA ks ad A st As a U ∧ U.heap.size = nx
/-- one new object, at the heap's old end -/
def nQ (nx : Nat) (r : Option Value) (D : va_G) (cA : Nat → ClassId) (ks : List Nat) (ad : Nat → Nat) (A : Nat → Prop) (st' : CS) : Array Value → State → Outcome → State → Prop := fun _ s0 o t => o = .returned r ∧ cW D cA (ks ++ [1000 + nx]) ad st' t.heap ∧ va_F A s0 t ∧ t.heap.size = nx + 1
theorem W.sizeLe {g : JFrame} (k : H.size ≤ s.heap.size + cells → W p l e R s m args below meth c H locs cells slots Q g) : W p l e R s m args below meth c H locs cells slots Q g := by
  intro T hT X
  have h := X.same
  refine k ?_ T hT X
  have h2 := h.2.2.1
  rw [← hT]
  exact h2
theorem cc_ofA {y : MethodName} {bytes : ByteArray} {maxL kc kn nx : Nat} {ret : Option FieldType} {As : List Value} {Qc : Array Value → State → Outcome → State → Prop} (hy : plainName y.cls = true) (hyc : y.cls = own) (hnl : (lg_sl As).length ≤ maxL)
    (body : ∀ (p : Program) (e : Env) (s : State) (m : MethodId) (below : List Frame) (meth : Method) (c : Code) (R : Room) (args : Array Value) (ls : Array Slot), cC p R d s m args c bytes maxL own D cA A → meth.sig.returnType = ret → meth.locks = false → cW D cA ks ad st s.heap → va_S A s.heap s.heap [] → lv_has ls maxL (lv_args 0 As) → (kc ≤ R.cells ∧ kn ≤ R.slots) → s.heap.size = nx →
      W p l e R s m args below meth c s.heap [] 0 0 (MQ below Qc args s kc kn A) (F0 m 0 ls [])) : Met l y (ws_ y bytes maxL ret) (rmA d kc kn) (nPre nx D cA ks ad A st As) Qc kc kn A := by
  refine Met.ofW (cc := bytes) (maxL := maxL) (ret := ret) hy rfl ?_
  intro p e s m args below meth c s₁ B hml hv
  obtain ⟨⟨rfl, hP, hK, hN, hA⟩, hnx⟩ := hv
  have hts := atoms_spec (ws := ws_ y bytes maxL ret) B.pre
  have hts : ∀ w ∈ lw_all, w.before _ s = true := fun w h => hts w (List.mem_cons_of_mem _ h)
  have hown : s.vm.findClass y.cls = some m.cls := findClass_of_methodNamed B.named
  rw [hyc] at hown
  rw [lg_entry_eq]
  exact body p e s m below meth c _ _ _ ⟨B.exec, B.bytes, hml, hown, hts, ⟨Nat.le_refl _, Nat.le_refl _⟩, hK, hN, hA⟩ B.returns B.notSynchronized hP va_S.rf (lv_entry _ hnl) ⟨Nat.le_refl _, Nat.le_refl _⟩ hnx

abbrev cX0_debtorOf : ByteArray := prog_1_method_4_code
def yX0_debtorOf : MethodName := ⟨RX0, "debtorOf", "(ILChapterLoan$Trace;II)LChapterLoan$Debtor;"⟩
theorem dX0_debtorOf_0 : decode cX0_debtorOf 0 = .ok (.iload_n 0, 1) := by decide +kernel
theorem dX0_debtorOf_1 : decode cX0_debtorOf 1 = .ok (.tableswitch 105 1 6 #[39, 50, 61, 72, 83, 94], 39) := by decide +kernel
theorem dX0_debtorOf_40 : decode cX0_debtorOf 40 = .ok (.new 13, 3) := by decide +kernel
theorem dX0_debtorOf_43 : decode cX0_debtorOf 43 = .ok (.dup, 1) := by decide +kernel
theorem dX0_debtorOf_44 : decode cX0_debtorOf 44 = .ok (.aload_n 1, 1) := by decide +kernel
theorem dX0_debtorOf_45 : decode cX0_debtorOf 45 = .ok (.iload_n 2, 1) := by decide +kernel
theorem dX0_debtorOf_46 : decode cX0_debtorOf 46 = .ok (.iload_n 3, 1) := by decide +kernel
theorem dX0_debtorOf_47 : decode cX0_debtorOf 47 = .ok (.invokespecial 15, 3) := by decide +kernel
theorem dX0_debtorOf_50 : decode cX0_debtorOf 50 = .ok (.areturn, 1) := by decide +kernel
theorem dX0_debtorOf_51 : decode cX0_debtorOf 51 = .ok (.new 19, 3) := by decide +kernel
theorem dX0_debtorOf_54 : decode cX0_debtorOf 54 = .ok (.dup, 1) := by decide +kernel
theorem dX0_debtorOf_55 : decode cX0_debtorOf 55 = .ok (.aload_n 1, 1) := by decide +kernel
theorem dX0_debtorOf_56 : decode cX0_debtorOf 56 = .ok (.iload_n 2, 1) := by decide +kernel
theorem dX0_debtorOf_57 : decode cX0_debtorOf 57 = .ok (.iload_n 3, 1) := by decide +kernel
theorem dX0_debtorOf_58 : decode cX0_debtorOf 58 = .ok (.invokespecial 21, 3) := by decide +kernel
theorem dX0_debtorOf_61 : decode cX0_debtorOf 61 = .ok (.areturn, 1) := by decide +kernel
theorem dX0_debtorOf_62 : decode cX0_debtorOf 62 = .ok (.new 22, 3) := by decide +kernel
theorem dX0_debtorOf_65 : decode cX0_debtorOf 65 = .ok (.dup, 1) := by decide +kernel
theorem dX0_debtorOf_66 : decode cX0_debtorOf 66 = .ok (.aload_n 1, 1) := by decide +kernel
theorem dX0_debtorOf_67 : decode cX0_debtorOf 67 = .ok (.iload_n 2, 1) := by decide +kernel
theorem dX0_debtorOf_68 : decode cX0_debtorOf 68 = .ok (.iload_n 3, 1) := by decide +kernel
theorem dX0_debtorOf_69 : decode cX0_debtorOf 69 = .ok (.invokespecial 24, 3) := by decide +kernel
theorem dX0_debtorOf_72 : decode cX0_debtorOf 72 = .ok (.areturn, 1) := by decide +kernel
theorem dX0_debtorOf_73 : decode cX0_debtorOf 73 = .ok (.new 25, 3) := by decide +kernel
theorem dX0_debtorOf_76 : decode cX0_debtorOf 76 = .ok (.dup, 1) := by decide +kernel
theorem dX0_debtorOf_77 : decode cX0_debtorOf 77 = .ok (.aload_n 1, 1) := by decide +kernel
theorem dX0_debtorOf_78 : decode cX0_debtorOf 78 = .ok (.iload_n 2, 1) := by decide +kernel
theorem dX0_debtorOf_79 : decode cX0_debtorOf 79 = .ok (.iload_n 3, 1) := by decide +kernel
theorem dX0_debtorOf_80 : decode cX0_debtorOf 80 = .ok (.invokespecial 27, 3) := by decide +kernel
theorem dX0_debtorOf_83 : decode cX0_debtorOf 83 = .ok (.areturn, 1) := by decide +kernel
theorem dX0_debtorOf_84 : decode cX0_debtorOf 84 = .ok (.new 28, 3) := by decide +kernel
theorem dX0_debtorOf_87 : decode cX0_debtorOf 87 = .ok (.dup, 1) := by decide +kernel
theorem dX0_debtorOf_88 : decode cX0_debtorOf 88 = .ok (.aload_n 1, 1) := by decide +kernel
theorem dX0_debtorOf_89 : decode cX0_debtorOf 89 = .ok (.iload_n 2, 1) := by decide +kernel
theorem dX0_debtorOf_90 : decode cX0_debtorOf 90 = .ok (.iload_n 3, 1) := by decide +kernel
theorem dX0_debtorOf_91 : decode cX0_debtorOf 91 = .ok (.invokespecial 30, 3) := by decide +kernel
theorem dX0_debtorOf_94 : decode cX0_debtorOf 94 = .ok (.areturn, 1) := by decide +kernel
theorem dX0_debtorOf_95 : decode cX0_debtorOf 95 = .ok (.new 31, 3) := by decide +kernel
theorem dX0_debtorOf_98 : decode cX0_debtorOf 98 = .ok (.dup, 1) := by decide +kernel
theorem dX0_debtorOf_99 : decode cX0_debtorOf 99 = .ok (.aload_n 1, 1) := by decide +kernel
theorem dX0_debtorOf_100 : decode cX0_debtorOf 100 = .ok (.iload_n 2, 1) := by decide +kernel
theorem dX0_debtorOf_101 : decode cX0_debtorOf 101 = .ok (.iload_n 3, 1) := by decide +kernel
theorem dX0_debtorOf_102 : decode cX0_debtorOf 102 = .ok (.invokespecial 33, 3) := by decide +kernel
theorem dX0_debtorOf_105 : decode cX0_debtorOf 105 = .ok (.areturn, 1) := by decide +kernel
theorem dX0_debtorOf_106 : decode cX0_debtorOf 106 = .ok (.new 34, 3) := by decide +kernel
theorem dX0_debtorOf_109 : decode cX0_debtorOf 109 = .ok (.dup, 1) := by decide +kernel
theorem dX0_debtorOf_110 : decode cX0_debtorOf 110 = .ok (.aload_n 1, 1) := by decide +kernel
theorem dX0_debtorOf_111 : decode cX0_debtorOf 111 = .ok (.iload_n 2, 1) := by decide +kernel
theorem dX0_debtorOf_112 : decode cX0_debtorOf 112 = .ok (.iload_n 3, 1) := by decide +kernel
theorem dX0_debtorOf_113 : decode cX0_debtorOf 113 = .ok (.invokespecial 36, 3) := by decide +kernel
theorem dX0_debtorOf_116 : decode cX0_debtorOf 116 = .ok (.areturn, 1) := by decide +kernel
theorem q452 : (Jvm.Cond.classLink "ChapterLoan" (13 : Nat) "ChapterLoan$Plagiarist") ∈ lw_all := lw_g (lw_at lw_m2 128 rfl) rfl
theorem q453 : (Jvm.Cond.instantiable "ChapterLoan$Plagiarist" (3 : Nat)) ∈ lw_all := lw_g (lw_at lw_m2 129 rfl) rfl
theorem q454 : (Jvm.Cond.methodLink "ChapterLoan" (15 : Nat) ({ cls := "ChapterLoan$Plagiarist", name := "<init>", desc := "(LChapterLoan$Trace;II)V" } : Jvm.MethodName)) ∈ lw_all := lw_g (lw_at lw_m2 130 rfl) rfl
theorem q494 : (Jvm.Cond.classLink "ChapterLoan" (19 : Nat) "ChapterLoan$Dreamer") ∈ lw_all := lw_g (lw_at lw_m2 170 rfl) rfl
theorem q495 : (Jvm.Cond.instantiable "ChapterLoan$Dreamer" (3 : Nat)) ∈ lw_all := lw_g (lw_at lw_m2 171 rfl) rfl
theorem q496 : (Jvm.Cond.methodLink "ChapterLoan" (21 : Nat) ({ cls := "ChapterLoan$Dreamer", name := "<init>", desc := "(LChapterLoan$Trace;II)V" } : Jvm.MethodName)) ∈ lw_all := lw_g (lw_at lw_m2 172 rfl) rfl
theorem q504 : (Jvm.Cond.classLink "ChapterLoan" (22 : Nat) "ChapterLoan$Ghost") ∈ lw_all := lw_g (lw_at lw_m2 180 rfl) rfl
theorem q505 : (Jvm.Cond.instantiable "ChapterLoan$Ghost" (3 : Nat)) ∈ lw_all := lw_g (lw_at lw_m2 181 rfl) rfl
theorem q506 : (Jvm.Cond.methodLink "ChapterLoan" (24 : Nat) ({ cls := "ChapterLoan$Ghost", name := "<init>", desc := "(LChapterLoan$Trace;II)V" } : Jvm.MethodName)) ∈ lw_all := lw_g (lw_at lw_m2 182 rfl) rfl
theorem q514 : (Jvm.Cond.classLink "ChapterLoan" (25 : Nat) "ChapterLoan$Twin") ∈ lw_all := lw_g (lw_at lw_m2 190 rfl) rfl
theorem q515 : (Jvm.Cond.instantiable "ChapterLoan$Twin" (3 : Nat)) ∈ lw_all := lw_g (lw_at lw_m2 191 rfl) rfl
theorem q516 : (Jvm.Cond.methodLink "ChapterLoan" (27 : Nat) ({ cls := "ChapterLoan$Twin", name := "<init>", desc := "(LChapterLoan$Trace;II)V" } : Jvm.MethodName)) ∈ lw_all := lw_g (lw_at lw_m2 192 rfl) rfl
theorem q517 : (Jvm.Cond.instanceMethod ({ cls := "ChapterLoan$Twin", name := "<init>", desc := "(LChapterLoan$Trace;II)V" } : Jvm.MethodName)) ∈ lw_all := lw_g (lw_at lw_m2 193 rfl) rfl
theorem q518 : (Jvm.Cond.code ({ cls := "ChapterLoan$Twin", name := "<init>", desc := "(LChapterLoan$Trace;II)V" } : Jvm.MethodName) prog_26_method_1_code (4 : Nat) (Option.none : Option Jvm.ClassFile.FieldType)) ∈ lw_all := lw_g (lw_at lw_m2 194 rfl) rfl
theorem q524 : (Jvm.Cond.classLink "ChapterLoan" (28 : Nat) "ChapterLoan$Seer") ∈ lw_all := lw_g (lw_at lw_m2 200 rfl) rfl
theorem q525 : (Jvm.Cond.instantiable "ChapterLoan$Seer" (3 : Nat)) ∈ lw_all := lw_g (lw_at lw_m2 201 rfl) rfl
theorem q526 : (Jvm.Cond.methodLink "ChapterLoan" (30 : Nat) ({ cls := "ChapterLoan$Seer", name := "<init>", desc := "(LChapterLoan$Trace;II)V" } : Jvm.MethodName)) ∈ lw_all := lw_g (lw_at lw_m2 202 rfl) rfl
theorem q527 : (Jvm.Cond.instanceMethod ({ cls := "ChapterLoan$Seer", name := "<init>", desc := "(LChapterLoan$Trace;II)V" } : Jvm.MethodName)) ∈ lw_all := lw_g (lw_at lw_m2 203 rfl) rfl
theorem q528 : (Jvm.Cond.code ({ cls := "ChapterLoan$Seer", name := "<init>", desc := "(LChapterLoan$Trace;II)V" } : Jvm.MethodName) prog_17_method_1_code (4 : Nat) (Option.none : Option Jvm.ClassFile.FieldType)) ∈ lw_all := lw_g (lw_at lw_m2 204 rfl) rfl
theorem q534 : (Jvm.Cond.classLink "ChapterLoan" (31 : Nat) "ChapterLoan$Saint") ∈ lw_all := lw_g (lw_at lw_m2 210 rfl) rfl
theorem q535 : (Jvm.Cond.instantiable "ChapterLoan$Saint" (3 : Nat)) ∈ lw_all := lw_g (lw_at lw_m2 211 rfl) rfl
theorem q536 : (Jvm.Cond.methodLink "ChapterLoan" (33 : Nat) ({ cls := "ChapterLoan$Saint", name := "<init>", desc := "(LChapterLoan$Trace;II)V" } : Jvm.MethodName)) ∈ lw_all := lw_g (lw_at lw_m2 212 rfl) rfl
theorem q537 : (Jvm.Cond.instanceMethod ({ cls := "ChapterLoan$Saint", name := "<init>", desc := "(LChapterLoan$Trace;II)V" } : Jvm.MethodName)) ∈ lw_all := lw_g (lw_at lw_m2 213 rfl) rfl
theorem q538 : (Jvm.Cond.code ({ cls := "ChapterLoan$Saint", name := "<init>", desc := "(LChapterLoan$Trace;II)V" } : Jvm.MethodName) prog_16_method_1_code (4 : Nat) (Option.none : Option Jvm.ClassFile.FieldType)) ∈ lw_all := lw_g (lw_at lw_m2 214 rfl) rfl
theorem q544 : (Jvm.Cond.classLink "ChapterLoan" (34 : Nat) "ChapterLoan$Debtor") ∈ lw_all := lw_g (lw_at lw_m2 220 rfl) rfl
theorem q545 : (Jvm.Cond.instantiable "ChapterLoan$Debtor" (3 : Nat)) ∈ lw_all := lw_g (lw_at lw_m2 221 rfl) rfl
theorem q546 : (Jvm.Cond.methodLink "ChapterLoan" (36 : Nat) ({ cls := "ChapterLoan$Debtor", name := "<init>", desc := "(LChapterLoan$Trace;II)V" } : Jvm.MethodName)) ∈ lw_all := lw_g (lw_at lw_m2 222 rfl) rfl
theorem w_L_debtorOf {l : Launch} {D : va_G} {cA : Nat → ClassId} {ks : List Nat} {ad : Nat → Nat} {A : Nat → Prop} (had : adP ad) (hO : klOk A ks ad) {st st' : CS} {nx : Nat} {x0 x2 x3 : Int32} (h : L_debtorOf (ad 62) nx st x0 x2 x3 = some st') : Met l yX0_debtorOf (ws_ yX0_debtorOf cX0_debtorOf 4 (some (.object "ChapterLoan$Debtor"))) (rmA 5 1 3) (nPre nx D cA ks ad A st [.int x0, .ref (ad 62), .int x2, .int x3]) (nQ nx (some (.ref nx)) D cA ks ad A st') 1 3 A := by
  refine cc_ofA (own := RX0) (by decide) rfl (Nat.le_of_ble_eq_true rfl) (fun p e s m below meth c R args ls C hr hlk hP hS hl hcs hnx => ?_)
  have hx := C.1
  have hb := C.2.1
  have hl : lv_has ls 4 [(0, .int x0), (1, .ref (ad 62)), (2, .int x2), (3, .int x3)] := hl
  subst hnx
  rw [L_debtorOf] at h
  refine lv_iload_n hx hb dX0_debtorOf_0 rfl (lv_at hl 0 rfl) ?_
  by_cases c1 : x0 = 1
  · have h := if_some_t h c1
    refine lv_tableIn (tgt := 40) hx hb dX0_debtorOf_1 (by rw [c1]; decide) (by rw [c1]; decide) (by rw [c1]; rfl) (by decide) ?_
    refine cc_new (ci := 8) (Cn := RX8) (T := TX8) (N := 3) (ty0 := tyX8) (fs := [.null, .int 0, .int 0]) C had hO hP hS rfl in_X8 tyX8_ok q452 q453 q96 (fun j hj => by match j, hj with | 0, _ => rfl | 1, _ => rfl | 2, _ => rfl) (fun b h => by simp at h) (by omega) (by omega) dX0_debtorOf_40 (fun H hz1 hO hP hS => ?_)
    refine lv_dup hx hb dX0_debtorOf_43 rfl ?_
    refine lv_aload_n hx hb dX0_debtorOf_44 rfl (lv_at hl 1 rfl) ?_
    refine lv_iload_n hx hb dX0_debtorOf_45 rfl (lv_at hl 2 rfl) ?_
    refine lv_iload_n hx hb dX0_debtorOf_46 rfl (lv_at hl 3 rfl) ?_
    refine cc_cI (As := [.ref (ad 62), .int x2, .int x3]) (n := 3) C hP hS (w_I1 (k := 1) hO (live_new had) (by decide) csP_at) (cwI 3 C.2.2.2.2.1 (lw_meth q456) rfl rfl rfl (C.2.2.2.2.1 _ q96) (C.2.2.2.2.1 _ q454) (C.2.2.2.2.1 _ q455) rfl (by decide +kernel) (mr_ C.2.2.2.2.2.1 (Nat.le_of_ble_eq_true rfl) (by decide))) rfl hl.1 rfl (Nat.le_of_ble_eq_true rfl) dX0_debtorOf_47 ⟨by omega, by omega⟩ (fun H locs hP hS => ?_)
    rw [csP_csP] at hP
    cases h
    refine W.sizeLe (fun hz => ?_)
    exact W.aret hx hb hr (Or.inl ⟨_, rfl⟩) (Or.inr ⟨_, rfl⟩) (fun t ht _ => ⟨rfl, by rw [ht]; exact hP, hS.F ht, by rw [ht]; have hz3 := ad_lt hP (k := 1000 + s.heap.size) (by simp); rw [had] at hz3; omega⟩) hS.2.2 dX0_debtorOf_50
  · have h := if_some_f h c1
    by_cases c2 : x0 = 2
    · have h := if_some_t h c2
      refine lv_tableIn (tgt := 51) hx hb dX0_debtorOf_1 (by rw [c2]; decide) (by rw [c2]; decide) (by rw [c2]; rfl) (by decide) ?_
      refine cc_new (ci := 9) (Cn := RX9) (T := TX9) (N := 3) (ty0 := tyX9) (fs := [.null, .int 0, .int 0]) C had hO hP hS rfl in_X9 tyX9_ok q494 q495 q97 (fun j hj => by match j, hj with | 0, _ => rfl | 1, _ => rfl | 2, _ => rfl) (fun b h => by simp at h) (by omega) (by omega) dX0_debtorOf_51 (fun H hz1 hO hP hS => ?_)
      refine lv_dup hx hb dX0_debtorOf_54 rfl ?_
      refine lv_aload_n hx hb dX0_debtorOf_55 rfl (lv_at hl 1 rfl) ?_
      refine lv_iload_n hx hb dX0_debtorOf_56 rfl (lv_at hl 2 rfl) ?_
      refine lv_iload_n hx hb dX0_debtorOf_57 rfl (lv_at hl 3 rfl) ?_
      refine cc_cI (As := [.ref (ad 62), .int x2, .int x3]) (n := 3) C hP hS (w_I2 (k := 2) hO (live_new had) (by decide) csP_at) (cwI 3 C.2.2.2.2.1 (lw_meth q498) rfl rfl rfl (C.2.2.2.2.1 _ q97) (C.2.2.2.2.1 _ q496) (C.2.2.2.2.1 _ q497) rfl (by decide +kernel) (mr_ C.2.2.2.2.2.1 (Nat.le_of_ble_eq_true rfl) (by decide))) rfl hl.1 rfl (Nat.le_of_ble_eq_true rfl) dX0_debtorOf_58 ⟨by omega, by omega⟩ (fun H locs hP hS => ?_)
      rw [csP_csP] at hP
      cases h
      refine W.sizeLe (fun hz => ?_)
      exact W.aret hx hb hr (Or.inl ⟨_, rfl⟩) (Or.inr ⟨_, rfl⟩) (fun t ht _ => ⟨rfl, by rw [ht]; exact hP, hS.F ht, by rw [ht]; have hz3 := ad_lt hP (k := 1000 + s.heap.size) (by simp); rw [had] at hz3; omega⟩) hS.2.2 dX0_debtorOf_61
    · have h := if_some_f h c2
      by_cases c3 : x0 = 3
      · have h := if_some_t h c3
        refine lv_tableIn (tgt := 62) hx hb dX0_debtorOf_1 (by rw [c3]; decide) (by rw [c3]; decide) (by rw [c3]; rfl) (by decide) ?_
        refine cc_new (ci := 10) (Cn := RX10) (T := TX10) (N := 3) (ty0 := tyX10) (fs := [.null, .int 0, .int 0]) C had hO hP hS rfl in_X10 tyX10_ok q504 q505 q98 (fun j hj => by match j, hj with | 0, _ => rfl | 1, _ => rfl | 2, _ => rfl) (fun b h => by simp at h) (by omega) (by omega) dX0_debtorOf_62 (fun H hz1 hO hP hS => ?_)
        refine lv_dup hx hb dX0_debtorOf_65 rfl ?_
        refine lv_aload_n hx hb dX0_debtorOf_66 rfl (lv_at hl 1 rfl) ?_
        refine lv_iload_n hx hb dX0_debtorOf_67 rfl (lv_at hl 2 rfl) ?_
        refine lv_iload_n hx hb dX0_debtorOf_68 rfl (lv_at hl 3 rfl) ?_
        refine cc_cI (As := [.ref (ad 62), .int x2, .int x3]) (n := 3) C hP hS (w_I3 (k := 3) hO (live_new had) (by decide) csP_at) (cwI 3 C.2.2.2.2.1 (lw_meth q508) rfl rfl rfl (C.2.2.2.2.1 _ q98) (C.2.2.2.2.1 _ q506) (C.2.2.2.2.1 _ q507) rfl (by decide +kernel) (mr_ C.2.2.2.2.2.1 (Nat.le_of_ble_eq_true rfl) (by decide))) rfl hl.1 rfl (Nat.le_of_ble_eq_true rfl) dX0_debtorOf_69 ⟨by omega, by omega⟩ (fun H locs hP hS => ?_)
        rw [csP_csP] at hP
        cases h
        refine W.sizeLe (fun hz => ?_)
        exact W.aret hx hb hr (Or.inl ⟨_, rfl⟩) (Or.inr ⟨_, rfl⟩) (fun t ht _ => ⟨rfl, by rw [ht]; exact hP, hS.F ht, by rw [ht]; have hz3 := ad_lt hP (k := 1000 + s.heap.size) (by simp); rw [had] at hz3; omega⟩) hS.2.2 dX0_debtorOf_72
      · have h := if_some_f h c3
        by_cases c4 : x0 = 4
        · have h := if_some_t h c4
          refine lv_tableIn (tgt := 73) hx hb dX0_debtorOf_1 (by rw [c4]; decide) (by rw [c4]; decide) (by rw [c4]; rfl) (by decide) ?_
          refine cc_new (ci := 11) (Cn := RX11) (T := TX11) (N := 3) (ty0 := tyX11) (fs := [.null, .int 0, .int 0]) C had hO hP hS rfl in_X11 tyX11_ok q514 q515 q99 (fun j hj => by match j, hj with | 0, _ => rfl | 1, _ => rfl | 2, _ => rfl) (fun b h => by simp at h) (by omega) (by omega) dX0_debtorOf_73 (fun H hz1 hO hP hS => ?_)
          refine lv_dup hx hb dX0_debtorOf_76 rfl ?_
          refine lv_aload_n hx hb dX0_debtorOf_77 rfl (lv_at hl 1 rfl) ?_
          refine lv_iload_n hx hb dX0_debtorOf_78 rfl (lv_at hl 2 rfl) ?_
          refine lv_iload_n hx hb dX0_debtorOf_79 rfl (lv_at hl 3 rfl) ?_
          refine cc_cI (As := [.ref (ad 62), .int x2, .int x3]) (n := 3) C hP hS (w_I4 (k := 4) hO (live_new had) (by decide) csP_at) (cwI 3 C.2.2.2.2.1 (lw_meth q518) rfl rfl rfl (C.2.2.2.2.1 _ q99) (C.2.2.2.2.1 _ q516) (C.2.2.2.2.1 _ q517) rfl (by decide +kernel) (mr_ C.2.2.2.2.2.1 (Nat.le_of_ble_eq_true rfl) (by decide))) rfl hl.1 rfl (Nat.le_of_ble_eq_true rfl) dX0_debtorOf_80 ⟨by omega, by omega⟩ (fun H locs hP hS => ?_)
          rw [csP_csP] at hP
          cases h
          refine W.sizeLe (fun hz => ?_)
          exact W.aret hx hb hr (Or.inl ⟨_, rfl⟩) (Or.inr ⟨_, rfl⟩) (fun t ht _ => ⟨rfl, by rw [ht]; exact hP, hS.F ht, by rw [ht]; have hz3 := ad_lt hP (k := 1000 + s.heap.size) (by simp); rw [had] at hz3; omega⟩) hS.2.2 dX0_debtorOf_83
        · have h := if_some_f h c4
          by_cases c5 : x0 = 5
          · have h := if_some_t h c5
            refine lv_tableIn (tgt := 84) hx hb dX0_debtorOf_1 (by rw [c5]; decide) (by rw [c5]; decide) (by rw [c5]; rfl) (by decide) ?_
            refine cc_new (ci := 12) (Cn := RX12) (T := TX12) (N := 3) (ty0 := tyX12) (fs := [.null, .int 0, .int 0]) C had hO hP hS rfl in_X12 tyX12_ok q524 q525 q100 (fun j hj => by match j, hj with | 0, _ => rfl | 1, _ => rfl | 2, _ => rfl) (fun b h => by simp at h) (by omega) (by omega) dX0_debtorOf_84 (fun H hz1 hO hP hS => ?_)
            refine lv_dup hx hb dX0_debtorOf_87 rfl ?_
            refine lv_aload_n hx hb dX0_debtorOf_88 rfl (lv_at hl 1 rfl) ?_
            refine lv_iload_n hx hb dX0_debtorOf_89 rfl (lv_at hl 2 rfl) ?_
            refine lv_iload_n hx hb dX0_debtorOf_90 rfl (lv_at hl 3 rfl) ?_
            refine cc_cI (As := [.ref (ad 62), .int x2, .int x3]) (n := 3) C hP hS (w_I5 (k := 5) hO (live_new had) (by decide) csP_at) (cwI 3 C.2.2.2.2.1 (lw_meth q528) rfl rfl rfl (C.2.2.2.2.1 _ q100) (C.2.2.2.2.1 _ q526) (C.2.2.2.2.1 _ q527) rfl (by decide +kernel) (mr_ C.2.2.2.2.2.1 (Nat.le_of_ble_eq_true rfl) (by decide))) rfl hl.1 rfl (Nat.le_of_ble_eq_true rfl) dX0_debtorOf_91 ⟨by omega, by omega⟩ (fun H locs hP hS => ?_)
            rw [csP_csP] at hP
            cases h
            refine W.sizeLe (fun hz => ?_)
            exact W.aret hx hb hr (Or.inl ⟨_, rfl⟩) (Or.inr ⟨_, rfl⟩) (fun t ht _ => ⟨rfl, by rw [ht]; exact hP, hS.F ht, by rw [ht]; have hz3 := ad_lt hP (k := 1000 + s.heap.size) (by simp); rw [had] at hz3; omega⟩) hS.2.2 dX0_debtorOf_94
          · have h := if_some_f h c5
            by_cases c6 : x0 = 6
            · have h := if_some_t h c6
              refine lv_tableIn (tgt := 95) hx hb dX0_debtorOf_1 (by rw [c6]; decide) (by rw [c6]; decide) (by rw [c6]; rfl) (by decide) ?_
              refine cc_new (ci := 13) (Cn := RX13) (T := TX13) (N := 3) (ty0 := tyX13) (fs := [.null, .int 0, .int 0]) C had hO hP hS rfl in_X13 tyX13_ok q534 q535 q101 (fun j hj => by match j, hj with | 0, _ => rfl | 1, _ => rfl | 2, _ => rfl) (fun b h => by simp at h) (by omega) (by omega) dX0_debtorOf_95 (fun H hz1 hO hP hS => ?_)
              refine lv_dup hx hb dX0_debtorOf_98 rfl ?_
              refine lv_aload_n hx hb dX0_debtorOf_99 rfl (lv_at hl 1 rfl) ?_
              refine lv_iload_n hx hb dX0_debtorOf_100 rfl (lv_at hl 2 rfl) ?_
              refine lv_iload_n hx hb dX0_debtorOf_101 rfl (lv_at hl 3 rfl) ?_
              refine cc_cI (As := [.ref (ad 62), .int x2, .int x3]) (n := 3) C hP hS (w_I6 (k := 6) hO (live_new had) (by decide) csP_at) (cwI 3 C.2.2.2.2.1 (lw_meth q538) rfl rfl rfl (C.2.2.2.2.1 _ q101) (C.2.2.2.2.1 _ q536) (C.2.2.2.2.1 _ q537) rfl (by decide +kernel) (mr_ C.2.2.2.2.2.1 (Nat.le_of_ble_eq_true rfl) (by decide))) rfl hl.1 rfl (Nat.le_of_ble_eq_true rfl) dX0_debtorOf_102 ⟨by omega, by omega⟩ (fun H locs hP hS => ?_)
              rw [csP_csP] at hP
              cases h
              refine W.sizeLe (fun hz => ?_)
              exact W.aret hx hb hr (Or.inl ⟨_, rfl⟩) (Or.inr ⟨_, rfl⟩) (fun t ht _ => ⟨rfl, by rw [ht]; exact hP, hS.F ht, by rw [ht]; have hz3 := ad_lt hP (k := 1000 + s.heap.size) (by simp); rw [had] at hz3; omega⟩) hS.2.2 dX0_debtorOf_105
            · have h := if_some_f h c6
              refine lv_tableOut (tgt := 106) hx hb dX0_debtorOf_1 ?_ (by decide) ?_
              · have := lv_neT c1 (show (1 : Int32).toInt = 1 by decide)
                have := lv_neT c2 (show (2 : Int32).toInt = 2 by decide)
                have := lv_neT c3 (show (3 : Int32).toInt = 3 by decide)
                have := lv_neT c4 (show (4 : Int32).toInt = 4 by decide)
                have := lv_neT c5 (show (5 : Int32).toInt = 5 by decide)
                have := lv_neT c6 (show (6 : Int32).toInt = 6 by decide)
                omega
              · refine cc_new (ci := 7) (Cn := RX7) (T := TX7) (N := 3) (ty0 := tyX7) (fs := [.null, .int 0, .int 0]) C had hO hP hS rfl in_X7 tyX7_ok q544 q545 q95 (fun j hj => by match j, hj with | 0, _ => rfl | 1, _ => rfl | 2, _ => rfl) (fun b h => by simp at h) (by omega) (by omega) dX0_debtorOf_106 (fun H hz1 hO hP hS => ?_)
                refine lv_dup hx hb dX0_debtorOf_109 rfl ?_
                refine lv_aload_n hx hb dX0_debtorOf_110 rfl (lv_at hl 1 rfl) ?_
                refine lv_iload_n hx hb dX0_debtorOf_111 rfl (lv_at hl 2 rfl) ?_
                refine lv_iload_n hx hb dX0_debtorOf_112 rfl (lv_at hl 3 rfl) ?_
                refine cc_cI (As := [.ref (ad 62), .int x2, .int x3]) (n := 3) C hP hS (w_I0 (k := 0) hO (live_new had) (by decide) csP_at) (cwI 3 C.2.2.2.2.1 (lw_meth q459) rfl rfl rfl (C.2.2.2.2.1 _ q95) (C.2.2.2.2.1 _ q546) (C.2.2.2.2.1 _ q458) rfl (by decide +kernel) (mr_ C.2.2.2.2.2.1 (Nat.le_of_ble_eq_true rfl) (by decide))) rfl hl.1 rfl (Nat.le_of_ble_eq_true rfl) dX0_debtorOf_113 ⟨by omega, by omega⟩ (fun H locs hP hS => ?_)
                rw [csP_csP] at hP
                cases h
                refine W.sizeLe (fun hz => ?_)
                exact W.aret hx hb hr (Or.inl ⟨_, rfl⟩) (Or.inr ⟨_, rfl⟩) (fun t ht _ => ⟨rfl, by rw [ht]; exact hP, hS.F ht, by rw [ht]; have hz3 := ad_lt hP (k := 1000 + s.heap.size) (by simp); rw [had] at hz3; omega⟩) hS.2.2 dX0_debtorOf_116
end
