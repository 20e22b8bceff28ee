/-! terms: walks -/
set_option maxRecDepth 100000
section
variable {p : Program} {l : Launch} {e : Env} {R : Room} {s : State} {m : MethodId} {args : Array Value} {below : List Frame} {meth : Method} {c : Code} {H : Heap} {locs : List Loc} {cells slots d : Nat} {Q : State → Prop} {cc : ByteArray} {pc nL : Nat} {ls : Array Slot} {rest : List Value} {D : va_G} {cA : Nat → ClassId} {ks : List Nat} {ad : Nat → Nat} {A : Nat → Prop} {st : CS} {H0 : Heap} {own : String} {index : Nat} {st0 : List Value}
def yX14_value : MethodName := ⟨RX14, "value", "(LChapterLoan$Facts;)I"⟩
/-- the row of a call of value at a depth: what the function gives is what the call answers -/
def kTermP (l : Launch) (D : va_G) (cA : Nat → ClassId) (ks : List Nat) (ad : Nat → Nat) (A : Nat → Prop) (t : Nat) (st : CS) (dk : Nat) (f : Nat → Option Int32) : Prop :=
  ∀ (a : Nat) (v : Int32), f a = some v → live ks ad a → ∀ {p : Program} {e : Env} {R : Room} {s : State} {m : MethodId} {args : Array Value} {below : List Frame} {meth : Method} {c : Code} {H : Heap} {locs : List Loc} {cells slots d : Nat} {Q : State → Prop} {cc : ByteArray} {pc nL : Nat} {ls : Array Slot} {rest : List Value} {own : String} {index : Nat},
    cC p R d s m args c cc nL own D cA A → cW D cA ks ad st H → s.heap.size ≤ H.size → Cond.methodLink own index yX14_value ∈ lw_all → dk + 1 ≤ d → ls.size = nL → (rest.map fun v => v.category).sum ≤ 8 → (cells ≤ R.cells ∧ slots ≤ R.slots) → decode cc pc = .ok (.invokevirtual index, 3) →
    W p l e R s m args below meth c H locs cells slots Q (F0 m (pc + 3) ls (.int v :: rest)) → W p l e R s m args below meth c H locs cells slots Q (F0 m pc ls (.ref (ad (20 * t + 19)) :: .ref a :: rest))
theorem cg_f {t : Nat} (ht : t < 3) : cg cA ad st (20 * t + 19) = .inr (3, [.ref (ad (20 * t + 16))]) := by
  rw [cg_t 19 ht (by decide)]
  show Sum.inr (3, [Value.ref (ad (20 * t + 19 - 3))]) = _
  rw [show 20 * t + 19 - 3 = 20 * t + 16 by omega]
theorem fg (C : cC p R d s m args c cc nL own D cA A) (hO : klOk A ks ad) {t : Nat} (ht : t < 3) (hP : cW D cA ks ad st H) (hl : Cond.fieldLink own index RX3 "named" "[I" ∈ lw_all) (hdg : decode cc pc = .ok (.getfield index, 3)) (kk : W p l e R s m args below meth c H locs cells slots Q (F0 m (pc + 3) ls (.ref (ad (20 * t + 16)) :: rest))) : W p l e R s m args below meth c H locs cells slots Q (F0 m pc ls (.ref (ad (20 * t + 19)) :: rest)) :=
  cc_get (Cn := RX3) (ref := RX3) (T := TX3) (N := 1) C hP (hO.2.2.2 _ (tk_ 19 ht (by decide))) (cg_f ht) rfl in_X3 0 (by decide) hl (fun _ h => h) rfl hdg kk
theorem fgN (C : cC p R d s m args c cc nL own D cA A) (hO : klOk A ks ad) {t : Nat} (ht : t < 3) (hP : cW D cA ks ad st H) {host : String} (hl : Cond.fieldLinkNest own index RX3 "named" "[I" host ∈ lw_nest) (hdg : decode cc pc = .ok (.getfield index, 3)) (kk : W p l e R s m args below meth c H locs cells slots Q (F0 m (pc + 3) ls (.ref (ad (20 * t + 16)) :: rest))) : W p l e R s m args below meth c H locs cells slots Q (F0 m pc ls (.ref (ad (20 * t + 19)) :: rest)) :=
  cc_getN (Cn := RX3) (ref := RX3) (T := TX3) (N := 1) C hP (hO.2.2.2 _ (tk_ 19 ht (by decide))) (cg_f ht) rfl in_X3 0 (by decide) hl (fun _ h => h) rfl hdg kk
theorem tm_get (C : cC p R d s m args c cc nL own D cA A) (hP : cW D cA ks ad st H) {a : Nat} (hta : live ks ad a) {ci : Nat} {fs : List Value} (e0 : st.2.2.2 (1000 + a) = .inr (ci, fs)) {Cn ref : String} {T : u_T} {N : Nat} (hcl : cCl[ci]? = some (Cn, T, N)) (hin : ∀ w ∈ u_ws Cn T N, w ∈ lw_all) (j : Nat) (hj : j < N) (hl : Cond.fieldLink own index ref (T j).2.1 (T j).2.2.1 ∈ lw_all) (hsame : ∀ x, s.fieldFound? (T j).1 (T j).2.1 (T j).2.2.1 = some x → s.fieldFound? ref (T j).2.1 (T j).2.2.1 = some x) {v : Value} (hv : fs[j]? = some v) (hdg : decode cc pc = .ok (.getfield index, 3)) (kk : W p l e R s m args below meth c H locs cells slots Q (F0 m (pc + 3) ls (v :: rest))) : W p l e R s m args below meth c H locs cells slots Q (F0 m pc ls (.ref a :: rest)) := by
  have h := cc_get (pc := pc) (ls := ls) (rest := rest) (l := l) (e := e) (below := below) (meth := meth) (locs := locs) (cells := cells) (slots := slots) (Q := Q) C hP hta.1 (by rw [cg_pool]; exact e0) hcl hin j hj hl hsame hv hdg kk
  rw [hta.2] at h
  exact h
theorem tm_recv (C : cC p R d s m args c cc nL own D cA A) (hP : cW D cA ks ad st H) {a : Nat} (hta : live ks ad a) {ci : Nat} {fs : List Value} (e0 : st.2.2.2 (1000 + a) = .inr (ci, fs)) {q : vw_C} (hcl : cCl[ci]? = some q) : ∃ cellB : Cell, H[a]? = some cellB ∧ cellB.vm.isStatics = false ∧ s.vm.findClass q.1 = some cellB.cls := by
  have h := cc_recv C hP hta.1 (by rw [cg_pool]; exact e0) hcl
  rw [hta.2] at h
  exact h
theorem tm_virt {r : Int32} {y : MethodName} {bytes : ByteArray} {maxL dk n : Nat} {ret : Option FieldType} {As : List Value} {x : MethodName} {owner : String} {q : vw_C} {a : Nat} (C : cC p R d s m args c cc nL own D cA A) (hP : cW D cA ks ad st H) (hz : s.heap.size ≤ H.size) (hrecv : ∃ cellB : Cell, H[a]? = some cellB ∧ cellB.vm.isStatics = false ∧ s.vm.findClass q.1 = some cellB.cls) (hM : cR l y bytes maxL ret dk D cA ks ad A st (.ref a :: As) r) (cw : va_CU R s args own q.1 owner index x y bytes maxL ret (ws_ y bytes maxL ret) (k2_rm dk (40 * dk)) 0 0 n)
    (hn : As.length = n) (hsz : ls.size = nL) (hst : st0 = As.reverse ++ .ref a :: rest) (hW : (rest.map fun v => v.category).sum ≤ 8) (hdg : decode cc pc = .ok (.invokevirtual index, 3)) (hcs : cells ≤ R.cells ∧ slots ≤ R.slots)
    (kk : W p l e R s m args below meth c H locs cells slots Q (F0 m (pc + 3) ls (.int r :: rest))) : W p l e R s m args below meth c H locs cells slots Q (F0 m pc ls st0) :=
  cc_callRN (va_runU (As := As) (rest := rest) ⟨C.1, C.2.1, C.2.2.1, C.2.2.2.1, C.2.2.2.2.1⟩ hM cw ⟨cc_blind, hrecv, cc_pre C hP hz⟩ rfl hn hsz hst (lv_room hW) hdg hcs) kk
def tmOf (e : va_E) : Option (Nat × Int32 × Nat × Nat) := match e with
  | .inr (14, [.int v]) => some (0, v, 0, 0)
  | .inr (15, [.int v]) => some (1, v, 0, 0)
  | .inr (16, [.ref b]) => some (2, 0, b, 0)
  | .inr (17, [.int v, .ref b, .ref c]) => some (3, v, b, c)
  | _ => none
theorem tmOf_some {e : va_E} {j b c : Nat} {v : Int32} (h : tmOf e = some (j, v, b, c)) : (j = 0 ∧ e = .inr (14, [.int v])) ∨ (j = 1 ∧ e = .inr (15, [.int v])) ∨ (j = 2 ∧ e = .inr (16, [.ref b])) ∨ (j = 3 ∧ e = .inr (17, [.int v, .ref b, .ref c])) := by
  unfold tmOf at h
  split at h
  · cases h; exact Or.inl ⟨rfl, rfl⟩
  · cases h; exact Or.inr (Or.inl ⟨rfl, rfl⟩)
  · cases h; exact Or.inr (Or.inr (Or.inl ⟨rfl, rfl⟩))
  · cases h; exact Or.inr (Or.inr (Or.inr ⟨rfl, rfl⟩))
  · cases h
abbrev cX20_value : ByteArray := prog_7_method_2_code
def yX20_value : MethodName := ⟨RX20, "value", "(LChapterLoan$Facts;)I"⟩
theorem dX20_value_0 : decode cX20_value 0 = .ok (.aload_n 0, 1) := by decide +kernel
theorem dX20_value_1 : decode cX20_value 1 = .ok (.getfield 7, 3) := by decide +kernel
theorem dX20_value_4 : decode cX20_value 4 = .ok (.ireturn, 1) := by decide +kernel
theorem q1069 : (Jvm.Cond.fieldLink "ChapterLoan$Figure" (7 : Nat) "ChapterLoan$Figure" "v" "I") ∈ lw_all := lw_g (lw_at lw_m5 25 rfl) rfl
theorem q676 : (Jvm.Cond.code ({ cls := "ChapterLoan$Figure", name := "value", desc := "(LChapterLoan$Facts;)I" } : Jvm.MethodName) prog_7_method_2_code (2 : Nat) (Option.some Jvm.ClassFile.FieldType.int)) ∈ lw_all := lw_g (lw_at lw_m3 112 rfl) rfl
theorem q675 : (Jvm.Cond.instanceMethod ({ cls := "ChapterLoan$Figure", name := "value", desc := "(LChapterLoan$Facts;)I" } : Jvm.MethodName)) ∈ lw_all := lw_g (lw_at lw_m3 111 rfl) rfl
theorem q116 : (Jvm.Cond.initialized "ChapterLoan$Figure") ∈ lw_all := lw_g (lw_at lw_m1 32 rfl) rfl
theorem q674 : (Jvm.Cond.selects "ChapterLoan$Figure" ({ cls := "ChapterLoan$Term", name := "value", desc := "(LChapterLoan$Facts;)I" } : Jvm.MethodName) ({ cls := "ChapterLoan$Figure", name := "value", desc := "(LChapterLoan$Facts;)I" } : Jvm.MethodName)) ∈ lw_all := lw_g (lw_at lw_m3 110 rfl) rfl
theorem w_E_figure {l : Launch} {D : va_G} {cA : Nat → ClassId} {ks : List Nat} {ad : Nat → Nat} {A : Nat → Prop} {st : CS} {t a : Nat} (hO : klOk A ks ad) (ht : t < 3) {dk : Nat} (hdk : 1 ≤ dk) (hta : live ks ad a) {tv : Int32} {r : Int32} (hpe : st.2.2.2 (1000 + a) = .inr (14, [.int tv])) (h : E_figure tv = some r) : cR l yX20_value cX20_value 2 (some .int) (dk + 1) D cA ks ad A st [.ref a, .ref (ad (20 * t + 19))] r := by
  refine cc_ofR (own := RX20) (by decide) rfl (Nat.le_of_ble_eq_true rfl) (fun p e s m below meth c R args ls C hr hlk hP hl hcs => ?_)
  have hx := C.1
  have hb := C.2.1
  have hown := C.2.2.2.1
  have hl : lv_has ls 2 [(0, .ref a), (1, .ref (ad (20 * t + 19)))] := hl
  have hsub : ∀ b, Value.ref b ∈ ([.int tv] : List Value) → live ks ad b := fun b hb => hP.2.2.1 _ _ _ b hta.1 (by omega) hpe (by decide) hb
  rw [E_figure] at h
  refine lv_aload_n hx hb dX20_value_0 rfl (lv_at hl 0 rfl) ?_
  refine tm_get C hP hta (e0 := hpe) (Cn := RX20) (ref := RX20) (T := TX20) (N := 1) rfl in_X20 0 (by decide) q1069 (fun _ h => h) rfl dX20_value_1 ?_
  exact mm_iret hx hb hr hlk h dX20_value_4
abbrev cX17_value : ByteArray := prog_11_method_2_code
def yX17_value : MethodName := ⟨RX17, "value", "(LChapterLoan$Facts;)I"⟩
theorem dX17_value_0 : decode cX17_value 0 = .ok (.aload_n 1, 1) := by decide +kernel
theorem dX17_value_1 : decode cX17_value 1 = .ok (.getfield 13, 3) := by decide +kernel
theorem dX17_value_4 : decode cX17_value 4 = .ok (.aload_n 0, 1) := by decide +kernel
theorem dX17_value_5 : decode cX17_value 5 = .ok (.getfield 7, 3) := by decide +kernel
theorem dX17_value_8 : decode cX17_value 8 = .ok (.iaload, 1) := by decide +kernel
theorem dX17_value_9 : decode cX17_value 9 = .ok (.ireturn, 1) := by decide +kernel
theorem q1019 : (Jvm.Cond.fieldLink "ChapterLoan$Named" (7 : Nat) "ChapterLoan$Named" "name" "I") ∈ lw_all := lw_g (lw_at lw_m4 215 rfl) rfl
theorem q679 : (Jvm.Cond.code ({ cls := "ChapterLoan$Named", name := "value", desc := "(LChapterLoan$Facts;)I" } : Jvm.MethodName) prog_11_method_2_code (2 : Nat) (Option.some Jvm.ClassFile.FieldType.int)) ∈ lw_all := lw_g (lw_at lw_m3 115 rfl) rfl
theorem q678 : (Jvm.Cond.instanceMethod ({ cls := "ChapterLoan$Named", name := "value", desc := "(LChapterLoan$Facts;)I" } : Jvm.MethodName)) ∈ lw_all := lw_g (lw_at lw_m3 114 rfl) rfl
theorem q113 : (Jvm.Cond.initialized "ChapterLoan$Named") ∈ lw_all := lw_g (lw_at lw_m1 29 rfl) rfl
theorem q677 : (Jvm.Cond.selects "ChapterLoan$Named" ({ cls := "ChapterLoan$Term", name := "value", desc := "(LChapterLoan$Facts;)I" } : Jvm.MethodName) ({ cls := "ChapterLoan$Named", name := "value", desc := "(LChapterLoan$Facts;)I" } : Jvm.MethodName)) ∈ lw_all := lw_g (lw_at lw_m3 113 rfl) rfl
theorem w_E_named {l : Launch} {D : va_G} {cA : Nat → ClassId} {ks : List Nat} {ad : Nat → Nat} {A : Nat → Prop} {st : CS} {t a : Nat} (hO : klOk A ks ad) (ht : t < 3) {dk : Nat} (hdk : 1 ≤ dk) (hta : live ks ad a) {tv : Int32} {r : Int32} (hpe : st.2.2.2 (1000 + a) = .inr (15, [.int tv])) (h : E_named (st.2.1 (20 * t + 16)) tv = some r) : cR l yX17_value cX17_value 2 (some .int) (dk + 1) D cA ks ad A st [.ref a, .ref (ad (20 * t + 19))] r := by
  refine cc_ofR (own := RX17) (by decide) rfl (Nat.le_of_ble_eq_true rfl) (fun p e s m below meth c R args ls C hr hlk hP hl hcs => ?_)
  have hx := C.1
  have hb := C.2.1
  have hown := C.2.2.2.1
  have hl : lv_has ls 2 [(0, .ref a), (1, .ref (ad (20 * t + 19)))] := hl
  have hsub : ∀ b, Value.ref b ∈ ([.int tv] : List Value) → live ks ad b := fun b hb => hP.2.2.1 _ _ _ b hta.1 (by omega) hpe (by decide) hb
  rw [E_named] at h
  refine lv_aload_n hx hb dX17_value_0 rfl (lv_at hl 1 rfl) ?_
  refine fgN C hO ht hP (List.mem_of_getElem? (i := 10) rfl) dX17_value_1 ?_
  refine lv_aload_n hx hb dX17_value_4 rfl (lv_at hl 0 rfl) ?_
  refine tm_get C hP hta (e0 := hpe) (Cn := RX17) (ref := RX17) (T := TX17) (N := 1) rfl in_X17 0 (by decide) q1019 (fun _ h => h) rfl dX17_value_5 ?_
  obtain ⟨v1, hv1, h⟩ := bd1_some h
  refine cc_ild C hP (hO.2.2.2 _ (tk_ 16 ht (by decide))) (cg_t 16 ht (by decide)) hv1 dX17_value_8 ?_
  exact mm_iret hx hb hr hlk h dX17_value_9
abbrev cX19_value : ByteArray := prog_25_method_2_code
def yX19_value : MethodName := ⟨RX19, "value", "(LChapterLoan$Facts;)I"⟩
theorem dX19_value_0 : decode cX19_value 0 = .ok (.aload_n 0, 1) := by decide +kernel
theorem dX19_value_1 : decode cX19_value 1 = .ok (.getfield 7, 3) := by decide +kernel
theorem dX19_value_4 : decode cX19_value 4 = .ok (.aload_n 1, 1) := by decide +kernel
theorem dX19_value_5 : decode cX19_value 5 = .ok (.invokevirtual 13, 3) := by decide +kernel
theorem dX19_value_8 : decode cX19_value 8 = .ok (.ifCond .ne 7, 3) := by decide +kernel
theorem dX19_value_11 : decode cX19_value 11 = .ok (.iconst 1, 1) := by decide +kernel
theorem dX19_value_12 : decode cX19_value 12 = .ok (.goto 4, 3) := by decide +kernel
theorem dX19_value_15 : decode cX19_value 15 = .ok (.iconst 0, 1) := by decide +kernel
theorem dX19_value_16 : decode cX19_value 16 = .ok (.ireturn, 1) := by decide +kernel
theorem q683 : (Jvm.Cond.methodLink "ChapterLoan$Turned" (13 : Nat) ({ cls := "ChapterLoan$Term", name := "value", desc := "(LChapterLoan$Facts;)I" } : Jvm.MethodName)) ∈ lw_all := lw_g (lw_at lw_m3 119 rfl) rfl
theorem q1057 : (Jvm.Cond.fieldLink "ChapterLoan$Turned" (7 : Nat) "ChapterLoan$Turned" "of" "LChapterLoan$Term;") ∈ lw_all := lw_g (lw_at lw_m5 13 rfl) rfl
theorem q682 : (Jvm.Cond.code ({ cls := "ChapterLoan$Turned", name := "value", desc := "(LChapterLoan$Facts;)I" } : Jvm.MethodName) prog_25_method_2_code (2 : Nat) (Option.some Jvm.ClassFile.FieldType.int)) ∈ lw_all := lw_g (lw_at lw_m3 118 rfl) rfl
theorem q681 : (Jvm.Cond.instanceMethod ({ cls := "ChapterLoan$Turned", name := "value", desc := "(LChapterLoan$Facts;)I" } : Jvm.MethodName)) ∈ lw_all := lw_g (lw_at lw_m3 117 rfl) rfl
theorem q115 : (Jvm.Cond.initialized "ChapterLoan$Turned") ∈ lw_all := lw_g (lw_at lw_m1 31 rfl) rfl
theorem q680 : (Jvm.Cond.selects "ChapterLoan$Turned" ({ cls := "ChapterLoan$Term", name := "value", desc := "(LChapterLoan$Facts;)I" } : Jvm.MethodName) ({ cls := "ChapterLoan$Turned", name := "value", desc := "(LChapterLoan$Facts;)I" } : Jvm.MethodName)) ∈ lw_all := lw_g (lw_at lw_m3 116 rfl) rfl
theorem w_E_turned {l : Launch} {D : va_G} {cA : Nat → ClassId} {ks : List Nat} {ad : Nat → Nat} {A : Nat → Prop} {st : CS} {t a : Nat} (hO : klOk A ks ad) (ht : t < 3) {dk : Nat} (hdk : 1 ≤ dk) (hta : live ks ad a) {ta : Nat} {f_val : Nat → Option Int32} (hf : kTermP l D cA ks ad A t st dk f_val) {r : Int32} (hpe : st.2.2.2 (1000 + a) = .inr (16, [.ref ta])) (h : E_turned f_val ta = some r) : cR l yX19_value cX19_value 2 (some .int) (dk + 1) D cA ks ad A st [.ref a, .ref (ad (20 * t + 19))] r := by
  refine cc_ofR (own := RX19) (by decide) rfl (Nat.le_of_ble_eq_true rfl) (fun p e s m below meth c R args ls C hr hlk hP hl hcs => ?_)
  have hx := C.1
  have hb := C.2.1
  have hown := C.2.2.2.1
  have hl : lv_has ls 2 [(0, .ref a), (1, .ref (ad (20 * t + 19)))] := hl
  have hsub : ∀ b, Value.ref b ∈ ([.ref ta] : List Value) → live ks ad b := fun b hb => hP.2.2.1 _ _ _ b hta.1 (by omega) hpe (by decide) hb
  rw [E_turned] at h
  refine lv_aload_n hx hb dX19_value_0 rfl (lv_at hl 0 rfl) ?_
  refine tm_get C hP hta (e0 := hpe) (Cn := RX19) (ref := RX19) (T := TX19) (N := 1) rfl in_X19 0 (by decide) q1057 (fun _ h => h) rfl dX19_value_1 ?_
  refine lv_aload_n hx hb dX19_value_4 rfl (lv_at hl 1 rfl) ?_
  obtain ⟨v1, hv1, h⟩ := bd1_some h
  refine hf ta v1 hv1 (hsub ta (by simp)) C hP (Nat.le_refl _) q683 (by omega) hl.1 (Nat.le_of_ble_eq_true rfl) hcs dX19_value_5 ?_
  refine lv_if_ne (tgt := 15) hx hb dX19_value_8 rfl (fun c2 => ?_) (fun c2 => ?_)
  · have h := if_some_f h c2
    refine lv_iconst (v := 0) hx hb dX19_value_15 (by decide) ?_
    exact mm_iret hx hb hr hlk h dX19_value_16
  · have h := if_some_t h c2
    refine lv_iconst (v := 1) hx hb dX19_value_11 (by decide) ?_
    refine lv_goto (tgt := 16) hx hb dX19_value_12 rfl ?_
    exact mm_iret hx hb hr hlk h dX19_value_16
abbrev cX15_value : ByteArray := prog_27_method_3_code
def yX15_value : MethodName := ⟨RX15, "value", "(LChapterLoan$Facts;)I"⟩
theorem dX15_value_0 : decode cX15_value 0 = .ok (.aload_n 0, 1) := by decide +kernel
theorem dX15_value_1 : decode cX15_value 1 = .ok (.getfield 13, 3) := by decide +kernel
theorem dX15_value_4 : decode cX15_value 4 = .ok (.aload_n 1, 1) := by decide +kernel
theorem dX15_value_5 : decode cX15_value 5 = .ok (.invokevirtual 20, 3) := by decide +kernel
theorem dX15_value_8 : decode cX15_value 8 = .ok (.istore_n 2, 1) := by decide +kernel
theorem dX15_value_9 : decode cX15_value 9 = .ok (.aload_n 0, 1) := by decide +kernel
theorem dX15_value_10 : decode cX15_value 10 = .ok (.getfield 17, 3) := by decide +kernel
theorem dX15_value_13 : decode cX15_value 13 = .ok (.aload_n 1, 1) := by decide +kernel
theorem dX15_value_14 : decode cX15_value 14 = .ok (.invokevirtual 20, 3) := by decide +kernel
theorem dX15_value_17 : decode cX15_value 17 = .ok (.istore_n 3, 1) := by decide +kernel
theorem dX15_value_18 : decode cX15_value 18 = .ok (.aload_n 0, 1) := by decide +kernel
theorem dX15_value_19 : decode cX15_value 19 = .ok (.getfield 7, 3) := by decide +kernel
theorem dX15_value_22 : decode cX15_value 22 = .ok (.tableswitch 213 37 62 #[142, 196, 213, 213, 213, 126, 118, 213, 122, 213, 130, 213, 213, 213, 213, 213, 213, 213, 213, 213, 213, 213, 213, 154, 168, 182], 118) := by decide +kernel
theorem dX15_value_140 : decode cX15_value 140 = .ok (.iload_n 2, 1) := by decide +kernel
theorem dX15_value_141 : decode cX15_value 141 = .ok (.iload_n 3, 1) := by decide +kernel
theorem dX15_value_142 : decode cX15_value 142 = .ok (.iadd, 1) := by decide +kernel
theorem dX15_value_143 : decode cX15_value 143 = .ok (.ireturn, 1) := by decide +kernel
theorem dX15_value_144 : decode cX15_value 144 = .ok (.iload_n 2, 1) := by decide +kernel
theorem dX15_value_145 : decode cX15_value 145 = .ok (.iload_n 3, 1) := by decide +kernel
theorem dX15_value_146 : decode cX15_value 146 = .ok (.isub, 1) := by decide +kernel
theorem dX15_value_147 : decode cX15_value 147 = .ok (.ireturn, 1) := by decide +kernel
theorem dX15_value_148 : decode cX15_value 148 = .ok (.iload_n 2, 1) := by decide +kernel
theorem dX15_value_149 : decode cX15_value 149 = .ok (.iload_n 3, 1) := by decide +kernel
theorem dX15_value_150 : decode cX15_value 150 = .ok (.imul, 1) := by decide +kernel
theorem dX15_value_151 : decode cX15_value 151 = .ok (.ireturn, 1) := by decide +kernel
theorem dX15_value_152 : decode cX15_value 152 = .ok (.iload_n 3, 1) := by decide +kernel
theorem dX15_value_153 : decode cX15_value 153 = .ok (.ifCond .ne 7, 3) := by decide +kernel
theorem dX15_value_156 : decode cX15_value 156 = .ok (.iconst 0, 1) := by decide +kernel
theorem dX15_value_157 : decode cX15_value 157 = .ok (.goto 6, 3) := by decide +kernel
theorem dX15_value_160 : decode cX15_value 160 = .ok (.iload_n 2, 1) := by decide +kernel
theorem dX15_value_161 : decode cX15_value 161 = .ok (.iload_n 3, 1) := by decide +kernel
theorem dX15_value_162 : decode cX15_value 162 = .ok (.idiv, 1) := by decide +kernel
theorem dX15_value_163 : decode cX15_value 163 = .ok (.ireturn, 1) := by decide +kernel
theorem dX15_value_164 : decode cX15_value 164 = .ok (.iload_n 3, 1) := by decide +kernel
theorem dX15_value_165 : decode cX15_value 165 = .ok (.ifCond .ne 7, 3) := by decide +kernel
theorem dX15_value_168 : decode cX15_value 168 = .ok (.iconst 0, 1) := by decide +kernel
theorem dX15_value_169 : decode cX15_value 169 = .ok (.goto 6, 3) := by decide +kernel
theorem dX15_value_172 : decode cX15_value 172 = .ok (.iload_n 2, 1) := by decide +kernel
theorem dX15_value_173 : decode cX15_value 173 = .ok (.iload_n 3, 1) := by decide +kernel
theorem dX15_value_174 : decode cX15_value 174 = .ok (.irem, 1) := by decide +kernel
theorem dX15_value_175 : decode cX15_value 175 = .ok (.ireturn, 1) := by decide +kernel
theorem dX15_value_176 : decode cX15_value 176 = .ok (.iload_n 2, 1) := by decide +kernel
theorem dX15_value_177 : decode cX15_value 177 = .ok (.iload_n 3, 1) := by decide +kernel
theorem dX15_value_178 : decode cX15_value 178 = .ok (.if_icmp .ge 7, 3) := by decide +kernel
theorem dX15_value_181 : decode cX15_value 181 = .ok (.iconst 1, 1) := by decide +kernel
theorem dX15_value_182 : decode cX15_value 182 = .ok (.goto 4, 3) := by decide +kernel
theorem dX15_value_185 : decode cX15_value 185 = .ok (.iconst 0, 1) := by decide +kernel
theorem dX15_value_186 : decode cX15_value 186 = .ok (.invokestatic 24, 3) := by decide +kernel
theorem dX15_value_189 : decode cX15_value 189 = .ok (.ireturn, 1) := by decide +kernel
theorem dX15_value_190 : decode cX15_value 190 = .ok (.iload_n 2, 1) := by decide +kernel
theorem dX15_value_191 : decode cX15_value 191 = .ok (.iload_n 3, 1) := by decide +kernel
theorem dX15_value_192 : decode cX15_value 192 = .ok (.if_icmp .ne 7, 3) := by decide +kernel
theorem dX15_value_195 : decode cX15_value 195 = .ok (.iconst 1, 1) := by decide +kernel
theorem dX15_value_196 : decode cX15_value 196 = .ok (.goto 4, 3) := by decide +kernel
theorem dX15_value_199 : decode cX15_value 199 = .ok (.iconst 0, 1) := by decide +kernel
theorem dX15_value_200 : decode cX15_value 200 = .ok (.invokestatic 24, 3) := by decide +kernel
theorem dX15_value_203 : decode cX15_value 203 = .ok (.ireturn, 1) := by decide +kernel
theorem dX15_value_204 : decode cX15_value 204 = .ok (.iload_n 2, 1) := by decide +kernel
theorem dX15_value_205 : decode cX15_value 205 = .ok (.iload_n 3, 1) := by decide +kernel
theorem dX15_value_206 : decode cX15_value 206 = .ok (.if_icmp .le 7, 3) := by decide +kernel
theorem dX15_value_209 : decode cX15_value 209 = .ok (.iconst 1, 1) := by decide +kernel
theorem dX15_value_210 : decode cX15_value 210 = .ok (.goto 4, 3) := by decide +kernel
theorem dX15_value_213 : decode cX15_value 213 = .ok (.iconst 0, 1) := by decide +kernel
theorem dX15_value_214 : decode cX15_value 214 = .ok (.invokestatic 24, 3) := by decide +kernel
theorem dX15_value_217 : decode cX15_value 217 = .ok (.ireturn, 1) := by decide +kernel
theorem dX15_value_218 : decode cX15_value 218 = .ok (.iload_n 2, 1) := by decide +kernel
theorem dX15_value_219 : decode cX15_value 219 = .ok (.ifCond .eq 11, 3) := by decide +kernel
theorem dX15_value_222 : decode cX15_value 222 = .ok (.iload_n 3, 1) := by decide +kernel
theorem dX15_value_223 : decode cX15_value 223 = .ok (.ifCond .eq 7, 3) := by decide +kernel
theorem dX15_value_226 : decode cX15_value 226 = .ok (.iconst 1, 1) := by decide +kernel
theorem dX15_value_227 : decode cX15_value 227 = .ok (.goto 4, 3) := by decide +kernel
theorem dX15_value_230 : decode cX15_value 230 = .ok (.iconst 0, 1) := by decide +kernel
theorem dX15_value_231 : decode cX15_value 231 = .ok (.invokestatic 24, 3) := by decide +kernel
theorem dX15_value_234 : decode cX15_value 234 = .ok (.ireturn, 1) := by decide +kernel
theorem dX15_value_235 : decode cX15_value 235 = .ok (.iload_n 2, 1) := by decide +kernel
theorem dX15_value_236 : decode cX15_value 236 = .ok (.ifCond .ne 7, 3) := by decide +kernel
theorem dX15_value_239 : decode cX15_value 239 = .ok (.iload_n 3, 1) := by decide +kernel
theorem dX15_value_240 : decode cX15_value 240 = .ok (.ifCond .eq 7, 3) := by decide +kernel
theorem dX15_value_243 : decode cX15_value 243 = .ok (.iconst 1, 1) := by decide +kernel
theorem dX15_value_244 : decode cX15_value 244 = .ok (.goto 4, 3) := by decide +kernel
theorem dX15_value_247 : decode cX15_value 247 = .ok (.iconst 0, 1) := by decide +kernel
theorem dX15_value_248 : decode cX15_value 248 = .ok (.invokestatic 24, 3) := by decide +kernel
theorem dX15_value_251 : decode cX15_value 251 = .ok (.ireturn, 1) := by decide +kernel
theorem q686 : (Jvm.Cond.methodLink "ChapterLoan$Two" (20 : Nat) ({ cls := "ChapterLoan$Term", name := "value", desc := "(LChapterLoan$Facts;)I" } : Jvm.MethodName)) ∈ lw_all := lw_g (lw_at lw_m3 122 rfl) rfl
theorem q687 : (Jvm.Cond.methodLink "ChapterLoan$Two" (24 : Nat) ({ cls := "ChapterLoan$Two", name := "is", desc := "(Z)I" } : Jvm.MethodName)) ∈ lw_all := lw_g (lw_at lw_m3 123 rfl) rfl
theorem q1080 : (Jvm.Cond.fieldLink "ChapterLoan$Two" (7 : Nat) "ChapterLoan$Two" "sign" "I") ∈ lw_all := lw_g (lw_at lw_m5 36 rfl) rfl
theorem q1081 : (Jvm.Cond.fieldLink "ChapterLoan$Two" (13 : Nat) "ChapterLoan$Two" "a" "LChapterLoan$Term;") ∈ lw_all := lw_g (lw_at lw_m5 37 rfl) rfl
theorem q1082 : (Jvm.Cond.fieldLink "ChapterLoan$Two" (17 : Nat) "ChapterLoan$Two" "b" "LChapterLoan$Term;") ∈ lw_all := lw_g (lw_at lw_m5 38 rfl) rfl
theorem q685 : (Jvm.Cond.code ({ cls := "ChapterLoan$Two", name := "value", desc := "(LChapterLoan$Facts;)I" } : Jvm.MethodName) prog_27_method_3_code (4 : Nat) (Option.some Jvm.ClassFile.FieldType.int)) ∈ lw_all := lw_g (lw_at lw_m3 121 rfl) rfl
theorem q684 : (Jvm.Cond.instanceMethod ({ cls := "ChapterLoan$Two", name := "value", desc := "(LChapterLoan$Facts;)I" } : Jvm.MethodName)) ∈ lw_all := lw_g (lw_at lw_m3 120 rfl) rfl
theorem q690 : (Jvm.Cond.selects "ChapterLoan$Two" ({ cls := "ChapterLoan$Term", name := "value", desc := "(LChapterLoan$Facts;)I" } : Jvm.MethodName) ({ cls := "ChapterLoan$Two", name := "value", desc := "(LChapterLoan$Facts;)I" } : Jvm.MethodName)) ∈ lw_all := lw_g (lw_at lw_m3 126 rfl) rfl
theorem w_E_two {l : Launch} {D : va_G} {cA : Nat → ClassId} {ks : List Nat} {ad : Nat → Nat} {A : Nat → Prop} {st : CS} {t a : Nat} (hO : klOk A ks ad) (ht : t < 3) {dk : Nat} (hdk : 1 ≤ dk) (hta : live ks ad a) {tv : Int32} {ta : Nat} {tb : Nat} {f_val : Nat → Option Int32} (hf : kTermP l D cA ks ad A t st dk f_val) {r : Int32} (hpe : st.2.2.2 (1000 + a) = .inr (17, [.int tv, .ref ta, .ref tb])) (h : E_two f_val tv ta tb = some r) : cR l yX15_value cX15_value 4 (some .int) (dk + 1) D cA ks ad A st [.ref a, .ref (ad (20 * t + 19))] r := by
  refine cc_ofR (own := RX15) (by decide) rfl (Nat.le_of_ble_eq_true rfl) (fun p e s m below meth c R args ls C hr hlk hP hl hcs => ?_)
  have hx := C.1
  have hb := C.2.1
  have hown := C.2.2.2.1
  have hl : lv_has ls 4 [(0, .ref a), (1, .ref (ad (20 * t + 19)))] := hl
  have hsub : ∀ b, Value.ref b ∈ ([.int tv, .ref ta, .ref tb] : List Value) → live ks ad b := fun b hb => hP.2.2.1 _ _ _ b hta.1 (by omega) hpe (by decide) hb
  rw [E_two] at h
  refine lv_aload_n hx hb dX15_value_0 rfl (lv_at hl 0 rfl) ?_
  refine tm_get C hP hta (e0 := hpe) (Cn := RX15) (ref := RX15) (T := TX15) (N := 3) rfl in_X15 1 (by decide) q1081 (fun _ h => h) rfl dX15_value_1 ?_
  refine lv_aload_n hx hb dX15_value_4 rfl (lv_at hl 1 rfl) ?_
  obtain ⟨v1, hv1, h⟩ := bd1_some h
  refine hf ta v1 hv1 (hsub ta (by simp)) C hP (Nat.le_refl _) q686 (by omega) hl.1 (Nat.le_of_ble_eq_true rfl) hcs dX15_value_5 ?_
  refine lv_istore_n (lv' := [(2, .int v1), (0, .ref a), (1, .ref (ad (20 * t + 19)))]) hx hb dX15_value_8 rfl hl (by decide) rfl (fun ls hl => ?_)
  refine lv_aload_n hx hb dX15_value_9 rfl (lv_at hl 1 rfl) ?_
  refine tm_get C hP hta (e0 := hpe) (Cn := RX15) (ref := RX15) (T := TX15) (N := 3) rfl in_X15 2 (by decide) q1082 (fun _ h => h) rfl dX15_value_10 ?_
  refine lv_aload_n hx hb dX15_value_13 rfl (lv_at hl 2 rfl) ?_
  obtain ⟨v2, hv2, h⟩ := bd1_some h
  refine hf tb v2 hv2 (hsub tb (by simp)) C hP (Nat.le_refl _) q686 (by omega) hl.1 (Nat.le_of_ble_eq_true rfl) hcs dX15_value_14 ?_
  refine lv_istore_n (lv' := [(3, .int v2), (2, .int v1), (0, .ref a), (1, .ref (ad (20 * t + 19)))]) hx hb dX15_value_17 rfl hl (by decide) rfl (fun ls hl => ?_)
  refine lv_aload_n hx hb dX15_value_18 rfl (lv_at hl 2 rfl) ?_
  refine tm_get C hP hta (e0 := hpe) (Cn := RX15) (ref := RX15) (T := TX15) (N := 3) rfl in_X15 0 (by decide) q1080 (fun _ h => h) rfl dX15_value_19 ?_
  by_cases c3 : tv = 37
  · have h := if_some_t h c3
    refine lv_tableIn (tgt := 164) hx hb dX15_value_22 (by rw [c3]; decide) (by rw [c3]; decide) (by rw [c3]; rfl) (by decide) ?_
    refine lv_iload_n hx hb dX15_value_164 rfl (lv_at hl 0 rfl) ?_
    refine lv_if_ne (tgt := 172) hx hb dX15_value_165 rfl (fun c4 => ?_) (fun c4 => ?_)
    · have h := if_some_f h c4
      refine lv_iload_n hx hb dX15_value_172 rfl (lv_at hl 1 rfl) ?_
      refine lv_iload_n hx hb dX15_value_173 rfl (lv_at hl 0 rfl) ?_
      obtain ⟨v5, hv5, h⟩ := bd1_some h
      refine mm_rmd hx hb hv5 dX15_value_174 ?_
      exact mm_iret hx hb hr hlk h dX15_value_175
    · have h := if_some_t h c4
      refine lv_iconst (v := 0) hx hb dX15_value_168 (by decide) ?_
      refine lv_goto (tgt := 175) hx hb dX15_value_169 rfl ?_
      exact mm_iret hx hb hr hlk h dX15_value_175
  · have h := if_some_f h c3
    by_cases c6 : tv = 38
    · have h := if_some_t h c6
      refine lv_tableIn (tgt := 218) hx hb dX15_value_22 (by rw [c6]; decide) (by rw [c6]; decide) (by rw [c6]; rfl) (by decide) ?_
      refine lv_iload_n hx hb dX15_value_218 rfl (lv_at hl 1 rfl) ?_
      refine lv_if_eq (tgt := 230) hx hb dX15_value_219 rfl (fun c7 => ?_) (fun c7 => ?_)
      · have h := if_some_t h c7
        refine lv_iconst (v := 0) hx hb dX15_value_230 (by decide) ?_
        obtain ⟨v8, hv8, h⟩ := bd1_some h
        refine k_L_is hx hb C.2.2.1 hown C.2.2.2.2.1 C.2.2.2.2.2.1 q687 hv8 (by omega) hl.1 (Nat.le_of_ble_eq_true rfl) hcs dX15_value_231 ?_
        exact mm_iret hx hb hr hlk h dX15_value_234
      · have h := if_some_f h c7
        refine lv_iload_n hx hb dX15_value_222 rfl (lv_at hl 0 rfl) ?_
        refine lv_if_eq (tgt := 230) hx hb dX15_value_223 rfl (fun c9 => ?_) (fun c9 => ?_)
        · have h := if_some_t h c9
          refine lv_iconst (v := 0) hx hb dX15_value_230 (by decide) ?_
          obtain ⟨v10, hv10, h⟩ := bd1_some h
          refine k_L_is hx hb C.2.2.1 hown C.2.2.2.2.1 C.2.2.2.2.2.1 q687 hv10 (by omega) hl.1 (Nat.le_of_ble_eq_true rfl) hcs dX15_value_231 ?_
          exact mm_iret hx hb hr hlk h dX15_value_234
        · have h := if_some_f h c9
          refine lv_iconst (v := 1) hx hb dX15_value_226 (by decide) ?_
          refine lv_goto (tgt := 231) hx hb dX15_value_227 rfl ?_
          obtain ⟨v11, hv11, h⟩ := bd1_some h
          refine k_L_is hx hb C.2.2.1 hown C.2.2.2.2.1 C.2.2.2.2.2.1 q687 hv11 (by omega) hl.1 (Nat.le_of_ble_eq_true rfl) hcs dX15_value_231 ?_
          exact mm_iret hx hb hr hlk h dX15_value_234
    · have h := if_some_f h c6
      by_cases c12 : tv = 39
      · have h := if_some_t h c12
        refine lv_tableIn (tgt := 235) hx hb dX15_value_22 (by rw [c12]; decide) (by rw [c12]; decide) (by rw [c12]; rfl) (by decide) ?_
        refine lv_iload_n hx hb dX15_value_235 rfl (lv_at hl 1 rfl) ?_
        refine lv_if_ne (tgt := 243) hx hb dX15_value_236 rfl (fun c13 => ?_) (fun c13 => ?_)
        · have h := if_some_f h c13
          refine lv_iconst (v := 1) hx hb dX15_value_243 (by decide) ?_
          refine lv_goto (tgt := 248) hx hb dX15_value_244 rfl ?_
          obtain ⟨v14, hv14, h⟩ := bd1_some h
          refine k_L_is hx hb C.2.2.1 hown C.2.2.2.2.1 C.2.2.2.2.2.1 q687 hv14 (by omega) hl.1 (Nat.le_of_ble_eq_true rfl) hcs dX15_value_248 ?_
          exact mm_iret hx hb hr hlk h dX15_value_251
        · have h := if_some_t h c13
          refine lv_iload_n hx hb dX15_value_239 rfl (lv_at hl 0 rfl) ?_
          refine lv_if_eq (tgt := 247) hx hb dX15_value_240 rfl (fun c15 => ?_) (fun c15 => ?_)
          · have h := if_some_t h c15
            refine lv_iconst (v := 0) hx hb dX15_value_247 (by decide) ?_
            obtain ⟨v16, hv16, h⟩ := bd1_some h
            refine k_L_is hx hb C.2.2.1 hown C.2.2.2.2.1 C.2.2.2.2.2.1 q687 hv16 (by omega) hl.1 (Nat.le_of_ble_eq_true rfl) hcs dX15_value_248 ?_
            exact mm_iret hx hb hr hlk h dX15_value_251
          · have h := if_some_f h c15
            refine lv_iconst (v := 1) hx hb dX15_value_243 (by decide) ?_
            refine lv_goto (tgt := 248) hx hb dX15_value_244 rfl ?_
            obtain ⟨v17, hv17, h⟩ := bd1_some h
            refine k_L_is hx hb C.2.2.1 hown C.2.2.2.2.1 C.2.2.2.2.2.1 q687 hv17 (by omega) hl.1 (Nat.le_of_ble_eq_true rfl) hcs dX15_value_248 ?_
            exact mm_iret hx hb hr hlk h dX15_value_251
      · have h := if_some_f h c12
        by_cases c18 : tv = 40
        · have h := if_some_t h c18
          refine lv_tableIn (tgt := 235) hx hb dX15_value_22 (by rw [c18]; decide) (by rw [c18]; decide) (by rw [c18]; rfl) (by decide) ?_
          refine lv_iload_n hx hb dX15_value_235 rfl (lv_at hl 1 rfl) ?_
          refine lv_if_ne (tgt := 243) hx hb dX15_value_236 rfl (fun c19 => ?_) (fun c19 => ?_)
          · have h := if_some_f h c19
            refine lv_iconst (v := 1) hx hb dX15_value_243 (by decide) ?_
            refine lv_goto (tgt := 248) hx hb dX15_value_244 rfl ?_
            obtain ⟨v20, hv20, h⟩ := bd1_some h
            refine k_L_is hx hb C.2.2.1 hown C.2.2.2.2.1 C.2.2.2.2.2.1 q687 hv20 (by omega) hl.1 (Nat.le_of_ble_eq_true rfl) hcs dX15_value_248 ?_
            exact mm_iret hx hb hr hlk h dX15_value_251
          · have h := if_some_t h c19
            refine lv_iload_n hx hb dX15_value_239 rfl (lv_at hl 0 rfl) ?_
            refine lv_if_eq (tgt := 247) hx hb dX15_value_240 rfl (fun c21 => ?_) (fun c21 => ?_)
            · have h := if_some_t h c21
              refine lv_iconst (v := 0) hx hb dX15_value_247 (by decide) ?_
              obtain ⟨v22, hv22, h⟩ := bd1_some h
              refine k_L_is hx hb C.2.2.1 hown C.2.2.2.2.1 C.2.2.2.2.2.1 q687 hv22 (by omega) hl.1 (Nat.le_of_ble_eq_true rfl) hcs dX15_value_248 ?_
              exact mm_iret hx hb hr hlk h dX15_value_251
            · have h := if_some_f h c21
              refine lv_iconst (v := 1) hx hb dX15_value_243 (by decide) ?_
              refine lv_goto (tgt := 248) hx hb dX15_value_244 rfl ?_
              obtain ⟨v23, hv23, h⟩ := bd1_some h
              refine k_L_is hx hb C.2.2.1 hown C.2.2.2.2.1 C.2.2.2.2.2.1 q687 hv23 (by omega) hl.1 (Nat.le_of_ble_eq_true rfl) hcs dX15_value_248 ?_
              exact mm_iret hx hb hr hlk h dX15_value_251
        · have h := if_some_f h c18
          by_cases c24 : tv = 41
          · have h := if_some_t h c24
            refine lv_tableIn (tgt := 235) hx hb dX15_value_22 (by rw [c24]; decide) (by rw [c24]; decide) (by rw [c24]; rfl) (by decide) ?_
            refine lv_iload_n hx hb dX15_value_235 rfl (lv_at hl 1 rfl) ?_
            refine lv_if_ne (tgt := 243) hx hb dX15_value_236 rfl (fun c25 => ?_) (fun c25 => ?_)
            · have h := if_some_f h c25
              refine lv_iconst (v := 1) hx hb dX15_value_243 (by decide) ?_
              refine lv_goto (tgt := 248) hx hb dX15_value_244 rfl ?_
              obtain ⟨v26, hv26, h⟩ := bd1_some h
              refine k_L_is hx hb C.2.2.1 hown C.2.2.2.2.1 C.2.2.2.2.2.1 q687 hv26 (by omega) hl.1 (Nat.le_of_ble_eq_true rfl) hcs dX15_value_248 ?_
              exact mm_iret hx hb hr hlk h dX15_value_251
            · have h := if_some_t h c25
              refine lv_iload_n hx hb dX15_value_239 rfl (lv_at hl 0 rfl) ?_
              refine lv_if_eq (tgt := 247) hx hb dX15_value_240 rfl (fun c27 => ?_) (fun c27 => ?_)
              · have h := if_some_t h c27
                refine lv_iconst (v := 0) hx hb dX15_value_247 (by decide) ?_
                obtain ⟨v28, hv28, h⟩ := bd1_some h
                refine k_L_is hx hb C.2.2.1 hown C.2.2.2.2.1 C.2.2.2.2.2.1 q687 hv28 (by omega) hl.1 (Nat.le_of_ble_eq_true rfl) hcs dX15_value_248 ?_
                exact mm_iret hx hb hr hlk h dX15_value_251
              · have h := if_some_f h c27
                refine lv_iconst (v := 1) hx hb dX15_value_243 (by decide) ?_
                refine lv_goto (tgt := 248) hx hb dX15_value_244 rfl ?_
                obtain ⟨v29, hv29, h⟩ := bd1_some h
                refine k_L_is hx hb C.2.2.1 hown C.2.2.2.2.1 C.2.2.2.2.2.1 q687 hv29 (by omega) hl.1 (Nat.le_of_ble_eq_true rfl) hcs dX15_value_248 ?_
                exact mm_iret hx hb hr hlk h dX15_value_251
          · have h := if_some_f h c24
            by_cases c30 : tv = 42
            · have h := if_some_t h c30
              refine lv_tableIn (tgt := 148) hx hb dX15_value_22 (by rw [c30]; decide) (by rw [c30]; decide) (by rw [c30]; rfl) (by decide) ?_
              refine lv_iload_n hx hb dX15_value_148 rfl (lv_at hl 1 rfl) ?_
              refine lv_iload_n hx hb dX15_value_149 rfl (lv_at hl 0 rfl) ?_
              refine lv_imul hx hb dX15_value_150 ?_
              exact mm_iret hx hb hr hlk h dX15_value_151
            · have h := if_some_f h c30
              by_cases c31 : tv = 43
              · have h := if_some_t h c31
                refine lv_tableIn (tgt := 140) hx hb dX15_value_22 (by rw [c31]; decide) (by rw [c31]; decide) (by rw [c31]; rfl) (by decide) ?_
                refine lv_iload_n hx hb dX15_value_140 rfl (lv_at hl 1 rfl) ?_
                refine lv_iload_n hx hb dX15_value_141 rfl (lv_at hl 0 rfl) ?_
                refine lv_iadd hx hb dX15_value_142 ?_
                exact mm_iret hx hb hr hlk h dX15_value_143
              · have h := if_some_f h c31
                by_cases c32 : tv = 44
                · have h := if_some_t h c32
                  refine lv_tableIn (tgt := 235) hx hb dX15_value_22 (by rw [c32]; decide) (by rw [c32]; decide) (by rw [c32]; rfl) (by decide) ?_
                  refine lv_iload_n hx hb dX15_value_235 rfl (lv_at hl 1 rfl) ?_
                  refine lv_if_ne (tgt := 243) hx hb dX15_value_236 rfl (fun c33 => ?_) (fun c33 => ?_)
                  · have h := if_some_f h c33
                    refine lv_iconst (v := 1) hx hb dX15_value_243 (by decide) ?_
                    refine lv_goto (tgt := 248) hx hb dX15_value_244 rfl ?_
                    obtain ⟨v34, hv34, h⟩ := bd1_some h
                    refine k_L_is hx hb C.2.2.1 hown C.2.2.2.2.1 C.2.2.2.2.2.1 q687 hv34 (by omega) hl.1 (Nat.le_of_ble_eq_true rfl) hcs dX15_value_248 ?_
                    exact mm_iret hx hb hr hlk h dX15_value_251
                  · have h := if_some_t h c33
                    refine lv_iload_n hx hb dX15_value_239 rfl (lv_at hl 0 rfl) ?_
                    refine lv_if_eq (tgt := 247) hx hb dX15_value_240 rfl (fun c35 => ?_) (fun c35 => ?_)
                    · have h := if_some_t h c35
                      refine lv_iconst (v := 0) hx hb dX15_value_247 (by decide) ?_
                      obtain ⟨v36, hv36, h⟩ := bd1_some h
                      refine k_L_is hx hb C.2.2.1 hown C.2.2.2.2.1 C.2.2.2.2.2.1 q687 hv36 (by omega) hl.1 (Nat.le_of_ble_eq_true rfl) hcs dX15_value_248 ?_
                      exact mm_iret hx hb hr hlk h dX15_value_251
                    · have h := if_some_f h c35
                      refine lv_iconst (v := 1) hx hb dX15_value_243 (by decide) ?_
                      refine lv_goto (tgt := 248) hx hb dX15_value_244 rfl ?_
                      obtain ⟨v37, hv37, h⟩ := bd1_some h
                      refine k_L_is hx hb C.2.2.1 hown C.2.2.2.2.1 C.2.2.2.2.2.1 q687 hv37 (by omega) hl.1 (Nat.le_of_ble_eq_true rfl) hcs dX15_value_248 ?_
                      exact mm_iret hx hb hr hlk h dX15_value_251
                · have h := if_some_f h c32
                  by_cases c38 : tv = 45
                  · have h := if_some_t h c38
                    refine lv_tableIn (tgt := 144) hx hb dX15_value_22 (by rw [c38]; decide) (by rw [c38]; decide) (by rw [c38]; rfl) (by decide) ?_
                    refine lv_iload_n hx hb dX15_value_144 rfl (lv_at hl 1 rfl) ?_
                    refine lv_iload_n hx hb dX15_value_145 rfl (lv_at hl 0 rfl) ?_
                    refine lv_isub hx hb dX15_value_146 ?_
                    exact mm_iret hx hb hr hlk h dX15_value_147
                  · have h := if_some_f h c38
                    by_cases c39 : tv = 46
                    · have h := if_some_t h c39
                      refine lv_tableIn (tgt := 235) hx hb dX15_value_22 (by rw [c39]; decide) (by rw [c39]; decide) (by rw [c39]; rfl) (by decide) ?_
                      refine lv_iload_n hx hb dX15_value_235 rfl (lv_at hl 1 rfl) ?_
                      refine lv_if_ne (tgt := 243) hx hb dX15_value_236 rfl (fun c40 => ?_) (fun c40 => ?_)
                      · have h := if_some_f h c40
                        refine lv_iconst (v := 1) hx hb dX15_value_243 (by decide) ?_
                        refine lv_goto (tgt := 248) hx hb dX15_value_244 rfl ?_
                        obtain ⟨v41, hv41, h⟩ := bd1_some h
                        refine k_L_is hx hb C.2.2.1 hown C.2.2.2.2.1 C.2.2.2.2.2.1 q687 hv41 (by omega) hl.1 (Nat.le_of_ble_eq_true rfl) hcs dX15_value_248 ?_
                        exact mm_iret hx hb hr hlk h dX15_value_251
                      · have h := if_some_t h c40
                        refine lv_iload_n hx hb dX15_value_239 rfl (lv_at hl 0 rfl) ?_
                        refine lv_if_eq (tgt := 247) hx hb dX15_value_240 rfl (fun c42 => ?_) (fun c42 => ?_)
                        · have h := if_some_t h c42
                          refine lv_iconst (v := 0) hx hb dX15_value_247 (by decide) ?_
                          obtain ⟨v43, hv43, h⟩ := bd1_some h
                          refine k_L_is hx hb C.2.2.1 hown C.2.2.2.2.1 C.2.2.2.2.2.1 q687 hv43 (by omega) hl.1 (Nat.le_of_ble_eq_true rfl) hcs dX15_value_248 ?_
                          exact mm_iret hx hb hr hlk h dX15_value_251
                        · have h := if_some_f h c42
                          refine lv_iconst (v := 1) hx hb dX15_value_243 (by decide) ?_
                          refine lv_goto (tgt := 248) hx hb dX15_value_244 rfl ?_
                          obtain ⟨v44, hv44, h⟩ := bd1_some h
                          refine k_L_is hx hb C.2.2.1 hown C.2.2.2.2.1 C.2.2.2.2.2.1 q687 hv44 (by omega) hl.1 (Nat.le_of_ble_eq_true rfl) hcs dX15_value_248 ?_
                          exact mm_iret hx hb hr hlk h dX15_value_251
                    · have h := if_some_f h c39
                      by_cases c45 : tv = 47
                      · have h := if_some_t h c45
                        refine lv_tableIn (tgt := 152) hx hb dX15_value_22 (by rw [c45]; decide) (by rw [c45]; decide) (by rw [c45]; rfl) (by decide) ?_
                        refine lv_iload_n hx hb dX15_value_152 rfl (lv_at hl 0 rfl) ?_
                        refine lv_if_ne (tgt := 160) hx hb dX15_value_153 rfl (fun c46 => ?_) (fun c46 => ?_)
                        · have h := if_some_f h c46
                          refine lv_iload_n hx hb dX15_value_160 rfl (lv_at hl 1 rfl) ?_
                          refine lv_iload_n hx hb dX15_value_161 rfl (lv_at hl 0 rfl) ?_
                          obtain ⟨v47, hv47, h⟩ := bd1_some h
                          refine mm_dv hx hb hv47 dX15_value_162 ?_
                          exact mm_iret hx hb hr hlk h dX15_value_163
                        · have h := if_some_t h c46
                          refine lv_iconst (v := 0) hx hb dX15_value_156 (by decide) ?_
                          refine lv_goto (tgt := 163) hx hb dX15_value_157 rfl ?_
                          exact mm_iret hx hb hr hlk h dX15_value_163
                      · have h := if_some_f h c45
                        by_cases c48 : tv = 48
                        · have h := if_some_t h c48
                          refine lv_tableIn (tgt := 235) hx hb dX15_value_22 (by rw [c48]; decide) (by rw [c48]; decide) (by rw [c48]; rfl) (by decide) ?_
                          refine lv_iload_n hx hb dX15_value_235 rfl (lv_at hl 1 rfl) ?_
                          refine lv_if_ne (tgt := 243) hx hb dX15_value_236 rfl (fun c49 => ?_) (fun c49 => ?_)
                          · have h := if_some_f h c49
                            refine lv_iconst (v := 1) hx hb dX15_value_243 (by decide) ?_
                            refine lv_goto (tgt := 248) hx hb dX15_value_244 rfl ?_
                            obtain ⟨v50, hv50, h⟩ := bd1_some h
                            refine k_L_is hx hb C.2.2.1 hown C.2.2.2.2.1 C.2.2.2.2.2.1 q687 hv50 (by omega) hl.1 (Nat.le_of_ble_eq_true rfl) hcs dX15_value_248 ?_
                            exact mm_iret hx hb hr hlk h dX15_value_251
                          · have h := if_some_t h c49
                            refine lv_iload_n hx hb dX15_value_239 rfl (lv_at hl 0 rfl) ?_
                            refine lv_if_eq (tgt := 247) hx hb dX15_value_240 rfl (fun c51 => ?_) (fun c51 => ?_)
                            · have h := if_some_t h c51
                              refine lv_iconst (v := 0) hx hb dX15_value_247 (by decide) ?_
                              obtain ⟨v52, hv52, h⟩ := bd1_some h
                              refine k_L_is hx hb C.2.2.1 hown C.2.2.2.2.1 C.2.2.2.2.2.1 q687 hv52 (by omega) hl.1 (Nat.le_of_ble_eq_true rfl) hcs dX15_value_248 ?_
                              exact mm_iret hx hb hr hlk h dX15_value_251
                            · have h := if_some_f h c51
                              refine lv_iconst (v := 1) hx hb dX15_value_243 (by decide) ?_
                              refine lv_goto (tgt := 248) hx hb dX15_value_244 rfl ?_
                              obtain ⟨v53, hv53, h⟩ := bd1_some h
                              refine k_L_is hx hb C.2.2.1 hown C.2.2.2.2.1 C.2.2.2.2.2.1 q687 hv53 (by omega) hl.1 (Nat.le_of_ble_eq_true rfl) hcs dX15_value_248 ?_
                              exact mm_iret hx hb hr hlk h dX15_value_251
                        · have h := if_some_f h c48
                          by_cases c54 : tv = 49
                          · have h := if_some_t h c54
                            refine lv_tableIn (tgt := 235) hx hb dX15_value_22 (by rw [c54]; decide) (by rw [c54]; decide) (by rw [c54]; rfl) (by decide) ?_
                            refine lv_iload_n hx hb dX15_value_235 rfl (lv_at hl 1 rfl) ?_
                            refine lv_if_ne (tgt := 243) hx hb dX15_value_236 rfl (fun c55 => ?_) (fun c55 => ?_)
                            · have h := if_some_f h c55
                              refine lv_iconst (v := 1) hx hb dX15_value_243 (by decide) ?_
                              refine lv_goto (tgt := 248) hx hb dX15_value_244 rfl ?_
                              obtain ⟨v56, hv56, h⟩ := bd1_some h
                              refine k_L_is hx hb C.2.2.1 hown C.2.2.2.2.1 C.2.2.2.2.2.1 q687 hv56 (by omega) hl.1 (Nat.le_of_ble_eq_true rfl) hcs dX15_value_248 ?_
                              exact mm_iret hx hb hr hlk h dX15_value_251
                            · have h := if_some_t h c55
                              refine lv_iload_n hx hb dX15_value_239 rfl (lv_at hl 0 rfl) ?_
                              refine lv_if_eq (tgt := 247) hx hb dX15_value_240 rfl (fun c57 => ?_) (fun c57 => ?_)
                              · have h := if_some_t h c57
                                refine lv_iconst (v := 0) hx hb dX15_value_247 (by decide) ?_
                                obtain ⟨v58, hv58, h⟩ := bd1_some h
                                refine k_L_is hx hb C.2.2.1 hown C.2.2.2.2.1 C.2.2.2.2.2.1 q687 hv58 (by omega) hl.1 (Nat.le_of_ble_eq_true rfl) hcs dX15_value_248 ?_
                                exact mm_iret hx hb hr hlk h dX15_value_251
                              · have h := if_some_f h c57
                                refine lv_iconst (v := 1) hx hb dX15_value_243 (by decide) ?_
                                refine lv_goto (tgt := 248) hx hb dX15_value_244 rfl ?_
                                obtain ⟨v59, hv59, h⟩ := bd1_some h
                                refine k_L_is hx hb C.2.2.1 hown C.2.2.2.2.1 C.2.2.2.2.2.1 q687 hv59 (by omega) hl.1 (Nat.le_of_ble_eq_true rfl) hcs dX15_value_248 ?_
                                exact mm_iret hx hb hr hlk h dX15_value_251
                          · have h := if_some_f h c54
                            by_cases c60 : tv = 50
                            · have h := if_some_t h c60
                              refine lv_tableIn (tgt := 235) hx hb dX15_value_22 (by rw [c60]; decide) (by rw [c60]; decide) (by rw [c60]; rfl) (by decide) ?_
                              refine lv_iload_n hx hb dX15_value_235 rfl (lv_at hl 1 rfl) ?_
                              refine lv_if_ne (tgt := 243) hx hb dX15_value_236 rfl (fun c61 => ?_) (fun c61 => ?_)
                              · have h := if_some_f h c61
                                refine lv_iconst (v := 1) hx hb dX15_value_243 (by decide) ?_
                                refine lv_goto (tgt := 248) hx hb dX15_value_244 rfl ?_
                                obtain ⟨v62, hv62, h⟩ := bd1_some h
                                refine k_L_is hx hb C.2.2.1 hown C.2.2.2.2.1 C.2.2.2.2.2.1 q687 hv62 (by omega) hl.1 (Nat.le_of_ble_eq_true rfl) hcs dX15_value_248 ?_
                                exact mm_iret hx hb hr hlk h dX15_value_251
                              · have h := if_some_t h c61
                                refine lv_iload_n hx hb dX15_value_239 rfl (lv_at hl 0 rfl) ?_
                                refine lv_if_eq (tgt := 247) hx hb dX15_value_240 rfl (fun c63 => ?_) (fun c63 => ?_)
                                · have h := if_some_t h c63
                                  refine lv_iconst (v := 0) hx hb dX15_value_247 (by decide) ?_
                                  obtain ⟨v64, hv64, h⟩ := bd1_some h
                                  refine k_L_is hx hb C.2.2.1 hown C.2.2.2.2.1 C.2.2.2.2.2.1 q687 hv64 (by omega) hl.1 (Nat.le_of_ble_eq_true rfl) hcs dX15_value_248 ?_
                                  exact mm_iret hx hb hr hlk h dX15_value_251
                                · have h := if_some_f h c63
                                  refine lv_iconst (v := 1) hx hb dX15_value_243 (by decide) ?_
                                  refine lv_goto (tgt := 248) hx hb dX15_value_244 rfl ?_
                                  obtain ⟨v65, hv65, h⟩ := bd1_some h
                                  refine k_L_is hx hb C.2.2.1 hown C.2.2.2.2.1 C.2.2.2.2.2.1 q687 hv65 (by omega) hl.1 (Nat.le_of_ble_eq_true rfl) hcs dX15_value_248 ?_
                                  exact mm_iret hx hb hr hlk h dX15_value_251
                            · have h := if_some_f h c60
                              by_cases c66 : tv = 51
                              · have h := if_some_t h c66
                                refine lv_tableIn (tgt := 235) hx hb dX15_value_22 (by rw [c66]; decide) (by rw [c66]; decide) (by rw [c66]; rfl) (by decide) ?_
                                refine lv_iload_n hx hb dX15_value_235 rfl (lv_at hl 1 rfl) ?_
                                refine lv_if_ne (tgt := 243) hx hb dX15_value_236 rfl (fun c67 => ?_) (fun c67 => ?_)
                                · have h := if_some_f h c67
                                  refine lv_iconst (v := 1) hx hb dX15_value_243 (by decide) ?_
                                  refine lv_goto (tgt := 248) hx hb dX15_value_244 rfl ?_
                                  obtain ⟨v68, hv68, h⟩ := bd1_some h
                                  refine k_L_is hx hb C.2.2.1 hown C.2.2.2.2.1 C.2.2.2.2.2.1 q687 hv68 (by omega) hl.1 (Nat.le_of_ble_eq_true rfl) hcs dX15_value_248 ?_
                                  exact mm_iret hx hb hr hlk h dX15_value_251
                                · have h := if_some_t h c67
                                  refine lv_iload_n hx hb dX15_value_239 rfl (lv_at hl 0 rfl) ?_
                                  refine lv_if_eq (tgt := 247) hx hb dX15_value_240 rfl (fun c69 => ?_) (fun c69 => ?_)
                                  · have h := if_some_t h c69
                                    refine lv_iconst (v := 0) hx hb dX15_value_247 (by decide) ?_
                                    obtain ⟨v70, hv70, h⟩ := bd1_some h
                                    refine k_L_is hx hb C.2.2.1 hown C.2.2.2.2.1 C.2.2.2.2.2.1 q687 hv70 (by omega) hl.1 (Nat.le_of_ble_eq_true rfl) hcs dX15_value_248 ?_
                                    exact mm_iret hx hb hr hlk h dX15_value_251
                                  · have h := if_some_f h c69
                                    refine lv_iconst (v := 1) hx hb dX15_value_243 (by decide) ?_
                                    refine lv_goto (tgt := 248) hx hb dX15_value_244 rfl ?_
                                    obtain ⟨v71, hv71, h⟩ := bd1_some h
                                    refine k_L_is hx hb C.2.2.1 hown C.2.2.2.2.1 C.2.2.2.2.2.1 q687 hv71 (by omega) hl.1 (Nat.le_of_ble_eq_true rfl) hcs dX15_value_248 ?_
                                    exact mm_iret hx hb hr hlk h dX15_value_251
                              · have h := if_some_f h c66
                                by_cases c72 : tv = 52
                                · have h := if_some_t h c72
                                  refine lv_tableIn (tgt := 235) hx hb dX15_value_22 (by rw [c72]; decide) (by rw [c72]; decide) (by rw [c72]; rfl) (by decide) ?_
                                  refine lv_iload_n hx hb dX15_value_235 rfl (lv_at hl 1 rfl) ?_
                                  refine lv_if_ne (tgt := 243) hx hb dX15_value_236 rfl (fun c73 => ?_) (fun c73 => ?_)
                                  · have h := if_some_f h c73
                                    refine lv_iconst (v := 1) hx hb dX15_value_243 (by decide) ?_
                                    refine lv_goto (tgt := 248) hx hb dX15_value_244 rfl ?_
                                    obtain ⟨v74, hv74, h⟩ := bd1_some h
                                    refine k_L_is hx hb C.2.2.1 hown C.2.2.2.2.1 C.2.2.2.2.2.1 q687 hv74 (by omega) hl.1 (Nat.le_of_ble_eq_true rfl) hcs dX15_value_248 ?_
                                    exact mm_iret hx hb hr hlk h dX15_value_251
                                  · have h := if_some_t h c73
                                    refine lv_iload_n hx hb dX15_value_239 rfl (lv_at hl 0 rfl) ?_
                                    refine lv_if_eq (tgt := 247) hx hb dX15_value_240 rfl (fun c75 => ?_) (fun c75 => ?_)
                                    · have h := if_some_t h c75
                                      refine lv_iconst (v := 0) hx hb dX15_value_247 (by decide) ?_
                                      obtain ⟨v76, hv76, h⟩ := bd1_some h
                                      refine k_L_is hx hb C.2.2.1 hown C.2.2.2.2.1 C.2.2.2.2.2.1 q687 hv76 (by omega) hl.1 (Nat.le_of_ble_eq_true rfl) hcs dX15_value_248 ?_
                                      exact mm_iret hx hb hr hlk h dX15_value_251
                                    · have h := if_some_f h c75
                                      refine lv_iconst (v := 1) hx hb dX15_value_243 (by decide) ?_
                                      refine lv_goto (tgt := 248) hx hb dX15_value_244 rfl ?_
                                      obtain ⟨v77, hv77, h⟩ := bd1_some h
                                      refine k_L_is hx hb C.2.2.1 hown C.2.2.2.2.1 C.2.2.2.2.2.1 q687 hv77 (by omega) hl.1 (Nat.le_of_ble_eq_true rfl) hcs dX15_value_248 ?_
                                      exact mm_iret hx hb hr hlk h dX15_value_251
                                · have h := if_some_f h c72
                                  by_cases c78 : tv = 53
                                  · have h := if_some_t h c78
                                    refine lv_tableIn (tgt := 235) hx hb dX15_value_22 (by rw [c78]; decide) (by rw [c78]; decide) (by rw [c78]; rfl) (by decide) ?_
                                    refine lv_iload_n hx hb dX15_value_235 rfl (lv_at hl 1 rfl) ?_
                                    refine lv_if_ne (tgt := 243) hx hb dX15_value_236 rfl (fun c79 => ?_) (fun c79 => ?_)
                                    · have h := if_some_f h c79
                                      refine lv_iconst (v := 1) hx hb dX15_value_243 (by decide) ?_
                                      refine lv_goto (tgt := 248) hx hb dX15_value_244 rfl ?_
                                      obtain ⟨v80, hv80, h⟩ := bd1_some h
                                      refine k_L_is hx hb C.2.2.1 hown C.2.2.2.2.1 C.2.2.2.2.2.1 q687 hv80 (by omega) hl.1 (Nat.le_of_ble_eq_true rfl) hcs dX15_value_248 ?_
                                      exact mm_iret hx hb hr hlk h dX15_value_251
                                    · have h := if_some_t h c79
                                      refine lv_iload_n hx hb dX15_value_239 rfl (lv_at hl 0 rfl) ?_
                                      refine lv_if_eq (tgt := 247) hx hb dX15_value_240 rfl (fun c81 => ?_) (fun c81 => ?_)
                                      · have h := if_some_t h c81
                                        refine lv_iconst (v := 0) hx hb dX15_value_247 (by decide) ?_
                                        obtain ⟨v82, hv82, h⟩ := bd1_some h
                                        refine k_L_is hx hb C.2.2.1 hown C.2.2.2.2.1 C.2.2.2.2.2.1 q687 hv82 (by omega) hl.1 (Nat.le_of_ble_eq_true rfl) hcs dX15_value_248 ?_
                                        exact mm_iret hx hb hr hlk h dX15_value_251
                                      · have h := if_some_f h c81
                                        refine lv_iconst (v := 1) hx hb dX15_value_243 (by decide) ?_
                                        refine lv_goto (tgt := 248) hx hb dX15_value_244 rfl ?_
                                        obtain ⟨v83, hv83, h⟩ := bd1_some h
                                        refine k_L_is hx hb C.2.2.1 hown C.2.2.2.2.1 C.2.2.2.2.2.1 q687 hv83 (by omega) hl.1 (Nat.le_of_ble_eq_true rfl) hcs dX15_value_248 ?_
                                        exact mm_iret hx hb hr hlk h dX15_value_251
                                  · have h := if_some_f h c78
                                    by_cases c84 : tv = 54
                                    · have h := if_some_t h c84
                                      refine lv_tableIn (tgt := 235) hx hb dX15_value_22 (by rw [c84]; decide) (by rw [c84]; decide) (by rw [c84]; rfl) (by decide) ?_
                                      refine lv_iload_n hx hb dX15_value_235 rfl (lv_at hl 1 rfl) ?_
                                      refine lv_if_ne (tgt := 243) hx hb dX15_value_236 rfl (fun c85 => ?_) (fun c85 => ?_)
                                      · have h := if_some_f h c85
                                        refine lv_iconst (v := 1) hx hb dX15_value_243 (by decide) ?_
                                        refine lv_goto (tgt := 248) hx hb dX15_value_244 rfl ?_
                                        obtain ⟨v86, hv86, h⟩ := bd1_some h
                                        refine k_L_is hx hb C.2.2.1 hown C.2.2.2.2.1 C.2.2.2.2.2.1 q687 hv86 (by omega) hl.1 (Nat.le_of_ble_eq_true rfl) hcs dX15_value_248 ?_
                                        exact mm_iret hx hb hr hlk h dX15_value_251
                                      · have h := if_some_t h c85
                                        refine lv_iload_n hx hb dX15_value_239 rfl (lv_at hl 0 rfl) ?_
                                        refine lv_if_eq (tgt := 247) hx hb dX15_value_240 rfl (fun c87 => ?_) (fun c87 => ?_)
                                        · have h := if_some_t h c87
                                          refine lv_iconst (v := 0) hx hb dX15_value_247 (by decide) ?_
                                          obtain ⟨v88, hv88, h⟩ := bd1_some h
                                          refine k_L_is hx hb C.2.2.1 hown C.2.2.2.2.1 C.2.2.2.2.2.1 q687 hv88 (by omega) hl.1 (Nat.le_of_ble_eq_true rfl) hcs dX15_value_248 ?_
                                          exact mm_iret hx hb hr hlk h dX15_value_251
                                        · have h := if_some_f h c87
                                          refine lv_iconst (v := 1) hx hb dX15_value_243 (by decide) ?_
                                          refine lv_goto (tgt := 248) hx hb dX15_value_244 rfl ?_
                                          obtain ⟨v89, hv89, h⟩ := bd1_some h
                                          refine k_L_is hx hb C.2.2.1 hown C.2.2.2.2.1 C.2.2.2.2.2.1 q687 hv89 (by omega) hl.1 (Nat.le_of_ble_eq_true rfl) hcs dX15_value_248 ?_
                                          exact mm_iret hx hb hr hlk h dX15_value_251
                                    · have h := if_some_f h c84
                                      by_cases c90 : tv = 55
                                      · have h := if_some_t h c90
                                        refine lv_tableIn (tgt := 235) hx hb dX15_value_22 (by rw [c90]; decide) (by rw [c90]; decide) (by rw [c90]; rfl) (by decide) ?_
                                        refine lv_iload_n hx hb dX15_value_235 rfl (lv_at hl 1 rfl) ?_
                                        refine lv_if_ne (tgt := 243) hx hb dX15_value_236 rfl (fun c91 => ?_) (fun c91 => ?_)
                                        · have h := if_some_f h c91
                                          refine lv_iconst (v := 1) hx hb dX15_value_243 (by decide) ?_
                                          refine lv_goto (tgt := 248) hx hb dX15_value_244 rfl ?_
                                          obtain ⟨v92, hv92, h⟩ := bd1_some h
                                          refine k_L_is hx hb C.2.2.1 hown C.2.2.2.2.1 C.2.2.2.2.2.1 q687 hv92 (by omega) hl.1 (Nat.le_of_ble_eq_true rfl) hcs dX15_value_248 ?_
                                          exact mm_iret hx hb hr hlk h dX15_value_251
                                        · have h := if_some_t h c91
                                          refine lv_iload_n hx hb dX15_value_239 rfl (lv_at hl 0 rfl) ?_
                                          refine lv_if_eq (tgt := 247) hx hb dX15_value_240 rfl (fun c93 => ?_) (fun c93 => ?_)
                                          · have h := if_some_t h c93
                                            refine lv_iconst (v := 0) hx hb dX15_value_247 (by decide) ?_
                                            obtain ⟨v94, hv94, h⟩ := bd1_some h
                                            refine k_L_is hx hb C.2.2.1 hown C.2.2.2.2.1 C.2.2.2.2.2.1 q687 hv94 (by omega) hl.1 (Nat.le_of_ble_eq_true rfl) hcs dX15_value_248 ?_
                                            exact mm_iret hx hb hr hlk h dX15_value_251
                                          · have h := if_some_f h c93
                                            refine lv_iconst (v := 1) hx hb dX15_value_243 (by decide) ?_
                                            refine lv_goto (tgt := 248) hx hb dX15_value_244 rfl ?_
                                            obtain ⟨v95, hv95, h⟩ := bd1_some h
                                            refine k_L_is hx hb C.2.2.1 hown C.2.2.2.2.1 C.2.2.2.2.2.1 q687 hv95 (by omega) hl.1 (Nat.le_of_ble_eq_true rfl) hcs dX15_value_248 ?_
                                            exact mm_iret hx hb hr hlk h dX15_value_251
                                      · have h := if_some_f h c90
                                        by_cases c96 : tv = 56
                                        · have h := if_some_t h c96
                                          refine lv_tableIn (tgt := 235) hx hb dX15_value_22 (by rw [c96]; decide) (by rw [c96]; decide) (by rw [c96]; rfl) (by decide) ?_
                                          refine lv_iload_n hx hb dX15_value_235 rfl (lv_at hl 1 rfl) ?_
                                          refine lv_if_ne (tgt := 243) hx hb dX15_value_236 rfl (fun c97 => ?_) (fun c97 => ?_)
                                          · have h := if_some_f h c97
                                            refine lv_iconst (v := 1) hx hb dX15_value_243 (by decide) ?_
                                            refine lv_goto (tgt := 248) hx hb dX15_value_244 rfl ?_
                                            obtain ⟨v98, hv98, h⟩ := bd1_some h
                                            refine k_L_is hx hb C.2.2.1 hown C.2.2.2.2.1 C.2.2.2.2.2.1 q687 hv98 (by omega) hl.1 (Nat.le_of_ble_eq_true rfl) hcs dX15_value_248 ?_
                                            exact mm_iret hx hb hr hlk h dX15_value_251
                                          · have h := if_some_t h c97
                                            refine lv_iload_n hx hb dX15_value_239 rfl (lv_at hl 0 rfl) ?_
                                            refine lv_if_eq (tgt := 247) hx hb dX15_value_240 rfl (fun c99 => ?_) (fun c99 => ?_)
                                            · have h := if_some_t h c99
                                              refine lv_iconst (v := 0) hx hb dX15_value_247 (by decide) ?_
                                              obtain ⟨v100, hv100, h⟩ := bd1_some h
                                              refine k_L_is hx hb C.2.2.1 hown C.2.2.2.2.1 C.2.2.2.2.2.1 q687 hv100 (by omega) hl.1 (Nat.le_of_ble_eq_true rfl) hcs dX15_value_248 ?_
                                              exact mm_iret hx hb hr hlk h dX15_value_251
                                            · have h := if_some_f h c99
                                              refine lv_iconst (v := 1) hx hb dX15_value_243 (by decide) ?_
                                              refine lv_goto (tgt := 248) hx hb dX15_value_244 rfl ?_
                                              obtain ⟨v101, hv101, h⟩ := bd1_some h
                                              refine k_L_is hx hb C.2.2.1 hown C.2.2.2.2.1 C.2.2.2.2.2.1 q687 hv101 (by omega) hl.1 (Nat.le_of_ble_eq_true rfl) hcs dX15_value_248 ?_
                                              exact mm_iret hx hb hr hlk h dX15_value_251
                                        · have h := if_some_f h c96
                                          by_cases c102 : tv = 57
                                          · have h := if_some_t h c102
                                            refine lv_tableIn (tgt := 235) hx hb dX15_value_22 (by rw [c102]; decide) (by rw [c102]; decide) (by rw [c102]; rfl) (by decide) ?_
                                            refine lv_iload_n hx hb dX15_value_235 rfl (lv_at hl 1 rfl) ?_
                                            refine lv_if_ne (tgt := 243) hx hb dX15_value_236 rfl (fun c103 => ?_) (fun c103 => ?_)
                                            · have h := if_some_f h c103
                                              refine lv_iconst (v := 1) hx hb dX15_value_243 (by decide) ?_
                                              refine lv_goto (tgt := 248) hx hb dX15_value_244 rfl ?_
                                              obtain ⟨v104, hv104, h⟩ := bd1_some h
                                              refine k_L_is hx hb C.2.2.1 hown C.2.2.2.2.1 C.2.2.2.2.2.1 q687 hv104 (by omega) hl.1 (Nat.le_of_ble_eq_true rfl) hcs dX15_value_248 ?_
                                              exact mm_iret hx hb hr hlk h dX15_value_251
                                            · have h := if_some_t h c103
                                              refine lv_iload_n hx hb dX15_value_239 rfl (lv_at hl 0 rfl) ?_
                                              refine lv_if_eq (tgt := 247) hx hb dX15_value_240 rfl (fun c105 => ?_) (fun c105 => ?_)
                                              · have h := if_some_t h c105
                                                refine lv_iconst (v := 0) hx hb dX15_value_247 (by decide) ?_
                                                obtain ⟨v106, hv106, h⟩ := bd1_some h
                                                refine k_L_is hx hb C.2.2.1 hown C.2.2.2.2.1 C.2.2.2.2.2.1 q687 hv106 (by omega) hl.1 (Nat.le_of_ble_eq_true rfl) hcs dX15_value_248 ?_
                                                exact mm_iret hx hb hr hlk h dX15_value_251
                                              · have h := if_some_f h c105
                                                refine lv_iconst (v := 1) hx hb dX15_value_243 (by decide) ?_
                                                refine lv_goto (tgt := 248) hx hb dX15_value_244 rfl ?_
                                                obtain ⟨v107, hv107, h⟩ := bd1_some h
                                                refine k_L_is hx hb C.2.2.1 hown C.2.2.2.2.1 C.2.2.2.2.2.1 q687 hv107 (by omega) hl.1 (Nat.le_of_ble_eq_true rfl) hcs dX15_value_248 ?_
                                                exact mm_iret hx hb hr hlk h dX15_value_251
                                          · have h := if_some_f h c102
                                            by_cases c108 : tv = 58
                                            · have h := if_some_t h c108
                                              refine lv_tableIn (tgt := 235) hx hb dX15_value_22 (by rw [c108]; decide) (by rw [c108]; decide) (by rw [c108]; rfl) (by decide) ?_
                                              refine lv_iload_n hx hb dX15_value_235 rfl (lv_at hl 1 rfl) ?_
                                              refine lv_if_ne (tgt := 243) hx hb dX15_value_236 rfl (fun c109 => ?_) (fun c109 => ?_)
                                              · have h := if_some_f h c109
                                                refine lv_iconst (v := 1) hx hb dX15_value_243 (by decide) ?_
                                                refine lv_goto (tgt := 248) hx hb dX15_value_244 rfl ?_
                                                obtain ⟨v110, hv110, h⟩ := bd1_some h
                                                refine k_L_is hx hb C.2.2.1 hown C.2.2.2.2.1 C.2.2.2.2.2.1 q687 hv110 (by omega) hl.1 (Nat.le_of_ble_eq_true rfl) hcs dX15_value_248 ?_
                                                exact mm_iret hx hb hr hlk h dX15_value_251
                                              · have h := if_some_t h c109
                                                refine lv_iload_n hx hb dX15_value_239 rfl (lv_at hl 0 rfl) ?_
                                                refine lv_if_eq (tgt := 247) hx hb dX15_value_240 rfl (fun c111 => ?_) (fun c111 => ?_)
                                                · have h := if_some_t h c111
                                                  refine lv_iconst (v := 0) hx hb dX15_value_247 (by decide) ?_
                                                  obtain ⟨v112, hv112, h⟩ := bd1_some h
                                                  refine k_L_is hx hb C.2.2.1 hown C.2.2.2.2.1 C.2.2.2.2.2.1 q687 hv112 (by omega) hl.1 (Nat.le_of_ble_eq_true rfl) hcs dX15_value_248 ?_
                                                  exact mm_iret hx hb hr hlk h dX15_value_251
                                                · have h := if_some_f h c111
                                                  refine lv_iconst (v := 1) hx hb dX15_value_243 (by decide) ?_
                                                  refine lv_goto (tgt := 248) hx hb dX15_value_244 rfl ?_
                                                  obtain ⟨v113, hv113, h⟩ := bd1_some h
                                                  refine k_L_is hx hb C.2.2.1 hown C.2.2.2.2.1 C.2.2.2.2.2.1 q687 hv113 (by omega) hl.1 (Nat.le_of_ble_eq_true rfl) hcs dX15_value_248 ?_
                                                  exact mm_iret hx hb hr hlk h dX15_value_251
                                            · have h := if_some_f h c108
                                              by_cases c114 : tv = 59
                                              · have h := if_some_t h c114
                                                refine lv_tableIn (tgt := 235) hx hb dX15_value_22 (by rw [c114]; decide) (by rw [c114]; decide) (by rw [c114]; rfl) (by decide) ?_
                                                refine lv_iload_n hx hb dX15_value_235 rfl (lv_at hl 1 rfl) ?_
                                                refine lv_if_ne (tgt := 243) hx hb dX15_value_236 rfl (fun c115 => ?_) (fun c115 => ?_)
                                                · have h := if_some_f h c115
                                                  refine lv_iconst (v := 1) hx hb dX15_value_243 (by decide) ?_
                                                  refine lv_goto (tgt := 248) hx hb dX15_value_244 rfl ?_
                                                  obtain ⟨v116, hv116, h⟩ := bd1_some h
                                                  refine k_L_is hx hb C.2.2.1 hown C.2.2.2.2.1 C.2.2.2.2.2.1 q687 hv116 (by omega) hl.1 (Nat.le_of_ble_eq_true rfl) hcs dX15_value_248 ?_
                                                  exact mm_iret hx hb hr hlk h dX15_value_251
                                                · have h := if_some_t h c115
                                                  refine lv_iload_n hx hb dX15_value_239 rfl (lv_at hl 0 rfl) ?_
                                                  refine lv_if_eq (tgt := 247) hx hb dX15_value_240 rfl (fun c117 => ?_) (fun c117 => ?_)
                                                  · have h := if_some_t h c117
                                                    refine lv_iconst (v := 0) hx hb dX15_value_247 (by decide) ?_
                                                    obtain ⟨v118, hv118, h⟩ := bd1_some h
                                                    refine k_L_is hx hb C.2.2.1 hown C.2.2.2.2.1 C.2.2.2.2.2.1 q687 hv118 (by omega) hl.1 (Nat.le_of_ble_eq_true rfl) hcs dX15_value_248 ?_
                                                    exact mm_iret hx hb hr hlk h dX15_value_251
                                                  · have h := if_some_f h c117
                                                    refine lv_iconst (v := 1) hx hb dX15_value_243 (by decide) ?_
                                                    refine lv_goto (tgt := 248) hx hb dX15_value_244 rfl ?_
                                                    obtain ⟨v119, hv119, h⟩ := bd1_some h
                                                    refine k_L_is hx hb C.2.2.1 hown C.2.2.2.2.1 C.2.2.2.2.2.1 q687 hv119 (by omega) hl.1 (Nat.le_of_ble_eq_true rfl) hcs dX15_value_248 ?_
                                                    exact mm_iret hx hb hr hlk h dX15_value_251
                                              · have h := if_some_f h c114
                                                by_cases c120 : tv = 60
                                                · have h := if_some_t h c120
                                                  refine lv_tableIn (tgt := 176) hx hb dX15_value_22 (by rw [c120]; decide) (by rw [c120]; decide) (by rw [c120]; rfl) (by decide) ?_
                                                  refine lv_iload_n hx hb dX15_value_176 rfl (lv_at hl 1 rfl) ?_
                                                  refine lv_iload_n hx hb dX15_value_177 rfl (lv_at hl 0 rfl) ?_
                                                  refine lv_icmp_ge (tgt := 185) hx hb dX15_value_178 rfl (fun c121 => ?_) (fun c121 => ?_)
                                                  · have h := if_some_t h c121
                                                    refine lv_iconst (v := 0) hx hb dX15_value_185 (by decide) ?_
                                                    obtain ⟨v122, hv122, h⟩ := bd1_some h
                                                    refine k_L_is hx hb C.2.2.1 hown C.2.2.2.2.1 C.2.2.2.2.2.1 q687 hv122 (by omega) hl.1 (Nat.le_of_ble_eq_true rfl) hcs dX15_value_186 ?_
                                                    exact mm_iret hx hb hr hlk h dX15_value_189
                                                  · have h := if_some_f h c121
                                                    refine lv_iconst (v := 1) hx hb dX15_value_181 (by decide) ?_
                                                    refine lv_goto (tgt := 186) hx hb dX15_value_182 rfl ?_
                                                    obtain ⟨v123, hv123, h⟩ := bd1_some h
                                                    refine k_L_is hx hb C.2.2.1 hown C.2.2.2.2.1 C.2.2.2.2.2.1 q687 hv123 (by omega) hl.1 (Nat.le_of_ble_eq_true rfl) hcs dX15_value_186 ?_
                                                    exact mm_iret hx hb hr hlk h dX15_value_189
                                                · have h := if_some_f h c120
                                                  by_cases c124 : tv = 61
                                                  · have h := if_some_t h c124
                                                    refine lv_tableIn (tgt := 190) hx hb dX15_value_22 (by rw [c124]; decide) (by rw [c124]; decide) (by rw [c124]; rfl) (by decide) ?_
                                                    refine lv_iload_n hx hb dX15_value_190 rfl (lv_at hl 1 rfl) ?_
                                                    refine lv_iload_n hx hb dX15_value_191 rfl (lv_at hl 0 rfl) ?_
                                                    refine lv_icmp_ne (tgt := 199) hx hb dX15_value_192 rfl (fun c125 => ?_) (fun c125 => ?_)
                                                    · have h := if_some_f h c125
                                                      refine lv_iconst (v := 0) hx hb dX15_value_199 (by decide) ?_
                                                      obtain ⟨v126, hv126, h⟩ := bd1_some h
                                                      refine k_L_is hx hb C.2.2.1 hown C.2.2.2.2.1 C.2.2.2.2.2.1 q687 hv126 (by omega) hl.1 (Nat.le_of_ble_eq_true rfl) hcs dX15_value_200 ?_
                                                      exact mm_iret hx hb hr hlk h dX15_value_203
                                                    · have h := if_some_t h c125
                                                      refine lv_iconst (v := 1) hx hb dX15_value_195 (by decide) ?_
                                                      refine lv_goto (tgt := 200) hx hb dX15_value_196 rfl ?_
                                                      obtain ⟨v127, hv127, h⟩ := bd1_some h
                                                      refine k_L_is hx hb C.2.2.1 hown C.2.2.2.2.1 C.2.2.2.2.2.1 q687 hv127 (by omega) hl.1 (Nat.le_of_ble_eq_true rfl) hcs dX15_value_200 ?_
                                                      exact mm_iret hx hb hr hlk h dX15_value_203
                                                  · have h := if_some_f h c124
                                                    by_cases c128 : tv = 62
                                                    · have h := if_some_t h c128
                                                      refine lv_tableIn (tgt := 204) hx hb dX15_value_22 (by rw [c128]; decide) (by rw [c128]; decide) (by rw [c128]; rfl) (by decide) ?_
                                                      refine lv_iload_n hx hb dX15_value_204 rfl (lv_at hl 1 rfl) ?_
                                                      refine lv_iload_n hx hb dX15_value_205 rfl (lv_at hl 0 rfl) ?_
                                                      refine lv_icmp_le (tgt := 213) hx hb dX15_value_206 rfl (fun c129 => ?_) (fun c129 => ?_)
                                                      · have h := if_some_t h c129
                                                        refine lv_iconst (v := 0) hx hb dX15_value_213 (by decide) ?_
                                                        obtain ⟨v130, hv130, h⟩ := bd1_some h
                                                        refine k_L_is hx hb C.2.2.1 hown C.2.2.2.2.1 C.2.2.2.2.2.1 q687 hv130 (by omega) hl.1 (Nat.le_of_ble_eq_true rfl) hcs dX15_value_214 ?_
                                                        exact mm_iret hx hb hr hlk h dX15_value_217
                                                      · have h := if_some_f h c129
                                                        refine lv_iconst (v := 1) hx hb dX15_value_209 (by decide) ?_
                                                        refine lv_goto (tgt := 214) hx hb dX15_value_210 rfl ?_
                                                        obtain ⟨v131, hv131, h⟩ := bd1_some h
                                                        refine k_L_is hx hb C.2.2.1 hown C.2.2.2.2.1 C.2.2.2.2.2.1 q687 hv131 (by omega) hl.1 (Nat.le_of_ble_eq_true rfl) hcs dX15_value_214 ?_
                                                        exact mm_iret hx hb hr hlk h dX15_value_217
                                                    · have h := if_some_f h c128
                                                      refine lv_tableOut (tgt := 235) hx hb dX15_value_22 ?_ (by decide) ?_
                                                      · have := lv_neT c3 (show (37 : Int32).toInt = 37 by decide)
                                                        have := lv_neT c6 (show (38 : Int32).toInt = 38 by decide)
                                                        have := lv_neT c12 (show (39 : Int32).toInt = 39 by decide)
                                                        have := lv_neT c18 (show (40 : Int32).toInt = 40 by decide)
                                                        have := lv_neT c24 (show (41 : Int32).toInt = 41 by decide)
                                                        have := lv_neT c30 (show (42 : Int32).toInt = 42 by decide)
                                                        have := lv_neT c31 (show (43 : Int32).toInt = 43 by decide)
                                                        have := lv_neT c32 (show (44 : Int32).toInt = 44 by decide)
                                                        have := lv_neT c38 (show (45 : Int32).toInt = 45 by decide)
                                                        have := lv_neT c39 (show (46 : Int32).toInt = 46 by decide)
                                                        have := lv_neT c45 (show (47 : Int32).toInt = 47 by decide)
                                                        have := lv_neT c48 (show (48 : Int32).toInt = 48 by decide)
                                                        have := lv_neT c54 (show (49 : Int32).toInt = 49 by decide)
                                                        have := lv_neT c60 (show (50 : Int32).toInt = 50 by decide)
                                                        have := lv_neT c66 (show (51 : Int32).toInt = 51 by decide)
                                                        have := lv_neT c72 (show (52 : Int32).toInt = 52 by decide)
                                                        have := lv_neT c78 (show (53 : Int32).toInt = 53 by decide)
                                                        have := lv_neT c84 (show (54 : Int32).toInt = 54 by decide)
                                                        have := lv_neT c90 (show (55 : Int32).toInt = 55 by decide)
                                                        have := lv_neT c96 (show (56 : Int32).toInt = 56 by decide)
                                                        have := lv_neT c102 (show (57 : Int32).toInt = 57 by decide)
                                                        have := lv_neT c108 (show (58 : Int32).toInt = 58 by decide)
                                                        have := lv_neT c114 (show (59 : Int32).toInt = 59 by decide)
                                                        have := lv_neT c120 (show (60 : Int32).toInt = 60 by decide)
                                                        have := lv_neT c124 (show (61 : Int32).toInt = 61 by decide)
                                                        have := lv_neT c128 (show (62 : Int32).toInt = 62 by decide)
                                                        omega
                                                      · refine lv_iload_n hx hb dX15_value_235 rfl (lv_at hl 1 rfl) ?_
                                                        refine lv_if_ne (tgt := 243) hx hb dX15_value_236 rfl (fun c132 => ?_) (fun c132 => ?_)
                                                        · have h := if_some_f h c132
                                                          refine lv_iconst (v := 1) hx hb dX15_value_243 (by decide) ?_
                                                          refine lv_goto (tgt := 248) hx hb dX15_value_244 rfl ?_
                                                          obtain ⟨v133, hv133, h⟩ := bd1_some h
                                                          refine k_L_is hx hb C.2.2.1 hown C.2.2.2.2.1 C.2.2.2.2.2.1 q687 hv133 (by omega) hl.1 (Nat.le_of_ble_eq_true rfl) hcs dX15_value_248 ?_
                                                          exact mm_iret hx hb hr hlk h dX15_value_251
                                                        · have h := if_some_t h c132
                                                          refine lv_iload_n hx hb dX15_value_239 rfl (lv_at hl 0 rfl) ?_
                                                          refine lv_if_eq (tgt := 247) hx hb dX15_value_240 rfl (fun c134 => ?_) (fun c134 => ?_)
                                                          · have h := if_some_t h c134
                                                            refine lv_iconst (v := 0) hx hb dX15_value_247 (by decide) ?_
                                                            obtain ⟨v135, hv135, h⟩ := bd1_some h
                                                            refine k_L_is hx hb C.2.2.1 hown C.2.2.2.2.1 C.2.2.2.2.2.1 q687 hv135 (by omega) hl.1 (Nat.le_of_ble_eq_true rfl) hcs dX15_value_248 ?_
                                                            exact mm_iret hx hb hr hlk h dX15_value_251
                                                          · have h := if_some_f h c134
                                                            refine lv_iconst (v := 1) hx hb dX15_value_243 (by decide) ?_
                                                            refine lv_goto (tgt := 248) hx hb dX15_value_244 rfl ?_
                                                            obtain ⟨v136, hv136, h⟩ := bd1_some h
                                                            refine k_L_is hx hb C.2.2.1 hown C.2.2.2.2.1 C.2.2.2.2.2.1 q687 hv136 (by omega) hl.1 (Nat.le_of_ble_eq_true rfl) hcs dX15_value_248 ?_
                                                            exact mm_iret hx hb hr hlk h dX15_value_251
/-- what a term gives, by depth -/
def tmV (P : Nat → va_E) (nm : Nat → Int32) : Nat → Nat → Option Int32
  | 0, _ => none
  | d + 1, a => bd4 (tmOf (P (1000 + a))) fun j v b c => if j = 0 then E_figure v else if j = 1 then E_named nm v else if j = 2 then E_turned (tmV P nm d) b else E_two (tmV P nm d) v b c
theorem q673 : (Jvm.Cond.sameMethod "ChapterLoan$Term" "ChapterLoan$Term" "value" "(LChapterLoan$Facts;)I") ∈ lw_all := lw_g (lw_at lw_m3 109 rfl) rfl
theorem k_tmV {t : Nat} (hO : klOk A ks ad) (ht : t < 3) : ∀ dd : Nat, kTermP l D cA ks ad A t st (dd + 1) (tmV st.2.2.2 (st.2.1 (20 * t + 16)) dd) := by
  intro dd
  induction dd with
  | zero =>
    intro a v h
    exact non_some h
  | succ dd ih =>
    intro a v h hta p e R s m args below meth c H locs cells slots d Q cc pc nL ls rest own index C hP hz hl hd hsz hW hcs hdg kk
    rw [tmV] at h
    obtain ⟨j, tv, tb, tc, ht4, h⟩ := bd4_some h
    rcases tmOf_some ht4 with ⟨rfl, hpe⟩ | ⟨rfl, hpe⟩ | ⟨rfl, hpe⟩ | ⟨rfl, hpe⟩
    · exact tm_virt (q := (RX20, TX20, 1)) (x := yX14_value) (owner := RX14) (n := 1) (As := [.ref (ad (20 * t + 19))]) C hP hz (tm_recv C hP hta hpe rfl) (w_E_figure (dk := dd + 1) hO ht (by omega) hta hpe h) (va_cwA 1 C.2.2.2.2.1 (lw_U hl q673 q674 q675 q116 q676) rfl rfl rfl (C.2.2.2.2.2.2.2.1 _ (List.mem_of_getElem? (i := 43) rfl)) (by decide +kernel) (mr_ C.2.2.2.2.2.1 hd (by decide))) rfl hsz rfl hW hdg hcs kk
    · exact tm_virt (q := (RX17, TX17, 1)) (x := yX14_value) (owner := RX14) (n := 1) (As := [.ref (ad (20 * t + 19))]) C hP hz (tm_recv C hP hta hpe rfl) (w_E_named (dk := dd + 1) hO ht (by omega) hta hpe h) (va_cwA 1 C.2.2.2.2.1 (lw_U hl q673 q677 q678 q113 q679) rfl rfl rfl (C.2.2.2.2.2.2.2.1 _ (List.mem_of_getElem? (i := 43) rfl)) (by decide +kernel) (mr_ C.2.2.2.2.2.1 hd (by decide))) rfl hsz rfl hW hdg hcs kk
    · exact tm_virt (q := (RX19, TX19, 1)) (x := yX14_value) (owner := RX14) (n := 1) (As := [.ref (ad (20 * t + 19))]) C hP hz (tm_recv C hP hta hpe rfl) (w_E_turned (dk := dd + 1) hO ht (by omega) hta ih hpe h) (va_cwA 1 C.2.2.2.2.1 (lw_U hl q673 q680 q681 q115 q682) rfl rfl rfl (C.2.2.2.2.2.2.2.1 _ (List.mem_of_getElem? (i := 43) rfl)) (by decide +kernel) (mr_ C.2.2.2.2.2.1 hd (by decide))) rfl hsz rfl hW hdg hcs kk
    · exact tm_virt (q := (RX15, TX15, 3)) (x := yX14_value) (owner := RX14) (n := 1) (As := [.ref (ad (20 * t + 19))]) C hP hz (tm_recv C hP hta hpe rfl) (w_E_two (dk := dd + 1) hO ht (by omega) hta ih hpe h) (va_cwA 1 C.2.2.2.2.1 (lw_U hl q673 q690 q684 q104 q685) rfl rfl rfl (C.2.2.2.2.2.2.2.1 _ (List.mem_of_getElem? (i := 43) rfl)) (by decide +kernel) (mr_ C.2.2.2.2.2.1 hd (by decide))) rfl hsz rfl hW hdg hcs kk
end
