/-! strings: the literals, String.indexOf over them -/
set_option maxRecDepth 100000
section
variable {p : Program} {l : Launch} {e : Env} {R : Room} {s : State} {m : MethodId} {args : Array Value} {below : List Frame} {meth : Method} {c : Code} {H : Heap} {locs : List Loc} {cells slots d : Nat} {Q : State → Prop} {cc : ByteArray} {pc nL : Nat} {ls : Array Slot} {rest : List Value} {D : va_G} {cA : Nat → ClassId} {ks : List Nat} {ad : Nat → Nat} {A : Nat → Prop} {st : CS} {H0 : Heap} {own : String} {index : Nat} {adK adV : Nat → Nat} {j : Nat}
def stO : List String := ["ChapterLoan", "ChapterLoan", "ChapterLoan$Reader", "ChapterLoan$Reader", "ChapterLoan$Reader", "ChapterLoan$Reader", "ChapterLoan$Reader", "ChapterLoan$Reader", "ChapterLoan$Reader"]
def stI : List Nat := [246, 248, 52, 66, 71, 76, 81, 89, 99]
def stX : List String := ["fwd", "don", "|", "&", "<=>", "+-", "*/%", "!", "("]
def lenS : List Nat := [3, 3, 1, 1, 3, 2, 3, 1, 1]
def bytS : List (List Int32) := [[102, 119, 100], [100, 111, 110], [124], [38], [60, 61, 62], [43, 45], [42, 47, 37], [33], [40]]
/-- the literals, the statics -/
def sX (adK adV : Nat → Nat) (A : Nat → Prop) (U : State) : Prop := vk_S 9 lenS bytS adK adV A U U.heap ∧ (∀ i, i < 9 → vk_R (stO.getD i "") (stI.getD i 0) (stX.getD i "") (adK i) U) ∧ va_Z "java/lang/String" "COMPACT_STRINGS" "Z" (.int 1) A U U.heap ∧ va_Zq "java/lang/Throwable" "UNASSIGNED_STACK" "[Ljava/lang/StackTraceElement;" A U U.heap ∧ va_Zq "java/lang/Throwable" "SUPPRESSED_SENTINEL" "Ljava/util/List;" A U U.heap
theorem sX.calling {U : State} {g : JFrame} {mk : MethodId} {a : Array Value} (h : sX adK adV A U) : sX adK adV A (U.calling g mk a) :=
  ⟨vk_S.moved (u := U) (U := U.calling g mk a) (Vm.Alike.refl U.vm) h.1, fun i hi => vk_R.same (u := U) (U := U.calling g mk a) rfl (h.2.1 i hi), va_Z.moved (u := U) (U := U.calling g mk a) (Vm.Alike.refl U.vm) h.2.2.1, va_Zq.moved (u := U) (U := U.calling g mk a) (Vm.Alike.refl U.vm) h.2.2.2.1, va_Zq.moved (u := U) (U := U.calling g mk a) (Vm.Alike.refl U.vm) h.2.2.2.2⟩
theorem sX.there {U : State} (h : sX adK adV A s) (hS : va_S A s.heap H locs) (hU : U.heap = H) (hW : s.WarmedH U.vm) : sX adK adV A U := by
  subst hU
  exact ⟨vk_S.moved hW.alike (h.1.kept hS.2.1), fun i hi => vk_R.warm hW (h.2.1 i hi), va_Z.moved hW.alike (h.2.2.1.kept hS.2.1), va_Zq.moved hW.alike (h.2.2.2.1.kept hS.2.1), va_Zq.moved hW.alike (h.2.2.2.2.kept hS.2.1)⟩
abbrev sR (adK adV : Nat → Nat) (A : Nat → Prop) (l : Launch) (y : MethodName) (bytes : ByteArray) (maxL : Nat) (ret : Option FieldType) (d : Nat) (As : List Value) (r : Int32) : Prop :=
  Met l y (ws_ y bytes maxL ret) (k2_rm d (40 * d)) (va_Pc As (sX adK adV A)) (QcRead r) 0 0 (fun _ => False)
theorem ss_of {y : MethodName} {bytes : ByteArray} {maxL : Nat} {ret : Option FieldType} {As : List Value} {r : Int32} (hy : plainFor y = true) (hnl : (lg_sl As).length ≤ maxL)
    (body : ∀ (p : Program) (e : Env) (s : State) (m : MethodId) (below : List Frame) (meth : Method) (c : Code) (R : Room) (args : Array Value) (ls : Array Slot), sC p R d s m args c bytes maxL y.cls → meth.sig.returnType = ret → meth.locks = false → sX adK adV A s → lv_has ls maxL (lv_args 0 As) → (0 ≤ R.cells ∧ 0 ≤ R.slots) →
      W p l e R s m args below meth c s.heap [] 0 0 (MQ below (QcRead r) args s 0 0 (fun _ => False)) (F0 m 0 ls [])) : sR adK adV A l y bytes maxL ret d As r := by
  refine Met_ofWF (cc := bytes) (maxL := maxL) (ret := ret) hy rfl ?_
  intro p e s m args below meth c s₁ B hml hv
  have hts := atoms_spec (ws := ws_ y bytes maxL ret) B.pre
  have hts : ∀ w ∈ lw_all, w.before _ s = true := fun w h => hts w (List.mem_cons_of_mem _ h)
  have hown : s.vm.findClass y.cls = some m.cls := findClass_of_methodNamed B.named
  obtain ⟨rfl, hX⟩ := hv
  rw [lg_entry_eq]
  exact body p e s m below meth c _ _ _ ⟨B.exec, B.bytes, hml, hown, hts, Nat.le_refl _, Nat.le_refl _⟩ B.returns B.notSynchronized hX (lv_entry _ hnl) ⟨Nat.zero_le _, Nat.zero_le _⟩
theorem ss_pre {As : List Value} (h : sX adK adV A s) (hS : va_S A s.heap H locs) : PreS s H (va_Pc As (sX adK adV A)) As := ⟨fun _ _ _ _ q => ⟨q.1, sX.calling q.2⟩, fun _ hU hW => ⟨rfl, sX.there h hS hU hW⟩⟩
theorem ss_preV {As : List Value} (h : sX adK adV A s) (hS : va_S A s.heap H locs) (hj : j < 9) : PreV s H "java/lang/String" (adK j) (va_Pc (.ref (adK j) :: As) (sX adK adV A)) As := ⟨fun _ _ _ _ q => ⟨q.1, sX.calling q.2⟩, vk_recv h.1 hj hS, fun _ hU hW => ⟨rfl, sX.there h hS hU hW⟩⟩
/-- where a byte stands in what is left of a text -/
def sIxF (c : Int32) : List Int32 → Nat → Int32
  | [], _ => -1
  | b :: l, k => if b = c then nI k else sIxF c l (k + 1)
def sIx (j : Nat) (c : Int32) : Int32 := if c < 0 then -1 else if 255 < c then -1 else sIxF c.toInt8.toInt32 (bytS.getD j []) 0
theorem st_drop {l L : List Int32} {b : Int32} {k : Nat} (e : L.drop k = b :: l) : k < L.length ∧ L.getD k 0 = b ∧ L.drop (k + 1) = l := by
  have h1 : k < L.length := by
    rcases Nat.lt_or_ge k L.length with h | h
    · exact h
    · rw [List.drop_eq_nil_iff.mpr h] at e; cases e
  rw [List.drop_eq_getElem_cons h1] at e
  obtain ⟨h2, h3⟩ := List.cons.inj e
  exact ⟨h1, by rw [List.getD_eq_getElem?_getD, List.getElem?_eq_getElem h1]; exact h2, h3⟩
theorem st_len : ∀ j, j < 9 → lenS.getD j 0 = (bytS.getD j []).length ∧ 0 < lenS.getD j 0 ∧ lenS.getD j 0 < 4 ∧ nI (lenS.getD j 0) >>> ((0 : Int32) &&& 31) = nI (lenS.getD j 0) := by decide
theorem q940 : (Jvm.Cond.fieldLink "java/lang/String" (38 : Nat) "java/lang/String" "COMPACT_STRINGS" "Z") ∈ lw_all := lw_g (lw_at lw_m4 136 rfl) rfl
theorem q2062 : (Jvm.Cond.fieldLink "java/lang/String" (15 : Nat) "java/lang/String" "coder" "B") ∈ lw_all := lw_g (lw_at lw_m9 58 rfl) rfl
theorem q2063 : (Jvm.Cond.fieldLink "java/lang/String" (9 : Nat) "java/lang/String" "value" "[B") ∈ lw_all := lw_g (lw_at lw_m9 59 rfl) rfl
abbrev cJ5_coder : ByteArray := prog_36_method_152_code
def yJ5_coder : MethodName := ⟨RJ5, "coder", "()B"⟩
theorem dJ5_coder_0 : decode cJ5_coder 0 = .ok (.getstatic 38, 3) := by decide +kernel
theorem dJ5_coder_3 : decode cJ5_coder 3 = .ok (.ifCond .eq 10, 3) := by decide +kernel
theorem dJ5_coder_6 : decode cJ5_coder 6 = .ok (.aload_n 0, 1) := by decide +kernel
theorem dJ5_coder_7 : decode cJ5_coder 7 = .ok (.getfield 15, 3) := by decide +kernel
theorem dJ5_coder_10 : decode cJ5_coder 10 = .ok (.goto 4, 3) := by decide +kernel
theorem dJ5_coder_13 : decode cJ5_coder 13 = .ok (.iconst 1, 1) := by decide +kernel
theorem dJ5_coder_14 : decode cJ5_coder 14 = .ok (.ireturn, 1) := by decide +kernel
theorem w_st_coder {l : Launch} (hj : j < 9) : sR adK adV A l yJ5_coder cJ5_coder 1 (some .byte) 0 [.ref (adK j)] 0 := by
  refine ss_of (by decide +kernel) (Nat.le_of_ble_eq_true rfl) (fun p e s m below meth c R args ls C hr hlk hX hl hcs => ?_)
  have hx := C.1
  have hb := C.2.1
  have hown : s.vm.findClass RJ5 = some m.cls := C.2.2.2.1
  have hts := C.2.2.2.2.1
  have hR := C.2.2.2.2.2
  have hS : va_S A s.heap s.heap [] := va_S.rf
  have hl : lv_has ls 1 [(0, .ref (adK j))] := hl
  refine va_gets hx hb hX.2.2.1 hS hown (hts _ q940) (fun _ h => h) dJ5_coder_0 ?_
  refine lv_if_eq (tgt := 13) hx hb dJ5_coder_3 rfl (fun c => absurd c (by decide)) (fun _ => ?_)
  refine lv_aload_n hx hb dJ5_coder_6 rfl (lv_at hl 0 rfl) ?_
  refine vk_getf hx hb (hX.1.1 j hj).2.1 hS hown (hts _ q2062) (fun _ h => h) dJ5_coder_7 ?_
  refine lv_goto (tgt := 14) hx hb dJ5_coder_10 rfl ?_
  exact W.zret hx hb hr rfl (fun t ht _ => ⟨rfl, ht⟩) (fun _ z => absurd z List.not_mem_nil) dJ5_coder_14
abbrev cJ5_isLatin1 : ByteArray := prog_36_method_154_code
def yJ5_isLatin1 : MethodName := ⟨RJ5, "isLatin1", "()Z"⟩
theorem dJ5_isLatin1_0 : decode cJ5_isLatin1 0 = .ok (.getstatic 38, 3) := by decide +kernel
theorem dJ5_isLatin1_3 : decode cJ5_isLatin1 3 = .ok (.ifCond .eq 14, 3) := by decide +kernel
theorem dJ5_isLatin1_6 : decode cJ5_isLatin1 6 = .ok (.aload_n 0, 1) := by decide +kernel
theorem dJ5_isLatin1_7 : decode cJ5_isLatin1 7 = .ok (.getfield 15, 3) := by decide +kernel
theorem dJ5_isLatin1_10 : decode cJ5_isLatin1 10 = .ok (.ifCond .ne 7, 3) := by decide +kernel
theorem dJ5_isLatin1_13 : decode cJ5_isLatin1 13 = .ok (.iconst 1, 1) := by decide +kernel
theorem dJ5_isLatin1_14 : decode cJ5_isLatin1 14 = .ok (.goto 4, 3) := by decide +kernel
theorem dJ5_isLatin1_17 : decode cJ5_isLatin1 17 = .ok (.iconst 0, 1) := by decide +kernel
theorem dJ5_isLatin1_18 : decode cJ5_isLatin1 18 = .ok (.ireturn, 1) := by decide +kernel
theorem w_st_isLatin1 {l : Launch} (hj : j < 9) : sR adK adV A l yJ5_isLatin1 cJ5_isLatin1 1 (some .boolean) 0 [.ref (adK j)] 1 := by
  refine ss_of (by decide +kernel) (Nat.le_of_ble_eq_true rfl) (fun p e s m below meth c R args ls C hr hlk hX hl hcs => ?_)
  have hx := C.1
  have hb := C.2.1
  have hown : s.vm.findClass RJ5 = some m.cls := C.2.2.2.1
  have hts := C.2.2.2.2.1
  have hR := C.2.2.2.2.2
  have hS : va_S A s.heap s.heap [] := va_S.rf
  have hl : lv_has ls 1 [(0, .ref (adK j))] := hl
  refine va_gets hx hb hX.2.2.1 hS hown (hts _ q940) (fun _ h => h) dJ5_isLatin1_0 ?_
  refine lv_if_eq (tgt := 17) hx hb dJ5_isLatin1_3 rfl (fun c => absurd c (by decide)) (fun _ => ?_)
  refine lv_aload_n hx hb dJ5_isLatin1_6 rfl (lv_at hl 0 rfl) ?_
  refine vk_getf hx hb (hX.1.1 j hj).2.1 hS hown (hts _ q2062) (fun _ h => h) dJ5_isLatin1_7 ?_
  refine lv_if_ne (tgt := 17) hx hb dJ5_isLatin1_10 rfl (fun c => absurd rfl c) (fun _ => ?_)
  refine lv_iconst (v := 1) hx hb dJ5_isLatin1_13 (by decide) ?_
  refine lv_goto (tgt := 18) hx hb dJ5_isLatin1_14 rfl ?_
  exact W.zret hx hb hr rfl (fun t ht _ => ⟨rfl, ht⟩) (fun _ z => absurd z List.not_mem_nil) dJ5_isLatin1_18
theorem q946 : (Jvm.Cond.methodLink "java/lang/String" (335 : Nat) ({ cls := "java/lang/String", name := "coder", desc := "()B" } : Jvm.MethodName)) ∈ lw_all := lw_g (lw_at lw_m4 142 rfl) rfl
theorem q947 : (Jvm.Cond.instanceMethod ({ cls := "java/lang/String", name := "coder", desc := "()B" } : Jvm.MethodName)) ∈ lw_all := lw_g (lw_at lw_m4 143 rfl) rfl
theorem q948 : (Jvm.Cond.selects "java/lang/String" ({ cls := "java/lang/String", name := "coder", desc := "()B" } : Jvm.MethodName) ({ cls := "java/lang/String", name := "coder", desc := "()B" } : Jvm.MethodName)) ∈ lw_all := lw_g (lw_at lw_m4 144 rfl) rfl
theorem q108 : (Jvm.Cond.initialized "java/lang/String") ∈ lw_all := lw_g (lw_at lw_m1 24 rfl) rfl
theorem q949 : (Jvm.Cond.code ({ cls := "java/lang/String", name := "coder", desc := "()B" } : Jvm.MethodName) prog_36_method_152_code (1 : Nat) (Option.some Jvm.ClassFile.FieldType.byte)) ∈ lw_all := lw_g (lw_at lw_m4 145 rfl) rfl
abbrev cJ5_length : ByteArray := prog_36_method_54_code
def yJ5_length : MethodName := ⟨RJ5, "length", "()I"⟩
theorem dJ5_length_0 : decode cJ5_length 0 = .ok (.aload_n 0, 1) := by decide +kernel
theorem dJ5_length_1 : decode cJ5_length 1 = .ok (.getfield 9, 3) := by decide +kernel
theorem dJ5_length_4 : decode cJ5_length 4 = .ok (.arraylength, 1) := by decide +kernel
theorem dJ5_length_5 : decode cJ5_length 5 = .ok (.aload_n 0, 1) := by decide +kernel
theorem dJ5_length_6 : decode cJ5_length 6 = .ok (.invokevirtual 335, 3) := by decide +kernel
theorem dJ5_length_9 : decode cJ5_length 9 = .ok (.ishr, 1) := by decide +kernel
theorem dJ5_length_10 : decode cJ5_length 10 = .ok (.ireturn, 1) := by decide +kernel
theorem w_st_length {l : Launch} (hj : j < 9) : sR adK adV A l yJ5_length cJ5_length 1 (some .int) 1 [.ref (adK j)] (nI (lenS.getD j 0)) := by
  refine ss_of (by decide +kernel) (Nat.le_of_ble_eq_true rfl) (fun p e s m below meth c R args ls C hr hlk hX hl hcs => ?_)
  have hx := C.1
  have hb := C.2.1
  have hown : s.vm.findClass RJ5 = some m.cls := C.2.2.2.1
  have hts := C.2.2.2.2.1
  have hR := C.2.2.2.2.2
  have hS : va_S A s.heap s.heap [] := va_S.rf
  have hl : lv_has ls 1 [(0, .ref (adK j))] := hl
  refine lv_aload_n hx hb dJ5_length_0 rfl (lv_at hl 0 rfl) ?_
  refine vk_getf hx hb (hX.1.1 j hj).2.2.1 hS hown (hts _ q2063) (fun _ h => h) dJ5_length_1 ?_
  refine va_tlen hx hb (hX.1.1 j hj).2.2.2 hS (v := nI (lenS.getD j 0)) rfl dJ5_length_4 ?_
  refine lv_aload_n hx hb dJ5_length_5 rfl (lv_at hl 0 rfl) ?_
  refine W.callR (W.runV (As := []) (rest := [.int (nI (lenS.getD j 0))]) ⟨hx, hb, C.2.2.1, hown, hts⟩ (w_st_coder (l := l) hj) (cwV 0 hts (lw_V q946 q947 q948 q108 q949) rfl rfl rfl (by decide +kernel) (mr_ hR (Nat.le_of_ble_eq_true rfl) (by decide))) (ss_preV hX hS hj) rfl rfl hl.1 rfl (lv_room (Nat.le_of_ble_eq_true rfl)) dJ5_length_6 hcs) ?_
  refine lv_ishr hx hb dJ5_length_9 ?_
  exact mm_iret hx hb hr hlk (by rw [(st_len j hj).2.2.2]) dJ5_length_10
abbrev cJ6_canEncode : ByteArray := prog_37_method_4_code
def yJ6_canEncode : MethodName := ⟨RJ6, "canEncode", "(I)Z"⟩
theorem dJ6_canEncode_0 : decode cJ6_canEncode 0 = .ok (.iload_n 0, 1) := by decide +kernel
theorem dJ6_canEncode_1 : decode cJ6_canEncode 1 = .ok (.ifCond .lt 14, 3) := by decide +kernel
theorem dJ6_canEncode_4 : decode cJ6_canEncode 4 = .ok (.iload_n 0, 1) := by decide +kernel
theorem dJ6_canEncode_5 : decode cJ6_canEncode 5 = .ok (.sipush 255, 3) := by decide +kernel
theorem dJ6_canEncode_8 : decode cJ6_canEncode 8 = .ok (.if_icmp .gt 7, 3) := by decide +kernel
theorem dJ6_canEncode_11 : decode cJ6_canEncode 11 = .ok (.iconst 1, 1) := by decide +kernel
theorem dJ6_canEncode_12 : decode cJ6_canEncode 12 = .ok (.goto 4, 3) := by decide +kernel
theorem dJ6_canEncode_15 : decode cJ6_canEncode 15 = .ok (.iconst 0, 1) := by decide +kernel
theorem dJ6_canEncode_16 : decode cJ6_canEncode 16 = .ok (.ireturn, 1) := by decide +kernel
theorem w_st_can {l : Launch} {x : Int32} : sR adK adV A l yJ6_canEncode cJ6_canEncode 1 (some .boolean) 0 [.int x] (if x < 0 then 0 else if 255 < x then 0 else 1) := by
  refine ss_of (by decide +kernel) (Nat.le_of_ble_eq_true rfl) (fun p e s m below meth c R args ls C hr hlk hX hl hcs => ?_)
  have hx := C.1
  have hb := C.2.1
  have hown : s.vm.findClass RJ6 = some m.cls := C.2.2.2.1
  have hts := C.2.2.2.2.1
  have hR := C.2.2.2.2.2
  have hS : va_S A s.heap s.heap [] := va_S.rf
  have hl : lv_has ls 1 [(0, .int x)] := hl
  refine lv_iload_n hx hb dJ6_canEncode_0 rfl (lv_at hl 0 rfl) ?_
  refine lv_if_lt (tgt := 15) hx hb dJ6_canEncode_1 rfl (fun c1 => ?_) (fun c1 => ?_)
  · refine lv_iconst (v := 0) hx hb dJ6_canEncode_15 (by decide) ?_
    exact mm_zret hx hb hr hlk rfl (by rw [if_pos c1]) dJ6_canEncode_16
  · refine lv_iload_n hx hb dJ6_canEncode_4 rfl (lv_at hl 0 rfl) ?_
    refine lv_sipush (v := 255) hx hb dJ6_canEncode_5 (by decide) ?_
    refine lv_icmp_gt (tgt := 15) hx hb dJ6_canEncode_8 rfl (fun c2 => ?_) (fun c2 => ?_)
    · refine lv_iconst (v := 0) hx hb dJ6_canEncode_15 (by decide) ?_
      exact mm_zret hx hb hr hlk rfl (by rw [if_neg c1, if_pos c2]) dJ6_canEncode_16
    · refine lv_iconst (v := 1) hx hb dJ6_canEncode_11 (by decide) ?_
      refine lv_goto (tgt := 16) hx hb dJ6_canEncode_12 rfl ?_
      exact mm_zret hx hb hr hlk rfl (by rw [if_neg c1, if_neg c2]) dJ6_canEncode_16
abbrev cJ6_indexOfChar : ByteArray := prog_37_method_23_code
def yJ6_indexOfChar : MethodName := ⟨RJ6, "indexOfChar", "([BIII)I"⟩
theorem dJ6_indexOfChar_0 : decode cJ6_indexOfChar 0 = .ok (.iload_n 1, 1) := by decide +kernel
theorem dJ6_indexOfChar_1 : decode cJ6_indexOfChar 1 = .ok (.i2b, 1) := by decide +kernel
theorem dJ6_indexOfChar_2 : decode cJ6_indexOfChar 2 = .ok (.istore 4, 2) := by decide +kernel
theorem dJ6_indexOfChar_4 : decode cJ6_indexOfChar 4 = .ok (.iload_n 2, 1) := by decide +kernel
theorem dJ6_indexOfChar_5 : decode cJ6_indexOfChar 5 = .ok (.istore 5, 2) := by decide +kernel
theorem dJ6_indexOfChar_7 : decode cJ6_indexOfChar 7 = .ok (.iload 5, 2) := by decide +kernel
theorem dJ6_indexOfChar_9 : decode cJ6_indexOfChar 9 = .ok (.iload_n 3, 1) := by decide +kernel
theorem dJ6_indexOfChar_10 : decode cJ6_indexOfChar 10 = .ok (.if_icmp .ge 21, 3) := by decide +kernel
theorem dJ6_indexOfChar_13 : decode cJ6_indexOfChar 13 = .ok (.aload_n 0, 1) := by decide +kernel
theorem dJ6_indexOfChar_14 : decode cJ6_indexOfChar 14 = .ok (.iload 5, 2) := by decide +kernel
theorem dJ6_indexOfChar_16 : decode cJ6_indexOfChar 16 = .ok (.baload, 1) := by decide +kernel
theorem dJ6_indexOfChar_17 : decode cJ6_indexOfChar 17 = .ok (.iload 4, 2) := by decide +kernel
theorem dJ6_indexOfChar_19 : decode cJ6_indexOfChar 19 = .ok (.if_icmp .ne 6, 3) := by decide +kernel
theorem dJ6_indexOfChar_22 : decode cJ6_indexOfChar 22 = .ok (.iload 5, 2) := by decide +kernel
theorem dJ6_indexOfChar_24 : decode cJ6_indexOfChar 24 = .ok (.ireturn, 1) := by decide +kernel
theorem dJ6_indexOfChar_25 : decode cJ6_indexOfChar 25 = .ok (.iinc 5 1, 3) := by decide +kernel
theorem dJ6_indexOfChar_28 : decode cJ6_indexOfChar 28 = .ok (.goto (-21), 3) := by decide +kernel
theorem dJ6_indexOfChar_31 : decode cJ6_indexOfChar 31 = .ok (.iconst (-1), 1) := by decide +kernel
theorem dJ6_indexOfChar_32 : decode cJ6_indexOfChar 32 = .ok (.ireturn, 1) := by decide +kernel
theorem w_st_ixc {l : Launch} {x : Int32} (hj : j < 9) : sR adK adV A l yJ6_indexOfChar cJ6_indexOfChar 6 (some .int) 0 [.ref (adV j), .int x, .int 0, .int (nI (lenS.getD j 0))] (sIxF x.toInt8.toInt32 (bytS.getD j []) 0) := by
  refine ss_of (by decide +kernel) (Nat.le_of_ble_eq_true rfl) (fun p e s m below meth c R args ls C hr hlk hX hl hcs => ?_)
  have hx := C.1
  have hb := C.2.1
  have hown : s.vm.findClass RJ6 = some m.cls := C.2.2.2.1
  have hts := C.2.2.2.2.1
  have hR := C.2.2.2.2.2
  have hS : va_S A s.heap s.heap [] := va_S.rf
  have hl : lv_has ls 6 [(0, .ref (adV j)), (1, .int x), (2, .int 0), (3, .int (nI (lenS.getD j 0)))] := hl
  obtain ⟨hl1, hl2, hl3, -⟩ := st_len j hj
  have L7 : ∀ (l2 : List Int32) (k : Nat), (bytS.getD j []).drop k = l2 → k ≤ lenS.getD j 0 → ∀ ls : Array Slot, lv_has ls 6 [(5, .int (nI k)), (4, .int x.toInt8.toInt32), (0, .ref (adV j)), (1, .int x), (2, .int 0), (3, .int (nI (lenS.getD j 0)))] → mWR p l e R s m args below meth c (sIxF x.toInt8.toInt32 l2 k) (F0 m 7 ls []) := by
    intro l2
    induction l2 with
    | nil =>
      intro k e0 hk ls hl
      have hk2 : (bytS.getD j []).length ≤ k := List.drop_eq_nil_iff.mp e0
      refine lv_iload hx hb dJ6_indexOfChar_7 (lv_at hl 0 rfl) ?_
      refine lv_iload_n hx hb dJ6_indexOfChar_9 rfl (lv_at hl 5 rfl) ?_
      refine lv_icmp_ge (tgt := 31) hx hb dJ6_indexOfChar_10 rfl (fun c1 => ?_) (fun c1 => absurd (nI_le (by omega) (by omega)) c1)
      refine lv_iconst (v := -1) hx hb dJ6_indexOfChar_31 (by decide) ?_
      exact mm_iret hx hb hr hlk rfl dJ6_indexOfChar_32
    | cons b l2 ih =>
      intro k e0 hk ls hl
      obtain ⟨h1, h2, h3⟩ := st_drop e0
      refine lv_iload hx hb dJ6_indexOfChar_7 (lv_at hl 0 rfl) ?_
      refine lv_iload_n hx hb dJ6_indexOfChar_9 rfl (lv_at hl 5 rfl) ?_
      refine lv_icmp_ge (tgt := 31) hx hb dJ6_indexOfChar_10 rfl (fun c1 => absurd c1 (nI_ge (by omega) (by omega))) (fun c1 => ?_)
      refine lv_aload_n hx hb dJ6_indexOfChar_13 rfl (lv_at hl 2 rfl) ?_
      refine lv_iload hx hb dJ6_indexOfChar_14 (lv_at hl 0 rfl) ?_
      refine va_tb hx hb (hX.1.1 j hj).2.2.2 hS (i := nI k) (vp_in_nI (by omega) (by omega)) (v := .int b) (by rw [nI_clamp (by omega), h2]) dJ6_indexOfChar_16 ?_
      refine lv_iload hx hb dJ6_indexOfChar_17 (lv_at hl 1 rfl) ?_
      refine lv_icmp_ne (tgt := 25) hx hb dJ6_indexOfChar_19 rfl (fun c2 => ?_) (fun c2 => ?_)
      · refine lv_iinc (v := nI k + 1) (lv' := [(5, .int (nI k + 1)), (4, .int x.toInt8.toInt32), (0, .ref (adV j)), (1, .int x), (2, .int 0), (3, .int (nI (lenS.getD j 0)))]) hx hb dJ6_indexOfChar_25 hl (k := 0) rfl rfl (by decide) rfl (fun ls hl => ?_)
        refine lv_goto (tgt := 7) hx hb dJ6_indexOfChar_28 rfl ?_
        rw [← nI_succ] at hl
        rw [sIxF, if_neg c2]
        exact ih (k + 1) h3 (by omega) ls hl
      · refine lv_iload hx hb dJ6_indexOfChar_22 (lv_at hl 0 rfl) ?_
        have c3 : b = x.toInt8.toInt32 := by first | exact c2 | exact Classical.not_not.mp c2
        exact mm_iret hx hb hr hlk (by rw [sIxF, if_pos c3]) dJ6_indexOfChar_24
  refine lv_iload_n hx hb dJ6_indexOfChar_0 rfl (lv_at hl 1 rfl) ?_
  refine lv_i2b (v := x.toInt8.toInt32) hx hb dJ6_indexOfChar_1 rfl ?_
  refine lv_istore (lv' := [(4, .int x.toInt8.toInt32), (0, .ref (adV j)), (1, .int x), (2, .int 0), (3, .int (nI (lenS.getD j 0)))]) hx hb dJ6_indexOfChar_2 hl (by decide) rfl (fun ls hl => ?_)
  refine lv_iload_n hx hb dJ6_indexOfChar_4 rfl (lv_at hl 3 rfl) ?_
  refine lv_istore (lv' := [(5, .int 0), (4, .int x.toInt8.toInt32), (0, .ref (adV j)), (1, .int x), (2, .int 0), (3, .int (nI (lenS.getD j 0)))]) hx hb dJ6_indexOfChar_5 hl (by decide) rfl (fun ls hl => ?_)
  exact L7 (bytS.getD j []) 0 rfl (Nat.zero_le _) ls hl
theorem q956 : (Jvm.Cond.methodLink "java/lang/StringLatin1" (92 : Nat) ({ cls := "java/lang/Math", name := "max", desc := "(II)I" } : Jvm.MethodName)) ∈ lw_all := lw_g (lw_at lw_m4 152 rfl) rfl
theorem q957 : (Jvm.Cond.methodLink "java/lang/StringLatin1" (38 : Nat) ({ cls := "java/lang/Math", name := "min", desc := "(II)I" } : Jvm.MethodName)) ∈ lw_all := lw_g (lw_at lw_m4 153 rfl) rfl
theorem q953 : (Jvm.Cond.methodLink "java/lang/StringLatin1" (88 : Nat) ({ cls := "java/lang/StringLatin1", name := "canEncode", desc := "(I)Z" } : Jvm.MethodName)) ∈ lw_all := lw_g (lw_at lw_m4 149 rfl) rfl
theorem q954 : (Jvm.Cond.static ({ cls := "java/lang/StringLatin1", name := "canEncode", desc := "(I)Z" } : Jvm.MethodName)) ∈ lw_all := lw_g (lw_at lw_m4 150 rfl) rfl
theorem q109 : (Jvm.Cond.initialized "java/lang/StringLatin1") ∈ lw_all := lw_g (lw_at lw_m1 25 rfl) rfl
theorem q955 : (Jvm.Cond.code ({ cls := "java/lang/StringLatin1", name := "canEncode", desc := "(I)Z" } : Jvm.MethodName) prog_37_method_4_code (1 : Nat) (Option.some Jvm.ClassFile.FieldType.boolean)) ∈ lw_all := lw_g (lw_at lw_m4 151 rfl) rfl
theorem q958 : (Jvm.Cond.methodLink "java/lang/StringLatin1" (95 : Nat) ({ cls := "java/lang/StringLatin1", name := "indexOfChar", desc := "([BIII)I" } : Jvm.MethodName)) ∈ lw_all := lw_g (lw_at lw_m4 154 rfl) rfl
theorem q959 : (Jvm.Cond.static ({ cls := "java/lang/StringLatin1", name := "indexOfChar", desc := "([BIII)I" } : Jvm.MethodName)) ∈ lw_all := lw_g (lw_at lw_m4 155 rfl) rfl
theorem q960 : (Jvm.Cond.code ({ cls := "java/lang/StringLatin1", name := "indexOfChar", desc := "([BIII)I" } : Jvm.MethodName) prog_37_method_23_code (6 : Nat) (Option.some Jvm.ClassFile.FieldType.int)) ∈ lw_all := lw_g (lw_at lw_m4 156 rfl) rfl
abbrev cJ6_indexOf : ByteArray := prog_37_method_22_code
def yJ6_indexOf : MethodName := ⟨RJ6, "indexOf", "([BIII)I"⟩
theorem dJ6_indexOf_0 : decode cJ6_indexOf 0 = .ok (.iload_n 1, 1) := by decide +kernel
theorem dJ6_indexOf_1 : decode cJ6_indexOf 1 = .ok (.invokestatic 88, 3) := by decide +kernel
theorem dJ6_indexOf_4 : decode cJ6_indexOf 4 = .ok (.ifCond .ne 5, 3) := by decide +kernel
theorem dJ6_indexOf_7 : decode cJ6_indexOf 7 = .ok (.iconst (-1), 1) := by decide +kernel
theorem dJ6_indexOf_8 : decode cJ6_indexOf 8 = .ok (.ireturn, 1) := by decide +kernel
theorem dJ6_indexOf_9 : decode cJ6_indexOf 9 = .ok (.iload_n 2, 1) := by decide +kernel
theorem dJ6_indexOf_10 : decode cJ6_indexOf 10 = .ok (.iconst 0, 1) := by decide +kernel
theorem dJ6_indexOf_11 : decode cJ6_indexOf 11 = .ok (.invokestatic 92, 3) := by decide +kernel
theorem dJ6_indexOf_14 : decode cJ6_indexOf 14 = .ok (.istore_n 2, 1) := by decide +kernel
theorem dJ6_indexOf_15 : decode cJ6_indexOf 15 = .ok (.iload_n 3, 1) := by decide +kernel
theorem dJ6_indexOf_16 : decode cJ6_indexOf 16 = .ok (.aload_n 0, 1) := by decide +kernel
theorem dJ6_indexOf_17 : decode cJ6_indexOf 17 = .ok (.arraylength, 1) := by decide +kernel
theorem dJ6_indexOf_18 : decode cJ6_indexOf 18 = .ok (.invokestatic 38, 3) := by decide +kernel
theorem dJ6_indexOf_21 : decode cJ6_indexOf 21 = .ok (.istore_n 3, 1) := by decide +kernel
theorem dJ6_indexOf_22 : decode cJ6_indexOf 22 = .ok (.iload_n 2, 1) := by decide +kernel
theorem dJ6_indexOf_23 : decode cJ6_indexOf 23 = .ok (.iload_n 3, 1) := by decide +kernel
theorem dJ6_indexOf_24 : decode cJ6_indexOf 24 = .ok (.if_icmp .lt 5, 3) := by decide +kernel
theorem dJ6_indexOf_27 : decode cJ6_indexOf 27 = .ok (.iconst (-1), 1) := by decide +kernel
theorem dJ6_indexOf_28 : decode cJ6_indexOf 28 = .ok (.ireturn, 1) := by decide +kernel
theorem dJ6_indexOf_29 : decode cJ6_indexOf 29 = .ok (.aload_n 0, 1) := by decide +kernel
theorem dJ6_indexOf_30 : decode cJ6_indexOf 30 = .ok (.iload_n 1, 1) := by decide +kernel
theorem dJ6_indexOf_31 : decode cJ6_indexOf 31 = .ok (.iload_n 2, 1) := by decide +kernel
theorem dJ6_indexOf_32 : decode cJ6_indexOf 32 = .ok (.iload_n 3, 1) := by decide +kernel
theorem dJ6_indexOf_33 : decode cJ6_indexOf 33 = .ok (.invokestatic 95, 3) := by decide +kernel
theorem dJ6_indexOf_36 : decode cJ6_indexOf 36 = .ok (.ireturn, 1) := by decide +kernel
theorem w_st_ix1 {l : Launch} {x : Int32} (hj : j < 9) : sR adK adV A l yJ6_indexOf cJ6_indexOf 4 (some .int) 1 [.ref (adV j), .int x, .int 0, .int (nI (lenS.getD j 0))] (sIx j x) := by
  refine ss_of (by decide +kernel) (Nat.le_of_ble_eq_true rfl) (fun p e s m below meth c R args ls C hr hlk hX hl hcs => ?_)
  have hx := C.1
  have hb := C.2.1
  have hown : s.vm.findClass RJ6 = some m.cls := C.2.2.2.1
  have hts := C.2.2.2.2.1
  have hR := C.2.2.2.2.2
  have hS : va_S A s.heap s.heap [] := va_S.rf
  have hl : lv_has ls 4 [(0, .ref (adV j)), (1, .int x), (2, .int 0), (3, .int (nI (lenS.getD j 0)))] := hl
  obtain ⟨hl1, hl2, hl3, -⟩ := st_len j hj
  refine lv_iload_n hx hb dJ6_indexOf_0 rfl (lv_at hl 1 rfl) ?_
  refine W.callR (W.runS (As := [.int x]) (rest := []) ⟨hx, hb, C.2.2.1, hown, hts⟩ (w_st_can (l := l) (x := x) (adK := adK) (adV := adV) (A := A)) (va_cwS 1 hts (lw_S q953 q954 q109 q955) rfl rfl rfl (by decide +kernel) (mr_ hR (Nat.le_of_ble_eq_true rfl) (by decide))) (ss_pre hX hS) rfl rfl hl.1 rfl (lv_room (Nat.le_of_ble_eq_true rfl)) dJ6_indexOf_1 hcs) ?_
  refine lv_if_ne (tgt := 9) hx hb dJ6_indexOf_4 rfl (fun c0 => ?_) (fun c0 => ?_)
  · by_cases c1 : x < 0
    · exact absurd (by rw [if_pos c1]) c0
    by_cases c2 : 255 < x
    · exact absurd (by rw [if_neg c1, if_pos c2]) c0
    refine lv_iload_n hx hb dJ6_indexOf_9 rfl (lv_at hl 2 rfl) ?_
    refine lv_iconst (v := 0) hx hb dJ6_indexOf_10 (by decide) ?_
    refine k_J_max (v := 0) hx hb C.2.2.1 hown hts hR q956 rfl (Nat.le_of_ble_eq_true rfl) hl.1 (Nat.le_of_ble_eq_true rfl) hcs dJ6_indexOf_11 ?_
    refine lv_istore_n (lv' := [(2, .int 0), (0, .ref (adV j)), (1, .int x), (3, .int (nI (lenS.getD j 0)))]) hx hb dJ6_indexOf_14 rfl hl (by decide) rfl (fun ls hl => ?_)
    refine lv_iload_n hx hb dJ6_indexOf_15 rfl (lv_at hl 3 rfl) ?_
    refine lv_aload_n hx hb dJ6_indexOf_16 rfl (lv_at hl 1 rfl) ?_
    refine va_tlen hx hb (hX.1.1 j hj).2.2.2 hS (v := nI (lenS.getD j 0)) rfl dJ6_indexOf_17 ?_
    refine k_J_min (v := nI (lenS.getD j 0)) hx hb C.2.2.1 hown hts hR q957 (by unfold J_min; split <;> rfl) (Nat.le_of_ble_eq_true rfl) hl.1 (Nat.le_of_ble_eq_true rfl) hcs dJ6_indexOf_18 ?_
    refine lv_istore_n (lv' := [(3, .int (nI (lenS.getD j 0))), (2, .int 0), (0, .ref (adV j)), (1, .int x)]) hx hb dJ6_indexOf_21 rfl hl (by decide) rfl (fun ls hl => ?_)
    refine lv_iload_n hx hb dJ6_indexOf_22 rfl (lv_at hl 1 rfl) ?_
    refine lv_iload_n hx hb dJ6_indexOf_23 rfl (lv_at hl 0 rfl) ?_
    refine lv_icmp_lt (tgt := 29) hx hb dJ6_indexOf_24 rfl (fun c3 => ?_) (fun c3 => absurd (nI_lt (a := 0) hl2 (by omega)) c3)
    refine lv_aload_n hx hb dJ6_indexOf_29 rfl (lv_at hl 2 rfl) ?_
    refine lv_iload_n hx hb dJ6_indexOf_30 rfl (lv_at hl 3 rfl) ?_
    refine lv_iload_n hx hb dJ6_indexOf_31 rfl (lv_at hl 1 rfl) ?_
    refine lv_iload_n hx hb dJ6_indexOf_32 rfl (lv_at hl 0 rfl) ?_
    refine W.callR (W.runS (As := [.ref (adV j), .int x, .int 0, .int (nI (lenS.getD j 0))]) (rest := []) ⟨hx, hb, C.2.2.1, hown, hts⟩ (w_st_ixc (l := l) (x := x) (adK := adK) (A := A) hj) (va_cwS 4 hts (lw_S q958 q959 q109 q960) rfl rfl rfl (by decide +kernel) (mr_ hR (Nat.le_of_ble_eq_true rfl) (by decide))) (ss_pre hX hS) rfl rfl hl.1 rfl (lv_room (Nat.le_of_ble_eq_true rfl)) dJ6_indexOf_33 hcs) ?_
    exact mm_iret hx hb hr hlk (by rw [sIx, if_neg c1, if_neg c2]) dJ6_indexOf_36
  · have hz : sIx j x = -1 := by
      have c0 : (if x < 0 then (0 : Int32) else if 255 < x then 0 else 1) = 0 := by first | exact c0 | exact Classical.not_not.mp c0
      unfold sIx
      by_cases c1 : x < 0
      · rw [if_pos c1]
      · rw [if_neg c1] at c0 ⊢
        by_cases c2 : 255 < x
        · rw [if_pos c2]
        · rw [if_neg c2] at c0
          exact absurd c0 (by decide)
    refine lv_iconst (v := -1) hx hb dJ6_indexOf_7 (by decide) ?_
    exact mm_iret hx hb hr hlk (by rw [hz]) dJ6_indexOf_8
theorem q936 : (Jvm.Cond.methodLink "java/lang/String" (492 : Nat) ({ cls := "java/lang/String", name := "isLatin1", desc := "()Z" } : Jvm.MethodName)) ∈ lw_all := lw_g (lw_at lw_m4 132 rfl) rfl
theorem q937 : (Jvm.Cond.instanceMethod ({ cls := "java/lang/String", name := "isLatin1", desc := "()Z" } : Jvm.MethodName)) ∈ lw_all := lw_g (lw_at lw_m4 133 rfl) rfl
theorem q938 : (Jvm.Cond.selects "java/lang/String" ({ cls := "java/lang/String", name := "isLatin1", desc := "()Z" } : Jvm.MethodName) ({ cls := "java/lang/String", name := "isLatin1", desc := "()Z" } : Jvm.MethodName)) ∈ lw_all := lw_g (lw_at lw_m4 134 rfl) rfl
theorem q939 : (Jvm.Cond.code ({ cls := "java/lang/String", name := "isLatin1", desc := "()Z" } : Jvm.MethodName) prog_36_method_154_code (1 : Nat) (Option.some Jvm.ClassFile.FieldType.boolean)) ∈ lw_all := lw_g (lw_at lw_m4 135 rfl) rfl
theorem q942 : (Jvm.Cond.methodLink "java/lang/String" (505 : Nat) ({ cls := "java/lang/String", name := "length", desc := "()I" } : Jvm.MethodName)) ∈ lw_all := lw_g (lw_at lw_m4 138 rfl) rfl
theorem q943 : (Jvm.Cond.instanceMethod ({ cls := "java/lang/String", name := "length", desc := "()I" } : Jvm.MethodName)) ∈ lw_all := lw_g (lw_at lw_m4 139 rfl) rfl
theorem q944 : (Jvm.Cond.selects "java/lang/String" ({ cls := "java/lang/String", name := "length", desc := "()I" } : Jvm.MethodName) ({ cls := "java/lang/String", name := "length", desc := "()I" } : Jvm.MethodName)) ∈ lw_all := lw_g (lw_at lw_m4 140 rfl) rfl
theorem q945 : (Jvm.Cond.code ({ cls := "java/lang/String", name := "length", desc := "()I" } : Jvm.MethodName) prog_36_method_54_code (1 : Nat) (Option.some Jvm.ClassFile.FieldType.int)) ∈ lw_all := lw_g (lw_at lw_m4 141 rfl) rfl
theorem q950 : (Jvm.Cond.methodLink "java/lang/String" (637 : Nat) ({ cls := "java/lang/StringLatin1", name := "indexOf", desc := "([BIII)I" } : Jvm.MethodName)) ∈ lw_all := lw_g (lw_at lw_m4 146 rfl) rfl
theorem q951 : (Jvm.Cond.static ({ cls := "java/lang/StringLatin1", name := "indexOf", desc := "([BIII)I" } : Jvm.MethodName)) ∈ lw_all := lw_g (lw_at lw_m4 147 rfl) rfl
theorem q952 : (Jvm.Cond.code ({ cls := "java/lang/StringLatin1", name := "indexOf", desc := "([BIII)I" } : Jvm.MethodName) prog_37_method_22_code (4 : Nat) (Option.some Jvm.ClassFile.FieldType.int)) ∈ lw_all := lw_g (lw_at lw_m4 148 rfl) rfl
abbrev cJ5_indexOf_2 : ByteArray := prog_36_method_80_code
def yJ5_indexOf_2 : MethodName := ⟨RJ5, "indexOf", "(II)I"⟩
theorem dJ5_indexOf_2_0 : decode cJ5_indexOf_2 0 = .ok (.aload_n 0, 1) := by decide +kernel
theorem dJ5_indexOf_2_1 : decode cJ5_indexOf_2 1 = .ok (.invokevirtual 492, 3) := by decide +kernel
theorem dJ5_indexOf_2_4 : decode cJ5_indexOf_2 4 = .ok (.ifCond .eq 19, 3) := by decide +kernel
theorem dJ5_indexOf_2_7 : decode cJ5_indexOf_2 7 = .ok (.aload_n 0, 1) := by decide +kernel
theorem dJ5_indexOf_2_8 : decode cJ5_indexOf_2 8 = .ok (.getfield 9, 3) := by decide +kernel
theorem dJ5_indexOf_2_11 : decode cJ5_indexOf_2 11 = .ok (.iload_n 1, 1) := by decide +kernel
theorem dJ5_indexOf_2_12 : decode cJ5_indexOf_2 12 = .ok (.iload_n 2, 1) := by decide +kernel
theorem dJ5_indexOf_2_13 : decode cJ5_indexOf_2 13 = .ok (.aload_n 0, 1) := by decide +kernel
theorem dJ5_indexOf_2_14 : decode cJ5_indexOf_2 14 = .ok (.invokevirtual 505, 3) := by decide +kernel
theorem dJ5_indexOf_2_17 : decode cJ5_indexOf_2 17 = .ok (.invokestatic 637, 3) := by decide +kernel
theorem dJ5_indexOf_2_20 : decode cJ5_indexOf_2 20 = .ok (.goto 16, 3) := by decide +kernel
theorem dJ5_indexOf_2_23 : decode cJ5_indexOf_2 23 = .ok (.aload_n 0, 1) := by decide +kernel
theorem dJ5_indexOf_2_24 : decode cJ5_indexOf_2 24 = .ok (.getfield 9, 3) := by decide +kernel
theorem dJ5_indexOf_2_27 : decode cJ5_indexOf_2 27 = .ok (.iload_n 1, 1) := by decide +kernel
theorem dJ5_indexOf_2_28 : decode cJ5_indexOf_2 28 = .ok (.iload_n 2, 1) := by decide +kernel
theorem dJ5_indexOf_2_29 : decode cJ5_indexOf_2 29 = .ok (.aload_n 0, 1) := by decide +kernel
theorem dJ5_indexOf_2_30 : decode cJ5_indexOf_2 30 = .ok (.invokevirtual 505, 3) := by decide +kernel
theorem dJ5_indexOf_2_33 : decode cJ5_indexOf_2 33 = .ok (.invokestatic 640, 3) := by decide +kernel
theorem dJ5_indexOf_2_36 : decode cJ5_indexOf_2 36 = .ok (.ireturn, 1) := by decide +kernel
theorem w_st_ix2 {l : Launch} {x : Int32} (hj : j < 9) : sR adK adV A l yJ5_indexOf_2 cJ5_indexOf_2 3 (some .int) 2 [.ref (adK j), .int x, .int 0] (sIx j x) := by
  refine ss_of (by decide +kernel) (Nat.le_of_ble_eq_true rfl) (fun p e s m below meth c R args ls C hr hlk hX hl hcs => ?_)
  have hx := C.1
  have hb := C.2.1
  have hown : s.vm.findClass RJ5 = some m.cls := C.2.2.2.1
  have hts := C.2.2.2.2.1
  have hR := C.2.2.2.2.2
  have hS : va_S A s.heap s.heap [] := va_S.rf
  have hl : lv_has ls 3 [(0, .ref (adK j)), (1, .int x), (2, .int 0)] := hl
  refine lv_aload_n hx hb dJ5_indexOf_2_0 rfl (lv_at hl 0 rfl) ?_
  refine W.callR (W.runV (As := []) (rest := []) ⟨hx, hb, C.2.2.1, hown, hts⟩ (w_st_isLatin1 (l := l) (adV := adV) (A := A) hj) (cwV 0 hts (lw_V q936 q937 q938 q108 q939) rfl rfl rfl (by decide +kernel) (mr_ hR (Nat.le_of_ble_eq_true rfl) (by decide))) (ss_preV hX hS hj) rfl rfl hl.1 rfl (lv_room (Nat.le_of_ble_eq_true rfl)) dJ5_indexOf_2_1 hcs) ?_
  refine lv_if_eq (tgt := 23) hx hb dJ5_indexOf_2_4 rfl (fun c => absurd c (by decide)) (fun _ => ?_)
  refine lv_aload_n hx hb dJ5_indexOf_2_7 rfl (lv_at hl 0 rfl) ?_
  refine vk_getf hx hb (hX.1.1 j hj).2.2.1 hS hown (hts _ q2063) (fun _ h => h) dJ5_indexOf_2_8 ?_
  refine lv_iload_n hx hb dJ5_indexOf_2_11 rfl (lv_at hl 1 rfl) ?_
  refine lv_iload_n hx hb dJ5_indexOf_2_12 rfl (lv_at hl 2 rfl) ?_
  refine lv_aload_n hx hb dJ5_indexOf_2_13 rfl (lv_at hl 0 rfl) ?_
  refine W.callR (W.runV (As := []) (rest := [.int 0, .int x, .ref (adV j)]) ⟨hx, hb, C.2.2.1, hown, hts⟩ (w_st_length (l := l) (adV := adV) (A := A) hj) (cwV 0 hts (lw_V q942 q943 q944 q108 q945) rfl rfl rfl (by decide +kernel) (mr_ hR (Nat.le_of_ble_eq_true rfl) (by decide))) (ss_preV hX hS hj) rfl rfl hl.1 rfl (lv_room (Nat.le_of_ble_eq_true rfl)) dJ5_indexOf_2_14 hcs) ?_
  refine W.callR (W.runS (As := [.ref (adV j), .int x, .int 0, .int (nI (lenS.getD j 0))]) (rest := []) ⟨hx, hb, C.2.2.1, hown, hts⟩ (w_st_ix1 (l := l) (x := x) (adK := adK) (A := A) hj) (va_cwS 4 hts (lw_S q950 q951 q109 q952) rfl rfl rfl (by decide +kernel) (mr_ hR (Nat.le_of_ble_eq_true rfl) (by decide))) (ss_pre hX hS) rfl rfl hl.1 rfl (lv_room (Nat.le_of_ble_eq_true rfl)) dJ5_indexOf_2_17 hcs) ?_
  refine lv_goto (tgt := 36) hx hb dJ5_indexOf_2_20 rfl ?_
  exact mm_iret hx hb hr hlk rfl dJ5_indexOf_2_36
theorem q932 : (Jvm.Cond.methodLink "java/lang/String" (633 : Nat) ({ cls := "java/lang/String", name := "indexOf", desc := "(II)I" } : Jvm.MethodName)) ∈ lw_all := lw_g (lw_at lw_m4 128 rfl) rfl
theorem q933 : (Jvm.Cond.instanceMethod ({ cls := "java/lang/String", name := "indexOf", desc := "(II)I" } : Jvm.MethodName)) ∈ lw_all := lw_g (lw_at lw_m4 129 rfl) rfl
theorem q934 : (Jvm.Cond.selects "java/lang/String" ({ cls := "java/lang/String", name := "indexOf", desc := "(II)I" } : Jvm.MethodName) ({ cls := "java/lang/String", name := "indexOf", desc := "(II)I" } : Jvm.MethodName)) ∈ lw_all := lw_g (lw_at lw_m4 130 rfl) rfl
theorem q935 : (Jvm.Cond.code ({ cls := "java/lang/String", name := "indexOf", desc := "(II)I" } : Jvm.MethodName) prog_36_method_80_code (3 : Nat) (Option.some Jvm.ClassFile.FieldType.int)) ∈ lw_all := lw_g (lw_at lw_m4 131 rfl) rfl
abbrev cJ5_indexOf : ByteArray := prog_36_method_79_code
def yJ5_indexOf : MethodName := ⟨RJ5, "indexOf", "(I)I"⟩
theorem dJ5_indexOf_0 : decode cJ5_indexOf 0 = .ok (.aload_n 0, 1) := by decide +kernel
theorem dJ5_indexOf_1 : decode cJ5_indexOf 1 = .ok (.iload_n 1, 1) := by decide +kernel
theorem dJ5_indexOf_2 : decode cJ5_indexOf 2 = .ok (.iconst 0, 1) := by decide +kernel
theorem dJ5_indexOf_3 : decode cJ5_indexOf 3 = .ok (.invokevirtual 633, 3) := by decide +kernel
theorem dJ5_indexOf_6 : decode cJ5_indexOf 6 = .ok (.ireturn, 1) := by decide +kernel
theorem w_st_ix {l : Launch} {x : Int32} (hj : j < 9) : sR adK adV A l yJ5_indexOf cJ5_indexOf 2 (some .int) 3 [.ref (adK j), .int x] (sIx j x) := by
  refine ss_of (by decide +kernel) (Nat.le_of_ble_eq_true rfl) (fun p e s m below meth c R args ls C hr hlk hX hl hcs => ?_)
  have hx := C.1
  have hb := C.2.1
  have hown : s.vm.findClass RJ5 = some m.cls := C.2.2.2.1
  have hts := C.2.2.2.2.1
  have hR := C.2.2.2.2.2
  have hS : va_S A s.heap s.heap [] := va_S.rf
  have hl : lv_has ls 2 [(0, .ref (adK j)), (1, .int x)] := hl
  refine lv_aload_n hx hb dJ5_indexOf_0 rfl (lv_at hl 0 rfl) ?_
  refine lv_iload_n hx hb dJ5_indexOf_1 rfl (lv_at hl 1 rfl) ?_
  refine lv_iconst (v := 0) hx hb dJ5_indexOf_2 (by decide) ?_
  refine W.callR (W.runV (As := [.int x, .int 0]) (rest := []) ⟨hx, hb, C.2.2.1, hown, hts⟩ (w_st_ix2 (l := l) (x := x) (adV := adV) (A := A) hj) (cwV 2 hts (lw_V q932 q933 q934 q108 q935) rfl rfl rfl (by decide +kernel) (mr_ hR (Nat.le_of_ble_eq_true rfl) (by decide))) (ss_preV hX hS hj) rfl rfl hl.1 rfl (lv_room (Nat.le_of_ble_eq_true rfl)) dJ5_indexOf_3 hcs) ?_
  exact mm_iret hx hb hr hlk rfl dJ5_indexOf_6
end
