/-! constructors of terms, of the reader, of faults -/
set_option maxRecDepth 100000
section
variable {p : Program} {l : Launch} {e : Env} {R : Room} {s : State} {m : MethodId} {args : Array Value} {below : List Frame} {meth : Method} {c : Code} {H : Heap} {locs : List Loc} {cells slots d : Nat} {Q : State → Prop} {cc : ByteArray} {pc nL : Nat} {ls : Array Slot} {rest : List Value} {D : va_G} {cA : Nat → ClassId} {ks : List Nat} {ad : Nat → Nat} {A : Nat → Prop} {st : CS} {H0 : Heap} {own : String} {index : Nat} {adK adV : Nat → Nat} {a : Nat}
/-- a field of a pool's object that isn't final -/
theorem pl_put {ci N : Nat} {Cn ref : String} {T : u_T} {ty0 : Nat → FieldType} {fs : List Value} {v : Value} (C : cC p R d s m args c cc nL own D cA A) (hO : klOk A ks ad) (hP : cW D cA ks ad st H) (hS : va_S A H0 H locs) (hla : live ks ad a) (he : st.2.2.2 (1000 + a) = .inr (ci, fs)) (hcl : cCl[ci]? = some (Cn, T, N)) (hin : ∀ w ∈ u_ws Cn T N, w ∈ lw_all) (hty : ∀ k, k < N → parseFieldDescriptor (T k).2.2.1 = some (ty0 k)) (hnm : ∀ a, a < N → ∀ b, b < N → a ≠ b → (T a).2.1 ≠ (T b).2.1) (j : Nat) (hj : j < N) (hl : Cond.fieldLink own index ref (T j).2.1 (T j).2.2.1 ∈ lw_all) (hsame : ∀ x, s.fieldFound? (T j).1 (T j).2.1 (T j).2.2.1 = some x → s.fieldFound? ref (T j).2.1 (T j).2.2.1 = some x) (hfin : (T j).2.2.2 = false) (hn : narrow (ty0 j) v = v) (hf : fits (ty0 j) v = true) (hlen : j < fs.length) (hr : ∀ b, ((14 ≤ ci ∧ ci ≤ 17) ∨ 19 ≤ ci) → Value.ref b ∈ fs.set j v → live ks ad b) (hdg : decode cc pc = .ok (.putfield index, 3))
    (kk : ∀ (H1 : Heap) (locs1 : List Loc), cW D cA ks ad (csP st (1000 + a) (.inr (ci, fs.set j v))) H1 → va_S A H0 H1 locs1 → W p l e R s m args below meth c H1 locs1 cells slots Q (F0 m (pc + 3) ls rest)) : W p l e R s m args below meth c H locs cells slots Q (F0 m pc ls (v :: .ref a :: rest)) := by
  obtain ⟨hx, hb, -, hown, hts, -, hK, -⟩ := C
  obtain ⟨i, hi⟩ := List.getElem?_of_mem hla.1
  have h : W p l e R s m args below meth c H locs cells slots Q (F0 m pc ls (v :: .ref (ad (1000 + a)) :: rest)) := by
    refine va_put hx hb hts hin ty0 hty hnm hown hK hP.1 (kl_D hO) hS i (by rw [kl_at hi, cg_pool, he]) hcl j hj (hts _ hl) hsame hfin (hty j hj) hn hf hlen hdg (fun H1 locs1 h1 _ h3 => kk H1 locs1 ?_ h3)
    rw [kl_set hO.1 hi, cg_P (by omega)] at h1
    exact ⟨h1, refOk_obj hP.2 hr⟩
  rw [hla.2] at h
  exact h
/-- one cell of the pool is new -/
theorem cW_one {H1 : Heap} {e1 : va_E} (hO : klOk A ks ad) (hP : cW D cA ks ad st H) (hla : live ks ad a) (h1 : va_P D cCl [(a, e1)] H1) (hF : ∀ q, q < H.size → ¬ q = a → H1[q]? = H[q]?) (hr : refOk ks ad (st.2.2.1, va_up st.2.2.2 (1000 + a) e1)) : cW D cA ks ad (csP st (1000 + a) e1) H1 := by
  refine ⟨fun i q hq => ?_, hr⟩
  obtain ⟨k, hk, hkq⟩ : ∃ k, ks[i]? = some k ∧ q = (ad k, cg cA ad (csP st (1000 + a) e1) k) := by
    simp only [kl, List.getElem?_map, Option.map_eq_some_iff] at hq
    obtain ⟨k, h2, h3⟩ := hq
    exact ⟨k, h2, h3.symm⟩
  subst hkq
  by_cases hka : k = 1000 + a
  · subst hka
    rw [hla.2, ← cg_P (by omega)]
    have h2 := h1 0 (a, e1) rfl
    simpa [va_up] using h2
  · have h2 := hP.1 i (ad k, cg cA ad st k) (kl_at hk)
    rw [← cg_P (by omega)]
    have h3 : va_up (cg cA ad st) (1000 + a) e1 k = cg cA ad st k := by simp [va_up, hka]
    rw [h3]
    have hne : ¬ ad k = a := fun h4 => hka (hO.2.1 k (List.mem_of_getElem? hk) (1000 + a) hla.1 (by rw [h4, hla.2]))
    exact h2.kept (hF _ h2.lt hne)
abbrev cX14_init : ByteArray := prog_22_method_1_code
def yX14_init : MethodName := ⟨RX14, "<init>", "()V"⟩
theorem dX14_init_0 : decode cX14_init 0 = .ok (.aload_n 0, 1) := by decide +kernel
theorem dX14_init_1 : decode cX14_init 1 = .ok (.invokespecial 1, 3) := by decide +kernel
theorem dX14_init_4 : decode cX14_init 4 = .ok (.return_, 1) := by decide +kernel
theorem q1018 : (Jvm.Cond.methodLink "ChapterLoan$Term" (1 : Nat) ({ cls := "java/lang/Object", name := "<init>", desc := "()V" } : Jvm.MethodName)) ∈ lw_all := lw_g (lw_at lw_m4 214 rfl) rfl
theorem w_TI {l : Launch} {D : va_G} {cA : Nat → ClassId} {ks : List Nat} {ad : Nat → Nat} {A : Nat → Prop} {st : CS} {a : Nat} : cV l yX14_init cX14_init 1 none 1 D cA ks ad A st [.ref a] none st := by
  refine cc_ofI (own := RX14) (by decide) rfl (Nat.le_of_ble_eq_true rfl) (fun p e s m below meth c R args ls C hin hr hlk hP hS hl hcs => ?_)
  have hx := C.1
  have hb := C.2.1
  have hown := C.2.2.2.1
  have hts := C.2.2.2.2.1
  have hml := C.2.2.1
  have hR := C.2.2.2.2.2.1
  have hl : lv_has ls 1 [(0, .ref a)] := hl
  refine lv_aload_n hx hb dX14_init_0 rfl (lv_at hl 0 rfl) ?_
  refine W.objInit hx hb hown (hts _ q1018) (hts _ q127) (hts _ q128) rfl (by rw [hml]; exact hl.1) rfl dX14_init_1 (by have h1 := hR.1; simp at *; omega) (by have h2 := hR.2; simp at *; omega) ?_
  refine W.eq (g2 := F0 m 4 ls []) rfl ?_
  exact cc_vret hx hb hr hlk rfl hP hS dX14_init_4
abbrev cX20_init : ByteArray := prog_7_method_1_code
def yX20_init : MethodName := ⟨RX20, "<init>", "(I)V"⟩
theorem dX20_init_0 : decode cX20_init 0 = .ok (.aload_n 0, 1) := by decide +kernel
theorem dX20_init_1 : decode cX20_init 1 = .ok (.invokespecial 1, 3) := by decide +kernel
theorem dX20_init_4 : decode cX20_init 4 = .ok (.aload_n 0, 1) := by decide +kernel
theorem dX20_init_5 : decode cX20_init 5 = .ok (.iload_n 1, 1) := by decide +kernel
theorem dX20_init_6 : decode cX20_init 6 = .ok (.putfield 7, 3) := by decide +kernel
theorem dX20_init_9 : decode cX20_init 9 = .ok (.return_, 1) := by decide +kernel
theorem q1017 : (Jvm.Cond.code ({ cls := "ChapterLoan$Term", name := "<init>", desc := "()V" } : Jvm.MethodName) prog_22_method_1_code (1 : Nat) (Option.none : Option Jvm.ClassFile.FieldType)) ∈ lw_all := lw_g (lw_at lw_m4 213 rfl) rfl
theorem q103 : (Jvm.Cond.initialized "ChapterLoan$Term") ∈ lw_all := lw_g (lw_at lw_m1 19 rfl) rfl
theorem q1016 : (Jvm.Cond.instanceMethod ({ cls := "ChapterLoan$Term", name := "<init>", desc := "()V" } : Jvm.MethodName)) ∈ lw_all := lw_g (lw_at lw_m4 212 rfl) rfl
theorem w_FigureI {l : Launch} {D : va_G} {cA : Nat → ClassId} {ks : List Nat} {ad : Nat → Nat} {A : Nat → Prop} (hO : klOk A ks ad) {st : CS} {a : Nat} {x1 : Int32} (hla : live ks ad a) (he : ∃ fs, fs.length = 1 ∧ st.2.2.2 (1000 + a) = .inr (14, fs) ∧ ∀ b, Value.ref b ∈ fs → live ks ad b) : cV l yX20_init cX20_init 2 none 3 D cA ks ad A st [.ref a, .int x1] none (csP st (1000 + a) (.inr (14, [.int x1]))) := by
  obtain ⟨fs, hfl, he, hfr⟩ := he
  refine cc_ofI (own := RX20) (by decide) rfl (Nat.le_of_ble_eq_true rfl) (fun p e s m below meth c R args ls C hin hr hlk hP hS hl hcs => ?_)
  have hx := C.1
  have hb := C.2.1
  have hown := C.2.2.2.1
  have hts := C.2.2.2.2.1
  have hml := C.2.2.1
  have hR := C.2.2.2.2.2.1
  have hl : lv_has ls 2 [(0, .ref a), (1, .int x1)] := hl
  refine lv_aload_n hx hb dX20_init_0 rfl (lv_at hl 0 rfl) ?_
  refine cc_cIN (As := []) (n := 0) C hP hS w_TI ⟨va_cnB 0 hts (lw_meth q1017) rfl rfl rfl (C.2.2.2.2.2.2.2.1 _ (List.mem_of_getElem? (i := 50) rfl)) (hts _ q103) (by decide +kernel) (mr_ C.2.2.2.2.2.1 (Nat.le_of_ble_eq_true rfl) (by decide)), rfl, hts _ q1016⟩ rfl hl.1 rfl (Nat.le_of_ble_eq_true rfl) dX20_init_1 hcs (fun H locs hP hS => ?_)
  refine lv_aload_n hx hb dX20_init_4 rfl (lv_at hl 0 rfl) ?_
  refine lv_iload_n hx hb dX20_init_5 rfl (lv_at hl 1 rfl) ?_
  refine pl_putF (ci := 14) (Cn := RX20) (ref := RX20) (T := TX20) (N := 1) (ty0 := tyX20) (fs := fs) C hin hO hP hS hla he rfl in_X20 tyX20_ok nmX20 0 (by decide) q1069 (fun _ h => h) rfl rfl rfl rfl (by simp [hfl]) ?_ dX20_init_6 (fun H locs hP hS => ?_)
  · intro b _ hb
    rcases List.mem_or_eq_of_mem_set hb with h9 | h9
    · exact hfr b h9
    · cases h9
  have hfin : (fs).set 0 (.int x1) = [.int x1] := by
    match fs, hfl with
    | [_], _ => rfl
  rw [hfin] at hP
  exact cc_vret hx hb hr hlk rfl hP hS dX20_init_9
abbrev cX17_init : ByteArray := prog_11_method_1_code
def yX17_init : MethodName := ⟨RX17, "<init>", "(I)V"⟩
theorem dX17_init_0 : decode cX17_init 0 = .ok (.aload_n 0, 1) := by decide +kernel
theorem dX17_init_1 : decode cX17_init 1 = .ok (.invokespecial 1, 3) := by decide +kernel
theorem dX17_init_4 : decode cX17_init 4 = .ok (.aload_n 0, 1) := by decide +kernel
theorem dX17_init_5 : decode cX17_init 5 = .ok (.iload_n 1, 1) := by decide +kernel
theorem dX17_init_6 : decode cX17_init 6 = .ok (.putfield 7, 3) := by decide +kernel
theorem dX17_init_9 : decode cX17_init 9 = .ok (.return_, 1) := by decide +kernel
theorem w_NamedI {l : Launch} {D : va_G} {cA : Nat → ClassId} {ks : List Nat} {ad : Nat → Nat} {A : Nat → Prop} (hO : klOk A ks ad) {st : CS} {a : Nat} {x1 : Int32} (hla : live ks ad a) (he : ∃ fs, fs.length = 1 ∧ st.2.2.2 (1000 + a) = .inr (15, fs) ∧ ∀ b, Value.ref b ∈ fs → live ks ad b) : cV l yX17_init cX17_init 2 none 3 D cA ks ad A st [.ref a, .int x1] none (csP st (1000 + a) (.inr (15, [.int x1]))) := by
  obtain ⟨fs, hfl, he, hfr⟩ := he
  refine cc_ofI (own := RX17) (by decide) rfl (Nat.le_of_ble_eq_true rfl) (fun p e s m below meth c R args ls C hin hr hlk hP hS hl hcs => ?_)
  have hx := C.1
  have hb := C.2.1
  have hown := C.2.2.2.1
  have hts := C.2.2.2.2.1
  have hml := C.2.2.1
  have hR := C.2.2.2.2.2.1
  have hl : lv_has ls 2 [(0, .ref a), (1, .int x1)] := hl
  refine lv_aload_n hx hb dX17_init_0 rfl (lv_at hl 0 rfl) ?_
  refine cc_cIN (As := []) (n := 0) C hP hS w_TI ⟨va_cnB 0 hts (lw_meth q1017) rfl rfl rfl (C.2.2.2.2.2.2.2.1 _ (List.mem_of_getElem? (i := 45) rfl)) (hts _ q103) (by decide +kernel) (mr_ C.2.2.2.2.2.1 (Nat.le_of_ble_eq_true rfl) (by decide)), rfl, hts _ q1016⟩ rfl hl.1 rfl (Nat.le_of_ble_eq_true rfl) dX17_init_1 hcs (fun H locs hP hS => ?_)
  refine lv_aload_n hx hb dX17_init_4 rfl (lv_at hl 0 rfl) ?_
  refine lv_iload_n hx hb dX17_init_5 rfl (lv_at hl 1 rfl) ?_
  refine pl_putF (ci := 15) (Cn := RX17) (ref := RX17) (T := TX17) (N := 1) (ty0 := tyX17) (fs := fs) C hin hO hP hS hla he rfl in_X17 tyX17_ok nmX17 0 (by decide) q1019 (fun _ h => h) rfl rfl rfl rfl (by simp [hfl]) ?_ dX17_init_6 (fun H locs hP hS => ?_)
  · intro b _ hb
    rcases List.mem_or_eq_of_mem_set hb with h9 | h9
    · exact hfr b h9
    · cases h9
  have hfin : (fs).set 0 (.int x1) = [.int x1] := by
    match fs, hfl with
    | [_], _ => rfl
  rw [hfin] at hP
  exact cc_vret hx hb hr hlk rfl hP hS dX17_init_9
abbrev cX19_init : ByteArray := prog_25_method_1_code
def yX19_init : MethodName := ⟨RX19, "<init>", "(LChapterLoan$Term;)V"⟩
theorem dX19_init_0 : decode cX19_init 0 = .ok (.aload_n 0, 1) := by decide +kernel
theorem dX19_init_1 : decode cX19_init 1 = .ok (.invokespecial 1, 3) := by decide +kernel
theorem dX19_init_4 : decode cX19_init 4 = .ok (.aload_n 0, 1) := by decide +kernel
theorem dX19_init_5 : decode cX19_init 5 = .ok (.aload_n 1, 1) := by decide +kernel
theorem dX19_init_6 : decode cX19_init 6 = .ok (.putfield 7, 3) := by decide +kernel
theorem dX19_init_9 : decode cX19_init 9 = .ok (.return_, 1) := by decide +kernel
theorem w_TurnedI {l : Launch} {D : va_G} {cA : Nat → ClassId} {ks : List Nat} {ad : Nat → Nat} {A : Nat → Prop} (hO : klOk A ks ad) {st : CS} {a : Nat} {x1 : Nat} (hla : live ks ad a) (he : ∃ fs, fs.length = 1 ∧ st.2.2.2 (1000 + a) = .inr (16, fs) ∧ ∀ b, Value.ref b ∈ fs → live ks ad b) (hl1 : live ks ad x1) : cV l yX19_init cX19_init 2 none 3 D cA ks ad A st [.ref a, .ref x1] none (csP st (1000 + a) (.inr (16, [.ref x1]))) := by
  obtain ⟨fs, hfl, he, hfr⟩ := he
  refine cc_ofI (own := RX19) (by decide) rfl (Nat.le_of_ble_eq_true rfl) (fun p e s m below meth c R args ls C hin hr hlk hP hS hl hcs => ?_)
  have hx := C.1
  have hb := C.2.1
  have hown := C.2.2.2.1
  have hts := C.2.2.2.2.1
  have hml := C.2.2.1
  have hR := C.2.2.2.2.2.1
  have hl : lv_has ls 2 [(0, .ref a), (1, .ref x1)] := hl
  refine lv_aload_n hx hb dX19_init_0 rfl (lv_at hl 0 rfl) ?_
  refine cc_cIN (As := []) (n := 0) C hP hS w_TI ⟨va_cnB 0 hts (lw_meth q1017) rfl rfl rfl (C.2.2.2.2.2.2.2.1 _ (List.mem_of_getElem? (i := 48) rfl)) (hts _ q103) (by decide +kernel) (mr_ C.2.2.2.2.2.1 (Nat.le_of_ble_eq_true rfl) (by decide)), rfl, hts _ q1016⟩ rfl hl.1 rfl (Nat.le_of_ble_eq_true rfl) dX19_init_1 hcs (fun H locs hP hS => ?_)
  refine lv_aload_n hx hb dX19_init_4 rfl (lv_at hl 0 rfl) ?_
  refine lv_aload_n hx hb dX19_init_5 rfl (lv_at hl 1 rfl) ?_
  refine pl_putF (ci := 16) (Cn := RX19) (ref := RX19) (T := TX19) (N := 1) (ty0 := tyX19) (fs := fs) C hin hO hP hS hla he rfl in_X19 tyX19_ok nmX19 0 (by decide) q1057 (fun _ h => h) rfl rfl rfl rfl (by simp [hfl]) ?_ dX19_init_6 (fun H locs hP hS => ?_)
  · intro b _ hb
    rcases List.mem_or_eq_of_mem_set hb with h9 | h9
    · exact hfr b h9
    · cases h9; exact hl1
  have hfin : (fs).set 0 (.ref x1) = [.ref x1] := by
    match fs, hfl with
    | [_], _ => rfl
  rw [hfin] at hP
  exact cc_vret hx hb hr hlk rfl hP hS dX19_init_9
abbrev cX15_init : ByteArray := prog_27_method_1_code
def yX15_init : MethodName := ⟨RX15, "<init>", "(ILChapterLoan$Term;LChapterLoan$Term;)V"⟩
theorem dX15_init_0 : decode cX15_init 0 = .ok (.aload_n 0, 1) := by decide +kernel
theorem dX15_init_1 : decode cX15_init 1 = .ok (.invokespecial 1, 3) := by decide +kernel
theorem dX15_init_4 : decode cX15_init 4 = .ok (.aload_n 0, 1) := by decide +kernel
theorem dX15_init_5 : decode cX15_init 5 = .ok (.iload_n 1, 1) := by decide +kernel
theorem dX15_init_6 : decode cX15_init 6 = .ok (.putfield 7, 3) := by decide +kernel
theorem dX15_init_9 : decode cX15_init 9 = .ok (.aload_n 0, 1) := by decide +kernel
theorem dX15_init_10 : decode cX15_init 10 = .ok (.aload_n 2, 1) := by decide +kernel
theorem dX15_init_11 : decode cX15_init 11 = .ok (.putfield 13, 3) := by decide +kernel
theorem dX15_init_14 : decode cX15_init 14 = .ok (.aload_n 0, 1) := by decide +kernel
theorem dX15_init_15 : decode cX15_init 15 = .ok (.aload_n 3, 1) := by decide +kernel
theorem dX15_init_16 : decode cX15_init 16 = .ok (.putfield 17, 3) := by decide +kernel
theorem dX15_init_19 : decode cX15_init 19 = .ok (.return_, 1) := by decide +kernel
theorem w_TwoI {l : Launch} {D : va_G} {cA : Nat → ClassId} {ks : List Nat} {ad : Nat → Nat} {A : Nat → Prop} (hO : klOk A ks ad) {st : CS} {a : Nat} {x1 : Int32} {x2 : Nat} {x3 : Nat} (hla : live ks ad a) (he : ∃ fs, fs.length = 3 ∧ st.2.2.2 (1000 + a) = .inr (17, fs) ∧ ∀ b, Value.ref b ∈ fs → live ks ad b) (hl2 : live ks ad x2) (hl3 : live ks ad x3) : cV l yX15_init cX15_init 4 none 3 D cA ks ad A st [.ref a, .int x1, .ref x2, .ref x3] none (csP st (1000 + a) (.inr (17, [.int x1, .ref x2, .ref x3]))) := by
  obtain ⟨fs, hfl, he, hfr⟩ := he
  refine cc_ofI (own := RX15) (by decide) rfl (Nat.le_of_ble_eq_true rfl) (fun p e s m below meth c R args ls C hin hr hlk hP hS hl hcs => ?_)
  have hx := C.1
  have hb := C.2.1
  have hown := C.2.2.2.1
  have hts := C.2.2.2.2.1
  have hml := C.2.2.1
  have hR := C.2.2.2.2.2.1
  have hl : lv_has ls 4 [(0, .ref a), (1, .int x1), (2, .ref x2), (3, .ref x3)] := hl
  refine lv_aload_n hx hb dX15_init_0 rfl (lv_at hl 0 rfl) ?_
  refine cc_cIN (As := []) (n := 0) C hP hS w_TI ⟨va_cnB 0 hts (lw_meth q1017) rfl rfl rfl (C.2.2.2.2.2.2.2.1 _ (List.mem_of_getElem? (i := 51) rfl)) (hts _ q103) (by decide +kernel) (mr_ C.2.2.2.2.2.1 (Nat.le_of_ble_eq_true rfl) (by decide)), rfl, hts _ q1016⟩ rfl hl.1 rfl (Nat.le_of_ble_eq_true rfl) dX15_init_1 hcs (fun H locs hP hS => ?_)
  refine lv_aload_n hx hb dX15_init_4 rfl (lv_at hl 0 rfl) ?_
  refine lv_iload_n hx hb dX15_init_5 rfl (lv_at hl 1 rfl) ?_
  refine pl_putF (ci := 17) (Cn := RX15) (ref := RX15) (T := TX15) (N := 3) (ty0 := tyX15) (fs := fs) C hin hO hP hS hla he rfl in_X15 tyX15_ok nmX15 0 (by decide) q1080 (fun _ h => h) rfl rfl rfl rfl (by simp [hfl]) ?_ dX15_init_6 (fun H locs hP hS => ?_)
  · intro b _ hb
    rcases List.mem_or_eq_of_mem_set hb with h9 | h9
    · exact hfr b h9
    · cases h9
  have hfr1 : ∀ b, Value.ref b ∈ (fs).set 0 (.int x1) → live ks ad b := by
    intro b hb
    rcases List.mem_or_eq_of_mem_set hb with h9 | h9
    · exact hfr b h9
    · cases h9
  refine lv_aload_n hx hb dX15_init_9 rfl (lv_at hl 0 rfl) ?_
  refine lv_aload_n hx hb dX15_init_10 rfl (lv_at hl 2 rfl) ?_
  refine pl_putF (ci := 17) (Cn := RX15) (ref := RX15) (T := TX15) (N := 3) (ty0 := tyX15) (fs := (fs).set 0 (.int x1)) C hin hO hP hS hla csP_at rfl in_X15 tyX15_ok nmX15 1 (by decide) q1081 (fun _ h => h) rfl rfl rfl rfl (by simp [hfl]) ?_ dX15_init_11 (fun H locs hP hS => ?_)
  · intro b _ hb
    rcases List.mem_or_eq_of_mem_set hb with h9 | h9
    · exact hfr1 b h9
    · cases h9; exact hl2
  have hfr2 : ∀ b, Value.ref b ∈ ((fs).set 0 (.int x1)).set 1 (.ref x2) → live ks ad b := by
    intro b hb
    rcases List.mem_or_eq_of_mem_set hb with h9 | h9
    · exact hfr1 b h9
    · cases h9; exact hl2
  rw [csP_csP] at hP
  refine lv_aload_n hx hb dX15_init_14 rfl (lv_at hl 0 rfl) ?_
  refine lv_aload_n hx hb dX15_init_15 rfl (lv_at hl 3 rfl) ?_
  refine pl_putF (ci := 17) (Cn := RX15) (ref := RX15) (T := TX15) (N := 3) (ty0 := tyX15) (fs := ((fs).set 0 (.int x1)).set 1 (.ref x2)) C hin hO hP hS hla csP_at rfl in_X15 tyX15_ok nmX15 2 (by decide) q1082 (fun _ h => h) rfl rfl rfl rfl (by simp [hfl]) ?_ dX15_init_16 (fun H locs hP hS => ?_)
  · intro b _ hb
    rcases List.mem_or_eq_of_mem_set hb with h9 | h9
    · exact hfr2 b h9
    · cases h9; exact hl3
  rw [csP_csP] at hP
  have hfin : (((fs).set 0 (.int x1)).set 1 (.ref x2)).set 2 (.ref x3) = [.int x1, .ref x2, .ref x3] := by
    match fs, hfl with
    | [_, _, _], _ => rfl
  rw [hfin] at hP
  exact cc_vret hx hb hr hlk rfl hP hS dX15_init_19
abbrev cX16_init : ByteArray := prog_14_method_1_code
def yX16_init : MethodName := ⟨RX16, "<init>", "(Ljava/lang/String;[BI)V"⟩
theorem dX16_init_0 : decode cX16_init 0 = .ok (.aload_n 0, 1) := by decide +kernel
theorem dX16_init_1 : decode cX16_init 1 = .ok (.invokespecial 3, 3) := by decide +kernel
theorem dX16_init_4 : decode cX16_init 4 = .ok (.aload_n 0, 1) := by decide +kernel
theorem dX16_init_5 : decode cX16_init 5 = .ok (.aload_n 1, 1) := by decide +kernel
theorem dX16_init_6 : decode cX16_init 6 = .ok (.putfield 9, 3) := by decide +kernel
theorem dX16_init_9 : decode cX16_init 9 = .ok (.aload_n 0, 1) := by decide +kernel
theorem dX16_init_10 : decode cX16_init 10 = .ok (.aload_n 2, 1) := by decide +kernel
theorem dX16_init_11 : decode cX16_init 11 = .ok (.putfield 15, 3) := by decide +kernel
theorem dX16_init_14 : decode cX16_init 14 = .ok (.aload_n 0, 1) := by decide +kernel
theorem dX16_init_15 : decode cX16_init 15 = .ok (.iload_n 3, 1) := by decide +kernel
theorem dX16_init_16 : decode cX16_init 16 = .ok (.putfield 19, 3) := by decide +kernel
theorem dX16_init_19 : decode cX16_init 19 = .ok (.return_, 1) := by decide +kernel
theorem q876 : (Jvm.Cond.fieldLink "ChapterLoan$Reader" (9 : Nat) "ChapterLoan$Reader" "names" "Ljava/lang/String;") ∈ lw_all := lw_g (lw_at lw_m4 72 rfl) rfl
theorem q877 : (Jvm.Cond.fieldLink "ChapterLoan$Reader" (15 : Nat) "ChapterLoan$Reader" "bytes" "[B") ∈ lw_all := lw_g (lw_at lw_m4 73 rfl) rfl
theorem q878 : (Jvm.Cond.fieldLink "ChapterLoan$Reader" (19 : Nat) "ChapterLoan$Reader" "size" "I") ∈ lw_all := lw_g (lw_at lw_m4 74 rfl) rfl
theorem q875 : (Jvm.Cond.methodLink "ChapterLoan$Reader" (3 : Nat) ({ cls := "java/lang/Object", name := "<init>", desc := "()V" } : Jvm.MethodName)) ∈ lw_all := lw_g (lw_at lw_m4 71 rfl) rfl
theorem w_ReaderI {l : Launch} {D : va_G} {cA : Nat → ClassId} {ks : List Nat} {ad : Nat → Nat} {A : Nat → Prop} (hO : klOk A ks ad) {st : CS} {a x1 x2 : Nat} {x3 : Int32} (hla : live ks ad a) (he : st.2.2.2 (1000 + a) = .inr (18, [.null, .null, .int 0, .int 0, .int 0])) : cV l yX16_init cX16_init 4 none 2 D cA ks ad A st [.ref a, .ref x1, .ref x2, .int x3] none (csP st (1000 + a) (.inr (18, [.ref x1, .ref x2, .int x3, .int 0, .int 0]))) := by
  refine cc_ofI (own := RX16) (by decide) rfl (Nat.le_of_ble_eq_true rfl) (fun p e s m below meth c R args ls C hin hr hlk hP hS hl hcs => ?_)
  have hx := C.1
  have hb := C.2.1
  have hown := C.2.2.2.1
  have hts := C.2.2.2.2.1
  have hml := C.2.2.1
  have hR := C.2.2.2.2.2.1
  have hl : lv_has ls 4 [(0, .ref a), (1, .ref x1), (2, .ref x2), (3, .int x3)] := hl
  refine lv_aload_n hx hb dX16_init_0 rfl (lv_at hl 0 rfl) ?_
  refine W.objInit hx hb hown (hts _ q875) (hts _ q127) (hts _ q128) rfl (by rw [hml]; exact hl.1) rfl dX16_init_1 (by have h1 := hR.1; simp at *; omega) (by have h2 := hR.2; simp at *; omega) ?_
  refine W.eq (g2 := F0 m 4 ls []) rfl ?_
  refine lv_aload_n hx hb dX16_init_4 rfl (lv_at hl 0 rfl) ?_
  refine lv_aload_n hx hb dX16_init_5 rfl (lv_at hl 1 rfl) ?_
  refine pl_putF (ci := 18) (Cn := RX16) (ref := RX16) (T := TX16) (N := 5) (ty0 := tyX16) (fs := [.null, .null, .int 0, .int 0, .int 0]) C hin hO hP hS hla he rfl in_X16 tyX16_ok nmX16 0 (by decide) q876 (fun _ h => h) rfl rfl rfl rfl (Nat.le_of_ble_eq_true rfl) (fun b h => by omega) dX16_init_6 (fun H locs hP hS => ?_)
  refine lv_aload_n hx hb dX16_init_9 rfl (lv_at hl 0 rfl) ?_
  refine lv_aload_n hx hb dX16_init_10 rfl (lv_at hl 2 rfl) ?_
  refine pl_putF (ci := 18) (Cn := RX16) (ref := RX16) (T := TX16) (N := 5) (ty0 := tyX16) (fs := [.ref x1, .null, .int 0, .int 0, .int 0]) C hin hO hP hS hla csP_at rfl in_X16 tyX16_ok nmX16 1 (by decide) q877 (fun _ h => h) rfl rfl rfl rfl (Nat.le_of_ble_eq_true rfl) (fun b h => by omega) dX16_init_11 (fun H locs hP hS => ?_)
  rw [csP_csP] at hP
  refine lv_aload_n hx hb dX16_init_14 rfl (lv_at hl 0 rfl) ?_
  refine lv_iload_n hx hb dX16_init_15 rfl (lv_at hl 3 rfl) ?_
  refine pl_putF (ci := 18) (Cn := RX16) (ref := RX16) (T := TX16) (N := 5) (ty0 := tyX16) (fs := [.ref x1, .ref x2, .int 0, .int 0, .int 0]) C hin hO hP hS hla csP_at rfl in_X16 tyX16_ok nmX16 2 (by decide) q878 (fun _ h => h) rfl rfl rfl rfl (Nat.le_of_ble_eq_true rfl) (fun b h => by omega) dX16_init_16 (fun H locs hP hS => ?_)
  rw [csP_csP] at hP
  exact cc_vret hx hb hr hlk rfl hP hS dX16_init_19
/-- what Throwable's constructors have and leave, over one cell -/
abbrev thPre (adK adV : Nat → Nat) (A : Nat → Prop) (D : va_G) (cA : Nat → ClassId) (a ci : Nat) (fs : List Value) : Array Value → State → Prop := va_Pc [.ref a, .null, .null, .int 0, .int 0] (fun U => va_P D cCl [(a, .inr (ci, fs))] U.heap ∧ va_K D cCl (cTys cA) U ∧ sX adK adV A U ∧ A a)
def thQ (D : va_G) (a ci : Nat) (fs : List Value) : Array Value → State → Outcome → State → Prop := fun _ s0 o t => o = .returned none ∧ va_P D cCl [(a, .inr (ci, fs))] t.heap ∧ va_F (fun q => q = a) s0 t
theorem th_blind {ci : Nat} {fs : List Value} : FrameBlind (thPre adK adV A D cA a ci fs) := fun v U g mk q => ⟨q.1, q.2.1, va_K.moved (u := U) (U := U.calling g mk v) (Vm.Alike.refl U.vm) q.2.2.1, sX.calling q.2.2.2.1, q.2.2.2.2⟩
abbrev thM (l : Launch) (y : MethodName) (bytes : ByteArray) (maxL dk : Nat) (adK adV : Nat → Nat) (A : Nat → Prop) (D : va_G) (cA : Nat → ClassId) (a ci : Nat) (fs fs' : List Value) : Prop := Met l y (ws_ y bytes maxL none) (k2_rm dk (40 * dk)) (thPre adK adV A D cA a ci fs) (thQ D a ci fs') 0 0 (fun q => q = a)
theorem one_D {x : va_E} : va_D (fun q => q = a) [(a, x)] := by
  refine ⟨fun i j p q hp hq _ => ?_, fun k q hq => ?_⟩
  · have h1 := (List.getElem?_eq_some_iff.mp hp).1
    have h2 := (List.getElem?_eq_some_iff.mp hq).1
    simp at h1 h2
    omega
  · have h1 := (List.getElem?_eq_some_iff.mp hq).1
    simp at h1
    subst h1
    cases hq
    rfl
theorem th_of {y : MethodName} {bytes : ByteArray} {maxL ci dk : Nat} {fs fs' : List Value} (hy : plainFor y = true) (hnl : (lg_sl [.ref a, .null, .null, .int 0, .int 0]).length ≤ maxL)
    (body : ∀ (p : Program) (e : Env) (s : State) (m : MethodId) (below : List Frame) (meth : Method) (c : Code) (R : Room) (args : Array Value) (ls : Array Slot), sC p R dk s m args c bytes maxL y.cls → meth.sig.returnType = none → meth.locks = false → va_P D cCl [(a, .inr (ci, fs))] s.heap → va_K D cCl (cTys cA) s → sX adK adV A s → A a → lv_has ls maxL (lv_args 0 [.ref a, .null, .null, .int 0, .int 0]) → (0 ≤ R.cells ∧ 0 ≤ R.slots) →
      W p l e R s m args below meth c s.heap [] 0 0 (MQ below (thQ D a ci fs') args s 0 0 (fun q => q = a)) (F0 m 0 ls [])) : thM l y bytes maxL dk adK adV A D cA a ci fs fs' := by
  refine Met_ofWF (cc := bytes) (maxL := maxL) (ret := none) hy rfl ?_
  intro p e s m args below meth c s₁ B hml hv
  have hts := atoms_spec (ws := ws_ y bytes maxL none) B.pre
  have hts : ∀ w ∈ lw_all, w.before _ s = true := fun w h => hts w (List.mem_cons_of_mem _ h)
  have hown : s.vm.findClass y.cls = some m.cls := findClass_of_methodNamed B.named
  obtain ⟨rfl, hP, hK, hX, hA⟩ := hv
  rw [lg_entry_eq]
  exact body p e s m below meth c _ _ _ ⟨B.exec, B.bytes, hml, hown, hts, Nat.le_refl _, Nat.le_refl _⟩ B.returns B.notSynchronized hP hK hX hA (lv_entry _ hnl) ⟨Nat.zero_le _, Nat.zero_le _⟩
abbrev cJ0_init_2 : ByteArray := prog_40_method_5_code
def yJ0_init_2 : MethodName := ⟨RJ0, "<init>", "(Ljava/lang/String;Ljava/lang/Throwable;ZZ)V"⟩
theorem dJ0_init_2_0 : decode cJ0_init_2 0 = .ok (.aload_n 0, 1) := by decide +kernel
theorem dJ0_init_2_1 : decode cJ0_init_2 1 = .ok (.invokespecial 1, 3) := by decide +kernel
theorem dJ0_init_2_4 : decode cJ0_init_2 4 = .ok (.aload_n 0, 1) := by decide +kernel
theorem dJ0_init_2_5 : decode cJ0_init_2 5 = .ok (.aload_n 0, 1) := by decide +kernel
theorem dJ0_init_2_6 : decode cJ0_init_2 6 = .ok (.putfield 7, 3) := by decide +kernel
theorem dJ0_init_2_9 : decode cJ0_init_2 9 = .ok (.aload_n 0, 1) := by decide +kernel
theorem dJ0_init_2_10 : decode cJ0_init_2 10 = .ok (.getstatic 13, 3) := by decide +kernel
theorem dJ0_init_2_13 : decode cJ0_init_2 13 = .ok (.putfield 17, 3) := by decide +kernel
theorem dJ0_init_2_16 : decode cJ0_init_2 16 = .ok (.aload_n 0, 1) := by decide +kernel
theorem dJ0_init_2_17 : decode cJ0_init_2 17 = .ok (.getstatic 20, 3) := by decide +kernel
theorem dJ0_init_2_20 : decode cJ0_init_2 20 = .ok (.putfield 24, 3) := by decide +kernel
theorem dJ0_init_2_23 : decode cJ0_init_2 23 = .ok (.iload 4, 2) := by decide +kernel
theorem dJ0_init_2_25 : decode cJ0_init_2 25 = .ok (.ifCond .eq 11, 3) := by decide +kernel
theorem dJ0_init_2_28 : decode cJ0_init_2 28 = .ok (.aload_n 0, 1) := by decide +kernel
theorem dJ0_init_2_29 : decode cJ0_init_2 29 = .ok (.invokevirtual 27, 3) := by decide +kernel
theorem dJ0_init_2_32 : decode cJ0_init_2 32 = .ok (.pop, 1) := by decide +kernel
theorem dJ0_init_2_33 : decode cJ0_init_2 33 = .ok (.goto 8, 3) := by decide +kernel
theorem dJ0_init_2_36 : decode cJ0_init_2 36 = .ok (.aload_n 0, 1) := by decide +kernel
theorem dJ0_init_2_37 : decode cJ0_init_2 37 = .ok (.aconst_null, 1) := by decide +kernel
theorem dJ0_init_2_38 : decode cJ0_init_2 38 = .ok (.putfield 17, 3) := by decide +kernel
theorem dJ0_init_2_41 : decode cJ0_init_2 41 = .ok (.aload_n 0, 1) := by decide +kernel
theorem dJ0_init_2_42 : decode cJ0_init_2 42 = .ok (.aload_n 1, 1) := by decide +kernel
theorem dJ0_init_2_43 : decode cJ0_init_2 43 = .ok (.putfield 31, 3) := by decide +kernel
theorem dJ0_init_2_46 : decode cJ0_init_2 46 = .ok (.aload_n 0, 1) := by decide +kernel
theorem dJ0_init_2_47 : decode cJ0_init_2 47 = .ok (.aload_n 2, 1) := by decide +kernel
theorem dJ0_init_2_48 : decode cJ0_init_2 48 = .ok (.putfield 7, 3) := by decide +kernel
theorem dJ0_init_2_51 : decode cJ0_init_2 51 = .ok (.iload_n 3, 1) := by decide +kernel
theorem dJ0_init_2_52 : decode cJ0_init_2 52 = .ok (.ifCond .ne 8, 3) := by decide +kernel
theorem dJ0_init_2_55 : decode cJ0_init_2 55 = .ok (.aload_n 0, 1) := by decide +kernel
theorem dJ0_init_2_56 : decode cJ0_init_2 56 = .ok (.aconst_null, 1) := by decide +kernel
theorem dJ0_init_2_57 : decode cJ0_init_2 57 = .ok (.putfield 24, 3) := by decide +kernel
theorem dJ0_init_2_60 : decode cJ0_init_2 60 = .ok (.return_, 1) := by decide +kernel
theorem q185 : (Jvm.Cond.fieldLink "java/lang/Throwable" (7 : Nat) "java/lang/Throwable" "cause" "Ljava/lang/Throwable;") ∈ lw_all := lw_g (lw_at lw_m1 101 rfl) rfl
theorem q186 : (Jvm.Cond.fieldLink "java/lang/Throwable" (17 : Nat) "java/lang/Throwable" "stackTrace" "[Ljava/lang/StackTraceElement;") ∈ lw_all := lw_g (lw_at lw_m1 102 rfl) rfl
theorem q187 : (Jvm.Cond.fieldLink "java/lang/Throwable" (24 : Nat) "java/lang/Throwable" "suppressedExceptions" "Ljava/util/List;") ∈ lw_all := lw_g (lw_at lw_m1 103 rfl) rfl
theorem q184 : (Jvm.Cond.fieldLink "java/lang/Throwable" (31 : Nat) "java/lang/Throwable" "detailMessage" "Ljava/lang/String;") ∈ lw_all := lw_g (lw_at lw_m1 100 rfl) rfl
theorem q155 : (Jvm.Cond.fieldLink "java/lang/Throwable" (13 : Nat) "java/lang/Throwable" "UNASSIGNED_STACK" "[Ljava/lang/StackTraceElement;") ∈ lw_all := lw_g (lw_at lw_m1 71 rfl) rfl
theorem q157 : (Jvm.Cond.fieldLink "java/lang/Throwable" (20 : Nat) "java/lang/Throwable" "SUPPRESSED_SENTINEL" "Ljava/util/List;") ∈ lw_all := lw_g (lw_at lw_m1 73 rfl) rfl
theorem q154 : (Jvm.Cond.methodLink "java/lang/Throwable" (1 : Nat) ({ cls := "java/lang/Object", name := "<init>", desc := "()V" } : Jvm.MethodName)) ∈ lw_all := lw_g (lw_at lw_m1 70 rfl) rfl
theorem w_Th1 {l : Launch} {f0 f1 f2 f3 f4 f5 f6 : Value} : thM l yJ0_init_2 cJ0_init_2 5 1 adK adV A D cA a 1 [f0, f1, f2, f3, f4, f5, f6] [.null, .null, .null, .null, f4, f5, f6] := by
  refine th_of (by decide +kernel) (Nat.le_of_ble_eq_true rfl) (fun p e s m below meth c R args ls C hr hlk hP hK hX hA hl hcs => ?_)
  have hx := C.1
  have hb := C.2.1
  have hown : s.vm.findClass RJ0 = some m.cls := C.2.2.2.1
  have hts := C.2.2.2.2.1
  have hml := C.2.2.1
  have hR := C.2.2.2.2.2
  have hS : va_S (fun q => q = a) s.heap s.heap [] := va_S.rf
  have hl : lv_has ls 5 [(0, .ref a), (1, .null), (2, .null), (3, .int 0), (4, .int 0)] := hl
  have hz1 := hX.2.2.2.1.narrow (B := fun q => q = a) (fun q h => h ▸ hA)
  have hz2 := hX.2.2.2.2.narrow (B := fun q => q = a) (fun q h => h ▸ hA)
  refine lv_aload_n hx hb dJ0_init_2_0 rfl (lv_at hl 0 rfl) ?_
  refine W.objInit hx hb hown (hts _ q154) (hts _ q127) (hts _ q128) rfl (by rw [hml]; exact hl.1) rfl dJ0_init_2_1 (by have h1 := hR.1; simp at *; omega) (by have h2 := hR.2; simp at *; omega) ?_
  refine W.eq (g2 := F0 m 4 ls []) rfl ?_
  refine lv_aload_n hx hb dJ0_init_2_4 rfl (lv_at hl 0 rfl) ?_
  refine lv_aload_n hx hb dJ0_init_2_5 rfl (lv_at hl 0 rfl) ?_
  refine va_put (ref := RJ0) (C := RX1) (T := TX1) (N := 7) (ci := 1) (fs := [f0, f1, f2, f3, f4, f5, f6]) hx hb hts in_X1 tyX1 tyX1_ok nmX1 hown hK hP one_D hS 0 rfl rfl 0 (by decide) (hts _ q185) (fun _ h => h) rfl (tyX1_ok 0 (by decide)) rfl rfl (Nat.le_of_ble_eq_true rfl) dJ0_init_2_6 (fun H locs hP _ hS => ?_)
  refine lv_aload_n hx hb dJ0_init_2_9 rfl (lv_at hl 0 rfl) ?_
  have key : ∀ (v1 v2 : Value), (v1 = .null ∨ ∃ t, v1 = .ref t) → (v2 = .null ∨ ∃ t, v2 = .ref t) → va_Z "java/lang/Throwable" "UNASSIGNED_STACK" "[Ljava/lang/StackTraceElement;" v1 (fun q => q = a) s s.heap → va_Z "java/lang/Throwable" "SUPPRESSED_SENTINEL" "Ljava/util/List;" v2 (fun q => q = a) s s.heap → W p l e R s m args below meth c H locs 0 0 (MQ below (thQ D a 1 [.null, .null, .null, .null, f4, f5, f6]) args s 0 0 (fun q => q = a)) (F0 m 10 ls [.ref a]) := by
    intro v1 v2 hv1 hv2 hz1 hz2
    refine va_gets hx hb hz1 hS hown (hts _ q155) (fun _ h => h) dJ0_init_2_10 ?_
    refine va_put (ref := RJ0) (C := RX1) (T := TX1) (N := 7) (ci := 1) (fs := [.ref a, f1, f2, f3, f4, f5, f6]) hx hb hts in_X1 tyX1 tyX1_ok nmX1 hown hK hP one_D hS 0 rfl rfl 1 (by decide) (hts _ q186) (fun _ h => h) rfl (tyX1_ok 1 (by decide)) (by rcases hv1 with rfl | ⟨_, rfl⟩ <;> rfl) (by rcases hv1 with rfl | ⟨_, rfl⟩ <;> rfl) (Nat.le_of_ble_eq_true rfl) dJ0_init_2_13 (fun H locs hP _ hS => ?_)
    refine lv_aload_n hx hb dJ0_init_2_16 rfl (lv_at hl 0 rfl) ?_
    refine va_gets hx hb hz2 hS hown (hts _ q157) (fun _ h => h) dJ0_init_2_17 ?_
    refine va_put (ref := RJ0) (C := RX1) (T := TX1) (N := 7) (ci := 1) (fs := [.ref a, v1, f2, f3, f4, f5, f6]) hx hb hts in_X1 tyX1 tyX1_ok nmX1 hown hK hP one_D hS 0 rfl rfl 2 (by decide) (hts _ q187) (fun _ h => h) rfl (tyX1_ok 2 (by decide)) (by rcases hv2 with rfl | ⟨_, rfl⟩ <;> rfl) (by rcases hv2 with rfl | ⟨_, rfl⟩ <;> rfl) (Nat.le_of_ble_eq_true rfl) dJ0_init_2_20 (fun H locs hP _ hS => ?_)
    refine lv_iload hx hb dJ0_init_2_23 (lv_at hl 4 rfl) ?_
    refine lv_if_eq (tgt := 36) hx hb dJ0_init_2_25 rfl (fun _ => ?_) (fun c => absurd rfl c)
    refine lv_aload_n hx hb dJ0_init_2_36 rfl (lv_at hl 0 rfl) ?_
    refine lv_null hx hb dJ0_init_2_37 ?_
    refine va_put (ref := RJ0) (C := RX1) (T := TX1) (N := 7) (ci := 1) (fs := [.ref a, v1, v2, f3, f4, f5, f6]) hx hb hts in_X1 tyX1 tyX1_ok nmX1 hown hK hP one_D hS 0 rfl rfl 1 (by decide) (hts _ q186) (fun _ h => h) rfl (tyX1_ok 1 (by decide)) rfl rfl (Nat.le_of_ble_eq_true rfl) dJ0_init_2_38 (fun H locs hP _ hS => ?_)
    refine lv_aload_n hx hb dJ0_init_2_41 rfl (lv_at hl 0 rfl) ?_
    refine lv_aload_nN hx hb dJ0_init_2_42 rfl (lv_at hl 1 rfl) ?_
    refine va_put (ref := RJ0) (C := RX1) (T := TX1) (N := 7) (ci := 1) (fs := [.ref a, .null, v2, f3, f4, f5, f6]) hx hb hts in_X1 tyX1 tyX1_ok nmX1 hown hK hP one_D hS 0 rfl rfl 3 (by decide) (hts _ q184) (fun _ h => h) rfl (tyX1_ok 3 (by decide)) rfl rfl (Nat.le_of_ble_eq_true rfl) dJ0_init_2_43 (fun H locs hP _ hS => ?_)
    refine lv_aload_n hx hb dJ0_init_2_46 rfl (lv_at hl 0 rfl) ?_
    refine lv_aload_nN hx hb dJ0_init_2_47 rfl (lv_at hl 2 rfl) ?_
    refine va_put (ref := RJ0) (C := RX1) (T := TX1) (N := 7) (ci := 1) (fs := [.ref a, .null, v2, .null, f4, f5, f6]) hx hb hts in_X1 tyX1 tyX1_ok nmX1 hown hK hP one_D hS 0 rfl rfl 0 (by decide) (hts _ q185) (fun _ h => h) rfl (tyX1_ok 0 (by decide)) rfl rfl (Nat.le_of_ble_eq_true rfl) dJ0_init_2_48 (fun H locs hP _ hS => ?_)
    refine lv_iload_n hx hb dJ0_init_2_51 rfl (lv_at hl 3 rfl) ?_
    refine lv_if_ne (tgt := 60) hx hb dJ0_init_2_52 rfl (fun c => absurd rfl c) (fun _ => ?_)
    refine lv_aload_n hx hb dJ0_init_2_55 rfl (lv_at hl 0 rfl) ?_
    refine lv_null hx hb dJ0_init_2_56 ?_
    refine va_put (ref := RJ0) (C := RX1) (T := TX1) (N := 7) (ci := 1) (fs := [.null, .null, v2, .null, f4, f5, f6]) hx hb hts in_X1 tyX1 tyX1_ok nmX1 hown hK hP one_D hS 0 rfl rfl 2 (by decide) (hts _ q187) (fun _ h => h) rfl (tyX1_ok 2 (by decide)) rfl rfl (Nat.le_of_ble_eq_true rfl) dJ0_init_2_57 (fun H locs hP _ hS => ?_)
    exact W.vret hx hb hr (fun t ht _ => ⟨rfl, by rw [ht]; exact hP, hS.F ht⟩) hS.2.2 dJ0_init_2_60
  rcases hz1 with z1 | ⟨t1, z1⟩ <;> rcases hz2 with z2 | ⟨t2, z2⟩
  · exact key _ _ (Or.inl rfl) (Or.inl rfl) z1 z2
  · exact key _ _ (Or.inl rfl) (Or.inr ⟨_, rfl⟩) z1 z2
  · exact key _ _ (Or.inr ⟨_, rfl⟩) (Or.inl rfl) z1 z2
  · exact key _ _ (Or.inr ⟨_, rfl⟩) (Or.inr ⟨_, rfl⟩) z1 z2
theorem w_Th6 {l : Launch} {f0 f1 f2 f3 f4 f5 f6 : Value} : thM l yJ0_init_2 cJ0_init_2 5 1 adK adV A D cA a 6 [f0, f1, f2, f3, f4, f5, f6] [.null, .null, .null, .null, f4, f5, f6] := by
  refine th_of (by decide +kernel) (Nat.le_of_ble_eq_true rfl) (fun p e s m below meth c R args ls C hr hlk hP hK hX hA hl hcs => ?_)
  have hx := C.1
  have hb := C.2.1
  have hown : s.vm.findClass RJ0 = some m.cls := C.2.2.2.1
  have hts := C.2.2.2.2.1
  have hml := C.2.2.1
  have hR := C.2.2.2.2.2
  have hS : va_S (fun q => q = a) s.heap s.heap [] := va_S.rf
  have hl : lv_has ls 5 [(0, .ref a), (1, .null), (2, .null), (3, .int 0), (4, .int 0)] := hl
  have hz1 := hX.2.2.2.1.narrow (B := fun q => q = a) (fun q h => h ▸ hA)
  have hz2 := hX.2.2.2.2.narrow (B := fun q => q = a) (fun q h => h ▸ hA)
  refine lv_aload_n hx hb dJ0_init_2_0 rfl (lv_at hl 0 rfl) ?_
  refine W.objInit hx hb hown (hts _ q154) (hts _ q127) (hts _ q128) rfl (by rw [hml]; exact hl.1) rfl dJ0_init_2_1 (by have h1 := hR.1; simp at *; omega) (by have h2 := hR.2; simp at *; omega) ?_
  refine W.eq (g2 := F0 m 4 ls []) rfl ?_
  refine lv_aload_n hx hb dJ0_init_2_4 rfl (lv_at hl 0 rfl) ?_
  refine lv_aload_n hx hb dJ0_init_2_5 rfl (lv_at hl 0 rfl) ?_
  refine va_put (ref := RJ0) (C := RX18) (T := TX18) (N := 7) (ci := 6) (fs := [f0, f1, f2, f3, f4, f5, f6]) hx hb hts in_X18 tyX18 tyX18_ok nmX18 hown hK hP one_D hS 0 rfl rfl 0 (by decide) (hts _ q185) (fun _ h => h) rfl (tyX18_ok 0 (by decide)) rfl rfl (Nat.le_of_ble_eq_true rfl) dJ0_init_2_6 (fun H locs hP _ hS => ?_)
  refine lv_aload_n hx hb dJ0_init_2_9 rfl (lv_at hl 0 rfl) ?_
  have key : ∀ (v1 v2 : Value), (v1 = .null ∨ ∃ t, v1 = .ref t) → (v2 = .null ∨ ∃ t, v2 = .ref t) → va_Z "java/lang/Throwable" "UNASSIGNED_STACK" "[Ljava/lang/StackTraceElement;" v1 (fun q => q = a) s s.heap → va_Z "java/lang/Throwable" "SUPPRESSED_SENTINEL" "Ljava/util/List;" v2 (fun q => q = a) s s.heap → W p l e R s m args below meth c H locs 0 0 (MQ below (thQ D a 6 [.null, .null, .null, .null, f4, f5, f6]) args s 0 0 (fun q => q = a)) (F0 m 10 ls [.ref a]) := by
    intro v1 v2 hv1 hv2 hz1 hz2
    refine va_gets hx hb hz1 hS hown (hts _ q155) (fun _ h => h) dJ0_init_2_10 ?_
    refine va_put (ref := RJ0) (C := RX18) (T := TX18) (N := 7) (ci := 6) (fs := [.ref a, f1, f2, f3, f4, f5, f6]) hx hb hts in_X18 tyX18 tyX18_ok nmX18 hown hK hP one_D hS 0 rfl rfl 1 (by decide) (hts _ q186) (fun _ h => h) rfl (tyX18_ok 1 (by decide)) (by rcases hv1 with rfl | ⟨_, rfl⟩ <;> rfl) (by rcases hv1 with rfl | ⟨_, rfl⟩ <;> rfl) (Nat.le_of_ble_eq_true rfl) dJ0_init_2_13 (fun H locs hP _ hS => ?_)
    refine lv_aload_n hx hb dJ0_init_2_16 rfl (lv_at hl 0 rfl) ?_
    refine va_gets hx hb hz2 hS hown (hts _ q157) (fun _ h => h) dJ0_init_2_17 ?_
    refine va_put (ref := RJ0) (C := RX18) (T := TX18) (N := 7) (ci := 6) (fs := [.ref a, v1, f2, f3, f4, f5, f6]) hx hb hts in_X18 tyX18 tyX18_ok nmX18 hown hK hP one_D hS 0 rfl rfl 2 (by decide) (hts _ q187) (fun _ h => h) rfl (tyX18_ok 2 (by decide)) (by rcases hv2 with rfl | ⟨_, rfl⟩ <;> rfl) (by rcases hv2 with rfl | ⟨_, rfl⟩ <;> rfl) (Nat.le_of_ble_eq_true rfl) dJ0_init_2_20 (fun H locs hP _ hS => ?_)
    refine lv_iload hx hb dJ0_init_2_23 (lv_at hl 4 rfl) ?_
    refine lv_if_eq (tgt := 36) hx hb dJ0_init_2_25 rfl (fun _ => ?_) (fun c => absurd rfl c)
    refine lv_aload_n hx hb dJ0_init_2_36 rfl (lv_at hl 0 rfl) ?_
    refine lv_null hx hb dJ0_init_2_37 ?_
    refine va_put (ref := RJ0) (C := RX18) (T := TX18) (N := 7) (ci := 6) (fs := [.ref a, v1, v2, f3, f4, f5, f6]) hx hb hts in_X18 tyX18 tyX18_ok nmX18 hown hK hP one_D hS 0 rfl rfl 1 (by decide) (hts _ q186) (fun _ h => h) rfl (tyX18_ok 1 (by decide)) rfl rfl (Nat.le_of_ble_eq_true rfl) dJ0_init_2_38 (fun H locs hP _ hS => ?_)
    refine lv_aload_n hx hb dJ0_init_2_41 rfl (lv_at hl 0 rfl) ?_
    refine lv_aload_nN hx hb dJ0_init_2_42 rfl (lv_at hl 1 rfl) ?_
    refine va_put (ref := RJ0) (C := RX18) (T := TX18) (N := 7) (ci := 6) (fs := [.ref a, .null, v2, f3, f4, f5, f6]) hx hb hts in_X18 tyX18 tyX18_ok nmX18 hown hK hP one_D hS 0 rfl rfl 3 (by decide) (hts _ q184) (fun _ h => h) rfl (tyX18_ok 3 (by decide)) rfl rfl (Nat.le_of_ble_eq_true rfl) dJ0_init_2_43 (fun H locs hP _ hS => ?_)
    refine lv_aload_n hx hb dJ0_init_2_46 rfl (lv_at hl 0 rfl) ?_
    refine lv_aload_nN hx hb dJ0_init_2_47 rfl (lv_at hl 2 rfl) ?_
    refine va_put (ref := RJ0) (C := RX18) (T := TX18) (N := 7) (ci := 6) (fs := [.ref a, .null, v2, .null, f4, f5, f6]) hx hb hts in_X18 tyX18 tyX18_ok nmX18 hown hK hP one_D hS 0 rfl rfl 0 (by decide) (hts _ q185) (fun _ h => h) rfl (tyX18_ok 0 (by decide)) rfl rfl (Nat.le_of_ble_eq_true rfl) dJ0_init_2_48 (fun H locs hP _ hS => ?_)
    refine lv_iload_n hx hb dJ0_init_2_51 rfl (lv_at hl 3 rfl) ?_
    refine lv_if_ne (tgt := 60) hx hb dJ0_init_2_52 rfl (fun c => absurd rfl c) (fun _ => ?_)
    refine lv_aload_n hx hb dJ0_init_2_55 rfl (lv_at hl 0 rfl) ?_
    refine lv_null hx hb dJ0_init_2_56 ?_
    refine va_put (ref := RJ0) (C := RX18) (T := TX18) (N := 7) (ci := 6) (fs := [.null, .null, v2, .null, f4, f5, f6]) hx hb hts in_X18 tyX18 tyX18_ok nmX18 hown hK hP one_D hS 0 rfl rfl 2 (by decide) (hts _ q187) (fun _ h => h) rfl (tyX18_ok 2 (by decide)) rfl rfl (Nat.le_of_ble_eq_true rfl) dJ0_init_2_57 (fun H locs hP _ hS => ?_)
    exact W.vret hx hb hr (fun t ht _ => ⟨rfl, by rw [ht]; exact hP, hS.F ht⟩) hS.2.2 dJ0_init_2_60
  rcases hz1 with z1 | ⟨t1, z1⟩ <;> rcases hz2 with z2 | ⟨t2, z2⟩
  · exact key _ _ (Or.inl rfl) (Or.inl rfl) z1 z2
  · exact key _ _ (Or.inl rfl) (Or.inr ⟨_, rfl⟩) z1 z2
  · exact key _ _ (Or.inr ⟨_, rfl⟩) (Or.inl rfl) z1 z2
  · exact key _ _ (Or.inr ⟨_, rfl⟩) (Or.inr ⟨_, rfl⟩) z1 z2
/-- a call up of such a constructor -/
theorem th_call {y : MethodName} {bytes : ByteArray} {maxL dk ci : Nat} {fs fs' : List Value} {Qc : State → Prop} {st0 : List Value} (S : CallFix p m c cc nL s args lw_all own) (hM : thM l y bytes maxL dk adK adV A D cA a ci fs fs') (cw : CallB R s args own index y bytes maxL none (ws_ y bytes maxL none) (k2_rm dk (40 * dk)) 0 0 4 ∧ y.name = "<init>" ∧ (Cond.instanceMethod y).before args s = true) (hP : va_P D cCl [(a, .inr (ci, fs))] H) (hK : va_K D cCl (cTys cA) s) (hX : sX adK adV A s) (hA : A a) (hS0 : va_S A s.heap H locs) (hsz : ls.size = nL) (hst : st0 = .int 0 :: .int 0 :: .null :: .null :: .ref a :: rest) (hW : (rest.map fun v => v.category).sum ≤ 8) (hdg : decode cc pc = .ok (.invokespecial index, 3)) (hcs : cells ≤ R.cells ∧ slots ≤ R.slots)
    (kk : ∀ (H1 : Heap) (L : List Loc), va_P D cCl [(a, .inr (ci, fs'))] H1 → H.size ≤ H1.size → (∀ q, q < H.size → ¬ q = a → H1[q]? = H[q]?) → (∀ q ∈ L, q.base = a) → W p l e R s m args below meth c H1 (locs ++ L) cells slots Qc (F0 m (pc + 3) ls rest)) : W p l e R s m args below meth c H locs cells slots Qc (F0 m pc ls st0) := by
  intro T hT X
  obtain ⟨v, st₀, t, T', L, h0, X', hL, e1, -, ⟨hv, hw, hz, hk⟩, st⟩ := (va_runI (As := [.null, .null, .int 0, .int 0]) (rest := rest) (g := F0 m pc ls st0) (locs := locs) (cells := cells) (slots := slots) (p := p) (e := e) (below := below) (meth := meth) S hM cw ⟨th_blind, fun U hU hW => ⟨rfl, by rw [hU]; exact hP, va_K.moved hW.alike hK, sX.there hX hS0 hU hW, hA⟩⟩ rfl rfl hsz hst (lv_room hW) hdg hcs) T hT X
  cases hv
  rw [h0] at hz hk
  obtain ⟨t2, a1, b1⟩ := kk T'.heap L (by rw [e1]; exact hw) (by rw [e1]; exact hz) (fun q h1 h2 => by rw [e1]; exact hk q h1 h2) hL T' rfl X'
  exact ⟨t2, st t2 a1, b1⟩
abbrev cJ1_init : ByteArray := prog_32_method_5_code
def yJ1_init : MethodName := ⟨RJ1, "<init>", "(Ljava/lang/String;Ljava/lang/Throwable;ZZ)V"⟩
theorem dJ1_init_0 : decode cJ1_init 0 = .ok (.aload_n 0, 1) := by decide +kernel
theorem dJ1_init_1 : decode cJ1_init 1 = .ok (.aload_n 1, 1) := by decide +kernel
theorem dJ1_init_2 : decode cJ1_init 2 = .ok (.aload_n 2, 1) := by decide +kernel
theorem dJ1_init_3 : decode cJ1_init 3 = .ok (.iload_n 3, 1) := by decide +kernel
theorem dJ1_init_4 : decode cJ1_init 4 = .ok (.iload 4, 2) := by decide +kernel
theorem dJ1_init_6 : decode cJ1_init 6 = .ok (.invokespecial 16, 3) := by decide +kernel
theorem dJ1_init_9 : decode cJ1_init 9 = .ok (.return_, 1) := by decide +kernel
theorem q178 : (Jvm.Cond.methodLink "java/lang/Exception" (16 : Nat) ({ cls := "java/lang/Throwable", name := "<init>", desc := "(Ljava/lang/String;Ljava/lang/Throwable;ZZ)V" } : Jvm.MethodName)) ∈ lw_all := lw_g (lw_at lw_m1 94 rfl) rfl
theorem q86 : (Jvm.Cond.initialized "java/lang/Throwable") ∈ lw_all := lw_g (lw_at lw_m1 2 rfl) rfl
theorem q179 : (Jvm.Cond.instanceMethod ({ cls := "java/lang/Throwable", name := "<init>", desc := "(Ljava/lang/String;Ljava/lang/Throwable;ZZ)V" } : Jvm.MethodName)) ∈ lw_all := lw_g (lw_at lw_m1 95 rfl) rfl
theorem q180 : (Jvm.Cond.code ({ cls := "java/lang/Throwable", name := "<init>", desc := "(Ljava/lang/String;Ljava/lang/Throwable;ZZ)V" } : Jvm.MethodName) prog_40_method_5_code (5 : Nat) (Option.none : Option Jvm.ClassFile.FieldType)) ∈ lw_all := lw_g (lw_at lw_m1 96 rfl) rfl
theorem w_Ex1 {l : Launch} {f0 f1 f2 f3 f4 f5 f6 : Value} : thM l yJ1_init cJ1_init 5 2 adK adV A D cA a 1 [f0, f1, f2, f3, f4, f5, f6] [.null, .null, .null, .null, f4, f5, f6] := by
  refine th_of (by decide +kernel) (Nat.le_of_ble_eq_true rfl) (fun p e s m below meth c R args ls C hr hlk hP hK hX hA hl hcs => ?_)
  have hx := C.1
  have hb := C.2.1
  have hown : s.vm.findClass RJ1 = some m.cls := C.2.2.2.1
  have hts := C.2.2.2.2.1
  have hl : lv_has ls 5 [(0, .ref a), (1, .null), (2, .null), (3, .int 0), (4, .int 0)] := hl
  refine lv_aload_n hx hb dJ1_init_0 rfl (lv_at hl 0 rfl) ?_
  refine lv_aload_nN hx hb dJ1_init_1 rfl (lv_at hl 1 rfl) ?_
  refine lv_aload_nN hx hb dJ1_init_2 rfl (lv_at hl 2 rfl) ?_
  refine lv_iload_n hx hb dJ1_init_3 rfl (lv_at hl 3 rfl) ?_
  refine lv_iload hx hb dJ1_init_4 (lv_at hl 4 rfl) ?_
  refine th_call ⟨hx, hb, C.2.2.1, hown, hts⟩ (w_Th1 (l := l) (adK := adK) (adV := adV) (A := A) (cA := cA)) (cwI 4 hts (lw_meth q180) rfl rfl rfl (hts _ q86) (hts _ q178) (hts _ q179) rfl (by decide +kernel) (mr_ C.2.2.2.2.2 (Nat.le_of_ble_eq_true rfl) (by decide))) hP hK hX hA va_S.rf hl.1 rfl (Nat.le_of_ble_eq_true rfl) dJ1_init_6 hcs (fun H1 L h1 h2 h3 h4 => ?_)
  exact W.vret hx hb hr (fun t ht _ => ⟨rfl, by rw [ht]; exact h1, by rw [ht]; exact h2, fun q g1 g2 => by rw [ht]; exact h3 q g1 g2⟩) (fun q hq => by rcases List.mem_append.mp hq with g | g; exact absurd g List.not_mem_nil; exact h4 q g) dJ1_init_9
theorem w_Ex6 {l : Launch} {f0 f1 f2 f3 f4 f5 f6 : Value} : thM l yJ1_init cJ1_init 5 2 adK adV A D cA a 6 [f0, f1, f2, f3, f4, f5, f6] [.null, .null, .null, .null, f4, f5, f6] := by
  refine th_of (by decide +kernel) (Nat.le_of_ble_eq_true rfl) (fun p e s m below meth c R args ls C hr hlk hP hK hX hA hl hcs => ?_)
  have hx := C.1
  have hb := C.2.1
  have hown : s.vm.findClass RJ1 = some m.cls := C.2.2.2.1
  have hts := C.2.2.2.2.1
  have hl : lv_has ls 5 [(0, .ref a), (1, .null), (2, .null), (3, .int 0), (4, .int 0)] := hl
  refine lv_aload_n hx hb dJ1_init_0 rfl (lv_at hl 0 rfl) ?_
  refine lv_aload_nN hx hb dJ1_init_1 rfl (lv_at hl 1 rfl) ?_
  refine lv_aload_nN hx hb dJ1_init_2 rfl (lv_at hl 2 rfl) ?_
  refine lv_iload_n hx hb dJ1_init_3 rfl (lv_at hl 3 rfl) ?_
  refine lv_iload hx hb dJ1_init_4 (lv_at hl 4 rfl) ?_
  refine th_call ⟨hx, hb, C.2.2.1, hown, hts⟩ (w_Th6 (l := l) (adK := adK) (adV := adV) (A := A) (cA := cA)) (cwI 4 hts (lw_meth q180) rfl rfl rfl (hts _ q86) (hts _ q178) (hts _ q179) rfl (by decide +kernel) (mr_ C.2.2.2.2.2 (Nat.le_of_ble_eq_true rfl) (by decide))) hP hK hX hA va_S.rf hl.1 rfl (Nat.le_of_ble_eq_true rfl) dJ1_init_6 hcs (fun H1 L h1 h2 h3 h4 => ?_)
  exact W.vret hx hb hr (fun t ht _ => ⟨rfl, by rw [ht]; exact h1, by rw [ht]; exact h2, fun q g1 g2 => by rw [ht]; exact h3 q g1 g2⟩) (fun q hq => by rcases List.mem_append.mp hq with g | g; exact absurd g List.not_mem_nil; exact h4 q g) dJ1_init_9
abbrev cJ2_init : ByteArray := prog_35_method_5_code
def yJ2_init : MethodName := ⟨RJ2, "<init>", "(Ljava/lang/String;Ljava/lang/Throwable;ZZ)V"⟩
theorem dJ2_init_0 : decode cJ2_init 0 = .ok (.aload_n 0, 1) := by decide +kernel
theorem dJ2_init_1 : decode cJ2_init 1 = .ok (.aload_n 1, 1) := by decide +kernel
theorem dJ2_init_2 : decode cJ2_init 2 = .ok (.aload_n 2, 1) := by decide +kernel
theorem dJ2_init_3 : decode cJ2_init 3 = .ok (.iload_n 3, 1) := by decide +kernel
theorem dJ2_init_4 : decode cJ2_init 4 = .ok (.iload 4, 2) := by decide +kernel
theorem dJ2_init_6 : decode cJ2_init 6 = .ok (.invokespecial 16, 3) := by decide +kernel
theorem dJ2_init_9 : decode cJ2_init 9 = .ok (.return_, 1) := by decide +kernel
theorem q175 : (Jvm.Cond.methodLink "java/lang/RuntimeException" (16 : Nat) ({ cls := "java/lang/Exception", name := "<init>", desc := "(Ljava/lang/String;Ljava/lang/Throwable;ZZ)V" } : Jvm.MethodName)) ∈ lw_all := lw_g (lw_at lw_m1 91 rfl) rfl
theorem q87 : (Jvm.Cond.initialized "java/lang/Exception") ∈ lw_all := lw_g (lw_at lw_m1 3 rfl) rfl
theorem q176 : (Jvm.Cond.instanceMethod ({ cls := "java/lang/Exception", name := "<init>", desc := "(Ljava/lang/String;Ljava/lang/Throwable;ZZ)V" } : Jvm.MethodName)) ∈ lw_all := lw_g (lw_at lw_m1 92 rfl) rfl
theorem q177 : (Jvm.Cond.code ({ cls := "java/lang/Exception", name := "<init>", desc := "(Ljava/lang/String;Ljava/lang/Throwable;ZZ)V" } : Jvm.MethodName) prog_32_method_5_code (5 : Nat) (Option.none : Option Jvm.ClassFile.FieldType)) ∈ lw_all := lw_g (lw_at lw_m1 93 rfl) rfl
theorem w_Rt1 {l : Launch} {f0 f1 f2 f3 f4 f5 f6 : Value} : thM l yJ2_init cJ2_init 5 3 adK adV A D cA a 1 [f0, f1, f2, f3, f4, f5, f6] [.null, .null, .null, .null, f4, f5, f6] := by
  refine th_of (by decide +kernel) (Nat.le_of_ble_eq_true rfl) (fun p e s m below meth c R args ls C hr hlk hP hK hX hA hl hcs => ?_)
  have hx := C.1
  have hb := C.2.1
  have hown : s.vm.findClass RJ2 = some m.cls := C.2.2.2.1
  have hts := C.2.2.2.2.1
  have hl : lv_has ls 5 [(0, .ref a), (1, .null), (2, .null), (3, .int 0), (4, .int 0)] := hl
  refine lv_aload_n hx hb dJ2_init_0 rfl (lv_at hl 0 rfl) ?_
  refine lv_aload_nN hx hb dJ2_init_1 rfl (lv_at hl 1 rfl) ?_
  refine lv_aload_nN hx hb dJ2_init_2 rfl (lv_at hl 2 rfl) ?_
  refine lv_iload_n hx hb dJ2_init_3 rfl (lv_at hl 3 rfl) ?_
  refine lv_iload hx hb dJ2_init_4 (lv_at hl 4 rfl) ?_
  refine th_call ⟨hx, hb, C.2.2.1, hown, hts⟩ (w_Ex1 (l := l) (adK := adK) (adV := adV) (A := A) (cA := cA)) (cwI 4 hts (lw_meth q177) rfl rfl rfl (hts _ q87) (hts _ q175) (hts _ q176) rfl (by decide +kernel) (mr_ C.2.2.2.2.2 (Nat.le_of_ble_eq_true rfl) (by decide))) hP hK hX hA va_S.rf hl.1 rfl (Nat.le_of_ble_eq_true rfl) dJ2_init_6 hcs (fun H1 L h1 h2 h3 h4 => ?_)
  exact W.vret hx hb hr (fun t ht _ => ⟨rfl, by rw [ht]; exact h1, by rw [ht]; exact h2, fun q g1 g2 => by rw [ht]; exact h3 q g1 g2⟩) (fun q hq => by rcases List.mem_append.mp hq with g | g; exact absurd g List.not_mem_nil; exact h4 q g) dJ2_init_9
theorem w_Rt6 {l : Launch} {f0 f1 f2 f3 f4 f5 f6 : Value} : thM l yJ2_init cJ2_init 5 3 adK adV A D cA a 6 [f0, f1, f2, f3, f4, f5, f6] [.null, .null, .null, .null, f4, f5, f6] := by
  refine th_of (by decide +kernel) (Nat.le_of_ble_eq_true rfl) (fun p e s m below meth c R args ls C hr hlk hP hK hX hA hl hcs => ?_)
  have hx := C.1
  have hb := C.2.1
  have hown : s.vm.findClass RJ2 = some m.cls := C.2.2.2.1
  have hts := C.2.2.2.2.1
  have hl : lv_has ls 5 [(0, .ref a), (1, .null), (2, .null), (3, .int 0), (4, .int 0)] := hl
  refine lv_aload_n hx hb dJ2_init_0 rfl (lv_at hl 0 rfl) ?_
  refine lv_aload_nN hx hb dJ2_init_1 rfl (lv_at hl 1 rfl) ?_
  refine lv_aload_nN hx hb dJ2_init_2 rfl (lv_at hl 2 rfl) ?_
  refine lv_iload_n hx hb dJ2_init_3 rfl (lv_at hl 3 rfl) ?_
  refine lv_iload hx hb dJ2_init_4 (lv_at hl 4 rfl) ?_
  refine th_call ⟨hx, hb, C.2.2.1, hown, hts⟩ (w_Ex6 (l := l) (adK := adK) (adV := adV) (A := A) (cA := cA)) (cwI 4 hts (lw_meth q177) rfl rfl rfl (hts _ q87) (hts _ q175) (hts _ q176) rfl (by decide +kernel) (mr_ C.2.2.2.2.2 (Nat.le_of_ble_eq_true rfl) (by decide))) hP hK hX hA va_S.rf hl.1 rfl (Nat.le_of_ble_eq_true rfl) dJ2_init_6 hcs (fun H1 L h1 h2 h3 h4 => ?_)
  exact W.vret hx hb hr (fun t ht _ => ⟨rfl, by rw [ht]; exact h1, by rw [ht]; exact h2, fun q g1 g2 => by rw [ht]; exact h3 q g1 g2⟩) (fun q hq => by rcases List.mem_append.mp hq with g | g; exact absurd g List.not_mem_nil; exact h4 q g) dJ2_init_9
abbrev cX18_init : ByteArray := prog_6_method_1_code
def yX18_init : MethodName := ⟨RX18, "<init>", "(I)V"⟩
theorem dX18_init_0 : decode cX18_init 0 = .ok (.aload_n 0, 1) := by decide +kernel
theorem dX18_init_1 : decode cX18_init 1 = .ok (.aconst_null, 1) := by decide +kernel
theorem dX18_init_2 : decode cX18_init 2 = .ok (.aconst_null, 1) := by decide +kernel
theorem dX18_init_3 : decode cX18_init 3 = .ok (.iconst 0, 1) := by decide +kernel
theorem dX18_init_4 : decode cX18_init 4 = .ok (.iconst 0, 1) := by decide +kernel
theorem dX18_init_5 : decode cX18_init 5 = .ok (.invokespecial 1, 3) := by decide +kernel
theorem dX18_init_8 : decode cX18_init 8 = .ok (.aload_n 0, 1) := by decide +kernel
theorem dX18_init_9 : decode cX18_init 9 = .ok (.iload_n 1, 1) := by decide +kernel
theorem dX18_init_10 : decode cX18_init 10 = .ok (.putfield 7, 3) := by decide +kernel
theorem dX18_init_13 : decode cX18_init 13 = .ok (.return_, 1) := by decide +kernel
theorem q1044 : (Jvm.Cond.methodLink "ChapterLoan$Fault" (1 : Nat) ({ cls := "java/lang/RuntimeException", name := "<init>", desc := "(Ljava/lang/String;Ljava/lang/Throwable;ZZ)V" } : Jvm.MethodName)) ∈ lw_all := lw_g (lw_at lw_m5 0 rfl) rfl
theorem q88 : (Jvm.Cond.initialized "java/lang/RuntimeException") ∈ lw_all := lw_g (lw_at lw_m1 4 rfl) rfl
theorem q173 : (Jvm.Cond.instanceMethod ({ cls := "java/lang/RuntimeException", name := "<init>", desc := "(Ljava/lang/String;Ljava/lang/Throwable;ZZ)V" } : Jvm.MethodName)) ∈ lw_all := lw_g (lw_at lw_m1 89 rfl) rfl
theorem q174 : (Jvm.Cond.code ({ cls := "java/lang/RuntimeException", name := "<init>", desc := "(Ljava/lang/String;Ljava/lang/Throwable;ZZ)V" } : Jvm.MethodName) prog_35_method_5_code (5 : Nat) (Option.none : Option Jvm.ClassFile.FieldType)) ∈ lw_all := lw_g (lw_at lw_m1 90 rfl) rfl
abbrev cX1_init : ByteArray := prog_8_method_1_code
def yX1_init : MethodName := ⟨RX1, "<init>", "()V"⟩
theorem dX1_init_0 : decode cX1_init 0 = .ok (.aload_n 0, 1) := by decide +kernel
theorem dX1_init_1 : decode cX1_init 1 = .ok (.aconst_null, 1) := by decide +kernel
theorem dX1_init_2 : decode cX1_init 2 = .ok (.aconst_null, 1) := by decide +kernel
theorem dX1_init_3 : decode cX1_init 3 = .ok (.iconst 0, 1) := by decide +kernel
theorem dX1_init_4 : decode cX1_init 4 = .ok (.iconst 0, 1) := by decide +kernel
theorem dX1_init_5 : decode cX1_init 5 = .ok (.invokespecial 1, 3) := by decide +kernel
theorem dX1_init_8 : decode cX1_init 8 = .ok (.return_, 1) := by decide +kernel
theorem q172 : (Jvm.Cond.methodLink "ChapterLoan$Finding" (1 : Nat) ({ cls := "java/lang/RuntimeException", name := "<init>", desc := "(Ljava/lang/String;Ljava/lang/Throwable;ZZ)V" } : Jvm.MethodName)) ∈ lw_all := lw_g (lw_at lw_m1 88 rfl) rfl
theorem oc_of {y : MethodName} {bytes : ByteArray} {maxL ci dk : Nat} {fs : List Value} {As : List Value} {Qc : Array Value → State → Outcome → State → Prop} (hy : plainFor y = true) (hnl : (lg_sl As).length ≤ maxL)
    (body : ∀ (p : Program) (e : Env) (s : State) (m : MethodId) (below : List Frame) (meth : Method) (c : Code) (R : Room) (args : Array Value) (ls : Array Slot), sC p R dk s m args c bytes maxL y.cls → meth.name = y.name → meth.sig.returnType = none → meth.locks = false → va_P D cCl [(a, .inr (ci, fs))] s.heap → va_K D cCl (cTys cA) s → sX adK adV A s → A a → lv_has ls maxL (lv_args 0 As) → (0 ≤ R.cells ∧ 0 ≤ R.slots) →
      W p l e R s m args below meth c s.heap [] 0 0 (MQ below Qc args s 0 0 (fun q => q = a)) (F0 m 0 ls [])) : Met l y (ws_ y bytes maxL none) (k2_rm dk (40 * dk)) (va_Pc As (fun U => va_P D cCl [(a, .inr (ci, fs))] U.heap ∧ va_K D cCl (cTys cA) U ∧ sX adK adV A U ∧ A a)) Qc 0 0 (fun q => q = a) := by
  refine Met_ofWF (cc := bytes) (maxL := maxL) (ret := none) hy rfl ?_
  intro p e s m args below meth c s₁ B hml hv
  have hts := atoms_spec (ws := ws_ y bytes maxL none) B.pre
  have hts : ∀ w ∈ lw_all, w.before _ s = true := fun w h => hts w (List.mem_cons_of_mem _ h)
  have hown : s.vm.findClass y.cls = some m.cls := findClass_of_methodNamed B.named
  obtain ⟨rfl, hP, hK, hX, hA⟩ := hv
  rw [lg_entry_eq]
  exact body p e s m below meth c _ _ _ ⟨B.exec, B.bytes, hml, hown, hts, Nat.le_refl _, Nat.le_refl _⟩ (name_of_methodNamed B.named B.method).1 B.returns B.notSynchronized hP hK hX hA (lv_entry _ hnl) ⟨Nat.zero_le _, Nat.zero_le _⟩
theorem q1045 : (Jvm.Cond.fieldLink "ChapterLoan$Fault" (7 : Nat) "ChapterLoan$Fault" "place" "I") ∈ lw_all := lw_g (lw_at lw_m5 1 rfl) rfl
theorem w_FaultI {l : Launch} {x1 : Int32} : Met l yX18_init (ws_ yX18_init cX18_init 2 none) (k2_rm 4 (40 * 4)) (va_Pc [.ref a, .int x1] (fun U => va_P D cCl [(a, .inr (6, [.null, .null, .null, .null, .null, .int 0, .int 0]))] U.heap ∧ va_K D cCl (cTys cA) U ∧ sX adK adV A U ∧ A a)) (thQ D a 6 [.null, .null, .null, .null, .null, .int 0, .int x1]) 0 0 (fun q => q = a) := by
  refine oc_of (by decide +kernel) (Nat.le_of_ble_eq_true rfl) (fun p e s m below meth c R args ls C hin hr hlk hP hK hX hA hl hcs => ?_)
  have hx := C.1
  have hb := C.2.1
  have hown : s.vm.findClass RX18 = some m.cls := C.2.2.2.1
  have hts := C.2.2.2.2.1
  have hl : lv_has ls 2 [(0, .ref a), (1, .int x1)] := hl
  refine lv_aload_n hx hb dX18_init_0 rfl (lv_at hl 0 rfl) ?_
  refine lv_null hx hb dX18_init_1 ?_
  refine lv_null hx hb dX18_init_2 ?_
  refine lv_iconst (v := 0) hx hb dX18_init_3 (by decide) ?_
  refine lv_iconst (v := 0) hx hb dX18_init_4 (by decide) ?_
  refine th_call ⟨hx, hb, C.2.2.1, hown, hts⟩ (w_Rt6 (l := l) (adK := adK) (adV := adV) (A := A) (cA := cA)) (cwI 4 hts (lw_meth q174) rfl rfl rfl (hts _ q88) (hts _ q1044) (hts _ q173) rfl (by decide +kernel) (mr_ C.2.2.2.2.2 (Nat.le_of_ble_eq_true rfl) (by decide))) hP hK hX hA va_S.rf hl.1 rfl (Nat.le_of_ble_eq_true rfl) dX18_init_5 hcs (fun H1 L h1 h2 h3 h4 => ?_)
  have hS : va_S (fun q => q = a) s.heap H1 ([] ++ L) := ⟨h2, fun q g1 g2 => h3 q g1 g2, fun q hq => by rcases List.mem_append.mp hq with g | g; exact absurd g List.not_mem_nil; exact h4 q g⟩
  refine lv_aload_n hx hb dX18_init_8 rfl (lv_at hl 0 rfl) ?_
  refine lv_iload_n hx hb dX18_init_9 rfl (lv_at hl 1 rfl) ?_
  refine va_putF (ref := RX18) (C := RX18) (T := TX18) (N := 7) (ci := 6) (fs := [.null, .null, .null, .null, .null, .int 0, .int 0]) hx hb hts in_X18 tyX18 tyX18_ok nmX18 hown hK h1 one_D hS 0 rfl rfl 6 (by decide) (hts _ q1045) (fun _ h => h) rfl hin rfl (tyX18_ok 6 (by decide)) rfl rfl (Nat.le_of_ble_eq_true rfl) dX18_init_10 (fun H locs hP _ hS => ?_)
  exact W.vret hx hb hr (fun t ht _ => ⟨rfl, by rw [ht]; exact hP, hS.F ht⟩) hS.2.2 dX18_init_13
theorem w_FindingI {l : Launch} : Met l yX1_init (ws_ yX1_init cX1_init 1 none) (k2_rm 4 (40 * 4)) (va_Pc [.ref a] (fun U => va_P D cCl [(a, .inr (1, [.null, .null, .null, .null, .null, .int 0, .int 0]))] U.heap ∧ va_K D cCl (cTys cA) U ∧ sX adK adV A U ∧ A a)) (thQ D a 1 [.null, .null, .null, .null, .null, .int 0, .int 0]) 0 0 (fun q => q = a) := by
  refine oc_of (by decide +kernel) (Nat.le_of_ble_eq_true rfl) (fun p e s m below meth c R args ls C hin hr hlk hP hK hX hA hl hcs => ?_)
  have hx := C.1
  have hb := C.2.1
  have hown : s.vm.findClass RX1 = some m.cls := C.2.2.2.1
  have hts := C.2.2.2.2.1
  have hl : lv_has ls 1 [(0, .ref a)] := hl
  refine lv_aload_n hx hb dX1_init_0 rfl (lv_at hl 0 rfl) ?_
  refine lv_null hx hb dX1_init_1 ?_
  refine lv_null hx hb dX1_init_2 ?_
  refine lv_iconst (v := 0) hx hb dX1_init_3 (by decide) ?_
  refine lv_iconst (v := 0) hx hb dX1_init_4 (by decide) ?_
  refine th_call ⟨hx, hb, C.2.2.1, hown, hts⟩ (w_Rt1 (l := l) (adK := adK) (adV := adV) (A := A) (cA := cA)) (cwI 4 hts (lw_meth q174) rfl rfl rfl (hts _ q88) (hts _ q172) (hts _ q173) rfl (by decide +kernel) (mr_ C.2.2.2.2.2 (Nat.le_of_ble_eq_true rfl) (by decide))) hP hK hX hA va_S.rf hl.1 rfl (Nat.le_of_ble_eq_true rfl) dX1_init_5 hcs (fun H1 L h1 h2 h3 h4 => ?_)
  exact W.vret hx hb hr (fun t ht _ => ⟨rfl, by rw [ht]; exact h1, by rw [ht]; exact h2, fun q g1 g2 => by rw [ht]; exact h3 q g1 g2⟩) (fun q hq => by rcases List.mem_append.mp hq with g | g; exact absurd g List.not_mem_nil; exact h4 q g) dX1_init_8
end
