/-! sheets: walks -/
set_option maxRecDepth 100000
section
variable {p : Program} {l : Launch} {e : Env} {R : Room} {s : State} {m : MethodId} {args : Array Value} {below : List Frame} {meth : Method} {c : Code} {H : Heap} {locs : List Loc} {cells slots d : Nat} {Q : State → Prop} {cc : ByteArray} {pc nL : Nat} {ls : Array Slot} {rest : List Value} {D : va_G} {cA : Nat → ClassId} {ks : List Nat} {ad : Nat → Nat} {A : Nat → Prop} {st : CS} {H0 : Heap} {own : String} {index : Nat} {st0 : List Value}

theorem shOf_some {cA : Nat → ClassId} {P : Nat → va_E} {a w b n : Nat} {f : Nat → Int32} (h : shOf cA P a = some (w, b, n, f)) : (w = 0 ∧ P (1000 + a) = .inr (19, [.ref b]) ∧ P (1000 + b) = .inl (cA 2, n, .inl f)) ∨ (w = 1 ∧ P (1000 + a) = .inr (20, [.ref b]) ∧ P (1000 + b) = .inl (cA 3, n, .inl f)) ∨ (w = 2 ∧ P (1000 + a) = .inr (21, [.ref b]) ∧ P (1000 + b) = .inl (cA 0, n, .inl f)) := by
  unfold shOf at h
  split at h
  · rename_i ci b' e1
    split at h
    · rename_i x n' f' e2
      split at h
      · rename_i hq
        cases h
        exact Or.inl ⟨rfl, by rw [e1, hq.1], by rw [e2, hq.2]⟩
      · split at h
        · rename_i hq
          cases h
          exact Or.inr (Or.inl ⟨rfl, by rw [e1, hq.1], by rw [e2, hq.2]⟩)
        · split at h
          · rename_i hq
            cases h
            exact Or.inr (Or.inr ⟨rfl, by rw [e1, hq.1], by rw [e2, hq.2]⟩)
          · cases h
    · cases h
  · cases h
theorem refOk_arr {qp : (Nat → Nat → Option Nat) × (Nat → va_E)} {k : Nat} {x : ClassId × vp_A} (h : refOk ks ad qp) : refOk ks ad (qp.1, va_up qp.2 k (.inl x)) := by
  refine ⟨h.1, fun k1 ci fs b h1 h2 h3 h4 h5 => ?_, h.2.2⟩
  by_cases hk : k1 = k
  · subst hk
    simp [va_up] at h3
  · have h6 : qp.2 k1 = .inr (ci, fs) := by simpa [va_up, hk] using h3
    exact h.2.1 k1 ci fs b h1 h2 h6 h4 h5
theorem pl_len {b n j0 j : Nat} {f : Nat → Int32} {ty : FieldType} (C : cC p R d s m args c cc nL own D cA A) (hP : cW D cA ks ad st H) (hlb : live ks ad b) (he : st.2.2.2 (1000 + b) = .inl (cA j, n, .inl f)) (hj : (cTys cA)[j0]? = some (cA j, ty)) (hdg : decode cc pc = .ok (.arraylength, 1)) (kk : W p l e R s m args below meth c H locs cells slots Q (F0 m (pc + 1) ls (.int (Int32.ofNat n) :: rest))) : W p l e R s m args below meth c H locs cells slots Q (F0 m pc ls (.ref b :: rest)) := by
  obtain ⟨i, hi⟩ := List.getElem?_of_mem hlb.1
  have h : W p l e R s m args below meth c H locs cells slots Q (F0 m pc ls (.ref (ad (1000 + b)) :: rest)) := va_alen C.1 C.2.1 C.2.2.2.2.2.2.1 hP.1 i j0 (x := (n, .inl f)) (by rw [kl_at hi, cg_pool, he]) hj rfl hdg kk
  rw [hlb.2] at h
  exact h

theorem pl_bld {b n : Nat} {f : Nat → Int32} {i v : Int32} (C : cC p R d s m args c cc nL own D cA A) (hP : cW D cA ks ad st H) (hlb : live ks ad b) (he : st.2.2.2 (1000 + b) = .inl (cA 2, n, .inl f)) (hv : rd f n i = some v) (hdg : decode cc pc = .ok (.baload, 1)) (kk : W p l e R s m args below meth c H locs cells slots Q (F0 m (pc + 1) ls (.int v :: rest))) : W p l e R s m args below meth c H locs cells slots Q (F0 m pc ls (.int i :: .ref b :: rest)) := by
  have h : W p l e R s m args below meth c H locs cells slots Q (F0 m pc ls (.int i :: .ref (ad (1000 + b)) :: rest)) := cc_bld C hP hlb.1 (by rw [cg_pool]; exact he) hv hdg kk
  rw [hlb.2] at h
  exact h
theorem pl_bst {b n : Nat} {f g : Nat → Int32} {i x : Int32} (C : cC p R d s m args c cc nL own D cA A) (hO : klOk A ks ad) (hP : cW D cA ks ad st H) (hS : va_S A H0 H locs) (hlb : live ks ad b) (he : st.2.2.2 (1000 + b) = .inl (cA 2, n, .inl f)) (hv : wr f n i (vp_nar .byte x) = some g) (hdg : decode cc pc = .ok (.bastore, 1)) (kk : ∀ (H1 : Heap) (locs1 : List Loc), cW D cA ks ad (csP st (1000 + b) (.inl (cA 2, n, .inl g))) H1 → va_S A H0 H1 locs1 → W p l e R s m args below meth c H1 locs1 cells slots Q (F0 m (pc + 1) ls rest)) : W p l e R s m args below meth c H locs cells slots Q (F0 m pc ls (.int x :: .int i :: .ref b :: rest)) := by
  have h : W p l e R s m args below meth c H locs cells slots Q (F0 m pc ls (.int x :: .int i :: .ref (ad (1000 + b)) :: rest)) := cc_bst C hO hP hS hlb.1 (by rw [cg_pool]; exact he) hv (cg_P (by omega)) (refOk_arr hP.2) hdg kk
  rw [hlb.2] at h
  exact h

theorem pl_sld {b n : Nat} {f : Nat → Int32} {i v : Int32} (C : cC p R d s m args c cc nL own D cA A) (hP : cW D cA ks ad st H) (hlb : live ks ad b) (he : st.2.2.2 (1000 + b) = .inl (cA 3, n, .inl f)) (hv : rd f n i = some v) (hdg : decode cc pc = .ok (.saload, 1)) (kk : W p l e R s m args below meth c H locs cells slots Q (F0 m (pc + 1) ls (.int v :: rest))) : W p l e R s m args below meth c H locs cells slots Q (F0 m pc ls (.int i :: .ref b :: rest)) := by
  have h : W p l e R s m args below meth c H locs cells slots Q (F0 m pc ls (.int i :: .ref (ad (1000 + b)) :: rest)) := cc_sld C hP hlb.1 (by rw [cg_pool]; exact he) hv hdg kk
  rw [hlb.2] at h
  exact h
theorem pl_sst {b n : Nat} {f g : Nat → Int32} {i x : Int32} (C : cC p R d s m args c cc nL own D cA A) (hO : klOk A ks ad) (hP : cW D cA ks ad st H) (hS : va_S A H0 H locs) (hlb : live ks ad b) (he : st.2.2.2 (1000 + b) = .inl (cA 3, n, .inl f)) (hv : wr f n i (vp_nar .short x) = some g) (hdg : decode cc pc = .ok (.sastore, 1)) (kk : ∀ (H1 : Heap) (locs1 : List Loc), cW D cA ks ad (csP st (1000 + b) (.inl (cA 3, n, .inl g))) H1 → va_S A H0 H1 locs1 → W p l e R s m args below meth c H1 locs1 cells slots Q (F0 m (pc + 1) ls rest)) : W p l e R s m args below meth c H locs cells slots Q (F0 m pc ls (.int x :: .int i :: .ref b :: rest)) := by
  have h : W p l e R s m args below meth c H locs cells slots Q (F0 m pc ls (.int x :: .int i :: .ref (ad (1000 + b)) :: rest)) := cc_sst C hO hP hS hlb.1 (by rw [cg_pool]; exact he) hv (cg_P (by omega)) (refOk_arr hP.2) hdg kk
  rw [hlb.2] at h
  exact h

theorem pl_ild {b n : Nat} {f : Nat → Int32} {i v : Int32} (C : cC p R d s m args c cc nL own D cA A) (hP : cW D cA ks ad st H) (hlb : live ks ad b) (he : st.2.2.2 (1000 + b) = .inl (cA 0, n, .inl f)) (hv : rd f n i = some v) (hdg : decode cc pc = .ok (.iaload, 1)) (kk : W p l e R s m args below meth c H locs cells slots Q (F0 m (pc + 1) ls (.int v :: rest))) : W p l e R s m args below meth c H locs cells slots Q (F0 m pc ls (.int i :: .ref b :: rest)) := by
  have h : W p l e R s m args below meth c H locs cells slots Q (F0 m pc ls (.int i :: .ref (ad (1000 + b)) :: rest)) := cc_ild C hP hlb.1 (by rw [cg_pool]; exact he) hv hdg kk
  rw [hlb.2] at h
  exact h
theorem pl_ist {b n : Nat} {f g : Nat → Int32} {i x : Int32} (C : cC p R d s m args c cc nL own D cA A) (hO : klOk A ks ad) (hP : cW D cA ks ad st H) (hS : va_S A H0 H locs) (hlb : live ks ad b) (he : st.2.2.2 (1000 + b) = .inl (cA 0, n, .inl f)) (hv : wr f n i x = some g) (hdg : decode cc pc = .ok (.iastore, 1)) (kk : ∀ (H1 : Heap) (locs1 : List Loc), cW D cA ks ad (csP st (1000 + b) (.inl (cA 0, n, .inl g))) H1 → va_S A H0 H1 locs1 → W p l e R s m args below meth c H1 locs1 cells slots Q (F0 m (pc + 1) ls rest)) : W p l e R s m args below meth c H locs cells slots Q (F0 m pc ls (.int x :: .int i :: .ref b :: rest)) := by
  have h : W p l e R s m args below meth c H locs cells slots Q (F0 m pc ls (.int x :: .int i :: .ref (ad (1000 + b)) :: rest)) := cc_ist C hO hP hS hlb.1 (by rw [cg_pool]; exact he) hv (cg_P (by omega)) (refOk_arr hP.2) hdg kk
  rw [hlb.2] at h
  exact h

theorem run_of {Qa : State → Outcome → State → Prop} {free : Addr → Prop} {mc ms : Nat} {g : JFrame} (hr : va_Run p l e R s m args below meth c H locs cells slots mc ms g rest Qa free) : CallRun p l e R s m args below meth c H locs cells slots mc ms g rest Qa free := by
  intro T hT X
  obtain ⟨v, s0, t, T', L, h0, X', hL, e1, e2, hq, st⟩ := hr T hT X
  exact ⟨v, s0, t, T', L, h0, X', hL, e1, hq, st⟩
theorem tm_virtV {r : Option Value} {y : MethodName} {bytes : ByteArray} {maxL dk n : Nat} {ret : Option FieldType} {As : List Value} {x : MethodName} {owner : String} {q : vw_C} {a : Nat} {st' : CS} (C : cC p R d s m args c cc nL own D cA A) (hP : cW D cA ks ad st H) (hS : va_S A s.heap H locs) (hrecv : ∃ cellB : Cell, H[a]? = some cellB ∧ cellB.vm.isStatics = false ∧ s.vm.findClass q.1 = some cellB.cls) (hM : cV l y bytes maxL ret dk D cA ks ad A st (.ref a :: As) r st') (cw : va_CU R s args own q.1 owner index x y bytes maxL ret (ws_ y bytes maxL ret) (k2_rm dk (40 * dk)) 0 0 n)
    (hn : As.length = n) (hsz : ls.size = nL) (hst : st0 = As.reverse ++ .ref a :: rest) (hW : (rest.map fun v => v.category).sum ≤ 8) (hdg : decode cc pc = .ok (.invokevirtual index, 3)) (hcs : cells ≤ R.cells ∧ slots ≤ R.slots)
    (kk : ∀ (H1 : Heap) (locs1 : List Loc), cW D cA ks ad st' H1 → va_S A s.heap H1 locs1 → W p l e R s m args below meth c H1 locs1 cells slots Q (F0 m (pc + 3) ls (r.toList ++ rest))) : W p l e R s m args below meth c H locs cells slots Q (F0 m pc ls st0) :=
  cc_end hS (run_of (va_runU (locs := locs) (cells := cells) (slots := slots) (p := p) (e := e) (below := below) (meth := meth) (As := As) (rest := rest) (g := F0 m pc ls st0) ⟨C.1, C.2.1, C.2.2.1, C.2.2.2.1, C.2.2.2.2.1⟩ hM cw ⟨cc_blind, hrecv, cc_pre C hP hS.1⟩ rfl hn hsz hst (lv_room hW) hdg hcs)) kk

theorem q1418 : (Jvm.Cond.fieldLink "ChapterLoan$Bytes" (7 : Nat) "ChapterLoan$Bytes" "row" "[B") ∈ lw_all := lw_g (lw_at lw_m6 134 rfl) rfl
abbrev cX22_size : ByteArray := prog_2_method_2_code
def yX22_size : MethodName := ⟨RX22, "size", "()I"⟩
theorem dX22_size_0 : decode cX22_size 0 = .ok (.aload_n 0, 1) := by decide +kernel
theorem dX22_size_1 : decode cX22_size 1 = .ok (.getfield 7, 3) := by decide +kernel
theorem dX22_size_4 : decode cX22_size 4 = .ok (.arraylength, 1) := by decide +kernel
theorem dX22_size_5 : decode cX22_size 5 = .ok (.ireturn, 1) := by decide +kernel
theorem w_S0_size {l : Launch} {D : va_G} {cA : Nat → ClassId} {ks : List Nat} {ad : Nat → Nat} {A : Nat → Prop} (hO : klOk A ks ad) {st : CS} {a b n : Nat} {f : Nat → Int32} (hta : live ks ad a) (hpe : st.2.2.2 (1000 + a) = .inr (19, [.ref b])) (hpb : st.2.2.2 (1000 + b) = .inl (cA 2, n, .inl f)) : cR l yX22_size cX22_size 1 (some .int) 0 D cA ks ad A st [.ref a] (Int32.ofNat n) := by
  refine cc_ofR (own := RX22) (by decide) rfl (Nat.le_of_ble_eq_true rfl) (fun p e s m below meth c R args ls C hr hlk hP hl hcs => ?_)
  have hx := C.1
  have hb := C.2.1
  have hlb : live ks ad b := hP.2.2.1 _ _ _ b hta.1 (by omega) hpe (by decide) (by simp)
  have hl : lv_has ls 1 [(0, .ref a)] := hl
  refine lv_aload_n hx hb dX22_size_0 rfl (lv_at hl 0 rfl) ?_
  refine tm_get C hP hta (e0 := hpe) (Cn := RX22) (ref := RX22) (T := TX22) (N := 1) rfl in_X22 0 (by decide) q1418 (fun _ h => h) rfl dX22_size_1 ?_
  refine pl_len (j0 := 2) (j := 2) C hP hlb hpb rfl dX22_size_4 ?_
  exact mm_iret hx hb hr hlk rfl dX22_size_5
abbrev cX22_get : ByteArray := prog_2_method_3_code
def yX22_get : MethodName := ⟨RX22, "get", "(I)I"⟩
theorem dX22_get_0 : decode cX22_get 0 = .ok (.aload_n 0, 1) := by decide +kernel
theorem dX22_get_1 : decode cX22_get 1 = .ok (.getfield 7, 3) := by decide +kernel
theorem dX22_get_4 : decode cX22_get 4 = .ok (.iload_n 1, 1) := by decide +kernel
theorem dX22_get_5 : decode cX22_get 5 = .ok (.baload, 1) := by decide +kernel
theorem dX22_get_6 : decode cX22_get 6 = .ok (.ireturn, 1) := by decide +kernel
theorem w_S0_get {l : Launch} {D : va_G} {cA : Nat → ClassId} {ks : List Nat} {ad : Nat → Nat} {A : Nat → Prop} (hO : klOk A ks ad) {st : CS} {a b n : Nat} {f : Nat → Int32} (hta : live ks ad a) (hpe : st.2.2.2 (1000 + a) = .inr (19, [.ref b])) (hpb : st.2.2.2 (1000 + b) = .inl (cA 2, n, .inl f)) {x1 r : Int32} (h : rd f n x1 = some r) : cR l yX22_get cX22_get 2 (some .int) 0 D cA ks ad A st [.ref a, .int x1] r := by
  refine cc_ofR (own := RX22) (by decide) rfl (Nat.le_of_ble_eq_true rfl) (fun p e s m below meth c R args ls C hr hlk hP hl hcs => ?_)
  have hx := C.1
  have hb := C.2.1
  have hlb : live ks ad b := hP.2.2.1 _ _ _ b hta.1 (by omega) hpe (by decide) (by simp)
  have hl : lv_has ls 2 [(0, .ref a), (1, .int x1)] := hl
  refine lv_aload_n hx hb dX22_get_0 rfl (lv_at hl 0 rfl) ?_
  refine tm_get C hP hta (e0 := hpe) (Cn := RX22) (ref := RX22) (T := TX22) (N := 1) rfl in_X22 0 (by decide) q1418 (fun _ h => h) rfl dX22_get_1 ?_
  refine lv_iload_n hx hb dX22_get_4 rfl (lv_at hl 1 rfl) ?_
  refine pl_bld C hP hlb hpb h dX22_get_5 ?_
  exact mm_iret hx hb hr hlk rfl dX22_get_6
abbrev cX22_put : ByteArray := prog_2_method_4_code
def yX22_put : MethodName := ⟨RX22, "put", "(II)V"⟩
theorem dX22_put_0 : decode cX22_put 0 = .ok (.aload_n 0, 1) := by decide +kernel
theorem dX22_put_1 : decode cX22_put 1 = .ok (.getfield 7, 3) := by decide +kernel
theorem dX22_put_4 : decode cX22_put 4 = .ok (.iload_n 1, 1) := by decide +kernel
theorem dX22_put_5 : decode cX22_put 5 = .ok (.iload_n 2, 1) := by decide +kernel
theorem dX22_put_6 : decode cX22_put 6 = .ok (.i2b, 1) := by decide +kernel
theorem dX22_put_7 : decode cX22_put 7 = .ok (.bastore, 1) := by decide +kernel
theorem dX22_put_8 : decode cX22_put 8 = .ok (.return_, 1) := by decide +kernel
theorem w_S0_put {l : Launch} {D : va_G} {cA : Nat → ClassId} {ks : List Nat} {ad : Nat → Nat} {A : Nat → Prop} (hO : klOk A ks ad) {st : CS} {a b n : Nat} {f : Nat → Int32} (hta : live ks ad a) (hpe : st.2.2.2 (1000 + a) = .inr (19, [.ref b])) (hpb : st.2.2.2 (1000 + b) = .inl (cA 2, n, .inl f)) {x1 x2 : Int32} {g : Nat → Int32} (h : wr f n x1 (shN 0 x2) = some g) : cV l yX22_put cX22_put 3 none 0 D cA ks ad A st [.ref a, .int x1, .int x2] none (csP st (1000 + b) (.inl (cA 2, n, .inl g))) := by
  refine cc_ofV (own := RX22) (by decide) rfl (Nat.le_of_ble_eq_true rfl) (fun p e s m below meth c R args ls C hr hlk hP hS hl hcs => ?_)
  have hx := C.1
  have hb := C.2.1
  have hlb : live ks ad b := hP.2.2.1 _ _ _ b hta.1 (by omega) hpe (by decide) (by simp)
  have hl : lv_has ls 3 [(0, .ref a), (1, .int x1), (2, .int x2)] := hl
  refine lv_aload_n hx hb dX22_put_0 rfl (lv_at hl 0 rfl) ?_
  refine tm_get C hP hta (e0 := hpe) (Cn := RX22) (ref := RX22) (T := TX22) (N := 1) rfl in_X22 0 (by decide) q1418 (fun _ h => h) rfl dX22_put_1 ?_
  refine lv_iload_n hx hb dX22_put_4 rfl (lv_at hl 1 rfl) ?_
  refine lv_iload_n hx hb dX22_put_5 rfl (lv_at hl 2 rfl) ?_
  refine lv_i2b (v := x2.toInt8.toInt32) hx hb dX22_put_6 rfl ?_
  refine pl_bst C hO hP hS hlb hpb h dX22_put_7 (fun H locs hP hS => ?_)
  exact cc_vret hx hb hr hlk rfl hP hS dX22_put_8
abbrev cX22_width : ByteArray := prog_2_method_5_code
def yX22_width : MethodName := ⟨RX22, "width", "()I"⟩
theorem dX22_width_0 : decode cX22_width 0 = .ok (.bipush 8, 2) := by decide +kernel
theorem dX22_width_2 : decode cX22_width 2 = .ok (.ireturn, 1) := by decide +kernel
theorem w_S0_width {l : Launch} {D : va_G} {cA : Nat → ClassId} {ks : List Nat} {ad : Nat → Nat} {A : Nat → Prop} (hO : klOk A ks ad) {st : CS} {a b n : Nat} {f : Nat → Int32} (hta : live ks ad a) (hpe : st.2.2.2 (1000 + a) = .inr (19, [.ref b])) (hpb : st.2.2.2 (1000 + b) = .inl (cA 2, n, .inl f)) : cR l yX22_width cX22_width 1 (some .int) 0 D cA ks ad A st [.ref a] 8 := by
  refine cc_ofR (own := RX22) (by decide) rfl (Nat.le_of_ble_eq_true rfl) (fun p e s m below meth c R args ls C hr hlk hP hl hcs => ?_)
  have hx := C.1
  have hb := C.2.1
  have hlb : live ks ad b := hP.2.2.1 _ _ _ b hta.1 (by omega) hpe (by decide) (by simp)
  have hl : lv_has ls 1 [(0, .ref a)] := hl
  refine lv_bipush (v := 8) hx hb dX22_width_0 (by decide) ?_
  exact mm_iret hx hb hr hlk rfl dX22_width_2
theorem q1428 : (Jvm.Cond.fieldLink "ChapterLoan$Shorts" (7 : Nat) "ChapterLoan$Shorts" "row" "[S") ∈ lw_all := lw_g (lw_at lw_m6 144 rfl) rfl
abbrev cX23_size : ByteArray := prog_20_method_2_code
def yX23_size : MethodName := ⟨RX23, "size", "()I"⟩
theorem dX23_size_0 : decode cX23_size 0 = .ok (.aload_n 0, 1) := by decide +kernel
theorem dX23_size_1 : decode cX23_size 1 = .ok (.getfield 7, 3) := by decide +kernel
theorem dX23_size_4 : decode cX23_size 4 = .ok (.arraylength, 1) := by decide +kernel
theorem dX23_size_5 : decode cX23_size 5 = .ok (.ireturn, 1) := by decide +kernel
theorem w_S1_size {l : Launch} {D : va_G} {cA : Nat → ClassId} {ks : List Nat} {ad : Nat → Nat} {A : Nat → Prop} (hO : klOk A ks ad) {st : CS} {a b n : Nat} {f : Nat → Int32} (hta : live ks ad a) (hpe : st.2.2.2 (1000 + a) = .inr (20, [.ref b])) (hpb : st.2.2.2 (1000 + b) = .inl (cA 3, n, .inl f)) : cR l yX23_size cX23_size 1 (some .int) 0 D cA ks ad A st [.ref a] (Int32.ofNat n) := by
  refine cc_ofR (own := RX23) (by decide) rfl (Nat.le_of_ble_eq_true rfl) (fun p e s m below meth c R args ls C hr hlk hP hl hcs => ?_)
  have hx := C.1
  have hb := C.2.1
  have hlb : live ks ad b := hP.2.2.1 _ _ _ b hta.1 (by omega) hpe (by decide) (by simp)
  have hl : lv_has ls 1 [(0, .ref a)] := hl
  refine lv_aload_n hx hb dX23_size_0 rfl (lv_at hl 0 rfl) ?_
  refine tm_get C hP hta (e0 := hpe) (Cn := RX23) (ref := RX23) (T := TX23) (N := 1) rfl in_X23 0 (by decide) q1428 (fun _ h => h) rfl dX23_size_1 ?_
  refine pl_len (j0 := 3) (j := 3) C hP hlb hpb rfl dX23_size_4 ?_
  exact mm_iret hx hb hr hlk rfl dX23_size_5
abbrev cX23_get : ByteArray := prog_20_method_3_code
def yX23_get : MethodName := ⟨RX23, "get", "(I)I"⟩
theorem dX23_get_0 : decode cX23_get 0 = .ok (.aload_n 0, 1) := by decide +kernel
theorem dX23_get_1 : decode cX23_get 1 = .ok (.getfield 7, 3) := by decide +kernel
theorem dX23_get_4 : decode cX23_get 4 = .ok (.iload_n 1, 1) := by decide +kernel
theorem dX23_get_5 : decode cX23_get 5 = .ok (.saload, 1) := by decide +kernel
theorem dX23_get_6 : decode cX23_get 6 = .ok (.ireturn, 1) := by decide +kernel
theorem w_S1_get {l : Launch} {D : va_G} {cA : Nat → ClassId} {ks : List Nat} {ad : Nat → Nat} {A : Nat → Prop} (hO : klOk A ks ad) {st : CS} {a b n : Nat} {f : Nat → Int32} (hta : live ks ad a) (hpe : st.2.2.2 (1000 + a) = .inr (20, [.ref b])) (hpb : st.2.2.2 (1000 + b) = .inl (cA 3, n, .inl f)) {x1 r : Int32} (h : rd f n x1 = some r) : cR l yX23_get cX23_get 2 (some .int) 0 D cA ks ad A st [.ref a, .int x1] r := by
  refine cc_ofR (own := RX23) (by decide) rfl (Nat.le_of_ble_eq_true rfl) (fun p e s m below meth c R args ls C hr hlk hP hl hcs => ?_)
  have hx := C.1
  have hb := C.2.1
  have hlb : live ks ad b := hP.2.2.1 _ _ _ b hta.1 (by omega) hpe (by decide) (by simp)
  have hl : lv_has ls 2 [(0, .ref a), (1, .int x1)] := hl
  refine lv_aload_n hx hb dX23_get_0 rfl (lv_at hl 0 rfl) ?_
  refine tm_get C hP hta (e0 := hpe) (Cn := RX23) (ref := RX23) (T := TX23) (N := 1) rfl in_X23 0 (by decide) q1428 (fun _ h => h) rfl dX23_get_1 ?_
  refine lv_iload_n hx hb dX23_get_4 rfl (lv_at hl 1 rfl) ?_
  refine pl_sld C hP hlb hpb h dX23_get_5 ?_
  exact mm_iret hx hb hr hlk rfl dX23_get_6
abbrev cX23_put : ByteArray := prog_20_method_4_code
def yX23_put : MethodName := ⟨RX23, "put", "(II)V"⟩
theorem dX23_put_0 : decode cX23_put 0 = .ok (.aload_n 0, 1) := by decide +kernel
theorem dX23_put_1 : decode cX23_put 1 = .ok (.getfield 7, 3) := by decide +kernel
theorem dX23_put_4 : decode cX23_put 4 = .ok (.iload_n 1, 1) := by decide +kernel
theorem dX23_put_5 : decode cX23_put 5 = .ok (.iload_n 2, 1) := by decide +kernel
theorem dX23_put_6 : decode cX23_put 6 = .ok (.i2s, 1) := by decide +kernel
theorem dX23_put_7 : decode cX23_put 7 = .ok (.sastore, 1) := by decide +kernel
theorem dX23_put_8 : decode cX23_put 8 = .ok (.return_, 1) := by decide +kernel
theorem w_S1_put {l : Launch} {D : va_G} {cA : Nat → ClassId} {ks : List Nat} {ad : Nat → Nat} {A : Nat → Prop} (hO : klOk A ks ad) {st : CS} {a b n : Nat} {f : Nat → Int32} (hta : live ks ad a) (hpe : st.2.2.2 (1000 + a) = .inr (20, [.ref b])) (hpb : st.2.2.2 (1000 + b) = .inl (cA 3, n, .inl f)) {x1 x2 : Int32} {g : Nat → Int32} (h : wr f n x1 (shN 1 x2) = some g) : cV l yX23_put cX23_put 3 none 0 D cA ks ad A st [.ref a, .int x1, .int x2] none (csP st (1000 + b) (.inl (cA 3, n, .inl g))) := by
  refine cc_ofV (own := RX23) (by decide) rfl (Nat.le_of_ble_eq_true rfl) (fun p e s m below meth c R args ls C hr hlk hP hS hl hcs => ?_)
  have hx := C.1
  have hb := C.2.1
  have hlb : live ks ad b := hP.2.2.1 _ _ _ b hta.1 (by omega) hpe (by decide) (by simp)
  have hl : lv_has ls 3 [(0, .ref a), (1, .int x1), (2, .int x2)] := hl
  refine lv_aload_n hx hb dX23_put_0 rfl (lv_at hl 0 rfl) ?_
  refine tm_get C hP hta (e0 := hpe) (Cn := RX23) (ref := RX23) (T := TX23) (N := 1) rfl in_X23 0 (by decide) q1428 (fun _ h => h) rfl dX23_put_1 ?_
  refine lv_iload_n hx hb dX23_put_4 rfl (lv_at hl 1 rfl) ?_
  refine lv_iload_n hx hb dX23_put_5 rfl (lv_at hl 2 rfl) ?_
  refine lv_i2s (v := x2.toInt16.toInt32) hx hb dX23_put_6 rfl ?_
  refine pl_sst C hO hP hS hlb hpb h dX23_put_7 (fun H locs hP hS => ?_)
  exact cc_vret hx hb hr hlk rfl hP hS dX23_put_8
abbrev cX23_width : ByteArray := prog_20_method_5_code
def yX23_width : MethodName := ⟨RX23, "width", "()I"⟩
theorem dX23_width_0 : decode cX23_width 0 = .ok (.bipush 16, 2) := by decide +kernel
theorem dX23_width_2 : decode cX23_width 2 = .ok (.ireturn, 1) := by decide +kernel
theorem w_S1_width {l : Launch} {D : va_G} {cA : Nat → ClassId} {ks : List Nat} {ad : Nat → Nat} {A : Nat → Prop} (hO : klOk A ks ad) {st : CS} {a b n : Nat} {f : Nat → Int32} (hta : live ks ad a) (hpe : st.2.2.2 (1000 + a) = .inr (20, [.ref b])) (hpb : st.2.2.2 (1000 + b) = .inl (cA 3, n, .inl f)) : cR l yX23_width cX23_width 1 (some .int) 0 D cA ks ad A st [.ref a] 16 := by
  refine cc_ofR (own := RX23) (by decide) rfl (Nat.le_of_ble_eq_true rfl) (fun p e s m below meth c R args ls C hr hlk hP hl hcs => ?_)
  have hx := C.1
  have hb := C.2.1
  have hlb : live ks ad b := hP.2.2.1 _ _ _ b hta.1 (by omega) hpe (by decide) (by simp)
  have hl : lv_has ls 1 [(0, .ref a)] := hl
  refine lv_bipush (v := 16) hx hb dX23_width_0 (by decide) ?_
  exact mm_iret hx hb hr hlk rfl dX23_width_2
theorem q1439 : (Jvm.Cond.fieldLink "ChapterLoan$Ints" (7 : Nat) "ChapterLoan$Ints" "row" "[I") ∈ lw_all := lw_g (lw_at lw_m6 155 rfl) rfl
abbrev cX24_size : ByteArray := prog_10_method_2_code
def yX24_size : MethodName := ⟨RX24, "size", "()I"⟩
theorem dX24_size_0 : decode cX24_size 0 = .ok (.aload_n 0, 1) := by decide +kernel
theorem dX24_size_1 : decode cX24_size 1 = .ok (.getfield 7, 3) := by decide +kernel
theorem dX24_size_4 : decode cX24_size 4 = .ok (.arraylength, 1) := by decide +kernel
theorem dX24_size_5 : decode cX24_size 5 = .ok (.ireturn, 1) := by decide +kernel
theorem w_S2_size {l : Launch} {D : va_G} {cA : Nat → ClassId} {ks : List Nat} {ad : Nat → Nat} {A : Nat → Prop} (hO : klOk A ks ad) {st : CS} {a b n : Nat} {f : Nat → Int32} (hta : live ks ad a) (hpe : st.2.2.2 (1000 + a) = .inr (21, [.ref b])) (hpb : st.2.2.2 (1000 + b) = .inl (cA 0, n, .inl f)) : cR l yX24_size cX24_size 1 (some .int) 0 D cA ks ad A st [.ref a] (Int32.ofNat n) := by
  refine cc_ofR (own := RX24) (by decide) rfl (Nat.le_of_ble_eq_true rfl) (fun p e s m below meth c R args ls C hr hlk hP hl hcs => ?_)
  have hx := C.1
  have hb := C.2.1
  have hlb : live ks ad b := hP.2.2.1 _ _ _ b hta.1 (by omega) hpe (by decide) (by simp)
  have hl : lv_has ls 1 [(0, .ref a)] := hl
  refine lv_aload_n hx hb dX24_size_0 rfl (lv_at hl 0 rfl) ?_
  refine tm_get C hP hta (e0 := hpe) (Cn := RX24) (ref := RX24) (T := TX24) (N := 1) rfl in_X24 0 (by decide) q1439 (fun _ h => h) rfl dX24_size_1 ?_
  refine pl_len (j0 := 0) (j := 0) C hP hlb hpb rfl dX24_size_4 ?_
  exact mm_iret hx hb hr hlk rfl dX24_size_5
abbrev cX24_get : ByteArray := prog_10_method_3_code
def yX24_get : MethodName := ⟨RX24, "get", "(I)I"⟩
theorem dX24_get_0 : decode cX24_get 0 = .ok (.aload_n 0, 1) := by decide +kernel
theorem dX24_get_1 : decode cX24_get 1 = .ok (.getfield 7, 3) := by decide +kernel
theorem dX24_get_4 : decode cX24_get 4 = .ok (.iload_n 1, 1) := by decide +kernel
theorem dX24_get_5 : decode cX24_get 5 = .ok (.iaload, 1) := by decide +kernel
theorem dX24_get_6 : decode cX24_get 6 = .ok (.ireturn, 1) := by decide +kernel
theorem w_S2_get {l : Launch} {D : va_G} {cA : Nat → ClassId} {ks : List Nat} {ad : Nat → Nat} {A : Nat → Prop} (hO : klOk A ks ad) {st : CS} {a b n : Nat} {f : Nat → Int32} (hta : live ks ad a) (hpe : st.2.2.2 (1000 + a) = .inr (21, [.ref b])) (hpb : st.2.2.2 (1000 + b) = .inl (cA 0, n, .inl f)) {x1 r : Int32} (h : rd f n x1 = some r) : cR l yX24_get cX24_get 2 (some .int) 0 D cA ks ad A st [.ref a, .int x1] r := by
  refine cc_ofR (own := RX24) (by decide) rfl (Nat.le_of_ble_eq_true rfl) (fun p e s m below meth c R args ls C hr hlk hP hl hcs => ?_)
  have hx := C.1
  have hb := C.2.1
  have hlb : live ks ad b := hP.2.2.1 _ _ _ b hta.1 (by omega) hpe (by decide) (by simp)
  have hl : lv_has ls 2 [(0, .ref a), (1, .int x1)] := hl
  refine lv_aload_n hx hb dX24_get_0 rfl (lv_at hl 0 rfl) ?_
  refine tm_get C hP hta (e0 := hpe) (Cn := RX24) (ref := RX24) (T := TX24) (N := 1) rfl in_X24 0 (by decide) q1439 (fun _ h => h) rfl dX24_get_1 ?_
  refine lv_iload_n hx hb dX24_get_4 rfl (lv_at hl 1 rfl) ?_
  refine pl_ild C hP hlb hpb h dX24_get_5 ?_
  exact mm_iret hx hb hr hlk rfl dX24_get_6
abbrev cX24_put : ByteArray := prog_10_method_4_code
def yX24_put : MethodName := ⟨RX24, "put", "(II)V"⟩
theorem dX24_put_0 : decode cX24_put 0 = .ok (.aload_n 0, 1) := by decide +kernel
theorem dX24_put_1 : decode cX24_put 1 = .ok (.getfield 7, 3) := by decide +kernel
theorem dX24_put_4 : decode cX24_put 4 = .ok (.iload_n 1, 1) := by decide +kernel
theorem dX24_put_5 : decode cX24_put 5 = .ok (.iload_n 2, 1) := by decide +kernel
theorem dX24_put_6 : decode cX24_put 6 = .ok (.iastore, 1) := by decide +kernel
theorem dX24_put_7 : decode cX24_put 7 = .ok (.return_, 1) := by decide +kernel
theorem w_S2_put {l : Launch} {D : va_G} {cA : Nat → ClassId} {ks : List Nat} {ad : Nat → Nat} {A : Nat → Prop} (hO : klOk A ks ad) {st : CS} {a b n : Nat} {f : Nat → Int32} (hta : live ks ad a) (hpe : st.2.2.2 (1000 + a) = .inr (21, [.ref b])) (hpb : st.2.2.2 (1000 + b) = .inl (cA 0, n, .inl f)) {x1 x2 : Int32} {g : Nat → Int32} (h : wr f n x1 (shN 2 x2) = some g) : cV l yX24_put cX24_put 3 none 0 D cA ks ad A st [.ref a, .int x1, .int x2] none (csP st (1000 + b) (.inl (cA 0, n, .inl g))) := by
  refine cc_ofV (own := RX24) (by decide) rfl (Nat.le_of_ble_eq_true rfl) (fun p e s m below meth c R args ls C hr hlk hP hS hl hcs => ?_)
  have hx := C.1
  have hb := C.2.1
  have hlb : live ks ad b := hP.2.2.1 _ _ _ b hta.1 (by omega) hpe (by decide) (by simp)
  have hl : lv_has ls 3 [(0, .ref a), (1, .int x1), (2, .int x2)] := hl
  refine lv_aload_n hx hb dX24_put_0 rfl (lv_at hl 0 rfl) ?_
  refine tm_get C hP hta (e0 := hpe) (Cn := RX24) (ref := RX24) (T := TX24) (N := 1) rfl in_X24 0 (by decide) q1439 (fun _ h => h) rfl dX24_put_1 ?_
  refine lv_iload_n hx hb dX24_put_4 rfl (lv_at hl 1 rfl) ?_
  refine lv_iload_n hx hb dX24_put_5 rfl (lv_at hl 2 rfl) ?_
  refine pl_ist C hO hP hS hlb hpb h dX24_put_6 (fun H locs hP hS => ?_)
  exact cc_vret hx hb hr hlk rfl hP hS dX24_put_7
abbrev cX24_width : ByteArray := prog_10_method_5_code
def yX24_width : MethodName := ⟨RX24, "width", "()I"⟩
theorem dX24_width_0 : decode cX24_width 0 = .ok (.bipush 32, 2) := by decide +kernel
theorem dX24_width_2 : decode cX24_width 2 = .ok (.ireturn, 1) := by decide +kernel
theorem w_S2_width {l : Launch} {D : va_G} {cA : Nat → ClassId} {ks : List Nat} {ad : Nat → Nat} {A : Nat → Prop} (hO : klOk A ks ad) {st : CS} {a b n : Nat} {f : Nat → Int32} (hta : live ks ad a) (hpe : st.2.2.2 (1000 + a) = .inr (21, [.ref b])) (hpb : st.2.2.2 (1000 + b) = .inl (cA 0, n, .inl f)) : cR l yX24_width cX24_width 1 (some .int) 0 D cA ks ad A st [.ref a] 32 := by
  refine cc_ofR (own := RX24) (by decide) rfl (Nat.le_of_ble_eq_true rfl) (fun p e s m below meth c R args ls C hr hlk hP hl hcs => ?_)
  have hx := C.1
  have hb := C.2.1
  have hlb : live ks ad b := hP.2.2.1 _ _ _ b hta.1 (by omega) hpe (by decide) (by simp)
  have hl : lv_has ls 1 [(0, .ref a)] := hl
  refine lv_bipush (v := 32) hx hb dX24_width_0 (by decide) ?_
  exact mm_iret hx hb hr hlk rfl dX24_width_2
theorem q1157 : (Jvm.Cond.sameMethod "ChapterLoan$Sheet" "ChapterLoan$Sheet" "size" "()I") ∈ lw_all := lw_g (lw_at lw_m5 113 rfl) rfl
def yX21_size : MethodName := ⟨RX21, "size", "()I"⟩
theorem q1160 : (Jvm.Cond.code ({ cls := "ChapterLoan$Bytes", name := "size", desc := "()I" } : Jvm.MethodName) prog_2_method_2_code (1 : Nat) (Option.some Jvm.ClassFile.FieldType.int)) ∈ lw_all := lw_g (lw_at lw_m5 116 rfl) rfl
theorem q1159 : (Jvm.Cond.instanceMethod ({ cls := "ChapterLoan$Bytes", name := "size", desc := "()I" } : Jvm.MethodName)) ∈ lw_all := lw_g (lw_at lw_m5 115 rfl) rfl
theorem q118 : (Jvm.Cond.initialized "ChapterLoan$Bytes") ∈ lw_all := lw_g (lw_at lw_m1 34 rfl) rfl
theorem q1158 : (Jvm.Cond.selects "ChapterLoan$Bytes" ({ cls := "ChapterLoan$Sheet", name := "size", desc := "()I" } : Jvm.MethodName) ({ cls := "ChapterLoan$Bytes", name := "size", desc := "()I" } : Jvm.MethodName)) ∈ lw_all := lw_g (lw_at lw_m5 114 rfl) rfl
theorem q1166 : (Jvm.Cond.code ({ cls := "ChapterLoan$Shorts", name := "size", desc := "()I" } : Jvm.MethodName) prog_20_method_2_code (1 : Nat) (Option.some Jvm.ClassFile.FieldType.int)) ∈ lw_all := lw_g (lw_at lw_m5 122 rfl) rfl
theorem q1165 : (Jvm.Cond.instanceMethod ({ cls := "ChapterLoan$Shorts", name := "size", desc := "()I" } : Jvm.MethodName)) ∈ lw_all := lw_g (lw_at lw_m5 121 rfl) rfl
theorem q119 : (Jvm.Cond.initialized "ChapterLoan$Shorts") ∈ lw_all := lw_g (lw_at lw_m1 35 rfl) rfl
theorem q1164 : (Jvm.Cond.selects "ChapterLoan$Shorts" ({ cls := "ChapterLoan$Sheet", name := "size", desc := "()I" } : Jvm.MethodName) ({ cls := "ChapterLoan$Shorts", name := "size", desc := "()I" } : Jvm.MethodName)) ∈ lw_all := lw_g (lw_at lw_m5 120 rfl) rfl
theorem q1163 : (Jvm.Cond.code ({ cls := "ChapterLoan$Ints", name := "size", desc := "()I" } : Jvm.MethodName) prog_10_method_2_code (1 : Nat) (Option.some Jvm.ClassFile.FieldType.int)) ∈ lw_all := lw_g (lw_at lw_m5 119 rfl) rfl
theorem q1162 : (Jvm.Cond.instanceMethod ({ cls := "ChapterLoan$Ints", name := "size", desc := "()I" } : Jvm.MethodName)) ∈ lw_all := lw_g (lw_at lw_m5 118 rfl) rfl
theorem q120 : (Jvm.Cond.initialized "ChapterLoan$Ints") ∈ lw_all := lw_g (lw_at lw_m1 36 rfl) rfl
theorem q1161 : (Jvm.Cond.selects "ChapterLoan$Ints" ({ cls := "ChapterLoan$Sheet", name := "size", desc := "()I" } : Jvm.MethodName) ({ cls := "ChapterLoan$Ints", name := "size", desc := "()I" } : Jvm.MethodName)) ∈ lw_all := lw_g (lw_at lw_m5 117 rfl) rfl
theorem k_S_size {a : Nat} {v : Int32} (C : cC p R d s m args c cc nL own D cA A) (hO : klOk A ks ad) (hP : cW D cA ks ad st H) (hz : s.heap.size ≤ H.size) (hta : live ks ad a) (h : S_size cA st a  = some v) (hl : Cond.methodLink own index yX21_size ∈ lw_all) (hd : 0 + 1 ≤ d) (hsz : ls.size = nL) (hW : (rest.map fun v => v.category).sum ≤ 8) (hcs : cells ≤ R.cells ∧ slots ≤ R.slots) (hdg : decode cc pc = .ok (.invokevirtual index, 3)) (kk : W p l e R s m args below meth c H locs cells slots Q (F0 m (pc + 3) ls (.int v :: rest))) : W p l e R s m args below meth c H locs cells slots Q (F0 m pc ls (.ref a :: rest)) := by
  obtain ⟨w, b, n, f, hsh, h⟩ := bd4_some h
  rcases shOf_some hsh with ⟨rfl, hpe, hpb⟩ | ⟨rfl, hpe, hpb⟩ | ⟨rfl, hpe, hpb⟩
  · cases h; exact tm_virt (q := (RX22, TX22, 1)) (x := yX21_size) (owner := RX21) (n := 0) (As := []) C hP hz (tm_recv C hP hta hpe rfl) (w_S0_size hO hta hpe hpb) (va_cwA 0 C.2.2.2.2.1 (lw_U hl q1157 q1158 q1159 q118 q1160) rfl rfl rfl (C.2.2.2.2.2.2.2.1 _ (List.mem_of_getElem? (i := 52) rfl)) (by decide +kernel) (mr_ C.2.2.2.2.2.1 hd (by decide))) rfl hsz rfl hW hdg hcs kk
  · cases h; exact tm_virt (q := (RX23, TX23, 1)) (x := yX21_size) (owner := RX21) (n := 0) (As := []) C hP hz (tm_recv C hP hta hpe rfl) (w_S1_size hO hta hpe hpb) (va_cwA 0 C.2.2.2.2.1 (lw_U hl q1157 q1164 q1165 q119 q1166) rfl rfl rfl (C.2.2.2.2.2.2.2.1 _ (List.mem_of_getElem? (i := 52) rfl)) (by decide +kernel) (mr_ C.2.2.2.2.2.1 hd (by decide))) rfl hsz rfl hW hdg hcs kk
  · cases h; exact tm_virt (q := (RX24, TX24, 1)) (x := yX21_size) (owner := RX21) (n := 0) (As := []) C hP hz (tm_recv C hP hta hpe rfl) (w_S2_size hO hta hpe hpb) (va_cwA 0 C.2.2.2.2.1 (lw_U hl q1157 q1161 q1162 q120 q1163) rfl rfl rfl (C.2.2.2.2.2.2.2.1 _ (List.mem_of_getElem? (i := 52) rfl)) (by decide +kernel) (mr_ C.2.2.2.2.2.1 hd (by decide))) rfl hsz rfl hW hdg hcs kk
theorem q1169 : (Jvm.Cond.sameMethod "ChapterLoan$Sheet" "ChapterLoan$Sheet" "get" "(I)I") ∈ lw_all := lw_g (lw_at lw_m5 125 rfl) rfl
def yX21_get : MethodName := ⟨RX21, "get", "(I)I"⟩
theorem q1172 : (Jvm.Cond.code ({ cls := "ChapterLoan$Bytes", name := "get", desc := "(I)I" } : Jvm.MethodName) prog_2_method_3_code (2 : Nat) (Option.some Jvm.ClassFile.FieldType.int)) ∈ lw_all := lw_g (lw_at lw_m5 128 rfl) rfl
theorem q1171 : (Jvm.Cond.instanceMethod ({ cls := "ChapterLoan$Bytes", name := "get", desc := "(I)I" } : Jvm.MethodName)) ∈ lw_all := lw_g (lw_at lw_m5 127 rfl) rfl
theorem q1170 : (Jvm.Cond.selects "ChapterLoan$Bytes" ({ cls := "ChapterLoan$Sheet", name := "get", desc := "(I)I" } : Jvm.MethodName) ({ cls := "ChapterLoan$Bytes", name := "get", desc := "(I)I" } : Jvm.MethodName)) ∈ lw_all := lw_g (lw_at lw_m5 126 rfl) rfl
theorem q1178 : (Jvm.Cond.code ({ cls := "ChapterLoan$Shorts", name := "get", desc := "(I)I" } : Jvm.MethodName) prog_20_method_3_code (2 : Nat) (Option.some Jvm.ClassFile.FieldType.int)) ∈ lw_all := lw_g (lw_at lw_m5 134 rfl) rfl
theorem q1177 : (Jvm.Cond.instanceMethod ({ cls := "ChapterLoan$Shorts", name := "get", desc := "(I)I" } : Jvm.MethodName)) ∈ lw_all := lw_g (lw_at lw_m5 133 rfl) rfl
theorem q1176 : (Jvm.Cond.selects "ChapterLoan$Shorts" ({ cls := "ChapterLoan$Sheet", name := "get", desc := "(I)I" } : Jvm.MethodName) ({ cls := "ChapterLoan$Shorts", name := "get", desc := "(I)I" } : Jvm.MethodName)) ∈ lw_all := lw_g (lw_at lw_m5 132 rfl) rfl
theorem q1175 : (Jvm.Cond.code ({ cls := "ChapterLoan$Ints", name := "get", desc := "(I)I" } : Jvm.MethodName) prog_10_method_3_code (2 : Nat) (Option.some Jvm.ClassFile.FieldType.int)) ∈ lw_all := lw_g (lw_at lw_m5 131 rfl) rfl
theorem q1174 : (Jvm.Cond.instanceMethod ({ cls := "ChapterLoan$Ints", name := "get", desc := "(I)I" } : Jvm.MethodName)) ∈ lw_all := lw_g (lw_at lw_m5 130 rfl) rfl
theorem q1173 : (Jvm.Cond.selects "ChapterLoan$Ints" ({ cls := "ChapterLoan$Sheet", name := "get", desc := "(I)I" } : Jvm.MethodName) ({ cls := "ChapterLoan$Ints", name := "get", desc := "(I)I" } : Jvm.MethodName)) ∈ lw_all := lw_g (lw_at lw_m5 129 rfl) rfl
theorem k_S_get {a : Nat} {a0 : Int32} {v : Int32} (C : cC p R d s m args c cc nL own D cA A) (hO : klOk A ks ad) (hP : cW D cA ks ad st H) (hz : s.heap.size ≤ H.size) (hta : live ks ad a) (h : S_get cA st a a0 = some v) (hl : Cond.methodLink own index yX21_get ∈ lw_all) (hd : 0 + 1 ≤ d) (hsz : ls.size = nL) (hW : (rest.map fun v => v.category).sum ≤ 8) (hcs : cells ≤ R.cells ∧ slots ≤ R.slots) (hdg : decode cc pc = .ok (.invokevirtual index, 3)) (kk : W p l e R s m args below meth c H locs cells slots Q (F0 m (pc + 3) ls (.int v :: rest))) : W p l e R s m args below meth c H locs cells slots Q (F0 m pc ls (.int a0 :: .ref a :: rest)) := by
  obtain ⟨w, b, n, f, hsh, h⟩ := bd4_some h
  rcases shOf_some hsh with ⟨rfl, hpe, hpb⟩ | ⟨rfl, hpe, hpb⟩ | ⟨rfl, hpe, hpb⟩
  · exact tm_virt (q := (RX22, TX22, 1)) (x := yX21_get) (owner := RX21) (n := 1) (As := [.int a0]) C hP hz (tm_recv C hP hta hpe rfl) (w_S0_get hO hta hpe hpb h) (va_cwA 1 C.2.2.2.2.1 (lw_U hl q1169 q1170 q1171 q118 q1172) rfl rfl rfl (C.2.2.2.2.2.2.2.1 _ (List.mem_of_getElem? (i := 53) rfl)) (by decide +kernel) (mr_ C.2.2.2.2.2.1 hd (by decide))) rfl hsz rfl hW hdg hcs kk
  · exact tm_virt (q := (RX23, TX23, 1)) (x := yX21_get) (owner := RX21) (n := 1) (As := [.int a0]) C hP hz (tm_recv C hP hta hpe rfl) (w_S1_get hO hta hpe hpb h) (va_cwA 1 C.2.2.2.2.1 (lw_U hl q1169 q1176 q1177 q119 q1178) rfl rfl rfl (C.2.2.2.2.2.2.2.1 _ (List.mem_of_getElem? (i := 53) rfl)) (by decide +kernel) (mr_ C.2.2.2.2.2.1 hd (by decide))) rfl hsz rfl hW hdg hcs kk
  · exact tm_virt (q := (RX24, TX24, 1)) (x := yX21_get) (owner := RX21) (n := 1) (As := [.int a0]) C hP hz (tm_recv C hP hta hpe rfl) (w_S2_get hO hta hpe hpb h) (va_cwA 1 C.2.2.2.2.1 (lw_U hl q1169 q1173 q1174 q120 q1175) rfl rfl rfl (C.2.2.2.2.2.2.2.1 _ (List.mem_of_getElem? (i := 53) rfl)) (by decide +kernel) (mr_ C.2.2.2.2.2.1 hd (by decide))) rfl hsz rfl hW hdg hcs kk
theorem q1449 : (Jvm.Cond.sameMethod "ChapterLoan$Sheet" "ChapterLoan$Sheet" "put" "(II)V") ∈ lw_all := lw_g (lw_at lw_m6 165 rfl) rfl
def yX21_put : MethodName := ⟨RX21, "put", "(II)V"⟩
theorem q1452 : (Jvm.Cond.code ({ cls := "ChapterLoan$Bytes", name := "put", desc := "(II)V" } : Jvm.MethodName) prog_2_method_4_code (3 : Nat) (Option.none : Option Jvm.ClassFile.FieldType)) ∈ lw_all := lw_g (lw_at lw_m6 168 rfl) rfl
theorem q1451 : (Jvm.Cond.instanceMethod ({ cls := "ChapterLoan$Bytes", name := "put", desc := "(II)V" } : Jvm.MethodName)) ∈ lw_all := lw_g (lw_at lw_m6 167 rfl) rfl
theorem q1450 : (Jvm.Cond.selects "ChapterLoan$Bytes" ({ cls := "ChapterLoan$Sheet", name := "put", desc := "(II)V" } : Jvm.MethodName) ({ cls := "ChapterLoan$Bytes", name := "put", desc := "(II)V" } : Jvm.MethodName)) ∈ lw_all := lw_g (lw_at lw_m6 166 rfl) rfl
theorem q1458 : (Jvm.Cond.code ({ cls := "ChapterLoan$Shorts", name := "put", desc := "(II)V" } : Jvm.MethodName) prog_20_method_4_code (3 : Nat) (Option.none : Option Jvm.ClassFile.FieldType)) ∈ lw_all := lw_g (lw_at lw_m6 174 rfl) rfl
theorem q1457 : (Jvm.Cond.instanceMethod ({ cls := "ChapterLoan$Shorts", name := "put", desc := "(II)V" } : Jvm.MethodName)) ∈ lw_all := lw_g (lw_at lw_m6 173 rfl) rfl
theorem q1456 : (Jvm.Cond.selects "ChapterLoan$Shorts" ({ cls := "ChapterLoan$Sheet", name := "put", desc := "(II)V" } : Jvm.MethodName) ({ cls := "ChapterLoan$Shorts", name := "put", desc := "(II)V" } : Jvm.MethodName)) ∈ lw_all := lw_g (lw_at lw_m6 172 rfl) rfl
theorem q1455 : (Jvm.Cond.code ({ cls := "ChapterLoan$Ints", name := "put", desc := "(II)V" } : Jvm.MethodName) prog_10_method_4_code (3 : Nat) (Option.none : Option Jvm.ClassFile.FieldType)) ∈ lw_all := lw_g (lw_at lw_m6 171 rfl) rfl
theorem q1454 : (Jvm.Cond.instanceMethod ({ cls := "ChapterLoan$Ints", name := "put", desc := "(II)V" } : Jvm.MethodName)) ∈ lw_all := lw_g (lw_at lw_m6 170 rfl) rfl
theorem q1453 : (Jvm.Cond.selects "ChapterLoan$Ints" ({ cls := "ChapterLoan$Sheet", name := "put", desc := "(II)V" } : Jvm.MethodName) ({ cls := "ChapterLoan$Ints", name := "put", desc := "(II)V" } : Jvm.MethodName)) ∈ lw_all := lw_g (lw_at lw_m6 169 rfl) rfl
theorem k_S_put {a : Nat} {a0 : Int32} {a1 : Int32} {st' : CS} (C : cC p R d s m args c cc nL own D cA A) (hO : klOk A ks ad) (hP : cW D cA ks ad st H) (hS : va_S A s.heap H locs) (hta : live ks ad a) (h : S_put cA st a a0 a1 = some st') (hl : Cond.methodLink own index yX21_put ∈ lw_all) (hd : 0 + 1 ≤ d) (hsz : ls.size = nL) (hW : (rest.map fun v => v.category).sum ≤ 8) (hcs : cells ≤ R.cells ∧ slots ≤ R.slots) (hdg : decode cc pc = .ok (.invokevirtual index, 3)) (kk : ∀ (H1 : Heap) (locs1 : List Loc), cW D cA ks ad st' H1 → va_S A s.heap H1 locs1 → W p l e R s m args below meth c H1 locs1 cells slots Q (F0 m (pc + 3) ls rest)) : W p l e R s m args below meth c H locs cells slots Q (F0 m pc ls (.int a1 :: .int a0 :: .ref a :: rest)) := by
  obtain ⟨w, b, n, f, hsh, h⟩ := bd4_some h
  obtain ⟨g, hg, h⟩ := bd1_some h
  rcases shOf_some hsh with ⟨rfl, hpe, hpb⟩ | ⟨rfl, hpe, hpb⟩ | ⟨rfl, hpe, hpb⟩
  · cases h; exact tm_virtV (q := (RX22, TX22, 1)) (x := yX21_put) (owner := RX21) (n := 2) (As := [.int a0, .int a1]) C hP hS (tm_recv C hP hta hpe rfl) (w_S0_put hO hta hpe hpb hg) (va_cwA 2 C.2.2.2.2.1 (lw_U hl q1449 q1450 q1451 q118 q1452) rfl rfl rfl (C.2.2.2.2.2.2.2.1 _ (List.mem_of_getElem? (i := 93) rfl)) (by decide +kernel) (mr_ C.2.2.2.2.2.1 hd (by decide))) rfl hsz rfl hW hdg hcs kk
  · cases h; exact tm_virtV (q := (RX23, TX23, 1)) (x := yX21_put) (owner := RX21) (n := 2) (As := [.int a0, .int a1]) C hP hS (tm_recv C hP hta hpe rfl) (w_S1_put hO hta hpe hpb hg) (va_cwA 2 C.2.2.2.2.1 (lw_U hl q1449 q1456 q1457 q119 q1458) rfl rfl rfl (C.2.2.2.2.2.2.2.1 _ (List.mem_of_getElem? (i := 93) rfl)) (by decide +kernel) (mr_ C.2.2.2.2.2.1 hd (by decide))) rfl hsz rfl hW hdg hcs kk
  · cases h; exact tm_virtV (q := (RX24, TX24, 1)) (x := yX21_put) (owner := RX21) (n := 2) (As := [.int a0, .int a1]) C hP hS (tm_recv C hP hta hpe rfl) (w_S2_put hO hta hpe hpb hg) (va_cwA 2 C.2.2.2.2.1 (lw_U hl q1449 q1453 q1454 q120 q1455) rfl rfl rfl (C.2.2.2.2.2.2.2.1 _ (List.mem_of_getElem? (i := 93) rfl)) (by decide +kernel) (mr_ C.2.2.2.2.2.1 hd (by decide))) rfl hsz rfl hW hdg hcs kk
theorem q1465 : (Jvm.Cond.sameMethod "ChapterLoan$Sheet" "ChapterLoan$Sheet" "width" "()I") ∈ lw_all := lw_g (lw_at lw_m6 181 rfl) rfl
def yX21_width : MethodName := ⟨RX21, "width", "()I"⟩
theorem q1468 : (Jvm.Cond.code ({ cls := "ChapterLoan$Bytes", name := "width", desc := "()I" } : Jvm.MethodName) prog_2_method_5_code (1 : Nat) (Option.some Jvm.ClassFile.FieldType.int)) ∈ lw_all := lw_g (lw_at lw_m6 184 rfl) rfl
theorem q1467 : (Jvm.Cond.instanceMethod ({ cls := "ChapterLoan$Bytes", name := "width", desc := "()I" } : Jvm.MethodName)) ∈ lw_all := lw_g (lw_at lw_m6 183 rfl) rfl
theorem q1466 : (Jvm.Cond.selects "ChapterLoan$Bytes" ({ cls := "ChapterLoan$Sheet", name := "width", desc := "()I" } : Jvm.MethodName) ({ cls := "ChapterLoan$Bytes", name := "width", desc := "()I" } : Jvm.MethodName)) ∈ lw_all := lw_g (lw_at lw_m6 182 rfl) rfl
theorem q1474 : (Jvm.Cond.code ({ cls := "ChapterLoan$Shorts", name := "width", desc := "()I" } : Jvm.MethodName) prog_20_method_5_code (1 : Nat) (Option.some Jvm.ClassFile.FieldType.int)) ∈ lw_all := lw_g (lw_at lw_m6 190 rfl) rfl
theorem q1473 : (Jvm.Cond.instanceMethod ({ cls := "ChapterLoan$Shorts", name := "width", desc := "()I" } : Jvm.MethodName)) ∈ lw_all := lw_g (lw_at lw_m6 189 rfl) rfl
theorem q1472 : (Jvm.Cond.selects "ChapterLoan$Shorts" ({ cls := "ChapterLoan$Sheet", name := "width", desc := "()I" } : Jvm.MethodName) ({ cls := "ChapterLoan$Shorts", name := "width", desc := "()I" } : Jvm.MethodName)) ∈ lw_all := lw_g (lw_at lw_m6 188 rfl) rfl
theorem q1471 : (Jvm.Cond.code ({ cls := "ChapterLoan$Ints", name := "width", desc := "()I" } : Jvm.MethodName) prog_10_method_5_code (1 : Nat) (Option.some Jvm.ClassFile.FieldType.int)) ∈ lw_all := lw_g (lw_at lw_m6 187 rfl) rfl
theorem q1470 : (Jvm.Cond.instanceMethod ({ cls := "ChapterLoan$Ints", name := "width", desc := "()I" } : Jvm.MethodName)) ∈ lw_all := lw_g (lw_at lw_m6 186 rfl) rfl
theorem q1469 : (Jvm.Cond.selects "ChapterLoan$Ints" ({ cls := "ChapterLoan$Sheet", name := "width", desc := "()I" } : Jvm.MethodName) ({ cls := "ChapterLoan$Ints", name := "width", desc := "()I" } : Jvm.MethodName)) ∈ lw_all := lw_g (lw_at lw_m6 185 rfl) rfl
theorem k_S_width {a : Nat} {v : Int32} (C : cC p R d s m args c cc nL own D cA A) (hO : klOk A ks ad) (hP : cW D cA ks ad st H) (hz : s.heap.size ≤ H.size) (hta : live ks ad a) (h : S_width cA st a  = some v) (hl : Cond.methodLink own index yX21_width ∈ lw_all) (hd : 0 + 1 ≤ d) (hsz : ls.size = nL) (hW : (rest.map fun v => v.category).sum ≤ 8) (hcs : cells ≤ R.cells ∧ slots ≤ R.slots) (hdg : decode cc pc = .ok (.invokevirtual index, 3)) (kk : W p l e R s m args below meth c H locs cells slots Q (F0 m (pc + 3) ls (.int v :: rest))) : W p l e R s m args below meth c H locs cells slots Q (F0 m pc ls (.ref a :: rest)) := by
  obtain ⟨w, b, n, f, hsh, h⟩ := bd4_some h
  rcases shOf_some hsh with ⟨rfl, hpe, hpb⟩ | ⟨rfl, hpe, hpb⟩ | ⟨rfl, hpe, hpb⟩
  · cases h; exact tm_virt (q := (RX22, TX22, 1)) (x := yX21_width) (owner := RX21) (n := 0) (As := []) C hP hz (tm_recv C hP hta hpe rfl) (w_S0_width hO hta hpe hpb) (va_cwA 0 C.2.2.2.2.1 (lw_U hl q1465 q1466 q1467 q118 q1468) rfl rfl rfl (C.2.2.2.2.2.2.2.1 _ (List.mem_of_getElem? (i := 94) rfl)) (by decide +kernel) (mr_ C.2.2.2.2.2.1 hd (by decide))) rfl hsz rfl hW hdg hcs kk
  · cases h; exact tm_virt (q := (RX23, TX23, 1)) (x := yX21_width) (owner := RX21) (n := 0) (As := []) C hP hz (tm_recv C hP hta hpe rfl) (w_S1_width hO hta hpe hpb) (va_cwA 0 C.2.2.2.2.1 (lw_U hl q1465 q1472 q1473 q119 q1474) rfl rfl rfl (C.2.2.2.2.2.2.2.1 _ (List.mem_of_getElem? (i := 94) rfl)) (by decide +kernel) (mr_ C.2.2.2.2.2.1 hd (by decide))) rfl hsz rfl hW hdg hcs kk
  · cases h; exact tm_virt (q := (RX24, TX24, 1)) (x := yX21_width) (owner := RX21) (n := 0) (As := []) C hP hz (tm_recv C hP hta hpe rfl) (w_S2_width hO hta hpe hpb) (va_cwA 0 C.2.2.2.2.1 (lw_U hl q1465 q1469 q1470 q120 q1471) rfl rfl rfl (C.2.2.2.2.2.2.2.1 _ (List.mem_of_getElem? (i := 94) rfl)) (by decide +kernel) (mr_ C.2.2.2.2.2.1 hd (by decide))) rfl hsz rfl hW hdg hcs kk
end
