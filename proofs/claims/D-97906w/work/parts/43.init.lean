/-! constructors of debtors -/
set_option maxRecDepth 100000
section
variable {p : Program} {l : Launch} {e : Env} {R : Room} {s : State} {m : MethodId} {args : Array Value} {below : List Frame} {meth : Method} {c : Code} {H : Heap} {locs : List Loc} {cells slots d : Nat} {Q : State → Prop} {cc : ByteArray} {pc nL : Nat} {ls : Array Slot} {rest : List Value} {D : va_G} {cA : Nat → ClassId} {ks : List Nat} {ad : Nat → Nat} {A : Nat → Prop} {st : CS} {H0 : Heap} {own : String} {index : Nat}
theorem cc_ofI {y : MethodName} {bytes : ByteArray} {maxL : Nat} {ret : Option FieldType} {As : List Value} {st' : CS} {r : Option Value} (hy : plainName y.cls = true) (hyc : y.cls = own) (hnl : (lg_sl As).length ≤ maxL)
    (body : ∀ (p : Program) (e : Env) (s : State) (m : MethodId) (below : List Frame) (meth : Method) (c : Code) (R : Room) (args : Array Value) (ls : Array Slot), cC p R d s m args c bytes maxL own D cA A → meth.name = y.name → meth.sig.returnType = ret → meth.locks = false → cW D cA ks ad st s.heap → va_S A s.heap s.heap [] → lv_has ls maxL (lv_args 0 As) → (0 ≤ R.cells ∧ 0 ≤ R.slots) →
      W p l e R s m args below meth c s.heap [] 0 0 (MQ below (cQ r D cA ks ad A st') args s 0 0 A) (F0 m 0 ls [])) : cV l y bytes maxL ret d D cA ks ad A st As r st' := by
  refine Met.ofW (cc := bytes) (maxL := maxL) (ret := ret) hy rfl ?_
  intro p e s m args below meth c s₁ B hml hv
  obtain ⟨rfl, hP, hK, hN, hA⟩ := hv
  have hts := atoms_spec (ws := ws_ y bytes maxL ret) B.pre
  have hts : ∀ w ∈ lw_all, w.before _ s = true := fun w h => hts w (List.mem_cons_of_mem _ h)
  have hown : s.vm.findClass y.cls = some m.cls := findClass_of_methodNamed B.named
  rw [hyc] at hown
  rw [lg_entry_eq]
  exact body p e s m below meth c _ _ _ ⟨B.exec, B.bytes, hml, hown, hts, ⟨Nat.le_refl _, Nat.le_refl _⟩, hK, hN, hA⟩ (name_of_methodNamed B.named B.method).1 B.returns B.notSynchronized hP va_S.rf (lv_entry _ hnl) ⟨Nat.zero_le _, Nat.zero_le _⟩
/-- a call of a constructor -/
theorem cc_cI {y : MethodName} {bytes : ByteArray} {maxL n dk : Nat} {As st0 : List Value} {b : Addr} {r : Option Value} {st' : CS} (C : cC p R d s m args c cc nL own D cA A) (hP : cW D cA ks ad st H) (hS : va_S A s.heap H locs) (hM : cV l y bytes maxL none dk D cA ks ad A st (.ref b :: As) r st') (cw : CallB R s args own index y bytes maxL none (ws_ y bytes maxL none) (k2_rm dk (40 * dk)) 0 0 n ∧ y.name = "<init>" ∧ (Cond.instanceMethod y).before args s = true)
    (hn : As.length = n) (hsz : ls.size = nL) (hst : st0 = As.reverse ++ .ref b :: rest) (hW : (rest.map fun v => v.category).sum ≤ 8) (hdg : decode cc pc = .ok (.invokespecial index, 3)) (hcs : cells ≤ R.cells ∧ slots ≤ R.slots)
    (kk : ∀ (H1 : Heap) (locs1 : List Loc), cW D cA ks ad st' H1 → va_S A s.heap H1 locs1 → W p l e R s m args below meth c H1 locs1 cells slots Q (F0 m (pc + 3) ls (r.toList ++ rest))) : W p l e R s m args below meth c H locs cells slots Q (F0 m pc ls st0) :=
  cc_end hS (run_of (va_runI (locs := locs) (cells := cells) (slots := slots) (p := p) (e := e) (below := below) (meth := meth) (g := F0 m pc ls st0) (As := As) (rest := rest) ⟨C.1, C.2.1, C.2.2.1, C.2.2.2.1, C.2.2.2.2.1⟩ hM cw ⟨cc_blind, cc_pre C hP hS.1⟩ rfl hn hsz hst (lv_room hW) hdg hcs)) kk
theorem csP_csP {st : CS} {k : Nat} {e1 e2 : va_E} : csP (csP st k e1) k e2 = csP st k e2 := by
  unfold csP
  have : va_up (va_up st.2.2.2 k e1) k e2 = va_up st.2.2.2 k e2 := by
    funext i
    by_cases h : i = k <;> simp [va_up, h]
  rw [this]
theorem csP_at {st : CS} {k : Nat} {e1 : va_E} : (csP st k e1).2.2.2 k = e1 := by simp [csP, va_up]
theorem refOk_obj {qp : (Nat → Nat → Option Nat) × (Nat → va_E)} {k ci : Nat} {fs : List Value} (h : refOk ks ad qp) (hr : ∀ b, ((14 ≤ ci ∧ ci ≤ 17) ∨ 19 ≤ ci) → Value.ref b ∈ fs → live ks ad b) : refOk ks ad (qp.1, va_up qp.2 k (.inr (ci, fs))) := by
  refine ⟨h.1, fun k1 ci1 fs1 b h1 h2 h3 h4 h5 => ?_, h.2.2⟩
  by_cases hk : k1 = k
  · subst hk
    have h6 : (Sum.inr (ci, fs) : va_E) = .inr (ci1, fs1) := by simpa [va_up] using h3
    cases h6
    exact hr b h4 h5
  · have h6 : qp.2 k1 = .inr (ci1, fs1) := by simpa [va_up, hk] using h3
    exact h.2.1 k1 ci1 fs1 b h1 h2 h6 h4 h5
/-- a final field of a pool's object, in its constructor -/
theorem pl_putF {a ci N : Nat} {Cn ref : String} {T : u_T} {ty0 : Nat → FieldType} {fs : List Value} {v : Value} (C : cC p R d s m args c cc nL own D cA A) (hnm2 : meth.name = "<init>") (hO : klOk A ks ad) (hP : cW D cA ks ad st H) (hS : va_S A H0 H locs) (hla : live ks ad a) (he : st.2.2.2 (1000 + a) = .inr (ci, fs)) (hcl : cCl[ci]? = some (Cn, T, N)) (hin : ∀ w ∈ u_ws Cn T N, w ∈ lw_all) (hty : ∀ k, k < N → parseFieldDescriptor (T k).2.2.1 = some (ty0 k)) (hnm : ∀ a, a < N → ∀ b, b < N → a ≠ b → (T a).2.1 ≠ (T b).2.1) (j : Nat) (hj : j < N) (hl : Cond.fieldLink own index ref (T j).2.1 (T j).2.2.1 ∈ lw_all) (hsame : ∀ x, s.fieldFound? (T j).1 (T j).2.1 (T j).2.2.1 = some x → s.fieldFound? ref (T j).2.1 (T j).2.2.1 = some x) (hfin : (T j).2.2.2 = true) (hdecl : (T j).1 = own) (hn : narrow (ty0 j) v = v) (hf : fits (ty0 j) v = true) (hlen : j < fs.length) (hr : ∀ b, ((14 ≤ ci ∧ ci ≤ 17) ∨ 19 ≤ ci) → Value.ref b ∈ fs.set j v → live ks ad b) (hdg : decode cc pc = .ok (.putfield index, 3))
    (kk : ∀ (H1 : Heap) (locs1 : List Loc), cW D cA ks ad (csP st (1000 + a) (.inr (ci, fs.set j v))) H1 → va_S A H0 H1 locs1 → W p l e R s m args below meth c H1 locs1 cells slots Q (F0 m (pc + 3) ls rest)) : W p l e R s m args below meth c H locs cells slots Q (F0 m pc ls (v :: .ref a :: rest)) := by
  obtain ⟨hx, hb, -, hown, hts, -, hK, -⟩ := C
  obtain ⟨i, hi⟩ := List.getElem?_of_mem hla.1
  have h : W p l e R s m args below meth c H locs cells slots Q (F0 m pc ls (v :: .ref (ad (1000 + a)) :: rest)) := by
    refine va_putF hx hb hts hin ty0 hty hnm hown hK hP.1 (kl_D hO) hS i (by rw [kl_at hi, cg_pool, he]) hcl j hj (hts _ hl) hsame hfin hnm2 hdecl (hty j hj) hn hf hlen hdg (fun H1 locs1 h1 _ h3 => kk H1 locs1 ?_ h3)
    rw [kl_set hO.1 hi, cg_P (by omega)] at h1
    exact ⟨h1, refOk_obj hP.2 hr⟩
  rw [hla.2] at h
  exact h
theorem db_ty {k : Nat} (hk : k < 7) : ∀ j, j < (dbC k).2.2 → parseFieldDescriptor ((dbC k).2.1 j).2.2.1 = some (tyX7 j) := by
  match k, hk with
  | 0, _ => decide +kernel
  | 1, _ => decide +kernel
  | 2, _ => decide +kernel
  | 3, _ => decide +kernel
  | 4, _ => decide +kernel
  | 5, _ => decide +kernel
  | 6, _ => decide +kernel
theorem db_nm {k : Nat} (hk : k < 7) : ∀ a, a < (dbC k).2.2 → ∀ b, b < (dbC k).2.2 → a ≠ b → ((dbC k).2.1 a).2.1 ≠ ((dbC k).2.1 b).2.1 := by
  match k, hk with
  | 0, _ => decide +kernel
  | 1, _ => decide +kernel
  | 2, _ => decide +kernel
  | 3, _ => decide +kernel
  | 4, _ => decide +kernel
  | 5, _ => decide +kernel
  | 6, _ => decide +kernel
/-- a field of a debtor in its constructor -/
theorem db_put {a k : Nat} {nm ds : String} {fs : List Value} {v : Value} (C : cC p R d s m args c cc nL RX7 D cA A) (hnm2 : meth.name = "<init>") (hO : klOk A ks ad) (hP : cW D cA ks ad st H) (hS : va_S A H0 H locs) (hla : live ks ad a) (hk : k < 7) (he : st.2.2.2 (1000 + a) = .inr (7 + k, fs)) (hlen : fs.length = 3) (j : Nat) (hj : j < 3) (hT : ∀ k, k < 7 → (dbC k).2.1 j = ("ChapterLoan$Debtor", nm, ds, true)) (hl : Cond.fieldLink RX7 index RX7 nm ds ∈ lw_all) (hn : narrow (tyX7 j) v = v) (hf : fits (tyX7 j) v = true) (hdg : decode cc pc = .ok (.putfield index, 3))
    (kk : ∀ (H1 : Heap) (locs1 : List Loc), cW D cA ks ad (csP st (1000 + a) (.inr (7 + k, fs.set j v))) H1 → va_S A H0 H1 locs1 → W p l e R s m args below meth c H1 locs1 cells slots Q (F0 m (pc + 3) ls rest)) : W p l e R s m args below meth c H locs cells slots Q (F0 m pc ls (v :: .ref a :: rest)) := by
  have e0 := hT k hk
  refine pl_putF (Cn := (dbC k).1) (T := (dbC k).2.1) (N := (dbC k).2.2) (ref := RX7) (ty0 := tyX7) C hnm2 hO hP hS hla he (db_cl hk) (db_in hk) (db_ty hk) (db_nm hk) j (by rw [(db_T hk).2.2.2]; exact hj) ?_ ?_ ?_ ?_ hn hf (by omega) (fun b h => by omega) hdg kk
  · rw [e0]; exact hl
  · rw [e0]; exact fun _ h => h
  · rw [e0]
  · rw [e0]; rfl

abbrev cX7_init : ByteArray := prog_3_method_1_code
def yX7_init : MethodName := ⟨RX7, "<init>", "(LChapterLoan$Trace;II)V"⟩
theorem dX7_init_0 : decode cX7_init 0 = .ok (.aload_n 0, 1) := by decide +kernel
theorem dX7_init_1 : decode cX7_init 1 = .ok (.invokespecial 3, 3) := by decide +kernel
theorem dX7_init_4 : decode cX7_init 4 = .ok (.aload_n 0, 1) := by decide +kernel
theorem dX7_init_5 : decode cX7_init 5 = .ok (.aload_n 1, 1) := by decide +kernel
theorem dX7_init_6 : decode cX7_init 6 = .ok (.putfield 9, 3) := by decide +kernel
theorem dX7_init_9 : decode cX7_init 9 = .ok (.aload_n 0, 1) := by decide +kernel
theorem dX7_init_10 : decode cX7_init 10 = .ok (.iload_n 2, 1) := by decide +kernel
theorem dX7_init_11 : decode cX7_init 11 = .ok (.putfield 15, 3) := by decide +kernel
theorem dX7_init_14 : decode cX7_init 14 = .ok (.aload_n 0, 1) := by decide +kernel
theorem dX7_init_15 : decode cX7_init 15 = .ok (.iload_n 3, 1) := by decide +kernel
theorem dX7_init_16 : decode cX7_init 16 = .ok (.putfield 19, 3) := by decide +kernel
theorem dX7_init_19 : decode cX7_init 19 = .ok (.return_, 1) := by decide +kernel
theorem q460 : (Jvm.Cond.methodLink "ChapterLoan$Debtor" (3 : Nat) ({ cls := "java/lang/Object", name := "<init>", desc := "()V" } : Jvm.MethodName)) ∈ lw_all := lw_g (lw_at lw_m2 136 rfl) rfl
theorem q127 : (Jvm.Cond.instanceMethod ({ cls := "java/lang/Object", name := "<init>", desc := "()V" } : Jvm.MethodName)) ∈ lw_all := lw_g (lw_at lw_m1 43 rfl) rfl
theorem q128 : (Jvm.Cond.code ({ cls := "java/lang/Object", name := "<init>", desc := "()V" } : Jvm.MethodName) object_method_1_code (1 : Nat) (Option.none : Option Jvm.ClassFile.FieldType)) ∈ lw_all := lw_g (lw_at lw_m1 44 rfl) rfl
theorem w_I0 {l : Launch} {D : va_G} {cA : Nat → ClassId} {ks : List Nat} {ad : Nat → Nat} {A : Nat → Prop} (hO : klOk A ks ad) {st : CS} {a k : Nat} {f0 f1 f2 : Value} {x2 x3 : Int32} (hla : live ks ad a) (hk : k < 7) (he : st.2.2.2 (1000 + a) = .inr (7 + k, [f0, f1, f2])) : cV l yX7_init cX7_init 4 none 1 D cA ks ad A st [.ref a, .ref (ad 62), .int x2, .int x3] none (csP st (1000 + a) (.inr (7 + k, [.ref (ad 62), .int x2, .int x3]))) := by
  refine cc_ofI (own := RX7) (by decide) rfl (Nat.le_of_ble_eq_true rfl) (fun p e s m below meth c R args ls C hin hr hlk hP hS hl hcs => ?_)
  have hx := C.1
  have hb := C.2.1
  have hown := C.2.2.2.1
  have hts := C.2.2.2.2.1
  have hml := C.2.2.1
  have hR := C.2.2.2.2.2.1
  have hl : lv_has ls 4 [(0, .ref a), (1, .ref (ad 62)), (2, .int x2), (3, .int x3)] := hl
  refine lv_aload_n hx hb dX7_init_0 rfl (lv_at hl 0 rfl) ?_
  refine W.objInit hx hb hown (hts _ q460) (hts _ q127) (hts _ q128) rfl (by rw [hml]; exact hl.1) rfl dX7_init_1 (by have h1 := hR.1; simp at *; omega) (by have h2 := hR.2; simp at *; omega) ?_
  refine W.eq (g2 := F0 m 4 ls []) rfl ?_
  refine lv_aload_n hx hb dX7_init_4 rfl (lv_at hl 0 rfl) ?_
  refine lv_aload_n hx hb dX7_init_5 rfl (lv_at hl 1 rfl) ?_
  refine db_put C hin hO hP hS hla hk he rfl 0 (by decide) (fun k h => (db_T h).1) q461 rfl rfl dX7_init_6 (fun H locs hP hS => ?_)
  refine lv_aload_n hx hb dX7_init_9 rfl (lv_at hl 0 rfl) ?_
  refine lv_iload_n hx hb dX7_init_10 rfl (lv_at hl 2 rfl) ?_
  refine db_put C hin hO hP hS hla hk csP_at rfl 1 (by decide) (fun k h => (db_T h).2.1) q474 rfl rfl dX7_init_11 (fun H locs hP hS => ?_)
  rw [csP_csP] at hP
  refine lv_aload_n hx hb dX7_init_14 rfl (lv_at hl 0 rfl) ?_
  refine lv_iload_n hx hb dX7_init_15 rfl (lv_at hl 3 rfl) ?_
  refine db_put C hin hO hP hS hla hk csP_at rfl 2 (by decide) (fun k h => (db_T h).2.2.1) q477 rfl rfl dX7_init_16 (fun H locs hP hS => ?_)
  rw [csP_csP] at hP
  exact cc_vret hx hb hr hlk rfl hP hS dX7_init_19
abbrev cX8_init : ByteArray := prog_13_method_1_code
def yX8_init : MethodName := ⟨RX8, "<init>", "(LChapterLoan$Trace;II)V"⟩
theorem dX8_init_0 : decode cX8_init 0 = .ok (.aload_n 0, 1) := by decide +kernel
theorem dX8_init_1 : decode cX8_init 1 = .ok (.aload_n 1, 1) := by decide +kernel
theorem dX8_init_2 : decode cX8_init 2 = .ok (.iload_n 2, 1) := by decide +kernel
theorem dX8_init_3 : decode cX8_init 3 = .ok (.iload_n 3, 1) := by decide +kernel
theorem dX8_init_4 : decode cX8_init 4 = .ok (.invokespecial 3, 3) := by decide +kernel
theorem dX8_init_7 : decode cX8_init 7 = .ok (.return_, 1) := by decide +kernel
theorem q457 : (Jvm.Cond.methodLink "ChapterLoan$Plagiarist" (3 : Nat) ({ cls := "ChapterLoan$Debtor", name := "<init>", desc := "(LChapterLoan$Trace;II)V" } : Jvm.MethodName)) ∈ lw_all := lw_g (lw_at lw_m2 133 rfl) rfl
theorem q459 : (Jvm.Cond.code ({ cls := "ChapterLoan$Debtor", name := "<init>", desc := "(LChapterLoan$Trace;II)V" } : Jvm.MethodName) prog_3_method_1_code (4 : Nat) (Option.none : Option Jvm.ClassFile.FieldType)) ∈ lw_all := lw_g (lw_at lw_m2 135 rfl) rfl
theorem q458 : (Jvm.Cond.instanceMethod ({ cls := "ChapterLoan$Debtor", name := "<init>", desc := "(LChapterLoan$Trace;II)V" } : Jvm.MethodName)) ∈ lw_all := lw_g (lw_at lw_m2 134 rfl) rfl
theorem w_I1 {l : Launch} {D : va_G} {cA : Nat → ClassId} {ks : List Nat} {ad : Nat → Nat} {A : Nat → Prop} (hO : klOk A ks ad) {st : CS} {a k : Nat} {f0 f1 f2 : Value} {x2 x3 : Int32} (hla : live ks ad a) (hk : k < 7) (he : st.2.2.2 (1000 + a) = .inr (7 + k, [f0, f1, f2])) : cV l yX8_init cX8_init 4 none 2 D cA ks ad A st [.ref a, .ref (ad 62), .int x2, .int x3] none (csP st (1000 + a) (.inr (7 + k, [.ref (ad 62), .int x2, .int x3]))) := by
  refine cc_ofI (own := RX8) (by decide) rfl (Nat.le_of_ble_eq_true rfl) (fun p e s m below meth c R args ls C hin hr hlk hP hS hl hcs => ?_)
  have hx := C.1
  have hb := C.2.1
  have hts := C.2.2.2.2.1
  have hl : lv_has ls 4 [(0, .ref a), (1, .ref (ad 62)), (2, .int x2), (3, .int x3)] := hl
  refine lv_aload_n hx hb dX8_init_0 rfl (lv_at hl 0 rfl) ?_
  refine lv_aload_n hx hb dX8_init_1 rfl (lv_at hl 1 rfl) ?_
  refine lv_iload_n hx hb dX8_init_2 rfl (lv_at hl 2 rfl) ?_
  refine lv_iload_n hx hb dX8_init_3 rfl (lv_at hl 3 rfl) ?_
  refine cc_cI (As := [.ref (ad 62), .int x2, .int x3]) (n := 3) C hP hS (w_I0 hO hla hk he) (cwI 3 hts (lw_meth q459) rfl rfl rfl (hts _ q95) (hts _ q457) (hts _ q458) rfl (by decide +kernel) (mr_ C.2.2.2.2.2.1 (Nat.le_of_ble_eq_true rfl) (by decide))) rfl hl.1 rfl (Nat.le_of_ble_eq_true rfl) dX8_init_4 hcs (fun H locs hP hS => ?_)
  exact cc_vret hx hb hr hlk rfl hP hS dX8_init_7
abbrev cX9_init : ByteArray := prog_4_method_1_code
def yX9_init : MethodName := ⟨RX9, "<init>", "(LChapterLoan$Trace;II)V"⟩
theorem dX9_init_0 : decode cX9_init 0 = .ok (.aload_n 0, 1) := by decide +kernel
theorem dX9_init_1 : decode cX9_init 1 = .ok (.aload_n 1, 1) := by decide +kernel
theorem dX9_init_2 : decode cX9_init 2 = .ok (.iload_n 2, 1) := by decide +kernel
theorem dX9_init_3 : decode cX9_init 3 = .ok (.iload_n 3, 1) := by decide +kernel
theorem dX9_init_4 : decode cX9_init 4 = .ok (.invokespecial 3, 3) := by decide +kernel
theorem dX9_init_7 : decode cX9_init 7 = .ok (.return_, 1) := by decide +kernel
theorem q499 : (Jvm.Cond.methodLink "ChapterLoan$Dreamer" (3 : Nat) ({ cls := "ChapterLoan$Debtor", name := "<init>", desc := "(LChapterLoan$Trace;II)V" } : Jvm.MethodName)) ∈ lw_all := lw_g (lw_at lw_m2 175 rfl) rfl
theorem w_I2 {l : Launch} {D : va_G} {cA : Nat → ClassId} {ks : List Nat} {ad : Nat → Nat} {A : Nat → Prop} (hO : klOk A ks ad) {st : CS} {a k : Nat} {f0 f1 f2 : Value} {x2 x3 : Int32} (hla : live ks ad a) (hk : k < 7) (he : st.2.2.2 (1000 + a) = .inr (7 + k, [f0, f1, f2])) : cV l yX9_init cX9_init 4 none 2 D cA ks ad A st [.ref a, .ref (ad 62), .int x2, .int x3] none (csP st (1000 + a) (.inr (7 + k, [.ref (ad 62), .int x2, .int x3]))) := by
  refine cc_ofI (own := RX9) (by decide) rfl (Nat.le_of_ble_eq_true rfl) (fun p e s m below meth c R args ls C hin hr hlk hP hS hl hcs => ?_)
  have hx := C.1
  have hb := C.2.1
  have hts := C.2.2.2.2.1
  have hl : lv_has ls 4 [(0, .ref a), (1, .ref (ad 62)), (2, .int x2), (3, .int x3)] := hl
  refine lv_aload_n hx hb dX9_init_0 rfl (lv_at hl 0 rfl) ?_
  refine lv_aload_n hx hb dX9_init_1 rfl (lv_at hl 1 rfl) ?_
  refine lv_iload_n hx hb dX9_init_2 rfl (lv_at hl 2 rfl) ?_
  refine lv_iload_n hx hb dX9_init_3 rfl (lv_at hl 3 rfl) ?_
  refine cc_cI (As := [.ref (ad 62), .int x2, .int x3]) (n := 3) C hP hS (w_I0 hO hla hk he) (cwI 3 hts (lw_meth q459) rfl rfl rfl (hts _ q95) (hts _ q499) (hts _ q458) rfl (by decide +kernel) (mr_ C.2.2.2.2.2.1 (Nat.le_of_ble_eq_true rfl) (by decide))) rfl hl.1 rfl (Nat.le_of_ble_eq_true rfl) dX9_init_4 hcs (fun H locs hP hS => ?_)
  exact cc_vret hx hb hr hlk rfl hP hS dX9_init_7
abbrev cX10_init : ByteArray := prog_9_method_1_code
def yX10_init : MethodName := ⟨RX10, "<init>", "(LChapterLoan$Trace;II)V"⟩
theorem dX10_init_0 : decode cX10_init 0 = .ok (.aload_n 0, 1) := by decide +kernel
theorem dX10_init_1 : decode cX10_init 1 = .ok (.aload_n 1, 1) := by decide +kernel
theorem dX10_init_2 : decode cX10_init 2 = .ok (.iload_n 2, 1) := by decide +kernel
theorem dX10_init_3 : decode cX10_init 3 = .ok (.iload_n 3, 1) := by decide +kernel
theorem dX10_init_4 : decode cX10_init 4 = .ok (.invokespecial 3, 3) := by decide +kernel
theorem dX10_init_7 : decode cX10_init 7 = .ok (.return_, 1) := by decide +kernel
theorem q509 : (Jvm.Cond.methodLink "ChapterLoan$Ghost" (3 : Nat) ({ cls := "ChapterLoan$Debtor", name := "<init>", desc := "(LChapterLoan$Trace;II)V" } : Jvm.MethodName)) ∈ lw_all := lw_g (lw_at lw_m2 185 rfl) rfl
theorem w_I3 {l : Launch} {D : va_G} {cA : Nat → ClassId} {ks : List Nat} {ad : Nat → Nat} {A : Nat → Prop} (hO : klOk A ks ad) {st : CS} {a k : Nat} {f0 f1 f2 : Value} {x2 x3 : Int32} (hla : live ks ad a) (hk : k < 7) (he : st.2.2.2 (1000 + a) = .inr (7 + k, [f0, f1, f2])) : cV l yX10_init cX10_init 4 none 2 D cA ks ad A st [.ref a, .ref (ad 62), .int x2, .int x3] none (csP st (1000 + a) (.inr (7 + k, [.ref (ad 62), .int x2, .int x3]))) := by
  refine cc_ofI (own := RX10) (by decide) rfl (Nat.le_of_ble_eq_true rfl) (fun p e s m below meth c R args ls C hin hr hlk hP hS hl hcs => ?_)
  have hx := C.1
  have hb := C.2.1
  have hts := C.2.2.2.2.1
  have hl : lv_has ls 4 [(0, .ref a), (1, .ref (ad 62)), (2, .int x2), (3, .int x3)] := hl
  refine lv_aload_n hx hb dX10_init_0 rfl (lv_at hl 0 rfl) ?_
  refine lv_aload_n hx hb dX10_init_1 rfl (lv_at hl 1 rfl) ?_
  refine lv_iload_n hx hb dX10_init_2 rfl (lv_at hl 2 rfl) ?_
  refine lv_iload_n hx hb dX10_init_3 rfl (lv_at hl 3 rfl) ?_
  refine cc_cI (As := [.ref (ad 62), .int x2, .int x3]) (n := 3) C hP hS (w_I0 hO hla hk he) (cwI 3 hts (lw_meth q459) rfl rfl rfl (hts _ q95) (hts _ q509) (hts _ q458) rfl (by decide +kernel) (mr_ C.2.2.2.2.2.1 (Nat.le_of_ble_eq_true rfl) (by decide))) rfl hl.1 rfl (Nat.le_of_ble_eq_true rfl) dX10_init_4 hcs (fun H locs hP hS => ?_)
  exact cc_vret hx hb hr hlk rfl hP hS dX10_init_7
abbrev cX11_init : ByteArray := prog_26_method_1_code
def yX11_init : MethodName := ⟨RX11, "<init>", "(LChapterLoan$Trace;II)V"⟩
theorem dX11_init_0 : decode cX11_init 0 = .ok (.aload_n 0, 1) := by decide +kernel
theorem dX11_init_1 : decode cX11_init 1 = .ok (.aload_n 1, 1) := by decide +kernel
theorem dX11_init_2 : decode cX11_init 2 = .ok (.iload_n 2, 1) := by decide +kernel
theorem dX11_init_3 : decode cX11_init 3 = .ok (.iload_n 3, 1) := by decide +kernel
theorem dX11_init_4 : decode cX11_init 4 = .ok (.invokespecial 3, 3) := by decide +kernel
theorem dX11_init_7 : decode cX11_init 7 = .ok (.return_, 1) := by decide +kernel
theorem q519 : (Jvm.Cond.methodLink "ChapterLoan$Twin" (3 : Nat) ({ cls := "ChapterLoan$Plagiarist", name := "<init>", desc := "(LChapterLoan$Trace;II)V" } : Jvm.MethodName)) ∈ lw_all := lw_g (lw_at lw_m2 195 rfl) rfl
theorem q456 : (Jvm.Cond.code ({ cls := "ChapterLoan$Plagiarist", name := "<init>", desc := "(LChapterLoan$Trace;II)V" } : Jvm.MethodName) prog_13_method_1_code (4 : Nat) (Option.none : Option Jvm.ClassFile.FieldType)) ∈ lw_all := lw_g (lw_at lw_m2 132 rfl) rfl
theorem q455 : (Jvm.Cond.instanceMethod ({ cls := "ChapterLoan$Plagiarist", name := "<init>", desc := "(LChapterLoan$Trace;II)V" } : Jvm.MethodName)) ∈ lw_all := lw_g (lw_at lw_m2 131 rfl) rfl
theorem w_I4 {l : Launch} {D : va_G} {cA : Nat → ClassId} {ks : List Nat} {ad : Nat → Nat} {A : Nat → Prop} (hO : klOk A ks ad) {st : CS} {a k : Nat} {f0 f1 f2 : Value} {x2 x3 : Int32} (hla : live ks ad a) (hk : k < 7) (he : st.2.2.2 (1000 + a) = .inr (7 + k, [f0, f1, f2])) : cV l yX11_init cX11_init 4 none 3 D cA ks ad A st [.ref a, .ref (ad 62), .int x2, .int x3] none (csP st (1000 + a) (.inr (7 + k, [.ref (ad 62), .int x2, .int x3]))) := by
  refine cc_ofI (own := RX11) (by decide) rfl (Nat.le_of_ble_eq_true rfl) (fun p e s m below meth c R args ls C hin hr hlk hP hS hl hcs => ?_)
  have hx := C.1
  have hb := C.2.1
  have hts := C.2.2.2.2.1
  have hl : lv_has ls 4 [(0, .ref a), (1, .ref (ad 62)), (2, .int x2), (3, .int x3)] := hl
  refine lv_aload_n hx hb dX11_init_0 rfl (lv_at hl 0 rfl) ?_
  refine lv_aload_n hx hb dX11_init_1 rfl (lv_at hl 1 rfl) ?_
  refine lv_iload_n hx hb dX11_init_2 rfl (lv_at hl 2 rfl) ?_
  refine lv_iload_n hx hb dX11_init_3 rfl (lv_at hl 3 rfl) ?_
  refine cc_cI (As := [.ref (ad 62), .int x2, .int x3]) (n := 3) C hP hS (w_I1 hO hla hk he) (cwI 3 hts (lw_meth q456) rfl rfl rfl (hts _ q96) (hts _ q519) (hts _ q455) rfl (by decide +kernel) (mr_ C.2.2.2.2.2.1 (Nat.le_of_ble_eq_true rfl) (by decide))) rfl hl.1 rfl (Nat.le_of_ble_eq_true rfl) dX11_init_4 hcs (fun H locs hP hS => ?_)
  exact cc_vret hx hb hr hlk rfl hP hS dX11_init_7
abbrev cX12_init : ByteArray := prog_17_method_1_code
def yX12_init : MethodName := ⟨RX12, "<init>", "(LChapterLoan$Trace;II)V"⟩
theorem dX12_init_0 : decode cX12_init 0 = .ok (.aload_n 0, 1) := by decide +kernel
theorem dX12_init_1 : decode cX12_init 1 = .ok (.aload_n 1, 1) := by decide +kernel
theorem dX12_init_2 : decode cX12_init 2 = .ok (.iload_n 2, 1) := by decide +kernel
theorem dX12_init_3 : decode cX12_init 3 = .ok (.iload_n 3, 1) := by decide +kernel
theorem dX12_init_4 : decode cX12_init 4 = .ok (.invokespecial 3, 3) := by decide +kernel
theorem dX12_init_7 : decode cX12_init 7 = .ok (.return_, 1) := by decide +kernel
theorem q529 : (Jvm.Cond.methodLink "ChapterLoan$Seer" (3 : Nat) ({ cls := "ChapterLoan$Dreamer", name := "<init>", desc := "(LChapterLoan$Trace;II)V" } : Jvm.MethodName)) ∈ lw_all := lw_g (lw_at lw_m2 205 rfl) rfl
theorem q498 : (Jvm.Cond.code ({ cls := "ChapterLoan$Dreamer", name := "<init>", desc := "(LChapterLoan$Trace;II)V" } : Jvm.MethodName) prog_4_method_1_code (4 : Nat) (Option.none : Option Jvm.ClassFile.FieldType)) ∈ lw_all := lw_g (lw_at lw_m2 174 rfl) rfl
theorem q497 : (Jvm.Cond.instanceMethod ({ cls := "ChapterLoan$Dreamer", name := "<init>", desc := "(LChapterLoan$Trace;II)V" } : Jvm.MethodName)) ∈ lw_all := lw_g (lw_at lw_m2 173 rfl) rfl
theorem w_I5 {l : Launch} {D : va_G} {cA : Nat → ClassId} {ks : List Nat} {ad : Nat → Nat} {A : Nat → Prop} (hO : klOk A ks ad) {st : CS} {a k : Nat} {f0 f1 f2 : Value} {x2 x3 : Int32} (hla : live ks ad a) (hk : k < 7) (he : st.2.2.2 (1000 + a) = .inr (7 + k, [f0, f1, f2])) : cV l yX12_init cX12_init 4 none 3 D cA ks ad A st [.ref a, .ref (ad 62), .int x2, .int x3] none (csP st (1000 + a) (.inr (7 + k, [.ref (ad 62), .int x2, .int x3]))) := by
  refine cc_ofI (own := RX12) (by decide) rfl (Nat.le_of_ble_eq_true rfl) (fun p e s m below meth c R args ls C hin hr hlk hP hS hl hcs => ?_)
  have hx := C.1
  have hb := C.2.1
  have hts := C.2.2.2.2.1
  have hl : lv_has ls 4 [(0, .ref a), (1, .ref (ad 62)), (2, .int x2), (3, .int x3)] := hl
  refine lv_aload_n hx hb dX12_init_0 rfl (lv_at hl 0 rfl) ?_
  refine lv_aload_n hx hb dX12_init_1 rfl (lv_at hl 1 rfl) ?_
  refine lv_iload_n hx hb dX12_init_2 rfl (lv_at hl 2 rfl) ?_
  refine lv_iload_n hx hb dX12_init_3 rfl (lv_at hl 3 rfl) ?_
  refine cc_cI (As := [.ref (ad 62), .int x2, .int x3]) (n := 3) C hP hS (w_I2 hO hla hk he) (cwI 3 hts (lw_meth q498) rfl rfl rfl (hts _ q97) (hts _ q529) (hts _ q497) rfl (by decide +kernel) (mr_ C.2.2.2.2.2.1 (Nat.le_of_ble_eq_true rfl) (by decide))) rfl hl.1 rfl (Nat.le_of_ble_eq_true rfl) dX12_init_4 hcs (fun H locs hP hS => ?_)
  exact cc_vret hx hb hr hlk rfl hP hS dX12_init_7
abbrev cX13_init : ByteArray := prog_16_method_1_code
def yX13_init : MethodName := ⟨RX13, "<init>", "(LChapterLoan$Trace;II)V"⟩
theorem dX13_init_0 : decode cX13_init 0 = .ok (.aload_n 0, 1) := by decide +kernel
theorem dX13_init_1 : decode cX13_init 1 = .ok (.aload_n 1, 1) := by decide +kernel
theorem dX13_init_2 : decode cX13_init 2 = .ok (.iload_n 2, 1) := by decide +kernel
theorem dX13_init_3 : decode cX13_init 3 = .ok (.iload_n 3, 1) := by decide +kernel
theorem dX13_init_4 : decode cX13_init 4 = .ok (.invokespecial 3, 3) := by decide +kernel
theorem dX13_init_7 : decode cX13_init 7 = .ok (.return_, 1) := by decide +kernel
theorem q539 : (Jvm.Cond.methodLink "ChapterLoan$Saint" (3 : Nat) ({ cls := "ChapterLoan$Ghost", name := "<init>", desc := "(LChapterLoan$Trace;II)V" } : Jvm.MethodName)) ∈ lw_all := lw_g (lw_at lw_m2 215 rfl) rfl
theorem q508 : (Jvm.Cond.code ({ cls := "ChapterLoan$Ghost", name := "<init>", desc := "(LChapterLoan$Trace;II)V" } : Jvm.MethodName) prog_9_method_1_code (4 : Nat) (Option.none : Option Jvm.ClassFile.FieldType)) ∈ lw_all := lw_g (lw_at lw_m2 184 rfl) rfl
theorem q507 : (Jvm.Cond.instanceMethod ({ cls := "ChapterLoan$Ghost", name := "<init>", desc := "(LChapterLoan$Trace;II)V" } : Jvm.MethodName)) ∈ lw_all := lw_g (lw_at lw_m2 183 rfl) rfl
theorem w_I6 {l : Launch} {D : va_G} {cA : Nat → ClassId} {ks : List Nat} {ad : Nat → Nat} {A : Nat → Prop} (hO : klOk A ks ad) {st : CS} {a k : Nat} {f0 f1 f2 : Value} {x2 x3 : Int32} (hla : live ks ad a) (hk : k < 7) (he : st.2.2.2 (1000 + a) = .inr (7 + k, [f0, f1, f2])) : cV l yX13_init cX13_init 4 none 3 D cA ks ad A st [.ref a, .ref (ad 62), .int x2, .int x3] none (csP st (1000 + a) (.inr (7 + k, [.ref (ad 62), .int x2, .int x3]))) := by
  refine cc_ofI (own := RX13) (by decide) rfl (Nat.le_of_ble_eq_true rfl) (fun p e s m below meth c R args ls C hin hr hlk hP hS hl hcs => ?_)
  have hx := C.1
  have hb := C.2.1
  have hts := C.2.2.2.2.1
  have hl : lv_has ls 4 [(0, .ref a), (1, .ref (ad 62)), (2, .int x2), (3, .int x3)] := hl
  refine lv_aload_n hx hb dX13_init_0 rfl (lv_at hl 0 rfl) ?_
  refine lv_aload_n hx hb dX13_init_1 rfl (lv_at hl 1 rfl) ?_
  refine lv_iload_n hx hb dX13_init_2 rfl (lv_at hl 2 rfl) ?_
  refine lv_iload_n hx hb dX13_init_3 rfl (lv_at hl 3 rfl) ?_
  refine cc_cI (As := [.ref (ad 62), .int x2, .int x3]) (n := 3) C hP hS (w_I3 hO hla hk he) (cwI 3 hts (lw_meth q508) rfl rfl rfl (hts _ q98) (hts _ q539) (hts _ q507) rfl (by decide +kernel) (mr_ C.2.2.2.2.2.1 (Nat.le_of_ble_eq_true rfl) (by decide))) rfl hl.1 rfl (Nat.le_of_ble_eq_true rfl) dX13_init_4 hcs (fun H locs hP hS => ?_)
  exact cc_vret hx hb hr hlk rfl hP hS dX13_init_7
end
