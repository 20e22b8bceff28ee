/-! constructors of sheets -/
set_option maxRecDepth 100000
section
variable {p : Program} {l : Launch} {e : Env} {R : Room} {s : State} {m : MethodId} {args : Array Value} {below : List Frame} {meth : Method} {c : Code} {H : Heap} {locs : List Loc} {cells slots d : Nat} {Q : State → Prop} {cc : ByteArray} {pc nL : Nat} {ls : Array Slot} {rest : List Value} {D : va_G} {cA : Nat → ClassId} {ks : List Nat} {ad : Nat → Nat} {A : Nat → Prop} {st : CS} {H0 : Heap} {own : String} {index : Nat}
theorem csP_ne {st : CS} {k k' : Nat} {e1 : va_E} (h : k' ≠ k) : (csP st k e1).2.2.2 k' = st.2.2.2 k' := by simp [csP, va_up, h]
abbrev cX21_init : ByteArray := prog_18_method_1_code
def yX21_init : MethodName := ⟨RX21, "<init>", "()V"⟩
theorem dX21_init_0 : decode cX21_init 0 = .ok (.aload_n 0, 1) := by decide +kernel
theorem dX21_init_1 : decode cX21_init 1 = .ok (.invokespecial 1, 3) := by decide +kernel
theorem dX21_init_4 : decode cX21_init 4 = .ok (.return_, 1) := by decide +kernel
theorem q1417 : (Jvm.Cond.methodLink "ChapterLoan$Sheet" (1 : Nat) ({ cls := "java/lang/Object", name := "<init>", desc := "()V" } : Jvm.MethodName)) ∈ lw_all := lw_g (lw_at lw_m6 133 rfl) rfl
theorem q1416 : (Jvm.Cond.code ({ cls := "ChapterLoan$Sheet", name := "<init>", desc := "()V" } : Jvm.MethodName) prog_18_method_1_code (1 : Nat) (Option.none : Option Jvm.ClassFile.FieldType)) ∈ lw_all := lw_g (lw_at lw_m6 132 rfl) rfl
theorem q1415 : (Jvm.Cond.instanceMethod ({ cls := "ChapterLoan$Sheet", name := "<init>", desc := "()V" } : Jvm.MethodName)) ∈ lw_all := lw_g (lw_at lw_m6 131 rfl) rfl
theorem q117 : (Jvm.Cond.initialized "ChapterLoan$Sheet") ∈ lw_all := lw_g (lw_at lw_m1 33 rfl) rfl
theorem w_SI {l : Launch} {D : va_G} {cA : Nat → ClassId} {ks : List Nat} {ad : Nat → Nat} {A : Nat → Prop} {st : CS} {a : Nat} : cV l yX21_init cX21_init 1 none 1 D cA ks ad A st [.ref a] none st := by
  refine cc_ofI (own := RX21) (by decide) rfl (Nat.le_of_ble_eq_true rfl) (fun p e s m below meth c R args ls C hin hr hlk hP hS hl hcs => ?_)
  have hx := C.1
  have hb := C.2.1
  have hown := C.2.2.2.1
  have hts := C.2.2.2.2.1
  have hml := C.2.2.1
  have hR := C.2.2.2.2.2.1
  have hl : lv_has ls 1 [(0, .ref a)] := hl
  refine lv_aload_n hx hb dX21_init_0 rfl (lv_at hl 0 rfl) ?_
  refine W.objInit hx hb hown (hts _ q1417) (hts _ q127) (hts _ q128) rfl (by rw [hml]; exact hl.1) rfl dX21_init_1 (by have h1 := hR.1; simp at *; omega) (by have h2 := hR.2; simp at *; omega) ?_
  refine W.eq (g2 := F0 m 4 ls []) rfl ?_
  exact cc_vret hx hb hr hlk rfl hP hS dX21_init_4
/-- a call of a constructor of a nest mate -/
theorem cc_cIN {y : MethodName} {bytes : ByteArray} {maxL n dk : Nat} {As st0 : List Value} {b : Addr} {r : Option Value} {st' : CS} {host : String} (C : cC p R d s m args c cc nL own D cA A) (hP : cW D cA ks ad st H) (hS : va_S A s.heap H locs) (hM : cV l y bytes maxL none dk D cA ks ad A st (.ref b :: As) r st') (cw : va_CN R s args own index y host bytes maxL none (ws_ y bytes maxL none) (k2_rm dk (40 * dk)) 0 0 n ∧ y.name = "<init>" ∧ (Cond.instanceMethod y).before args s = true)
    (hn : As.length = n) (hsz : ls.size = nL) (hst : st0 = As.reverse ++ .ref b :: rest) (hW : (rest.map fun v => v.category).sum ≤ 8) (hdg : decode cc pc = .ok (.invokespecial index, 3)) (hcs : cells ≤ R.cells ∧ slots ≤ R.slots)
    (kk : ∀ (H1 : Heap) (locs1 : List Loc), cW D cA ks ad st' H1 → va_S A s.heap H1 locs1 → W p l e R s m args below meth c H1 locs1 cells slots Q (F0 m (pc + 3) ls (r.toList ++ rest))) : W p l e R s m args below meth c H locs cells slots Q (F0 m pc ls st0) :=
  cc_end hS (run_of (va_runIN (locs := locs) (cells := cells) (slots := slots) (p := p) (e := e) (below := below) (meth := meth) (g := F0 m pc ls st0) (As := As) (rest := rest) ⟨C.1, C.2.1, C.2.2.1, C.2.2.2.1, C.2.2.2.2.1⟩ hM cw ⟨cc_blind, cc_pre C hP hS.1⟩ rfl hn hsz hst (lv_room hW) hdg hcs)) kk
theorem cc_ofA2 {y : MethodName} {bytes : ByteArray} {maxL kc kn nx : Nat} {ret : Option FieldType} {As : List Value} {Qc : Array Value → State → Outcome → State → Prop} (hy : plainName y.cls = true) (hyc : y.cls = own) (hnl : (lg_sl As).length ≤ maxL)
    (body : ∀ (p : Program) (e : Env) (s : State) (m : MethodId) (below : List Frame) (meth : Method) (c : Code) (R : Room) (args : Array Value) (ls : Array Slot), cC p R d s m args c bytes maxL own D cA A → meth.name = y.name → meth.sig.returnType = ret → meth.locks = false → cW D cA ks ad st s.heap → va_S A s.heap s.heap [] → lv_has ls maxL (lv_args 0 As) → (kc ≤ R.cells ∧ kn ≤ R.slots) → s.heap.size = nx →
      W p l e R s m args below meth c s.heap [] 0 0 (MQ below Qc args s kc kn A) (F0 m 0 ls [])) : Met l y (ws_ y bytes maxL ret) (rmA d kc kn) (nPre nx D cA ks ad A st As) Qc kc kn A := by
  refine Met.ofW (cc := bytes) (maxL := maxL) (ret := ret) hy rfl ?_
  intro p e s m args below meth c s₁ B hml hv
  obtain ⟨⟨rfl, hP, hK, hN, hA⟩, hnx⟩ := hv
  have hts := atoms_spec (ws := ws_ y bytes maxL ret) B.pre
  have hts : ∀ w ∈ lw_all, w.before _ s = true := fun w h => hts w (List.mem_cons_of_mem _ h)
  have hown : s.vm.findClass y.cls = some m.cls := findClass_of_methodNamed B.named
  rw [hyc] at hown
  rw [lg_entry_eq]
  exact body p e s m below meth c _ _ _ ⟨B.exec, B.bytes, hml, hown, hts, ⟨Nat.le_refl _, Nat.le_refl _⟩, hK, hN, hA⟩ (name_of_methodNamed B.named B.method).1 B.returns B.notSynchronized hP va_S.rf (lv_entry _ hnl) ⟨Nat.le_refl _, Nat.le_refl _⟩ hnx

/-- what a sheet's constructor makes -/
def S_init (w : Nat) (cA : Nat → ClassId) (nx a : Nat) (st : CS) (x1 : Int32) : Option CS := if ¬ x1 < 0 ∧ x1.toNatClampNeg ≤ 40 then some (csP (csP st (1000 + nx) (.inl (cA (shT w), x1.toNatClampNeg, .inl (fun _ => 0)))) (1000 + a) (.inr (19 + w, [.ref nx]))) else none
theorem S_init_some {w nx a : Nat} {cA : Nat → ClassId} {st st' : CS} {x1 : Int32} (h : S_init w cA nx a st x1 = some st') : (¬ x1 < 0 ∧ x1.toNatClampNeg ≤ 40) ∧ csP (csP st (1000 + nx) (.inl (cA (shT w), x1.toNatClampNeg, .inl (fun _ => 0)))) (1000 + a) (.inr (19 + w, [.ref nx])) = st' := by
  unfold S_init at h
  split at h
  · rename_i hq
    exact ⟨hq, Option.some.inj h⟩
  · cases h
abbrev cX22_init : ByteArray := prog_2_method_1_code
def yX22_init : MethodName := ⟨RX22, "<init>", "(I)V"⟩
theorem dX22_init_0 : decode cX22_init 0 = .ok (.aload_n 0, 1) := by decide +kernel
theorem dX22_init_1 : decode cX22_init 1 = .ok (.invokespecial 1, 3) := by decide +kernel
theorem dX22_init_4 : decode cX22_init 4 = .ok (.aload_n 0, 1) := by decide +kernel
theorem dX22_init_5 : decode cX22_init 5 = .ok (.iload_n 1, 1) := by decide +kernel
theorem dX22_init_6 : decode cX22_init 6 = .ok (.newarray .byte, 2) := by decide +kernel
theorem dX22_init_8 : decode cX22_init 8 = .ok (.putfield 7, 3) := by decide +kernel
theorem dX22_init_11 : decode cX22_init 11 = .ok (.return_, 1) := by decide +kernel
theorem q221 : (Jvm.Cond.arrayClass Jvm.ClassFile.FieldType.byte) ∈ lw_all := lw_g (lw_at lw_m1 137 rfl) rfl
theorem w_SI0 {l : Launch} {D : va_G} {cA : Nat → ClassId} {ks : List Nat} {ad : Nat → Nat} {A : Nat → Prop} (had : adP ad) (hO : klOk A ks ad) {st st' : CS} {nx a : Nat} {f0 : Value} {x1 : Int32} (hla : live ks ad a) (he : st.2.2.2 (1000 + a) = .inr (19, [f0])) (h : S_init 0 cA nx a st x1 = some st') : Met l yX22_init (ws_ yX22_init cX22_init 2 none) (rmA 3 1 40) (nPre nx D cA ks ad A st [.ref a, .int x1]) (nQ nx none D cA ks ad A st') 1 40 A := by
  obtain ⟨⟨h1, h2⟩, rfl⟩ := S_init_some h
  refine cc_ofA2 (own := RX22) (by decide) rfl (Nat.le_of_ble_eq_true rfl) (fun p e s m below meth c R args ls C hin hr hlk hP hS hl hcsA hnx => ?_)
  have hx := C.1
  have hb := C.2.1
  have hts := C.2.2.2.2.1
  have hcs : 0 ≤ R.cells ∧ 0 ≤ R.slots := ⟨Nat.zero_le _, Nat.zero_le _⟩
  have hP0 := hP
  have hl : lv_has ls 2 [(0, .ref a), (1, .int x1)] := hl
  refine lv_aload_n hx hb dX22_init_0 rfl (lv_at hl 0 rfl) ?_
  refine cc_cIN (As := []) (n := 0) C hP hS w_SI ⟨va_cnB 0 hts (lw_meth q1416) rfl rfl rfl (C.2.2.2.2.2.2.2.1 _ (List.mem_of_getElem? (i := 90) rfl)) (hts _ q117) (by decide +kernel) (mr_ C.2.2.2.2.2.1 (Nat.le_of_ble_eq_true rfl) (by decide)), rfl, hts _ q1415⟩ rfl hl.1 rfl (Nat.le_of_ble_eq_true rfl) dX22_init_1 hcs (fun H locs hP hS => ?_)
  refine W.size0 (fun hH => ?_)
  rw [hnx] at hH
  refine lv_aload_n hx hb dX22_init_4 rfl (lv_at hl 0 rfl) ?_
  refine lv_iload_n hx hb dX22_init_5 rfl (lv_at hl 1 rfl) ?_
  refine cc_newa (atype := .byte) (j := 2) (x := cA 2) (f0 := fun _ => 0) C had hO hP hS q221 rfl (fun _ => rfl) h1 rfl (Nat.le_trans (Nat.mul_le_mul h2 (show componentBytes (newarray.typeOf .byte) ≤ 8 by decide)) (by decide)) (by omega) (by omega) dX22_init_6 (fun H hz1 hO hP hS => ?_)
  rw [hH] at hO hP ⊢
  have hne : 1000 + a ≠ 1000 + nx := fun e => by have h3 := hla.1; rw [e] at h3; have h4 := ad_lt (k := 1000 + nx) (show cW D cA ks ad st s.heap from hP0) h3; rw [had] at h4; omega
  refine pl_putF (ci := 19) (Cn := RX22) (ref := RX22) (T := TX22) (N := 1) (ty0 := tyX22) (fs := [f0]) C hin hO hP hS (live_app hla) ((csP_ne hne).trans he) rfl in_X22 tyX22_ok nmX22 0 (by decide) q1418 (fun _ h => h) rfl rfl rfl rfl (Nat.le_of_ble_eq_true rfl) (fun b _ hb => (show b = nx by simpa using hb) ▸ live_new had) dX22_init_8 (fun H locs hP hS => ?_)
  refine W.widen (k := 1) (n := 40) (by omega) (by omega) ?_
  refine W.sizeLe (fun hz => ?_)
  exact W.vret hx hb hr (fun t ht _ => ⟨rfl, by rw [ht]; exact hP, hS.F ht, by rw [ht]; have hz3 := ad_lt hP (k := 1000 + nx) (by simp); rw [had] at hz3; omega⟩) hS.2.2 dX22_init_11
abbrev cX23_init : ByteArray := prog_20_method_1_code
def yX23_init : MethodName := ⟨RX23, "<init>", "(I)V"⟩
theorem dX23_init_0 : decode cX23_init 0 = .ok (.aload_n 0, 1) := by decide +kernel
theorem dX23_init_1 : decode cX23_init 1 = .ok (.invokespecial 1, 3) := by decide +kernel
theorem dX23_init_4 : decode cX23_init 4 = .ok (.aload_n 0, 1) := by decide +kernel
theorem dX23_init_5 : decode cX23_init 5 = .ok (.iload_n 1, 1) := by decide +kernel
theorem dX23_init_6 : decode cX23_init 6 = .ok (.newarray .short, 2) := by decide +kernel
theorem dX23_init_8 : decode cX23_init 8 = .ok (.putfield 7, 3) := by decide +kernel
theorem dX23_init_11 : decode cX23_init 11 = .ok (.return_, 1) := by decide +kernel
theorem q1432 : (Jvm.Cond.arrayClass Jvm.ClassFile.FieldType.short) ∈ lw_all := lw_g (lw_at lw_m6 148 rfl) rfl
theorem w_SI1 {l : Launch} {D : va_G} {cA : Nat → ClassId} {ks : List Nat} {ad : Nat → Nat} {A : Nat → Prop} (had : adP ad) (hO : klOk A ks ad) {st st' : CS} {nx a : Nat} {f0 : Value} {x1 : Int32} (hla : live ks ad a) (he : st.2.2.2 (1000 + a) = .inr (20, [f0])) (h : S_init 1 cA nx a st x1 = some st') : Met l yX23_init (ws_ yX23_init cX23_init 2 none) (rmA 3 1 40) (nPre nx D cA ks ad A st [.ref a, .int x1]) (nQ nx none D cA ks ad A st') 1 40 A := by
  obtain ⟨⟨h1, h2⟩, rfl⟩ := S_init_some h
  refine cc_ofA2 (own := RX23) (by decide) rfl (Nat.le_of_ble_eq_true rfl) (fun p e s m below meth c R args ls C hin hr hlk hP hS hl hcsA hnx => ?_)
  have hx := C.1
  have hb := C.2.1
  have hts := C.2.2.2.2.1
  have hcs : 0 ≤ R.cells ∧ 0 ≤ R.slots := ⟨Nat.zero_le _, Nat.zero_le _⟩
  have hP0 := hP
  have hl : lv_has ls 2 [(0, .ref a), (1, .int x1)] := hl
  refine lv_aload_n hx hb dX23_init_0 rfl (lv_at hl 0 rfl) ?_
  refine cc_cIN (As := []) (n := 0) C hP hS w_SI ⟨va_cnB 0 hts (lw_meth q1416) rfl rfl rfl (C.2.2.2.2.2.2.2.1 _ (List.mem_of_getElem? (i := 91) rfl)) (hts _ q117) (by decide +kernel) (mr_ C.2.2.2.2.2.1 (Nat.le_of_ble_eq_true rfl) (by decide)), rfl, hts _ q1415⟩ rfl hl.1 rfl (Nat.le_of_ble_eq_true rfl) dX23_init_1 hcs (fun H locs hP hS => ?_)
  refine W.size0 (fun hH => ?_)
  rw [hnx] at hH
  refine lv_aload_n hx hb dX23_init_4 rfl (lv_at hl 0 rfl) ?_
  refine lv_iload_n hx hb dX23_init_5 rfl (lv_at hl 1 rfl) ?_
  refine cc_newa (atype := .short) (j := 3) (x := cA 3) (f0 := fun _ => 0) C had hO hP hS q1432 rfl (fun _ => rfl) h1 rfl (Nat.le_trans (Nat.mul_le_mul h2 (show componentBytes (newarray.typeOf .short) ≤ 8 by decide)) (by decide)) (by omega) (by omega) dX23_init_6 (fun H hz1 hO hP hS => ?_)
  rw [hH] at hO hP ⊢
  have hne : 1000 + a ≠ 1000 + nx := fun e => by have h3 := hla.1; rw [e] at h3; have h4 := ad_lt (k := 1000 + nx) (show cW D cA ks ad st s.heap from hP0) h3; rw [had] at h4; omega
  refine pl_putF (ci := 20) (Cn := RX23) (ref := RX23) (T := TX23) (N := 1) (ty0 := tyX23) (fs := [f0]) C hin hO hP hS (live_app hla) ((csP_ne hne).trans he) rfl in_X23 tyX23_ok nmX23 0 (by decide) q1428 (fun _ h => h) rfl rfl rfl rfl (Nat.le_of_ble_eq_true rfl) (fun b _ hb => (show b = nx by simpa using hb) ▸ live_new had) dX23_init_8 (fun H locs hP hS => ?_)
  refine W.widen (k := 1) (n := 40) (by omega) (by omega) ?_
  refine W.sizeLe (fun hz => ?_)
  exact W.vret hx hb hr (fun t ht _ => ⟨rfl, by rw [ht]; exact hP, hS.F ht, by rw [ht]; have hz3 := ad_lt hP (k := 1000 + nx) (by simp); rw [had] at hz3; omega⟩) hS.2.2 dX23_init_11
abbrev cX24_init : ByteArray := prog_10_method_1_code
def yX24_init : MethodName := ⟨RX24, "<init>", "(I)V"⟩
theorem dX24_init_0 : decode cX24_init 0 = .ok (.aload_n 0, 1) := by decide +kernel
theorem dX24_init_1 : decode cX24_init 1 = .ok (.invokespecial 1, 3) := by decide +kernel
theorem dX24_init_4 : decode cX24_init 4 = .ok (.aload_n 0, 1) := by decide +kernel
theorem dX24_init_5 : decode cX24_init 5 = .ok (.iload_n 1, 1) := by decide +kernel
theorem dX24_init_6 : decode cX24_init 6 = .ok (.newarray .int, 2) := by decide +kernel
theorem dX24_init_8 : decode cX24_init 8 = .ok (.putfield 7, 3) := by decide +kernel
theorem dX24_init_11 : decode cX24_init 11 = .ok (.return_, 1) := by decide +kernel
theorem q219 : (Jvm.Cond.arrayClass Jvm.ClassFile.FieldType.int) ∈ lw_all := lw_g (lw_at lw_m1 135 rfl) rfl
theorem w_SI2 {l : Launch} {D : va_G} {cA : Nat → ClassId} {ks : List Nat} {ad : Nat → Nat} {A : Nat → Prop} (had : adP ad) (hO : klOk A ks ad) {st st' : CS} {nx a : Nat} {f0 : Value} {x1 : Int32} (hla : live ks ad a) (he : st.2.2.2 (1000 + a) = .inr (21, [f0])) (h : S_init 2 cA nx a st x1 = some st') : Met l yX24_init (ws_ yX24_init cX24_init 2 none) (rmA 3 1 40) (nPre nx D cA ks ad A st [.ref a, .int x1]) (nQ nx none D cA ks ad A st') 1 40 A := by
  obtain ⟨⟨h1, h2⟩, rfl⟩ := S_init_some h
  refine cc_ofA2 (own := RX24) (by decide) rfl (Nat.le_of_ble_eq_true rfl) (fun p e s m below meth c R args ls C hin hr hlk hP hS hl hcsA hnx => ?_)
  have hx := C.1
  have hb := C.2.1
  have hts := C.2.2.2.2.1
  have hcs : 0 ≤ R.cells ∧ 0 ≤ R.slots := ⟨Nat.zero_le _, Nat.zero_le _⟩
  have hP0 := hP
  have hl : lv_has ls 2 [(0, .ref a), (1, .int x1)] := hl
  refine lv_aload_n hx hb dX24_init_0 rfl (lv_at hl 0 rfl) ?_
  refine cc_cIN (As := []) (n := 0) C hP hS w_SI ⟨va_cnB 0 hts (lw_meth q1416) rfl rfl rfl (C.2.2.2.2.2.2.2.1 _ (List.mem_of_getElem? (i := 92) rfl)) (hts _ q117) (by decide +kernel) (mr_ C.2.2.2.2.2.1 (Nat.le_of_ble_eq_true rfl) (by decide)), rfl, hts _ q1415⟩ rfl hl.1 rfl (Nat.le_of_ble_eq_true rfl) dX24_init_1 hcs (fun H locs hP hS => ?_)
  refine W.size0 (fun hH => ?_)
  rw [hnx] at hH
  refine lv_aload_n hx hb dX24_init_4 rfl (lv_at hl 0 rfl) ?_
  refine lv_iload_n hx hb dX24_init_5 rfl (lv_at hl 1 rfl) ?_
  refine cc_newa (atype := .int) (j := 0) (x := cA 0) (f0 := fun _ => 0) C had hO hP hS q219 rfl (fun _ => rfl) h1 rfl (Nat.le_trans (Nat.mul_le_mul h2 (show componentBytes (newarray.typeOf .int) ≤ 8 by decide)) (by decide)) (by omega) (by omega) dX24_init_6 (fun H hz1 hO hP hS => ?_)
  rw [hH] at hO hP ⊢
  have hne : 1000 + a ≠ 1000 + nx := fun e => by have h3 := hla.1; rw [e] at h3; have h4 := ad_lt (k := 1000 + nx) (show cW D cA ks ad st s.heap from hP0) h3; rw [had] at h4; omega
  refine pl_putF (ci := 21) (Cn := RX24) (ref := RX24) (T := TX24) (N := 1) (ty0 := tyX24) (fs := [f0]) C hin hO hP hS (live_app hla) ((csP_ne hne).trans he) rfl in_X24 tyX24_ok nmX24 0 (by decide) q1439 (fun _ h => h) rfl rfl rfl rfl (Nat.le_of_ble_eq_true rfl) (fun b _ hb => (show b = nx by simpa using hb) ▸ live_new had) dX24_init_8 (fun H locs hP hS => ?_)
  refine W.widen (k := 1) (n := 40) (by omega) (by omega) ?_
  refine W.sizeLe (fun hz => ?_)
  exact W.vret hx hb hr (fun t ht _ => ⟨rfl, by rw [ht]; exact hP, hS.F ht, by rw [ht]; have hz3 := ad_lt hP (k := 1000 + nx) (by simp); rw [had] at hz3; omega⟩) hS.2.2 dX24_init_11
end
