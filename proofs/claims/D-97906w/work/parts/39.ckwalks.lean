/-! debtors' voices: walks -/
set_option maxRecDepth 100000
section
variable {p : Program} {l : Launch} {e : Env} {R : Room} {s : State} {m : MethodId} {args : Array Value} {below : List Frame} {meth : Method} {c : Code} {H : Heap} {locs : List Loc} {cells slots d : Nat} {Q : State → Prop} {cc : ByteArray} {pc nL : Nat} {ls : Array Slot} {rest : List Value} {D : va_G} {cA : Nat → ClassId} {ks : List Nat} {ad : Nat → Nat} {A : Nat → Prop} {st : CS} {H0 : Heap} {own : String} {index : Nat} {t : Nat}
abbrev cX4_begins : ByteArray := prog_24_method_2_code
def yX4_begins : MethodName := ⟨RX4, "begins", "(I)V"⟩
theorem dX4_begins_0 : decode cX4_begins 0 = .ok (.aload_n 0, 1) := by decide +kernel
theorem dX4_begins_1 : decode cX4_begins 1 = .ok (.getfield 15, 3) := by decide +kernel
theorem dX4_begins_4 : decode cX4_begins 4 = .ok (.bipush 40, 2) := by decide +kernel
theorem dX4_begins_6 : decode cX4_begins 6 = .ok (.if_icmp .ge 23, 3) := by decide +kernel
theorem dX4_begins_9 : decode cX4_begins 9 = .ok (.aload_n 0, 1) := by decide +kernel
theorem dX4_begins_10 : decode cX4_begins 10 = .ok (.getfield 9, 3) := by decide +kernel
theorem dX4_begins_13 : decode cX4_begins 13 = .ok (.aload_n 0, 1) := by decide +kernel
theorem dX4_begins_14 : decode cX4_begins 14 = .ok (.getfield 15, 3) := by decide +kernel
theorem dX4_begins_17 : decode cX4_begins 17 = .ok (.iload_n 1, 1) := by decide +kernel
theorem dX4_begins_18 : decode cX4_begins 18 = .ok (.iastore, 1) := by decide +kernel
theorem dX4_begins_19 : decode cX4_begins 19 = .ok (.aload_n 0, 1) := by decide +kernel
theorem dX4_begins_20 : decode cX4_begins 20 = .ok (.dup, 1) := by decide +kernel
theorem dX4_begins_21 : decode cX4_begins 21 = .ok (.getfield 15, 3) := by decide +kernel
theorem dX4_begins_24 : decode cX4_begins 24 = .ok (.iconst 1, 1) := by decide +kernel
theorem dX4_begins_25 : decode cX4_begins 25 = .ok (.iadd, 1) := by decide +kernel
theorem dX4_begins_26 : decode cX4_begins 26 = .ok (.putfield 15, 3) := by decide +kernel
theorem dX4_begins_29 : decode cX4_begins 29 = .ok (.return_, 1) := by decide +kernel
theorem q335 : (Jvm.Cond.fieldLink "ChapterLoan$Trace" (9 : Nat) "ChapterLoan$Trace" "ran" "[I") ∈ lw_all := lw_g (lw_at lw_m2 11 rfl) rfl
theorem q337 : (Jvm.Cond.fieldLink "ChapterLoan$Trace" (15 : Nat) "ChapterLoan$Trace" "many" "I") ∈ lw_all := lw_g (lw_at lw_m2 13 rfl) rfl
theorem q1234 : (Jvm.Cond.code ({ cls := "ChapterLoan$Trace", name := "begins", desc := "(I)V" } : Jvm.MethodName) prog_24_method_2_code (2 : Nat) (Option.none : Option Jvm.ClassFile.FieldType)) ∈ lw_all := lw_g (lw_at lw_m5 190 rfl) rfl
theorem q1232 : (Jvm.Cond.instanceMethod ({ cls := "ChapterLoan$Trace", name := "begins", desc := "(I)V" } : Jvm.MethodName)) ∈ lw_all := lw_g (lw_at lw_m5 188 rfl) rfl
theorem q92 : (Jvm.Cond.initialized "ChapterLoan$Trace") ∈ lw_all := lw_g (lw_at lw_m1 8 rfl) rfl
theorem q1233 : (Jvm.Cond.selects "ChapterLoan$Trace" ({ cls := "ChapterLoan$Trace", name := "begins", desc := "(I)V" } : Jvm.MethodName) ({ cls := "ChapterLoan$Trace", name := "begins", desc := "(I)V" } : Jvm.MethodName)) ∈ lw_all := lw_g (lw_at lw_m5 189 rfl) rfl
theorem w_J_begins {l : Launch} {D : va_G} {cA : Nat → ClassId} {ks : List Nat} {ad : Nat → Nat} {A : Nat → Prop} (hO : klOk A ks ad) {st st' : CS} {x1 : Int32} (h : J_begins st x1 = some st') : cV l yX4_begins cX4_begins 2 none 0 D cA ks ad A st [.ref (ad 62), .int x1] none st' := by
  refine cc_ofV (own := RX4) (by decide) rfl (Nat.le_of_ble_eq_true rfl) (fun p e s m below meth c R args ls C hr hlk hP hS hl hcs => ?_)
  have hx := C.1
  have hb := C.2.1
  have hl : lv_has ls 2 [(0, .ref (ad 62)), (1, .int x1)] := hl
  rw [J_begins] at h
  refine lv_aload_n hx hb dX4_begins_0 rfl (lv_at hl 0 rfl) ?_
  refine cc_get (Cn := RX4) (ref := RX4) (T := TX4) (N := 2) (fs := [.ref (ad 63), .int (st.1 62 1)]) C hP (hO.2.2.2 62 (by decide)) rfl rfl in_X4 1 (by decide) q337 (fun _ h => h) rfl dX4_begins_1 ?_
  refine lv_bipush (v := 40) hx hb dX4_begins_4 (by decide) ?_
  refine lv_icmp_ge (tgt := 29) hx hb dX4_begins_6 rfl (fun c1 => ?_) (fun c1 => ?_)
  · have h := if_some_t h c1
    exact cc_vret hx hb hr hlk h hP hS dX4_begins_29
  · have h := if_some_f h c1
    refine lv_aload_n hx hb dX4_begins_9 rfl (lv_at hl 0 rfl) ?_
    refine cc_get (Cn := RX4) (ref := RX4) (T := TX4) (N := 2) (fs := [.ref (ad 63), .int (st.1 62 1)]) C hP (hO.2.2.2 62 (by decide)) rfl rfl in_X4 0 (by decide) q335 (fun _ h => h) rfl dX4_begins_10 ?_
    refine lv_aload_n hx hb dX4_begins_13 rfl (lv_at hl 0 rfl) ?_
    refine cc_get (Cn := RX4) (ref := RX4) (T := TX4) (N := 2) (fs := [.ref (ad 63), .int (st.1 62 1)]) C hP (hO.2.2.2 62 (by decide)) rfl rfl in_X4 1 (by decide) q337 (fun _ h => h) rfl dX4_begins_14 ?_
    refine lv_iload_n hx hb dX4_begins_17 rfl (lv_at hl 1 rfl) ?_
    obtain ⟨b2, hb2, h⟩ := bd1_some h
    refine cc_ist C hO hP hS (hO.2.2.2 _ (by decide)) rfl hb2 (cg_A rfl) hP.2 dX4_begins_18 (fun H locs hP hS => ?_)
    refine lv_aload_n hx hb dX4_begins_19 rfl (lv_at hl 0 rfl) ?_
    refine lv_dup hx hb dX4_begins_20 rfl ?_
    refine cc_get (Cn := RX4) (ref := RX4) (T := TX4) (N := 2) (fs := [.ref (ad 63), .int ((csA st 63 b2).1 62 1)]) C hP (hO.2.2.2 62 (by decide)) rfl rfl in_X4 1 (by decide) q337 (fun _ h => h) rfl dX4_begins_21 ?_
    refine lv_iconst (v := 1) hx hb dX4_begins_24 (by decide) ?_
    refine lv_iadd hx hb dX4_begins_25 ?_
    refine cc_put (Cn := RX4) (ref := RX4) (T := TX4) (N := 2) (ty0 := tyX4) (fs := [.ref (ad 63), .int ((csA st 63 b2).1 62 1)]) (st2 := csF (csA st 63 b2) 62 1 (((csA st 63 b2).1 62 1) + 1)) C hO hP hS (hO.2.2.2 62 (by decide)) rfl rfl in_X4 tyX4_ok nmX4 1 (by decide) q337 (fun _ h => h) rfl rfl rfl (Nat.le_of_ble_eq_true rfl) (cg_F rfl) hP.2 dX4_begins_26 (fun H locs hP hS => ?_)
    exact cc_vret hx hb hr hlk h hP hS dX4_begins_29
theorem k_J_begins {a0 : Int32} {st' : CS} (C : cC p R d s m args c cc nL own D cA A) (hO : klOk A ks ad) (hP : cW D cA ks ad st H) (hS : va_S A s.heap H locs) (h : J_begins st a0 = some st') (hl : Cond.methodLink own index yX4_begins ∈ lw_all) (hd : 0 + 1 ≤ d) (hsz : ls.size = nL) (hW : (rest.map fun v => v.category).sum ≤ 8) (hcs : cells ≤ R.cells ∧ slots ≤ R.slots) (hdg : decode cc pc = .ok (.invokevirtual index, 3)) (kk : ∀ (H1 : Heap) (locs1 : List Loc), cW D cA ks ad st' H1 → va_S A s.heap H1 locs1 → W p l e R s m args below meth c H1 locs1 cells slots Q (F0 m (pc + 3) ls rest)) : W p l e R s m args below meth c H locs cells slots Q (F0 m pc ls (.int a0 :: .ref (ad 62) :: rest)) :=
  cc_cV (As := [.int a0]) C hP hS (w_J_begins hO h) (cwV 1 C.2.2.2.2.1 (lw_V hl q1232 q1233 q92 q1234) rfl rfl rfl (by decide +kernel) (mr_ C.2.2.2.2.2.1 hd (by decide))) (cc_recv C hP (hO.2.2.2 62 (by decide)) rfl (q := (RX4, TX4, 2)) rfl) rfl hsz rfl hW hdg hcs kk
theorem P_J_begins {st st' : CS} {x : Int32} (h : J_begins st x = some st') : st'.2.2 = st.2.2 := by
  rw [J_begins] at h
  split at h
  · cases h; rfl
  · obtain ⟨b, -, h⟩ := bd1_some h
    cases h; rfl
theorem db_tr {st st' : CS} {a k tr : Nat} {dn dm : Int32} (e : st'.2.2 = st.2.2) (h : dbAt ks ad st.2.2.2 a k tr dn dm) : dbAt ks ad st'.2.2.2 a k tr dn dm := by rw [e]; exact h
theorem db_superV {y : MethodName} {bytes : ByteArray} {maxL n dk a k tr : Nat} {dn dm : Int32} {ret : Option FieldType} {As st0 : List Value} {r : Option Value} {st' : CS} (C : cC p R d s m args c cc nL own D cA A) (hP : cW D cA ks ad st H) (hS : va_S A s.heap H locs) (hdb : dbAt ks ad st.2.2.2 a k tr dn dm) (hM : cV l y bytes maxL ret dk D cA ks ad A st (.ref a :: As) r st') (cw : va_CS R s args own index y bytes maxL ret (ws_ y bytes maxL ret) (k2_rm dk (40 * dk)) 0 0 n)
    (hn : As.length = n) (hsz : ls.size = nL) (hst : st0 = As.reverse ++ .ref a :: rest) (hW : (rest.map fun v => v.category).sum ≤ 8) (hdg : decode cc pc = .ok (.invokespecial index, 3)) (hcs : cells ≤ R.cells ∧ slots ≤ R.slots)
    (kk : ∀ (H1 : Heap) (locs1 : List Loc), cW D cA ks ad st' H1 → va_S A s.heap H1 locs1 → W p l e R s m args below meth c H1 locs1 cells slots Q (F0 m (pc + 3) ls (r.toList ++ rest))) : W p l e R s m args below meth c H locs cells slots Q (F0 m pc ls st0) :=
  cc_end hS (run_of (va_runSU (locs := locs) (cells := cells) (slots := slots) (p := p) (e := e) (below := below) (meth := meth) (g := F0 m pc ls st0) (C := (dbC k).1) (cC := D.1 (7 + k)) (As := As) (rest := rest) (C.2.2.2.2.2.2.1.1 _ _ (db_cl hdb.2.1)).2 ⟨C.1, C.2.1, C.2.2.1, C.2.2.2.1, C.2.2.2.2.1⟩ hM cw ⟨cc_blind, db_recv C hP hdb, cc_pre C hP hS.1⟩ rfl hn hsz hst (lv_room hW) hdg hcs)) kk
theorem db_suoV {x y : MethodName} {bytes : ByteArray} {maxL n dk a k tr : Nat} {dn dm : Int32} {ret : Option FieldType} {As st0 : List Value} {r : Option Value} {st' : CS} (C : cC p R d s m args c cc nL own D cA A) (hP : cW D cA ks ad st H) (hS : va_S A s.heap H locs) (hdb : dbAt ks ad st.2.2.2 a k tr dn dm) (hM : cV l y bytes maxL ret dk D cA ks ad A st (.ref a :: As) r st') (h0 : Cond.code y bytes maxL ret ∈ lw_all) (hR : (k2_rm dk (40 * dk)).frames + 1 ≤ R.frames ∧ 8 + (maxL + 11) + (k2_rm dk (40 * dk)).locals ≤ R.locals)
    (h1 : Cond.methodLink own index x ∈ lw_all) (h2 : Cond.sameMethod x.cls y.cls x.name x.desc ∈ lw_all) (h3 : Cond.superclass own x.cls ∈ lw_all) (h4 : Cond.superclass x.cls y.cls ∈ lw_all) (h5 : Cond.instanceMethod y ∈ lw_all) (h6 : Cond.initialized y.cls ∈ lw_all)
    (hxy : x.name = y.name ∧ x.desc = y.desc ∧ y.name ≠ "<init>" ∧ (parseMethodDescriptor y.desc).map (fun d => d.parameters.length) = some n)
    (hn : As.length = n) (hsz : ls.size = nL) (hst : st0 = As.reverse ++ .ref a :: rest) (hW : (rest.map fun v => v.category).sum ≤ 8) (hdg : decode cc pc = .ok (.invokespecial index, 3)) (hcs : cells ≤ R.cells ∧ slots ≤ R.slots)
    (kk : ∀ (H1 : Heap) (locs1 : List Loc), cW D cA ks ad st' H1 → va_S A s.heap H1 locs1 → W p l e R s m args below meth c H1 locs1 cells slots Q (F0 m (pc + 3) ls (r.toList ++ rest))) : W p l e R s m args below meth c H locs cells slots Q (F0 m pc ls st0) :=
  cc_end hS (run_of (runSUO (locs := locs) (cells := cells) (slots := slots) (p := p) (e := e) (below := below) (meth := meth) (g := F0 m pc ls st0) (x := x) (n := n) (C := (dbC k).1) (cC := D.1 (7 + k)) (As := As) (rest := rest) (C.2.2.2.2.2.2.1.1 _ _ (db_cl hdb.2.1)).2 ⟨C.1, C.2.1, C.2.2.1, C.2.2.2.1, C.2.2.2.2.1⟩ hM (lw_meth h0) rfl rfl rfl hR h1 h2 h3 h4 h5 h6 hxy ⟨cc_blind, db_recv C hP hdb, cc_pre C hP hS.1⟩ rfl hn hsz hst (lv_room hW) hdg hcs)) kk
abbrev cX7_owes : ByteArray := prog_3_method_7_code
def yX7_owes : MethodName := ⟨RX7, "owes", "(I)I"⟩
theorem dX7_owes_0 : decode cX7_owes 0 = .ok (.aload_n 0, 1) := by decide +kernel
theorem dX7_owes_1 : decode cX7_owes 1 = .ok (.getfield 9, 3) := by decide +kernel
theorem dX7_owes_4 : decode cX7_owes 4 = .ok (.bipush 10, 2) := by decide +kernel
theorem dX7_owes_6 : decode cX7_owes 6 = .ok (.invokevirtual 22, 3) := by decide +kernel
theorem dX7_owes_9 : decode cX7_owes 9 = .ok (.iload_n 1, 1) := by decide +kernel
theorem dX7_owes_10 : decode cX7_owes 10 = .ok (.aload_n 0, 1) := by decide +kernel
theorem dX7_owes_11 : decode cX7_owes 11 = .ok (.getfield 15, 3) := by decide +kernel
theorem dX7_owes_14 : decode cX7_owes 14 = .ok (.iadd, 1) := by decide +kernel
theorem dX7_owes_15 : decode cX7_owes 15 = .ok (.ireturn, 1) := by decide +kernel
theorem q461 : (Jvm.Cond.fieldLink "ChapterLoan$Debtor" (9 : Nat) "ChapterLoan$Debtor" "trace" "LChapterLoan$Trace;") ∈ lw_all := lw_g (lw_at lw_m2 137 rfl) rfl
theorem q474 : (Jvm.Cond.fieldLink "ChapterLoan$Debtor" (15 : Nat) "ChapterLoan$Debtor" "number" "I") ∈ lw_all := lw_g (lw_at lw_m2 150 rfl) rfl
theorem q1231 : (Jvm.Cond.methodLink "ChapterLoan$Debtor" (22 : Nat) ({ cls := "ChapterLoan$Trace", name := "begins", desc := "(I)V" } : Jvm.MethodName)) ∈ lw_all := lw_g (lw_at lw_m5 187 rfl) rfl
theorem w_V0_0_owes {l : Launch} {D : va_G} {cA : Nat → ClassId} {ks : List Nat} {ad : Nat → Nat} {A : Nat → Prop} (hO : klOk A ks ad) {st st' : CS} {a : Nat} {dn dm x1 r0 : Int32} (hdb : dbAt ks ad st.2.2.2 a 0 (ad 62) dn dm) (h : V0_0_owes st dn dm x1 = some (r0, st')) : cV l yX7_owes cX7_owes 2 (some .int) 1 D cA ks ad A st [.ref a, .int x1] (some (.int r0)) st' := by
  refine cc_ofV (own := RX7) (by decide) rfl (Nat.le_of_ble_eq_true rfl) (fun p e s m below meth c R args ls C hr hlk hP hS hl hcs => ?_)
  have hx := C.1
  have hb := C.2.1
  have hown := C.2.2.2.1
  have hl : lv_has ls 2 [(0, .ref a), (1, .int x1)] := hl
  rw [V0_0_owes] at h
  refine lv_aload_n hx hb dX7_owes_0 rfl (lv_at hl 0 rfl) ?_
  refine db_get C hP hdb 0 (by decide) (fun k h => (db_T h).1) q461 (fun _ h => h) rfl dX7_owes_1 ?_
  refine lv_bipush (v := 10) hx hb dX7_owes_4 (by decide) ?_
  obtain ⟨st1, hst1, h⟩ := bd1_some h
  refine k_J_begins C hO hP hS hst1 q1231 (Nat.le_of_ble_eq_true rfl) hl.1 (Nat.le_of_ble_eq_true rfl) hcs dX7_owes_6 (fun H locs hP hS => ?_)
  have hdb := db_tr (P_J_begins hst1) hdb
  refine lv_iload_n hx hb dX7_owes_9 rfl (lv_at hl 1 rfl) ?_
  refine lv_aload_n hx hb dX7_owes_10 rfl (lv_at hl 0 rfl) ?_
  refine db_get C hP hdb 1 (by decide) (fun k h => (db_T h).2.1) q474 (fun _ h => h) rfl dX7_owes_11 ?_
  refine lv_iadd hx hb dX7_owes_14 ?_
  exact cc_viret hx hb hr hlk h hP hS dX7_owes_15
theorem P_V0_0_owes {st st' : CS} {dn dm x1 r0 : Int32} (h : V0_0_owes st dn dm x1 = some (r0, st')) : st'.2.2 = st.2.2 := by
  rw [V0_0_owes] at h
  obtain ⟨st1, hst1, h⟩ := bd1_some h
  cases h
  exact (P_J_begins hst1)
theorem w_V1_0_owes {l : Launch} {D : va_G} {cA : Nat → ClassId} {ks : List Nat} {ad : Nat → Nat} {A : Nat → Prop} (hO : klOk A ks ad) {st st' : CS} {a : Nat} {dn dm x1 r0 : Int32} (hdb : dbAt ks ad st.2.2.2 a 1 (ad 62) dn dm) (h : V1_0_owes st dn dm x1 = some (r0, st')) : cV l yX7_owes cX7_owes 2 (some .int) 1 D cA ks ad A st [.ref a, .int x1] (some (.int r0)) st' := by
  refine cc_ofV (own := RX7) (by decide) rfl (Nat.le_of_ble_eq_true rfl) (fun p e s m below meth c R args ls C hr hlk hP hS hl hcs => ?_)
  have hx := C.1
  have hb := C.2.1
  have hown := C.2.2.2.1
  have hl : lv_has ls 2 [(0, .ref a), (1, .int x1)] := hl
  rw [V1_0_owes] at h
  refine lv_aload_n hx hb dX7_owes_0 rfl (lv_at hl 0 rfl) ?_
  refine db_get C hP hdb 0 (by decide) (fun k h => (db_T h).1) q461 (fun _ h => h) rfl dX7_owes_1 ?_
  refine lv_bipush (v := 10) hx hb dX7_owes_4 (by decide) ?_
  obtain ⟨st1, hst1, h⟩ := bd1_some h
  refine k_J_begins C hO hP hS hst1 q1231 (Nat.le_of_ble_eq_true rfl) hl.1 (Nat.le_of_ble_eq_true rfl) hcs dX7_owes_6 (fun H locs hP hS => ?_)
  have hdb := db_tr (P_J_begins hst1) hdb
  refine lv_iload_n hx hb dX7_owes_9 rfl (lv_at hl 1 rfl) ?_
  refine lv_aload_n hx hb dX7_owes_10 rfl (lv_at hl 0 rfl) ?_
  refine db_get C hP hdb 1 (by decide) (fun k h => (db_T h).2.1) q474 (fun _ h => h) rfl dX7_owes_11 ?_
  refine lv_iadd hx hb dX7_owes_14 ?_
  exact cc_viret hx hb hr hlk h hP hS dX7_owes_15
theorem P_V1_0_owes {st st' : CS} {dn dm x1 r0 : Int32} (h : V1_0_owes st dn dm x1 = some (r0, st')) : st'.2.2 = st.2.2 := by
  rw [V1_0_owes] at h
  obtain ⟨st1, hst1, h⟩ := bd1_some h
  cases h
  exact (P_J_begins hst1)
theorem w_V2_0_owes {l : Launch} {D : va_G} {cA : Nat → ClassId} {ks : List Nat} {ad : Nat → Nat} {A : Nat → Prop} (hO : klOk A ks ad) {st st' : CS} {a : Nat} {dn dm x1 r0 : Int32} (hdb : dbAt ks ad st.2.2.2 a 2 (ad 62) dn dm) (h : V2_0_owes st dn dm x1 = some (r0, st')) : cV l yX7_owes cX7_owes 2 (some .int) 1 D cA ks ad A st [.ref a, .int x1] (some (.int r0)) st' := by
  refine cc_ofV (own := RX7) (by decide) rfl (Nat.le_of_ble_eq_true rfl) (fun p e s m below meth c R args ls C hr hlk hP hS hl hcs => ?_)
  have hx := C.1
  have hb := C.2.1
  have hown := C.2.2.2.1
  have hl : lv_has ls 2 [(0, .ref a), (1, .int x1)] := hl
  rw [V2_0_owes] at h
  refine lv_aload_n hx hb dX7_owes_0 rfl (lv_at hl 0 rfl) ?_
  refine db_get C hP hdb 0 (by decide) (fun k h => (db_T h).1) q461 (fun _ h => h) rfl dX7_owes_1 ?_
  refine lv_bipush (v := 10) hx hb dX7_owes_4 (by decide) ?_
  obtain ⟨st1, hst1, h⟩ := bd1_some h
  refine k_J_begins C hO hP hS hst1 q1231 (Nat.le_of_ble_eq_true rfl) hl.1 (Nat.le_of_ble_eq_true rfl) hcs dX7_owes_6 (fun H locs hP hS => ?_)
  have hdb := db_tr (P_J_begins hst1) hdb
  refine lv_iload_n hx hb dX7_owes_9 rfl (lv_at hl 1 rfl) ?_
  refine lv_aload_n hx hb dX7_owes_10 rfl (lv_at hl 0 rfl) ?_
  refine db_get C hP hdb 1 (by decide) (fun k h => (db_T h).2.1) q474 (fun _ h => h) rfl dX7_owes_11 ?_
  refine lv_iadd hx hb dX7_owes_14 ?_
  exact cc_viret hx hb hr hlk h hP hS dX7_owes_15
theorem P_V2_0_owes {st st' : CS} {dn dm x1 r0 : Int32} (h : V2_0_owes st dn dm x1 = some (r0, st')) : st'.2.2 = st.2.2 := by
  rw [V2_0_owes] at h
  obtain ⟨st1, hst1, h⟩ := bd1_some h
  cases h
  exact (P_J_begins hst1)
abbrev cX9_owes : ByteArray := prog_4_method_5_code
def yX9_owes : MethodName := ⟨RX9, "owes", "(I)I"⟩
theorem dX9_owes_0 : decode cX9_owes 0 = .ok (.aload_n 0, 1) := by decide +kernel
theorem dX9_owes_1 : decode cX9_owes 1 = .ok (.getfield 19, 3) := by decide +kernel
theorem dX9_owes_4 : decode cX9_owes 4 = .ok (.bipush 30, 2) := by decide +kernel
theorem dX9_owes_6 : decode cX9_owes 6 = .ok (.invokevirtual 23, 3) := by decide +kernel
theorem dX9_owes_9 : decode cX9_owes 9 = .ok (.aload_n 0, 1) := by decide +kernel
theorem dX9_owes_10 : decode cX9_owes 10 = .ok (.iload_n 1, 1) := by decide +kernel
theorem dX9_owes_11 : decode cX9_owes 11 = .ok (.invokespecial 29, 3) := by decide +kernel
theorem dX9_owes_14 : decode cX9_owes 14 = .ok (.iconst 3, 1) := by decide +kernel
theorem dX9_owes_15 : decode cX9_owes 15 = .ok (.imul, 1) := by decide +kernel
theorem dX9_owes_16 : decode cX9_owes 16 = .ok (.ireturn, 1) := by decide +kernel
theorem q462 : (Jvm.Cond.fieldLink "ChapterLoan$Dreamer" (19 : Nat) "ChapterLoan$Dreamer" "trace" "LChapterLoan$Trace;") ∈ lw_all := lw_g (lw_at lw_m2 138 rfl) rfl
theorem q463 : (Jvm.Cond.sameField "ChapterLoan$Dreamer" "ChapterLoan$Debtor" "trace" "LChapterLoan$Trace;") ∈ lw_all := lw_g (lw_at lw_m2 139 rfl) rfl
theorem q1228 : (Jvm.Cond.instanceMethod ({ cls := "ChapterLoan$Debtor", name := "owes", desc := "(I)I" } : Jvm.MethodName)) ∈ lw_all := lw_g (lw_at lw_m5 184 rfl) rfl
theorem q1230 : (Jvm.Cond.code ({ cls := "ChapterLoan$Debtor", name := "owes", desc := "(I)I" } : Jvm.MethodName) prog_3_method_7_code (2 : Nat) (Option.some Jvm.ClassFile.FieldType.int)) ∈ lw_all := lw_g (lw_at lw_m5 186 rfl) rfl
theorem q1241 : (Jvm.Cond.methodLink "ChapterLoan$Dreamer" (23 : Nat) ({ cls := "ChapterLoan$Trace", name := "begins", desc := "(I)V" } : Jvm.MethodName)) ∈ lw_all := lw_g (lw_at lw_m5 197 rfl) rfl
theorem q1242 : (Jvm.Cond.methodLink "ChapterLoan$Dreamer" (29 : Nat) ({ cls := "ChapterLoan$Debtor", name := "owes", desc := "(I)I" } : Jvm.MethodName)) ∈ lw_all := lw_g (lw_at lw_m5 198 rfl) rfl
theorem q2023 : (Jvm.Cond.sameMethod "ChapterLoan$Debtor" "ChapterLoan$Debtor" "owes" "(I)I") ∈ lw_all := lw_g (lw_at lw_m9 19 rfl) rfl
theorem w_V2_2_owes {l : Launch} {D : va_G} {cA : Nat → ClassId} {ks : List Nat} {ad : Nat → Nat} {A : Nat → Prop} (hO : klOk A ks ad) {st st' : CS} {a : Nat} {dn dm x1 r0 : Int32} (hdb : dbAt ks ad st.2.2.2 a 2 (ad 62) dn dm) (h : V2_2_owes st dn dm x1 = some (r0, st')) : cV l yX9_owes cX9_owes 2 (some .int) 2 D cA ks ad A st [.ref a, .int x1] (some (.int r0)) st' := by
  refine cc_ofV (own := RX9) (by decide) rfl (Nat.le_of_ble_eq_true rfl) (fun p e s m below meth c R args ls C hr hlk hP hS hl hcs => ?_)
  have hx := C.1
  have hb := C.2.1
  have hown := C.2.2.2.1
  have hl : lv_has ls 2 [(0, .ref a), (1, .int x1)] := hl
  rw [V2_2_owes] at h
  refine lv_aload_n hx hb dX9_owes_0 rfl (lv_at hl 0 rfl) ?_
  refine db_get C hP hdb 0 (by decide) (fun k h => (db_T h).1) q462 (db_same C q463) rfl dX9_owes_1 ?_
  refine lv_bipush (v := 30) hx hb dX9_owes_4 (by decide) ?_
  obtain ⟨st1, hst1, h⟩ := bd1_some h
  refine k_J_begins C hO hP hS hst1 q1241 (Nat.le_of_ble_eq_true rfl) hl.1 (Nat.le_of_ble_eq_true rfl) hcs dX9_owes_6 (fun H locs hP hS => ?_)
  have hdb := db_tr (P_J_begins hst1) hdb
  refine lv_aload_n hx hb dX9_owes_9 rfl (lv_at hl 0 rfl) ?_
  refine lv_iload_n hx hb dX9_owes_10 rfl (lv_at hl 1 rfl) ?_
  obtain ⟨v3, st2, hst2, h⟩ := bd2_some h
  refine db_superV (As := [.int x1]) C hP hS hdb (w_V2_0_owes hO hdb hst2) (va_cwSU 1 C.2.2.2.2.1 (lw_SU q1242 q2023 q503 q1228 q95 q1230) rfl rfl rfl (by decide +kernel) (mr_ C.2.2.2.2.2.1 (Nat.le_of_ble_eq_true rfl) (by decide))) rfl hl.1 rfl (Nat.le_of_ble_eq_true rfl) dX9_owes_11 hcs (fun H locs hP hS => ?_)
  have hdb := db_tr (P_V2_0_owes hst2) hdb
  refine lv_iconst (v := 3) hx hb dX9_owes_14 (by decide) ?_
  refine lv_imul hx hb dX9_owes_15 ?_
  exact cc_viret hx hb hr hlk h hP hS dX9_owes_16
theorem P_V2_2_owes {st st' : CS} {dn dm x1 r0 : Int32} (h : V2_2_owes st dn dm x1 = some (r0, st')) : st'.2.2 = st.2.2 := by
  rw [V2_2_owes] at h
  obtain ⟨st1, hst1, h⟩ := bd1_some h
  obtain ⟨v3, st2, hst2, h⟩ := bd2_some h
  cases h
  exact ((P_V2_0_owes hst2).trans (P_J_begins hst1))
theorem w_V3_0_owes {l : Launch} {D : va_G} {cA : Nat → ClassId} {ks : List Nat} {ad : Nat → Nat} {A : Nat → Prop} (hO : klOk A ks ad) {st st' : CS} {a : Nat} {dn dm x1 r0 : Int32} (hdb : dbAt ks ad st.2.2.2 a 3 (ad 62) dn dm) (h : V3_0_owes st dn dm x1 = some (r0, st')) : cV l yX7_owes cX7_owes 2 (some .int) 1 D cA ks ad A st [.ref a, .int x1] (some (.int r0)) st' := by
  refine cc_ofV (own := RX7) (by decide) rfl (Nat.le_of_ble_eq_true rfl) (fun p e s m below meth c R args ls C hr hlk hP hS hl hcs => ?_)
  have hx := C.1
  have hb := C.2.1
  have hown := C.2.2.2.1
  have hl : lv_has ls 2 [(0, .ref a), (1, .int x1)] := hl
  rw [V3_0_owes] at h
  refine lv_aload_n hx hb dX7_owes_0 rfl (lv_at hl 0 rfl) ?_
  refine db_get C hP hdb 0 (by decide) (fun k h => (db_T h).1) q461 (fun _ h => h) rfl dX7_owes_1 ?_
  refine lv_bipush (v := 10) hx hb dX7_owes_4 (by decide) ?_
  obtain ⟨st1, hst1, h⟩ := bd1_some h
  refine k_J_begins C hO hP hS hst1 q1231 (Nat.le_of_ble_eq_true rfl) hl.1 (Nat.le_of_ble_eq_true rfl) hcs dX7_owes_6 (fun H locs hP hS => ?_)
  have hdb := db_tr (P_J_begins hst1) hdb
  refine lv_iload_n hx hb dX7_owes_9 rfl (lv_at hl 1 rfl) ?_
  refine lv_aload_n hx hb dX7_owes_10 rfl (lv_at hl 0 rfl) ?_
  refine db_get C hP hdb 1 (by decide) (fun k h => (db_T h).2.1) q474 (fun _ h => h) rfl dX7_owes_11 ?_
  refine lv_iadd hx hb dX7_owes_14 ?_
  exact cc_viret hx hb hr hlk h hP hS dX7_owes_15
theorem P_V3_0_owes {st st' : CS} {dn dm x1 r0 : Int32} (h : V3_0_owes st dn dm x1 = some (r0, st')) : st'.2.2 = st.2.2 := by
  rw [V3_0_owes] at h
  obtain ⟨st1, hst1, h⟩ := bd1_some h
  cases h
  exact (P_J_begins hst1)
theorem w_V4_0_owes {l : Launch} {D : va_G} {cA : Nat → ClassId} {ks : List Nat} {ad : Nat → Nat} {A : Nat → Prop} (hO : klOk A ks ad) {st st' : CS} {a : Nat} {dn dm x1 r0 : Int32} (hdb : dbAt ks ad st.2.2.2 a 4 (ad 62) dn dm) (h : V4_0_owes st dn dm x1 = some (r0, st')) : cV l yX7_owes cX7_owes 2 (some .int) 1 D cA ks ad A st [.ref a, .int x1] (some (.int r0)) st' := by
  refine cc_ofV (own := RX7) (by decide) rfl (Nat.le_of_ble_eq_true rfl) (fun p e s m below meth c R args ls C hr hlk hP hS hl hcs => ?_)
  have hx := C.1
  have hb := C.2.1
  have hown := C.2.2.2.1
  have hl : lv_has ls 2 [(0, .ref a), (1, .int x1)] := hl
  rw [V4_0_owes] at h
  refine lv_aload_n hx hb dX7_owes_0 rfl (lv_at hl 0 rfl) ?_
  refine db_get C hP hdb 0 (by decide) (fun k h => (db_T h).1) q461 (fun _ h => h) rfl dX7_owes_1 ?_
  refine lv_bipush (v := 10) hx hb dX7_owes_4 (by decide) ?_
  obtain ⟨st1, hst1, h⟩ := bd1_some h
  refine k_J_begins C hO hP hS hst1 q1231 (Nat.le_of_ble_eq_true rfl) hl.1 (Nat.le_of_ble_eq_true rfl) hcs dX7_owes_6 (fun H locs hP hS => ?_)
  have hdb := db_tr (P_J_begins hst1) hdb
  refine lv_iload_n hx hb dX7_owes_9 rfl (lv_at hl 1 rfl) ?_
  refine lv_aload_n hx hb dX7_owes_10 rfl (lv_at hl 0 rfl) ?_
  refine db_get C hP hdb 1 (by decide) (fun k h => (db_T h).2.1) q474 (fun _ h => h) rfl dX7_owes_11 ?_
  refine lv_iadd hx hb dX7_owes_14 ?_
  exact cc_viret hx hb hr hlk h hP hS dX7_owes_15
theorem P_V4_0_owes {st st' : CS} {dn dm x1 r0 : Int32} (h : V4_0_owes st dn dm x1 = some (r0, st')) : st'.2.2 = st.2.2 := by
  rw [V4_0_owes] at h
  obtain ⟨st1, hst1, h⟩ := bd1_some h
  cases h
  exact (P_J_begins hst1)
theorem w_V5_0_owes {l : Launch} {D : va_G} {cA : Nat → ClassId} {ks : List Nat} {ad : Nat → Nat} {A : Nat → Prop} (hO : klOk A ks ad) {st st' : CS} {a : Nat} {dn dm x1 r0 : Int32} (hdb : dbAt ks ad st.2.2.2 a 5 (ad 62) dn dm) (h : V5_0_owes st dn dm x1 = some (r0, st')) : cV l yX7_owes cX7_owes 2 (some .int) 1 D cA ks ad A st [.ref a, .int x1] (some (.int r0)) st' := by
  refine cc_ofV (own := RX7) (by decide) rfl (Nat.le_of_ble_eq_true rfl) (fun p e s m below meth c R args ls C hr hlk hP hS hl hcs => ?_)
  have hx := C.1
  have hb := C.2.1
  have hown := C.2.2.2.1
  have hl : lv_has ls 2 [(0, .ref a), (1, .int x1)] := hl
  rw [V5_0_owes] at h
  refine lv_aload_n hx hb dX7_owes_0 rfl (lv_at hl 0 rfl) ?_
  refine db_get C hP hdb 0 (by decide) (fun k h => (db_T h).1) q461 (fun _ h => h) rfl dX7_owes_1 ?_
  refine lv_bipush (v := 10) hx hb dX7_owes_4 (by decide) ?_
  obtain ⟨st1, hst1, h⟩ := bd1_some h
  refine k_J_begins C hO hP hS hst1 q1231 (Nat.le_of_ble_eq_true rfl) hl.1 (Nat.le_of_ble_eq_true rfl) hcs dX7_owes_6 (fun H locs hP hS => ?_)
  have hdb := db_tr (P_J_begins hst1) hdb
  refine lv_iload_n hx hb dX7_owes_9 rfl (lv_at hl 1 rfl) ?_
  refine lv_aload_n hx hb dX7_owes_10 rfl (lv_at hl 0 rfl) ?_
  refine db_get C hP hdb 1 (by decide) (fun k h => (db_T h).2.1) q474 (fun _ h => h) rfl dX7_owes_11 ?_
  refine lv_iadd hx hb dX7_owes_14 ?_
  exact cc_viret hx hb hr hlk h hP hS dX7_owes_15
theorem P_V5_0_owes {st st' : CS} {dn dm x1 r0 : Int32} (h : V5_0_owes st dn dm x1 = some (r0, st')) : st'.2.2 = st.2.2 := by
  rw [V5_0_owes] at h
  obtain ⟨st1, hst1, h⟩ := bd1_some h
  cases h
  exact (P_J_begins hst1)
theorem w_V5_2_owes {l : Launch} {D : va_G} {cA : Nat → ClassId} {ks : List Nat} {ad : Nat → Nat} {A : Nat → Prop} (hO : klOk A ks ad) {st st' : CS} {a : Nat} {dn dm x1 r0 : Int32} (hdb : dbAt ks ad st.2.2.2 a 5 (ad 62) dn dm) (h : V5_2_owes st dn dm x1 = some (r0, st')) : cV l yX9_owes cX9_owes 2 (some .int) 2 D cA ks ad A st [.ref a, .int x1] (some (.int r0)) st' := by
  refine cc_ofV (own := RX9) (by decide) rfl (Nat.le_of_ble_eq_true rfl) (fun p e s m below meth c R args ls C hr hlk hP hS hl hcs => ?_)
  have hx := C.1
  have hb := C.2.1
  have hown := C.2.2.2.1
  have hl : lv_has ls 2 [(0, .ref a), (1, .int x1)] := hl
  rw [V5_2_owes] at h
  refine lv_aload_n hx hb dX9_owes_0 rfl (lv_at hl 0 rfl) ?_
  refine db_get C hP hdb 0 (by decide) (fun k h => (db_T h).1) q462 (db_same C q463) rfl dX9_owes_1 ?_
  refine lv_bipush (v := 30) hx hb dX9_owes_4 (by decide) ?_
  obtain ⟨st1, hst1, h⟩ := bd1_some h
  refine k_J_begins C hO hP hS hst1 q1241 (Nat.le_of_ble_eq_true rfl) hl.1 (Nat.le_of_ble_eq_true rfl) hcs dX9_owes_6 (fun H locs hP hS => ?_)
  have hdb := db_tr (P_J_begins hst1) hdb
  refine lv_aload_n hx hb dX9_owes_9 rfl (lv_at hl 0 rfl) ?_
  refine lv_iload_n hx hb dX9_owes_10 rfl (lv_at hl 1 rfl) ?_
  obtain ⟨v3, st2, hst2, h⟩ := bd2_some h
  refine db_superV (As := [.int x1]) C hP hS hdb (w_V5_0_owes hO hdb hst2) (va_cwSU 1 C.2.2.2.2.1 (lw_SU q1242 q2023 q503 q1228 q95 q1230) rfl rfl rfl (by decide +kernel) (mr_ C.2.2.2.2.2.1 (Nat.le_of_ble_eq_true rfl) (by decide))) rfl hl.1 rfl (Nat.le_of_ble_eq_true rfl) dX9_owes_11 hcs (fun H locs hP hS => ?_)
  have hdb := db_tr (P_V5_0_owes hst2) hdb
  refine lv_iconst (v := 3) hx hb dX9_owes_14 (by decide) ?_
  refine lv_imul hx hb dX9_owes_15 ?_
  exact cc_viret hx hb hr hlk h hP hS dX9_owes_16
theorem P_V5_2_owes {st st' : CS} {dn dm x1 r0 : Int32} (h : V5_2_owes st dn dm x1 = some (r0, st')) : st'.2.2 = st.2.2 := by
  rw [V5_2_owes] at h
  obtain ⟨st1, hst1, h⟩ := bd1_some h
  obtain ⟨v3, st2, hst2, h⟩ := bd2_some h
  cases h
  exact ((P_V5_0_owes hst2).trans (P_J_begins hst1))
theorem w_V6_0_owes {l : Launch} {D : va_G} {cA : Nat → ClassId} {ks : List Nat} {ad : Nat → Nat} {A : Nat → Prop} (hO : klOk A ks ad) {st st' : CS} {a : Nat} {dn dm x1 r0 : Int32} (hdb : dbAt ks ad st.2.2.2 a 6 (ad 62) dn dm) (h : V6_0_owes st dn dm x1 = some (r0, st')) : cV l yX7_owes cX7_owes 2 (some .int) 1 D cA ks ad A st [.ref a, .int x1] (some (.int r0)) st' := by
  refine cc_ofV (own := RX7) (by decide) rfl (Nat.le_of_ble_eq_true rfl) (fun p e s m below meth c R args ls C hr hlk hP hS hl hcs => ?_)
  have hx := C.1
  have hb := C.2.1
  have hown := C.2.2.2.1
  have hl : lv_has ls 2 [(0, .ref a), (1, .int x1)] := hl
  rw [V6_0_owes] at h
  refine lv_aload_n hx hb dX7_owes_0 rfl (lv_at hl 0 rfl) ?_
  refine db_get C hP hdb 0 (by decide) (fun k h => (db_T h).1) q461 (fun _ h => h) rfl dX7_owes_1 ?_
  refine lv_bipush (v := 10) hx hb dX7_owes_4 (by decide) ?_
  obtain ⟨st1, hst1, h⟩ := bd1_some h
  refine k_J_begins C hO hP hS hst1 q1231 (Nat.le_of_ble_eq_true rfl) hl.1 (Nat.le_of_ble_eq_true rfl) hcs dX7_owes_6 (fun H locs hP hS => ?_)
  have hdb := db_tr (P_J_begins hst1) hdb
  refine lv_iload_n hx hb dX7_owes_9 rfl (lv_at hl 1 rfl) ?_
  refine lv_aload_n hx hb dX7_owes_10 rfl (lv_at hl 0 rfl) ?_
  refine db_get C hP hdb 1 (by decide) (fun k h => (db_T h).2.1) q474 (fun _ h => h) rfl dX7_owes_11 ?_
  refine lv_iadd hx hb dX7_owes_14 ?_
  exact cc_viret hx hb hr hlk h hP hS dX7_owes_15
theorem P_V6_0_owes {st st' : CS} {dn dm x1 r0 : Int32} (h : V6_0_owes st dn dm x1 = some (r0, st')) : st'.2.2 = st.2.2 := by
  rw [V6_0_owes] at h
  obtain ⟨st1, hst1, h⟩ := bd1_some h
  cases h
  exact (P_J_begins hst1)
abbrev cX7_reads : ByteArray := prog_3_method_9_code
def yX7_reads : MethodName := ⟨RX7, "reads", "(I)I"⟩
theorem dX7_reads_0 : decode cX7_reads 0 = .ok (.aload_n 0, 1) := by decide +kernel
theorem dX7_reads_1 : decode cX7_reads 1 = .ok (.getfield 9, 3) := by decide +kernel
theorem dX7_reads_4 : decode cX7_reads 4 = .ok (.bipush 12, 2) := by decide +kernel
theorem dX7_reads_6 : decode cX7_reads 6 = .ok (.invokevirtual 22, 3) := by decide +kernel
theorem dX7_reads_9 : decode cX7_reads 9 = .ok (.iload_n 1, 1) := by decide +kernel
theorem dX7_reads_10 : decode cX7_reads 10 = .ok (.aload_n 0, 1) := by decide +kernel
theorem dX7_reads_11 : decode cX7_reads 11 = .ok (.getfield 19, 3) := by decide +kernel
theorem dX7_reads_14 : decode cX7_reads 14 = .ok (.isub, 1) := by decide +kernel
theorem dX7_reads_15 : decode cX7_reads 15 = .ok (.ireturn, 1) := by decide +kernel
theorem q477 : (Jvm.Cond.fieldLink "ChapterLoan$Debtor" (19 : Nat) "ChapterLoan$Debtor" "m" "I") ∈ lw_all := lw_g (lw_at lw_m2 153 rfl) rfl
theorem w_V0_0_reads {l : Launch} {D : va_G} {cA : Nat → ClassId} {ks : List Nat} {ad : Nat → Nat} {A : Nat → Prop} (hO : klOk A ks ad) {st st' : CS} {a : Nat} {dn dm x1 r0 : Int32} (hdb : dbAt ks ad st.2.2.2 a 0 (ad 62) dn dm) (h : V0_0_reads st dn dm x1 = some (r0, st')) : cV l yX7_reads cX7_reads 2 (some .int) 1 D cA ks ad A st [.ref a, .int x1] (some (.int r0)) st' := by
  refine cc_ofV (own := RX7) (by decide) rfl (Nat.le_of_ble_eq_true rfl) (fun p e s m below meth c R args ls C hr hlk hP hS hl hcs => ?_)
  have hx := C.1
  have hb := C.2.1
  have hown := C.2.2.2.1
  have hl : lv_has ls 2 [(0, .ref a), (1, .int x1)] := hl
  rw [V0_0_reads] at h
  refine lv_aload_n hx hb dX7_reads_0 rfl (lv_at hl 0 rfl) ?_
  refine db_get C hP hdb 0 (by decide) (fun k h => (db_T h).1) q461 (fun _ h => h) rfl dX7_reads_1 ?_
  refine lv_bipush (v := 12) hx hb dX7_reads_4 (by decide) ?_
  obtain ⟨st1, hst1, h⟩ := bd1_some h
  refine k_J_begins C hO hP hS hst1 q1231 (Nat.le_of_ble_eq_true rfl) hl.1 (Nat.le_of_ble_eq_true rfl) hcs dX7_reads_6 (fun H locs hP hS => ?_)
  have hdb := db_tr (P_J_begins hst1) hdb
  refine lv_iload_n hx hb dX7_reads_9 rfl (lv_at hl 1 rfl) ?_
  refine lv_aload_n hx hb dX7_reads_10 rfl (lv_at hl 0 rfl) ?_
  refine db_get C hP hdb 2 (by decide) (fun k h => (db_T h).2.2.1) q477 (fun _ h => h) rfl dX7_reads_11 ?_
  refine lv_isub hx hb dX7_reads_14 ?_
  exact cc_viret hx hb hr hlk h hP hS dX7_reads_15
theorem P_V0_0_reads {st st' : CS} {dn dm x1 r0 : Int32} (h : V0_0_reads st dn dm x1 = some (r0, st')) : st'.2.2 = st.2.2 := by
  rw [V0_0_reads] at h
  obtain ⟨st1, hst1, h⟩ := bd1_some h
  cases h
  exact (P_J_begins hst1)
theorem w_V1_0_reads {l : Launch} {D : va_G} {cA : Nat → ClassId} {ks : List Nat} {ad : Nat → Nat} {A : Nat → Prop} (hO : klOk A ks ad) {st st' : CS} {a : Nat} {dn dm x1 r0 : Int32} (hdb : dbAt ks ad st.2.2.2 a 1 (ad 62) dn dm) (h : V1_0_reads st dn dm x1 = some (r0, st')) : cV l yX7_reads cX7_reads 2 (some .int) 1 D cA ks ad A st [.ref a, .int x1] (some (.int r0)) st' := by
  refine cc_ofV (own := RX7) (by decide) rfl (Nat.le_of_ble_eq_true rfl) (fun p e s m below meth c R args ls C hr hlk hP hS hl hcs => ?_)
  have hx := C.1
  have hb := C.2.1
  have hown := C.2.2.2.1
  have hl : lv_has ls 2 [(0, .ref a), (1, .int x1)] := hl
  rw [V1_0_reads] at h
  refine lv_aload_n hx hb dX7_reads_0 rfl (lv_at hl 0 rfl) ?_
  refine db_get C hP hdb 0 (by decide) (fun k h => (db_T h).1) q461 (fun _ h => h) rfl dX7_reads_1 ?_
  refine lv_bipush (v := 12) hx hb dX7_reads_4 (by decide) ?_
  obtain ⟨st1, hst1, h⟩ := bd1_some h
  refine k_J_begins C hO hP hS hst1 q1231 (Nat.le_of_ble_eq_true rfl) hl.1 (Nat.le_of_ble_eq_true rfl) hcs dX7_reads_6 (fun H locs hP hS => ?_)
  have hdb := db_tr (P_J_begins hst1) hdb
  refine lv_iload_n hx hb dX7_reads_9 rfl (lv_at hl 1 rfl) ?_
  refine lv_aload_n hx hb dX7_reads_10 rfl (lv_at hl 0 rfl) ?_
  refine db_get C hP hdb 2 (by decide) (fun k h => (db_T h).2.2.1) q477 (fun _ h => h) rfl dX7_reads_11 ?_
  refine lv_isub hx hb dX7_reads_14 ?_
  exact cc_viret hx hb hr hlk h hP hS dX7_reads_15
theorem P_V1_0_reads {st st' : CS} {dn dm x1 r0 : Int32} (h : V1_0_reads st dn dm x1 = some (r0, st')) : st'.2.2 = st.2.2 := by
  rw [V1_0_reads] at h
  obtain ⟨st1, hst1, h⟩ := bd1_some h
  cases h
  exact (P_J_begins hst1)
theorem w_V2_0_reads {l : Launch} {D : va_G} {cA : Nat → ClassId} {ks : List Nat} {ad : Nat → Nat} {A : Nat → Prop} (hO : klOk A ks ad) {st st' : CS} {a : Nat} {dn dm x1 r0 : Int32} (hdb : dbAt ks ad st.2.2.2 a 2 (ad 62) dn dm) (h : V2_0_reads st dn dm x1 = some (r0, st')) : cV l yX7_reads cX7_reads 2 (some .int) 1 D cA ks ad A st [.ref a, .int x1] (some (.int r0)) st' := by
  refine cc_ofV (own := RX7) (by decide) rfl (Nat.le_of_ble_eq_true rfl) (fun p e s m below meth c R args ls C hr hlk hP hS hl hcs => ?_)
  have hx := C.1
  have hb := C.2.1
  have hown := C.2.2.2.1
  have hl : lv_has ls 2 [(0, .ref a), (1, .int x1)] := hl
  rw [V2_0_reads] at h
  refine lv_aload_n hx hb dX7_reads_0 rfl (lv_at hl 0 rfl) ?_
  refine db_get C hP hdb 0 (by decide) (fun k h => (db_T h).1) q461 (fun _ h => h) rfl dX7_reads_1 ?_
  refine lv_bipush (v := 12) hx hb dX7_reads_4 (by decide) ?_
  obtain ⟨st1, hst1, h⟩ := bd1_some h
  refine k_J_begins C hO hP hS hst1 q1231 (Nat.le_of_ble_eq_true rfl) hl.1 (Nat.le_of_ble_eq_true rfl) hcs dX7_reads_6 (fun H locs hP hS => ?_)
  have hdb := db_tr (P_J_begins hst1) hdb
  refine lv_iload_n hx hb dX7_reads_9 rfl (lv_at hl 1 rfl) ?_
  refine lv_aload_n hx hb dX7_reads_10 rfl (lv_at hl 0 rfl) ?_
  refine db_get C hP hdb 2 (by decide) (fun k h => (db_T h).2.2.1) q477 (fun _ h => h) rfl dX7_reads_11 ?_
  refine lv_isub hx hb dX7_reads_14 ?_
  exact cc_viret hx hb hr hlk h hP hS dX7_reads_15
theorem P_V2_0_reads {st st' : CS} {dn dm x1 r0 : Int32} (h : V2_0_reads st dn dm x1 = some (r0, st')) : st'.2.2 = st.2.2 := by
  rw [V2_0_reads] at h
  obtain ⟨st1, hst1, h⟩ := bd1_some h
  cases h
  exact (P_J_begins hst1)
theorem w_V3_0_reads {l : Launch} {D : va_G} {cA : Nat → ClassId} {ks : List Nat} {ad : Nat → Nat} {A : Nat → Prop} (hO : klOk A ks ad) {st st' : CS} {a : Nat} {dn dm x1 r0 : Int32} (hdb : dbAt ks ad st.2.2.2 a 3 (ad 62) dn dm) (h : V3_0_reads st dn dm x1 = some (r0, st')) : cV l yX7_reads cX7_reads 2 (some .int) 1 D cA ks ad A st [.ref a, .int x1] (some (.int r0)) st' := by
  refine cc_ofV (own := RX7) (by decide) rfl (Nat.le_of_ble_eq_true rfl) (fun p e s m below meth c R args ls C hr hlk hP hS hl hcs => ?_)
  have hx := C.1
  have hb := C.2.1
  have hown := C.2.2.2.1
  have hl : lv_has ls 2 [(0, .ref a), (1, .int x1)] := hl
  rw [V3_0_reads] at h
  refine lv_aload_n hx hb dX7_reads_0 rfl (lv_at hl 0 rfl) ?_
  refine db_get C hP hdb 0 (by decide) (fun k h => (db_T h).1) q461 (fun _ h => h) rfl dX7_reads_1 ?_
  refine lv_bipush (v := 12) hx hb dX7_reads_4 (by decide) ?_
  obtain ⟨st1, hst1, h⟩ := bd1_some h
  refine k_J_begins C hO hP hS hst1 q1231 (Nat.le_of_ble_eq_true rfl) hl.1 (Nat.le_of_ble_eq_true rfl) hcs dX7_reads_6 (fun H locs hP hS => ?_)
  have hdb := db_tr (P_J_begins hst1) hdb
  refine lv_iload_n hx hb dX7_reads_9 rfl (lv_at hl 1 rfl) ?_
  refine lv_aload_n hx hb dX7_reads_10 rfl (lv_at hl 0 rfl) ?_
  refine db_get C hP hdb 2 (by decide) (fun k h => (db_T h).2.2.1) q477 (fun _ h => h) rfl dX7_reads_11 ?_
  refine lv_isub hx hb dX7_reads_14 ?_
  exact cc_viret hx hb hr hlk h hP hS dX7_reads_15
theorem P_V3_0_reads {st st' : CS} {dn dm x1 r0 : Int32} (h : V3_0_reads st dn dm x1 = some (r0, st')) : st'.2.2 = st.2.2 := by
  rw [V3_0_reads] at h
  obtain ⟨st1, hst1, h⟩ := bd1_some h
  cases h
  exact (P_J_begins hst1)
abbrev cX10_reads : ByteArray := prog_9_method_6_code
def yX10_reads : MethodName := ⟨RX10, "reads", "(I)I"⟩
theorem dX10_reads_0 : decode cX10_reads 0 = .ok (.aload_n 0, 1) := by decide +kernel
theorem dX10_reads_1 : decode cX10_reads 1 = .ok (.getfield 13, 3) := by decide +kernel
theorem dX10_reads_4 : decode cX10_reads 4 = .ok (.bipush 40, 2) := by decide +kernel
theorem dX10_reads_6 : decode cX10_reads 6 = .ok (.invokevirtual 19, 3) := by decide +kernel
theorem dX10_reads_9 : decode cX10_reads 9 = .ok (.aload_n 0, 1) := by decide +kernel
theorem dX10_reads_10 : decode cX10_reads 10 = .ok (.iload_n 1, 1) := by decide +kernel
theorem dX10_reads_11 : decode cX10_reads 11 = .ok (.invokespecial 25, 3) := by decide +kernel
theorem dX10_reads_14 : decode cX10_reads 14 = .ok (.ineg, 1) := by decide +kernel
theorem dX10_reads_15 : decode cX10_reads 15 = .ok (.ireturn, 1) := by decide +kernel
theorem q468 : (Jvm.Cond.fieldLink "ChapterLoan$Ghost" (13 : Nat) "ChapterLoan$Ghost" "trace" "LChapterLoan$Trace;") ∈ lw_all := lw_g (lw_at lw_m2 144 rfl) rfl
theorem q469 : (Jvm.Cond.sameField "ChapterLoan$Ghost" "ChapterLoan$Debtor" "trace" "LChapterLoan$Trace;") ∈ lw_all := lw_g (lw_at lw_m2 145 rfl) rfl
theorem q1288 : (Jvm.Cond.instanceMethod ({ cls := "ChapterLoan$Debtor", name := "reads", desc := "(I)I" } : Jvm.MethodName)) ∈ lw_all := lw_g (lw_at lw_m6 4 rfl) rfl
theorem q1289 : (Jvm.Cond.code ({ cls := "ChapterLoan$Debtor", name := "reads", desc := "(I)I" } : Jvm.MethodName) prog_3_method_9_code (2 : Nat) (Option.some Jvm.ClassFile.FieldType.int)) ∈ lw_all := lw_g (lw_at lw_m6 5 rfl) rfl
theorem q1321 : (Jvm.Cond.methodLink "ChapterLoan$Ghost" (19 : Nat) ({ cls := "ChapterLoan$Trace", name := "begins", desc := "(I)V" } : Jvm.MethodName)) ∈ lw_all := lw_g (lw_at lw_m6 37 rfl) rfl
theorem q1322 : (Jvm.Cond.methodLink "ChapterLoan$Ghost" (25 : Nat) ({ cls := "ChapterLoan$Debtor", name := "reads", desc := "(I)I" } : Jvm.MethodName)) ∈ lw_all := lw_g (lw_at lw_m6 38 rfl) rfl
theorem q2033 : (Jvm.Cond.sameMethod "ChapterLoan$Debtor" "ChapterLoan$Debtor" "reads" "(I)I") ∈ lw_all := lw_g (lw_at lw_m9 29 rfl) rfl
theorem w_V3_3_reads {l : Launch} {D : va_G} {cA : Nat → ClassId} {ks : List Nat} {ad : Nat → Nat} {A : Nat → Prop} (hO : klOk A ks ad) {st st' : CS} {a : Nat} {dn dm x1 r0 : Int32} (hdb : dbAt ks ad st.2.2.2 a 3 (ad 62) dn dm) (h : V3_3_reads st dn dm x1 = some (r0, st')) : cV l yX10_reads cX10_reads 2 (some .int) 2 D cA ks ad A st [.ref a, .int x1] (some (.int r0)) st' := by
  refine cc_ofV (own := RX10) (by decide) rfl (Nat.le_of_ble_eq_true rfl) (fun p e s m below meth c R args ls C hr hlk hP hS hl hcs => ?_)
  have hx := C.1
  have hb := C.2.1
  have hown := C.2.2.2.1
  have hl : lv_has ls 2 [(0, .ref a), (1, .int x1)] := hl
  rw [V3_3_reads] at h
  refine lv_aload_n hx hb dX10_reads_0 rfl (lv_at hl 0 rfl) ?_
  refine db_get C hP hdb 0 (by decide) (fun k h => (db_T h).1) q468 (db_same C q469) rfl dX10_reads_1 ?_
  refine lv_bipush (v := 40) hx hb dX10_reads_4 (by decide) ?_
  obtain ⟨st1, hst1, h⟩ := bd1_some h
  refine k_J_begins C hO hP hS hst1 q1321 (Nat.le_of_ble_eq_true rfl) hl.1 (Nat.le_of_ble_eq_true rfl) hcs dX10_reads_6 (fun H locs hP hS => ?_)
  have hdb := db_tr (P_J_begins hst1) hdb
  refine lv_aload_n hx hb dX10_reads_9 rfl (lv_at hl 0 rfl) ?_
  refine lv_iload_n hx hb dX10_reads_10 rfl (lv_at hl 1 rfl) ?_
  obtain ⟨v3, st2, hst2, h⟩ := bd2_some h
  refine db_superV (As := [.int x1]) C hP hS hdb (w_V3_0_reads hO hdb hst2) (va_cwSU 1 C.2.2.2.2.1 (lw_SU q1322 q2033 q513 q1288 q95 q1289) rfl rfl rfl (by decide +kernel) (mr_ C.2.2.2.2.2.1 (Nat.le_of_ble_eq_true rfl) (by decide))) rfl hl.1 rfl (Nat.le_of_ble_eq_true rfl) dX10_reads_11 hcs (fun H locs hP hS => ?_)
  have hdb := db_tr (P_V3_0_reads hst2) hdb
  refine lv_ineg hx hb dX10_reads_14 ?_
  exact cc_viret hx hb hr hlk h hP hS dX10_reads_15
theorem P_V3_3_reads {st st' : CS} {dn dm x1 r0 : Int32} (h : V3_3_reads st dn dm x1 = some (r0, st')) : st'.2.2 = st.2.2 := by
  rw [V3_3_reads] at h
  obtain ⟨st1, hst1, h⟩ := bd1_some h
  obtain ⟨v3, st2, hst2, h⟩ := bd2_some h
  cases h
  exact ((P_V3_0_reads hst2).trans (P_J_begins hst1))
theorem w_V4_0_reads {l : Launch} {D : va_G} {cA : Nat → ClassId} {ks : List Nat} {ad : Nat → Nat} {A : Nat → Prop} (hO : klOk A ks ad) {st st' : CS} {a : Nat} {dn dm x1 r0 : Int32} (hdb : dbAt ks ad st.2.2.2 a 4 (ad 62) dn dm) (h : V4_0_reads st dn dm x1 = some (r0, st')) : cV l yX7_reads cX7_reads 2 (some .int) 1 D cA ks ad A st [.ref a, .int x1] (some (.int r0)) st' := by
  refine cc_ofV (own := RX7) (by decide) rfl (Nat.le_of_ble_eq_true rfl) (fun p e s m below meth c R args ls C hr hlk hP hS hl hcs => ?_)
  have hx := C.1
  have hb := C.2.1
  have hown := C.2.2.2.1
  have hl : lv_has ls 2 [(0, .ref a), (1, .int x1)] := hl
  rw [V4_0_reads] at h
  refine lv_aload_n hx hb dX7_reads_0 rfl (lv_at hl 0 rfl) ?_
  refine db_get C hP hdb 0 (by decide) (fun k h => (db_T h).1) q461 (fun _ h => h) rfl dX7_reads_1 ?_
  refine lv_bipush (v := 12) hx hb dX7_reads_4 (by decide) ?_
  obtain ⟨st1, hst1, h⟩ := bd1_some h
  refine k_J_begins C hO hP hS hst1 q1231 (Nat.le_of_ble_eq_true rfl) hl.1 (Nat.le_of_ble_eq_true rfl) hcs dX7_reads_6 (fun H locs hP hS => ?_)
  have hdb := db_tr (P_J_begins hst1) hdb
  refine lv_iload_n hx hb dX7_reads_9 rfl (lv_at hl 1 rfl) ?_
  refine lv_aload_n hx hb dX7_reads_10 rfl (lv_at hl 0 rfl) ?_
  refine db_get C hP hdb 2 (by decide) (fun k h => (db_T h).2.2.1) q477 (fun _ h => h) rfl dX7_reads_11 ?_
  refine lv_isub hx hb dX7_reads_14 ?_
  exact cc_viret hx hb hr hlk h hP hS dX7_reads_15
theorem P_V4_0_reads {st st' : CS} {dn dm x1 r0 : Int32} (h : V4_0_reads st dn dm x1 = some (r0, st')) : st'.2.2 = st.2.2 := by
  rw [V4_0_reads] at h
  obtain ⟨st1, hst1, h⟩ := bd1_some h
  cases h
  exact (P_J_begins hst1)
theorem w_V5_0_reads {l : Launch} {D : va_G} {cA : Nat → ClassId} {ks : List Nat} {ad : Nat → Nat} {A : Nat → Prop} (hO : klOk A ks ad) {st st' : CS} {a : Nat} {dn dm x1 r0 : Int32} (hdb : dbAt ks ad st.2.2.2 a 5 (ad 62) dn dm) (h : V5_0_reads st dn dm x1 = some (r0, st')) : cV l yX7_reads cX7_reads 2 (some .int) 1 D cA ks ad A st [.ref a, .int x1] (some (.int r0)) st' := by
  refine cc_ofV (own := RX7) (by decide) rfl (Nat.le_of_ble_eq_true rfl) (fun p e s m below meth c R args ls C hr hlk hP hS hl hcs => ?_)
  have hx := C.1
  have hb := C.2.1
  have hown := C.2.2.2.1
  have hl : lv_has ls 2 [(0, .ref a), (1, .int x1)] := hl
  rw [V5_0_reads] at h
  refine lv_aload_n hx hb dX7_reads_0 rfl (lv_at hl 0 rfl) ?_
  refine db_get C hP hdb 0 (by decide) (fun k h => (db_T h).1) q461 (fun _ h => h) rfl dX7_reads_1 ?_
  refine lv_bipush (v := 12) hx hb dX7_reads_4 (by decide) ?_
  obtain ⟨st1, hst1, h⟩ := bd1_some h
  refine k_J_begins C hO hP hS hst1 q1231 (Nat.le_of_ble_eq_true rfl) hl.1 (Nat.le_of_ble_eq_true rfl) hcs dX7_reads_6 (fun H locs hP hS => ?_)
  have hdb := db_tr (P_J_begins hst1) hdb
  refine lv_iload_n hx hb dX7_reads_9 rfl (lv_at hl 1 rfl) ?_
  refine lv_aload_n hx hb dX7_reads_10 rfl (lv_at hl 0 rfl) ?_
  refine db_get C hP hdb 2 (by decide) (fun k h => (db_T h).2.2.1) q477 (fun _ h => h) rfl dX7_reads_11 ?_
  refine lv_isub hx hb dX7_reads_14 ?_
  exact cc_viret hx hb hr hlk h hP hS dX7_reads_15
theorem P_V5_0_reads {st st' : CS} {dn dm x1 r0 : Int32} (h : V5_0_reads st dn dm x1 = some (r0, st')) : st'.2.2 = st.2.2 := by
  rw [V5_0_reads] at h
  obtain ⟨st1, hst1, h⟩ := bd1_some h
  cases h
  exact (P_J_begins hst1)
theorem w_V6_0_reads {l : Launch} {D : va_G} {cA : Nat → ClassId} {ks : List Nat} {ad : Nat → Nat} {A : Nat → Prop} (hO : klOk A ks ad) {st st' : CS} {a : Nat} {dn dm x1 r0 : Int32} (hdb : dbAt ks ad st.2.2.2 a 6 (ad 62) dn dm) (h : V6_0_reads st dn dm x1 = some (r0, st')) : cV l yX7_reads cX7_reads 2 (some .int) 1 D cA ks ad A st [.ref a, .int x1] (some (.int r0)) st' := by
  refine cc_ofV (own := RX7) (by decide) rfl (Nat.le_of_ble_eq_true rfl) (fun p e s m below meth c R args ls C hr hlk hP hS hl hcs => ?_)
  have hx := C.1
  have hb := C.2.1
  have hown := C.2.2.2.1
  have hl : lv_has ls 2 [(0, .ref a), (1, .int x1)] := hl
  rw [V6_0_reads] at h
  refine lv_aload_n hx hb dX7_reads_0 rfl (lv_at hl 0 rfl) ?_
  refine db_get C hP hdb 0 (by decide) (fun k h => (db_T h).1) q461 (fun _ h => h) rfl dX7_reads_1 ?_
  refine lv_bipush (v := 12) hx hb dX7_reads_4 (by decide) ?_
  obtain ⟨st1, hst1, h⟩ := bd1_some h
  refine k_J_begins C hO hP hS hst1 q1231 (Nat.le_of_ble_eq_true rfl) hl.1 (Nat.le_of_ble_eq_true rfl) hcs dX7_reads_6 (fun H locs hP hS => ?_)
  have hdb := db_tr (P_J_begins hst1) hdb
  refine lv_iload_n hx hb dX7_reads_9 rfl (lv_at hl 1 rfl) ?_
  refine lv_aload_n hx hb dX7_reads_10 rfl (lv_at hl 0 rfl) ?_
  refine db_get C hP hdb 2 (by decide) (fun k h => (db_T h).2.2.1) q477 (fun _ h => h) rfl dX7_reads_11 ?_
  refine lv_isub hx hb dX7_reads_14 ?_
  exact cc_viret hx hb hr hlk h hP hS dX7_reads_15
theorem P_V6_0_reads {st st' : CS} {dn dm x1 r0 : Int32} (h : V6_0_reads st dn dm x1 = some (r0, st')) : st'.2.2 = st.2.2 := by
  rw [V6_0_reads] at h
  obtain ⟨st1, hst1, h⟩ := bd1_some h
  cases h
  exact (P_J_begins hst1)
theorem w_V6_3_reads {l : Launch} {D : va_G} {cA : Nat → ClassId} {ks : List Nat} {ad : Nat → Nat} {A : Nat → Prop} (hO : klOk A ks ad) {st st' : CS} {a : Nat} {dn dm x1 r0 : Int32} (hdb : dbAt ks ad st.2.2.2 a 6 (ad 62) dn dm) (h : V6_3_reads st dn dm x1 = some (r0, st')) : cV l yX10_reads cX10_reads 2 (some .int) 2 D cA ks ad A st [.ref a, .int x1] (some (.int r0)) st' := by
  refine cc_ofV (own := RX10) (by decide) rfl (Nat.le_of_ble_eq_true rfl) (fun p e s m below meth c R args ls C hr hlk hP hS hl hcs => ?_)
  have hx := C.1
  have hb := C.2.1
  have hown := C.2.2.2.1
  have hl : lv_has ls 2 [(0, .ref a), (1, .int x1)] := hl
  rw [V6_3_reads] at h
  refine lv_aload_n hx hb dX10_reads_0 rfl (lv_at hl 0 rfl) ?_
  refine db_get C hP hdb 0 (by decide) (fun k h => (db_T h).1) q468 (db_same C q469) rfl dX10_reads_1 ?_
  refine lv_bipush (v := 40) hx hb dX10_reads_4 (by decide) ?_
  obtain ⟨st1, hst1, h⟩ := bd1_some h
  refine k_J_begins C hO hP hS hst1 q1321 (Nat.le_of_ble_eq_true rfl) hl.1 (Nat.le_of_ble_eq_true rfl) hcs dX10_reads_6 (fun H locs hP hS => ?_)
  have hdb := db_tr (P_J_begins hst1) hdb
  refine lv_aload_n hx hb dX10_reads_9 rfl (lv_at hl 0 rfl) ?_
  refine lv_iload_n hx hb dX10_reads_10 rfl (lv_at hl 1 rfl) ?_
  obtain ⟨v3, st2, hst2, h⟩ := bd2_some h
  refine db_superV (As := [.int x1]) C hP hS hdb (w_V6_0_reads hO hdb hst2) (va_cwSU 1 C.2.2.2.2.1 (lw_SU q1322 q2033 q513 q1288 q95 q1289) rfl rfl rfl (by decide +kernel) (mr_ C.2.2.2.2.2.1 (Nat.le_of_ble_eq_true rfl) (by decide))) rfl hl.1 rfl (Nat.le_of_ble_eq_true rfl) dX10_reads_11 hcs (fun H locs hP hS => ?_)
  have hdb := db_tr (P_V6_0_reads hst2) hdb
  refine lv_ineg hx hb dX10_reads_14 ?_
  exact cc_viret hx hb hr hlk h hP hS dX10_reads_15
theorem P_V6_3_reads {st st' : CS} {dn dm x1 r0 : Int32} (h : V6_3_reads st dn dm x1 = some (r0, st')) : st'.2.2 = st.2.2 := by
  rw [V6_3_reads] at h
  obtain ⟨st1, hst1, h⟩ := bd1_some h
  obtain ⟨v3, st2, hst2, h⟩ := bd2_some h
  cases h
  exact ((P_V6_0_reads hst2).trans (P_J_begins hst1))
abbrev cX13_reads : ByteArray := prog_16_method_6_code
def yX13_reads : MethodName := ⟨RX13, "reads", "(I)I"⟩
theorem dX13_reads_0 : decode cX13_reads 0 = .ok (.aload_n 0, 1) := by decide +kernel
theorem dX13_reads_1 : decode cX13_reads 1 = .ok (.getfield 27, 3) := by decide +kernel
theorem dX13_reads_4 : decode cX13_reads 4 = .ok (.bipush 70, 2) := by decide +kernel
theorem dX13_reads_6 : decode cX13_reads 6 = .ok (.invokevirtual 31, 3) := by decide +kernel
theorem dX13_reads_9 : decode cX13_reads 9 = .ok (.aload_n 0, 1) := by decide +kernel
theorem dX13_reads_10 : decode cX13_reads 10 = .ok (.iload_n 1, 1) := by decide +kernel
theorem dX13_reads_11 : decode cX13_reads 11 = .ok (.invokespecial 37, 3) := by decide +kernel
theorem dX13_reads_14 : decode cX13_reads 14 = .ok (.aload_n 0, 1) := by decide +kernel
theorem dX13_reads_15 : decode cX13_reads 15 = .ok (.getfield 41, 3) := by decide +kernel
theorem dX13_reads_18 : decode cX13_reads 18 = .ok (.ixor, 1) := by decide +kernel
theorem dX13_reads_19 : decode cX13_reads 19 = .ok (.ireturn, 1) := by decide +kernel
theorem q470 : (Jvm.Cond.fieldLink "ChapterLoan$Saint" (27 : Nat) "ChapterLoan$Saint" "trace" "LChapterLoan$Trace;") ∈ lw_all := lw_g (lw_at lw_m2 146 rfl) rfl
theorem q471 : (Jvm.Cond.sameField "ChapterLoan$Saint" "ChapterLoan$Debtor" "trace" "LChapterLoan$Trace;") ∈ lw_all := lw_g (lw_at lw_m2 147 rfl) rfl
theorem q475 : (Jvm.Cond.fieldLink "ChapterLoan$Saint" (41 : Nat) "ChapterLoan$Saint" "number" "I") ∈ lw_all := lw_g (lw_at lw_m2 151 rfl) rfl
theorem q476 : (Jvm.Cond.sameField "ChapterLoan$Saint" "ChapterLoan$Debtor" "number" "I") ∈ lw_all := lw_g (lw_at lw_m2 152 rfl) rfl
theorem q1318 : (Jvm.Cond.instanceMethod ({ cls := "ChapterLoan$Ghost", name := "reads", desc := "(I)I" } : Jvm.MethodName)) ∈ lw_all := lw_g (lw_at lw_m6 34 rfl) rfl
theorem q1320 : (Jvm.Cond.code ({ cls := "ChapterLoan$Ghost", name := "reads", desc := "(I)I" } : Jvm.MethodName) prog_9_method_6_code (2 : Nat) (Option.some Jvm.ClassFile.FieldType.int)) ∈ lw_all := lw_g (lw_at lw_m6 36 rfl) rfl
theorem q1332 : (Jvm.Cond.methodLink "ChapterLoan$Saint" (31 : Nat) ({ cls := "ChapterLoan$Trace", name := "begins", desc := "(I)V" } : Jvm.MethodName)) ∈ lw_all := lw_g (lw_at lw_m6 48 rfl) rfl
theorem q1333 : (Jvm.Cond.methodLink "ChapterLoan$Saint" (37 : Nat) ({ cls := "ChapterLoan$Ghost", name := "reads", desc := "(I)I" } : Jvm.MethodName)) ∈ lw_all := lw_g (lw_at lw_m6 49 rfl) rfl
theorem q2034 : (Jvm.Cond.sameMethod "ChapterLoan$Ghost" "ChapterLoan$Ghost" "reads" "(I)I") ∈ lw_all := lw_g (lw_at lw_m9 30 rfl) rfl
theorem w_V6_6_reads {l : Launch} {D : va_G} {cA : Nat → ClassId} {ks : List Nat} {ad : Nat → Nat} {A : Nat → Prop} (hO : klOk A ks ad) {st st' : CS} {a : Nat} {dn dm x1 r0 : Int32} (hdb : dbAt ks ad st.2.2.2 a 6 (ad 62) dn dm) (h : V6_6_reads st dn dm x1 = some (r0, st')) : cV l yX13_reads cX13_reads 2 (some .int) 3 D cA ks ad A st [.ref a, .int x1] (some (.int r0)) st' := by
  refine cc_ofV (own := RX13) (by decide) rfl (Nat.le_of_ble_eq_true rfl) (fun p e s m below meth c R args ls C hr hlk hP hS hl hcs => ?_)
  have hx := C.1
  have hb := C.2.1
  have hown := C.2.2.2.1
  have hl : lv_has ls 2 [(0, .ref a), (1, .int x1)] := hl
  rw [V6_6_reads] at h
  refine lv_aload_n hx hb dX13_reads_0 rfl (lv_at hl 0 rfl) ?_
  refine db_get C hP hdb 0 (by decide) (fun k h => (db_T h).1) q470 (db_same C q471) rfl dX13_reads_1 ?_
  refine lv_bipush (v := 70) hx hb dX13_reads_4 (by decide) ?_
  obtain ⟨st1, hst1, h⟩ := bd1_some h
  refine k_J_begins C hO hP hS hst1 q1332 (Nat.le_of_ble_eq_true rfl) hl.1 (Nat.le_of_ble_eq_true rfl) hcs dX13_reads_6 (fun H locs hP hS => ?_)
  have hdb := db_tr (P_J_begins hst1) hdb
  refine lv_aload_n hx hb dX13_reads_9 rfl (lv_at hl 0 rfl) ?_
  refine lv_iload_n hx hb dX13_reads_10 rfl (lv_at hl 1 rfl) ?_
  obtain ⟨v3, st2, hst2, h⟩ := bd2_some h
  refine db_superV (As := [.int x1]) C hP hS hdb (w_V6_3_reads hO hdb hst2) (va_cwSU 1 C.2.2.2.2.1 (lw_SU q1333 q2034 q543 q1318 q98 q1320) rfl rfl rfl (by decide +kernel) (mr_ C.2.2.2.2.2.1 (Nat.le_of_ble_eq_true rfl) (by decide))) rfl hl.1 rfl (Nat.le_of_ble_eq_true rfl) dX13_reads_11 hcs (fun H locs hP hS => ?_)
  have hdb := db_tr (P_V6_3_reads hst2) hdb
  refine lv_aload_n hx hb dX13_reads_14 rfl (lv_at hl 0 rfl) ?_
  refine db_get C hP hdb 1 (by decide) (fun k h => (db_T h).2.1) q475 (db_same C q476) rfl dX13_reads_15 ?_
  refine lv_ixor hx hb dX13_reads_18 ?_
  exact cc_viret hx hb hr hlk h hP hS dX13_reads_19
theorem P_V6_6_reads {st st' : CS} {dn dm x1 r0 : Int32} (h : V6_6_reads st dn dm x1 = some (r0, st')) : st'.2.2 = st.2.2 := by
  rw [V6_6_reads] at h
  obtain ⟨st1, hst1, h⟩ := bd1_some h
  obtain ⟨v3, st2, hst2, h⟩ := bd2_some h
  cases h
  exact ((P_V6_3_reads hst2).trans (P_J_begins hst1))
abbrev cX7_writes : ByteArray := prog_3_method_8_code
def yX7_writes : MethodName := ⟨RX7, "writes", "(I)I"⟩
theorem dX7_writes_0 : decode cX7_writes 0 = .ok (.aload_n 0, 1) := by decide +kernel
theorem dX7_writes_1 : decode cX7_writes 1 = .ok (.getfield 9, 3) := by decide +kernel
theorem dX7_writes_4 : decode cX7_writes 4 = .ok (.bipush 11, 2) := by decide +kernel
theorem dX7_writes_6 : decode cX7_writes 6 = .ok (.invokevirtual 22, 3) := by decide +kernel
theorem dX7_writes_9 : decode cX7_writes 9 = .ok (.aload_n 0, 1) := by decide +kernel
theorem dX7_writes_10 : decode cX7_writes 10 = .ok (.iload_n 1, 1) := by decide +kernel
theorem dX7_writes_11 : decode cX7_writes 11 = .ok (.invokevirtual 28, 3) := by decide +kernel
theorem dX7_writes_14 : decode cX7_writes 14 = .ok (.iconst 2, 1) := by decide +kernel
theorem dX7_writes_15 : decode cX7_writes 15 = .ok (.imul, 1) := by decide +kernel
theorem dX7_writes_16 : decode cX7_writes 16 = .ok (.ireturn, 1) := by decide +kernel
theorem q1268 : (Jvm.Cond.methodLink "ChapterLoan$Debtor" (28 : Nat) ({ cls := "ChapterLoan$Debtor", name := "owes", desc := "(I)I" } : Jvm.MethodName)) ∈ lw_all := lw_g (lw_at lw_m5 224 rfl) rfl
theorem q2024 : (Jvm.Cond.selects "ChapterLoan$Debtor" ({ cls := "ChapterLoan$Debtor", name := "owes", desc := "(I)I" } : Jvm.MethodName) ({ cls := "ChapterLoan$Debtor", name := "owes", desc := "(I)I" } : Jvm.MethodName)) ∈ lw_all := lw_g (lw_at lw_m9 20 rfl) rfl
theorem w_V0_0_writes {l : Launch} {D : va_G} {cA : Nat → ClassId} {ks : List Nat} {ad : Nat → Nat} {A : Nat → Prop} (hO : klOk A ks ad) {st st' : CS} {a : Nat} {dn dm x1 r0 : Int32} (hdb : dbAt ks ad st.2.2.2 a 0 (ad 62) dn dm) (h : V0_0_writes st dn dm x1 = some (r0, st')) : cV l yX7_writes cX7_writes 2 (some .int) 2 D cA ks ad A st [.ref a, .int x1] (some (.int r0)) st' := by
  refine cc_ofV (own := RX7) (by decide) rfl (Nat.le_of_ble_eq_true rfl) (fun p e s m below meth c R args ls C hr hlk hP hS hl hcs => ?_)
  have hx := C.1
  have hb := C.2.1
  have hown := C.2.2.2.1
  have hl : lv_has ls 2 [(0, .ref a), (1, .int x1)] := hl
  rw [V0_0_writes] at h
  refine lv_aload_n hx hb dX7_writes_0 rfl (lv_at hl 0 rfl) ?_
  refine db_get C hP hdb 0 (by decide) (fun k h => (db_T h).1) q461 (fun _ h => h) rfl dX7_writes_1 ?_
  refine lv_bipush (v := 11) hx hb dX7_writes_4 (by decide) ?_
  obtain ⟨st1, hst1, h⟩ := bd1_some h
  refine k_J_begins C hO hP hS hst1 q1231 (Nat.le_of_ble_eq_true rfl) hl.1 (Nat.le_of_ble_eq_true rfl) hcs dX7_writes_6 (fun H locs hP hS => ?_)
  have hdb := db_tr (P_J_begins hst1) hdb
  refine lv_aload_n hx hb dX7_writes_9 rfl (lv_at hl 0 rfl) ?_
  refine lv_iload_n hx hb dX7_writes_10 rfl (lv_at hl 1 rfl) ?_
  obtain ⟨v3, st2, hst2, h⟩ := bd2_some h
  refine tm_virtV (q := dbC 0) (x := ⟨RX7, "owes", "(I)I"⟩) (owner := RX7) (n := 1) (As := [.int x1]) C hP hS (db_recv C hP hdb) (w_V0_0_owes hO hdb hst2) (va_cwU (owner := RX7) 1 C.2.2.2.2.1 (lw_U q1268 q2023 q2024 q1228 q95 q1230) rfl rfl rfl rfl (by decide +kernel) (mr_ C.2.2.2.2.2.1 (Nat.le_of_ble_eq_true rfl) (by decide))) rfl hl.1 rfl (Nat.le_of_ble_eq_true rfl) dX7_writes_11 hcs (fun H locs hP hS => ?_)
  have hdb := db_tr (P_V0_0_owes hst2) hdb
  refine lv_iconst (v := 2) hx hb dX7_writes_14 (by decide) ?_
  refine lv_imul hx hb dX7_writes_15 ?_
  exact cc_viret hx hb hr hlk h hP hS dX7_writes_16
theorem P_V0_0_writes {st st' : CS} {dn dm x1 r0 : Int32} (h : V0_0_writes st dn dm x1 = some (r0, st')) : st'.2.2 = st.2.2 := by
  rw [V0_0_writes] at h
  obtain ⟨st1, hst1, h⟩ := bd1_some h
  obtain ⟨v3, st2, hst2, h⟩ := bd2_some h
  cases h
  exact ((P_V0_0_owes hst2).trans (P_J_begins hst1))
theorem q2027 : (Jvm.Cond.selects "ChapterLoan$Plagiarist" ({ cls := "ChapterLoan$Debtor", name := "owes", desc := "(I)I" } : Jvm.MethodName) ({ cls := "ChapterLoan$Debtor", name := "owes", desc := "(I)I" } : Jvm.MethodName)) ∈ lw_all := lw_g (lw_at lw_m9 23 rfl) rfl
theorem w_V1_0_writes {l : Launch} {D : va_G} {cA : Nat → ClassId} {ks : List Nat} {ad : Nat → Nat} {A : Nat → Prop} (hO : klOk A ks ad) {st st' : CS} {a : Nat} {dn dm x1 r0 : Int32} (hdb : dbAt ks ad st.2.2.2 a 1 (ad 62) dn dm) (h : V1_0_writes st dn dm x1 = some (r0, st')) : cV l yX7_writes cX7_writes 2 (some .int) 2 D cA ks ad A st [.ref a, .int x1] (some (.int r0)) st' := by
  refine cc_ofV (own := RX7) (by decide) rfl (Nat.le_of_ble_eq_true rfl) (fun p e s m below meth c R args ls C hr hlk hP hS hl hcs => ?_)
  have hx := C.1
  have hb := C.2.1
  have hown := C.2.2.2.1
  have hl : lv_has ls 2 [(0, .ref a), (1, .int x1)] := hl
  rw [V1_0_writes] at h
  refine lv_aload_n hx hb dX7_writes_0 rfl (lv_at hl 0 rfl) ?_
  refine db_get C hP hdb 0 (by decide) (fun k h => (db_T h).1) q461 (fun _ h => h) rfl dX7_writes_1 ?_
  refine lv_bipush (v := 11) hx hb dX7_writes_4 (by decide) ?_
  obtain ⟨st1, hst1, h⟩ := bd1_some h
  refine k_J_begins C hO hP hS hst1 q1231 (Nat.le_of_ble_eq_true rfl) hl.1 (Nat.le_of_ble_eq_true rfl) hcs dX7_writes_6 (fun H locs hP hS => ?_)
  have hdb := db_tr (P_J_begins hst1) hdb
  refine lv_aload_n hx hb dX7_writes_9 rfl (lv_at hl 0 rfl) ?_
  refine lv_iload_n hx hb dX7_writes_10 rfl (lv_at hl 1 rfl) ?_
  obtain ⟨v3, st2, hst2, h⟩ := bd2_some h
  refine tm_virtV (q := dbC 1) (x := ⟨RX7, "owes", "(I)I"⟩) (owner := RX7) (n := 1) (As := [.int x1]) C hP hS (db_recv C hP hdb) (w_V1_0_owes hO hdb hst2) (va_cwU (owner := RX7) 1 C.2.2.2.2.1 (lw_U q1268 q2023 q2027 q1228 q95 q1230) rfl rfl rfl rfl (by decide +kernel) (mr_ C.2.2.2.2.2.1 (Nat.le_of_ble_eq_true rfl) (by decide))) rfl hl.1 rfl (Nat.le_of_ble_eq_true rfl) dX7_writes_11 hcs (fun H locs hP hS => ?_)
  have hdb := db_tr (P_V1_0_owes hst2) hdb
  refine lv_iconst (v := 2) hx hb dX7_writes_14 (by decide) ?_
  refine lv_imul hx hb dX7_writes_15 ?_
  exact cc_viret hx hb hr hlk h hP hS dX7_writes_16
theorem P_V1_0_writes {st st' : CS} {dn dm x1 r0 : Int32} (h : V1_0_writes st dn dm x1 = some (r0, st')) : st'.2.2 = st.2.2 := by
  rw [V1_0_writes] at h
  obtain ⟨st1, hst1, h⟩ := bd1_some h
  obtain ⟨v3, st2, hst2, h⟩ := bd2_some h
  cases h
  exact ((P_V1_0_owes hst2).trans (P_J_begins hst1))
abbrev cX8_writes : ByteArray := prog_13_method_6_code
def yX8_writes : MethodName := ⟨RX8, "writes", "(I)I"⟩
theorem dX8_writes_0 : decode cX8_writes 0 = .ok (.aload_n 0, 1) := by decide +kernel
theorem dX8_writes_1 : decode cX8_writes 1 = .ok (.getfield 21, 3) := by decide +kernel
theorem dX8_writes_4 : decode cX8_writes 4 = .ok (.bipush 20, 2) := by decide +kernel
theorem dX8_writes_6 : decode cX8_writes 6 = .ok (.invokevirtual 27, 3) := by decide +kernel
theorem dX8_writes_9 : decode cX8_writes 9 = .ok (.aload_n 0, 1) := by decide +kernel
theorem dX8_writes_10 : decode cX8_writes 10 = .ok (.iload_n 1, 1) := by decide +kernel
theorem dX8_writes_11 : decode cX8_writes 11 = .ok (.invokespecial 33, 3) := by decide +kernel
theorem dX8_writes_14 : decode cX8_writes 14 = .ok (.istore_n 2, 1) := by decide +kernel
theorem dX8_writes_15 : decode cX8_writes 15 = .ok (.iload_n 2, 1) := by decide +kernel
theorem dX8_writes_16 : decode cX8_writes 16 = .ok (.aload_n 0, 1) := by decide +kernel
theorem dX8_writes_17 : decode cX8_writes 17 = .ok (.iconst 1, 1) := by decide +kernel
theorem dX8_writes_18 : decode cX8_writes 18 = .ok (.invokevirtual 36, 3) := by decide +kernel
theorem dX8_writes_21 : decode cX8_writes 21 = .ok (.isub, 1) := by decide +kernel
theorem dX8_writes_22 : decode cX8_writes 22 = .ok (.ireturn, 1) := by decide +kernel
theorem q466 : (Jvm.Cond.fieldLink "ChapterLoan$Plagiarist" (21 : Nat) "ChapterLoan$Plagiarist" "trace" "LChapterLoan$Trace;") ∈ lw_all := lw_g (lw_at lw_m2 142 rfl) rfl
theorem q467 : (Jvm.Cond.sameField "ChapterLoan$Plagiarist" "ChapterLoan$Debtor" "trace" "LChapterLoan$Trace;") ∈ lw_all := lw_g (lw_at lw_m2 143 rfl) rfl
theorem q1265 : (Jvm.Cond.instanceMethod ({ cls := "ChapterLoan$Debtor", name := "writes", desc := "(I)I" } : Jvm.MethodName)) ∈ lw_all := lw_g (lw_at lw_m5 221 rfl) rfl
theorem q1267 : (Jvm.Cond.code ({ cls := "ChapterLoan$Debtor", name := "writes", desc := "(I)I" } : Jvm.MethodName) prog_3_method_8_code (2 : Nat) (Option.some Jvm.ClassFile.FieldType.int)) ∈ lw_all := lw_g (lw_at lw_m5 223 rfl) rfl
theorem q1281 : (Jvm.Cond.methodLink "ChapterLoan$Plagiarist" (27 : Nat) ({ cls := "ChapterLoan$Trace", name := "begins", desc := "(I)V" } : Jvm.MethodName)) ∈ lw_all := lw_g (lw_at lw_m5 237 rfl) rfl
theorem q1282 : (Jvm.Cond.methodLink "ChapterLoan$Plagiarist" (33 : Nat) ({ cls := "ChapterLoan$Debtor", name := "writes", desc := "(I)I" } : Jvm.MethodName)) ∈ lw_all := lw_g (lw_at lw_m5 238 rfl) rfl
theorem q1283 : (Jvm.Cond.methodLink "ChapterLoan$Plagiarist" (36 : Nat) ({ cls := "ChapterLoan$Plagiarist", name := "reads", desc := "(I)I" } : Jvm.MethodName)) ∈ lw_all := lw_g (lw_at lw_m5 239 rfl) rfl
theorem q1284 : (Jvm.Cond.sameMethod "ChapterLoan$Plagiarist" "ChapterLoan$Debtor" "reads" "(I)I") ∈ lw_all := lw_g (lw_at lw_m6 0 rfl) rfl
theorem q1286 : (Jvm.Cond.selects "ChapterLoan$Plagiarist" ({ cls := "ChapterLoan$Plagiarist", name := "reads", desc := "(I)I" } : Jvm.MethodName) ({ cls := "ChapterLoan$Debtor", name := "reads", desc := "(I)I" } : Jvm.MethodName)) ∈ lw_all := lw_g (lw_at lw_m6 2 rfl) rfl
theorem q2031 : (Jvm.Cond.sameMethod "ChapterLoan$Debtor" "ChapterLoan$Debtor" "writes" "(I)I") ∈ lw_all := lw_g (lw_at lw_m9 27 rfl) rfl
theorem w_V1_1_writes {l : Launch} {D : va_G} {cA : Nat → ClassId} {ks : List Nat} {ad : Nat → Nat} {A : Nat → Prop} (hO : klOk A ks ad) {st st' : CS} {a : Nat} {dn dm x1 r0 : Int32} (hdb : dbAt ks ad st.2.2.2 a 1 (ad 62) dn dm) (h : V1_1_writes st dn dm x1 = some (r0, st')) : cV l yX8_writes cX8_writes 3 (some .int) 3 D cA ks ad A st [.ref a, .int x1] (some (.int r0)) st' := by
  refine cc_ofV (own := RX8) (by decide) rfl (Nat.le_of_ble_eq_true rfl) (fun p e s m below meth c R args ls C hr hlk hP hS hl hcs => ?_)
  have hx := C.1
  have hb := C.2.1
  have hown := C.2.2.2.1
  have hl : lv_has ls 3 [(0, .ref a), (1, .int x1)] := hl
  rw [V1_1_writes] at h
  refine lv_aload_n hx hb dX8_writes_0 rfl (lv_at hl 0 rfl) ?_
  refine db_get C hP hdb 0 (by decide) (fun k h => (db_T h).1) q466 (db_same C q467) rfl dX8_writes_1 ?_
  refine lv_bipush (v := 20) hx hb dX8_writes_4 (by decide) ?_
  obtain ⟨st1, hst1, h⟩ := bd1_some h
  refine k_J_begins C hO hP hS hst1 q1281 (Nat.le_of_ble_eq_true rfl) hl.1 (Nat.le_of_ble_eq_true rfl) hcs dX8_writes_6 (fun H locs hP hS => ?_)
  have hdb := db_tr (P_J_begins hst1) hdb
  refine lv_aload_n hx hb dX8_writes_9 rfl (lv_at hl 0 rfl) ?_
  refine lv_iload_n hx hb dX8_writes_10 rfl (lv_at hl 1 rfl) ?_
  obtain ⟨v3, st2, hst2, h⟩ := bd2_some h
  refine db_superV (As := [.int x1]) C hP hS hdb (w_V1_0_writes hO hdb hst2) (va_cwSU 1 C.2.2.2.2.1 (lw_SU q1282 q2031 q493 q1265 q95 q1267) rfl rfl rfl (by decide +kernel) (mr_ C.2.2.2.2.2.1 (Nat.le_of_ble_eq_true rfl) (by decide))) rfl hl.1 rfl (Nat.le_of_ble_eq_true rfl) dX8_writes_11 hcs (fun H locs hP hS => ?_)
  have hdb := db_tr (P_V1_0_writes hst2) hdb
  refine lv_istore_n (lv' := [(2, .int v3), (0, .ref a), (1, .int x1)]) hx hb dX8_writes_14 rfl hl (by decide) rfl (fun ls hl => ?_)
  refine lv_iload_n hx hb dX8_writes_15 rfl (lv_at hl 0 rfl) ?_
  refine lv_aload_n hx hb dX8_writes_16 rfl (lv_at hl 1 rfl) ?_
  refine lv_iconst (v := 1) hx hb dX8_writes_17 (by decide) ?_
  obtain ⟨v5, st4, hst4, h⟩ := bd2_some h
  refine tm_virtV (q := dbC 1) (x := ⟨RX8, "reads", "(I)I"⟩) (owner := RX7) (n := 1) (As := [.int 1]) C hP hS (db_recv C hP hdb) (w_V1_0_reads hO hdb hst4) (va_cwU (owner := RX7) 1 C.2.2.2.2.1 (lw_U q1283 q1284 q1286 q1288 q95 q1289) rfl rfl rfl rfl (by decide +kernel) (mr_ C.2.2.2.2.2.1 (Nat.le_of_ble_eq_true rfl) (by decide))) rfl hl.1 rfl (Nat.le_of_ble_eq_true rfl) dX8_writes_18 hcs (fun H locs hP hS => ?_)
  have hdb := db_tr (P_V1_0_reads hst4) hdb
  refine lv_isub hx hb dX8_writes_21 ?_
  exact cc_viret hx hb hr hlk h hP hS dX8_writes_22
theorem P_V1_1_writes {st st' : CS} {dn dm x1 r0 : Int32} (h : V1_1_writes st dn dm x1 = some (r0, st')) : st'.2.2 = st.2.2 := by
  rw [V1_1_writes] at h
  obtain ⟨st1, hst1, h⟩ := bd1_some h
  obtain ⟨v3, st2, hst2, h⟩ := bd2_some h
  obtain ⟨v5, st4, hst4, h⟩ := bd2_some h
  cases h
  exact ((P_V1_0_reads hst4).trans ((P_V1_0_writes hst2).trans (P_J_begins hst1)))
theorem q1238 : (Jvm.Cond.instanceMethod ({ cls := "ChapterLoan$Dreamer", name := "owes", desc := "(I)I" } : Jvm.MethodName)) ∈ lw_all := lw_g (lw_at lw_m5 194 rfl) rfl
theorem q1240 : (Jvm.Cond.code ({ cls := "ChapterLoan$Dreamer", name := "owes", desc := "(I)I" } : Jvm.MethodName) prog_4_method_5_code (2 : Nat) (Option.some Jvm.ClassFile.FieldType.int)) ∈ lw_all := lw_g (lw_at lw_m5 196 rfl) rfl
theorem q2025 : (Jvm.Cond.selects "ChapterLoan$Dreamer" ({ cls := "ChapterLoan$Debtor", name := "owes", desc := "(I)I" } : Jvm.MethodName) ({ cls := "ChapterLoan$Dreamer", name := "owes", desc := "(I)I" } : Jvm.MethodName)) ∈ lw_all := lw_g (lw_at lw_m9 21 rfl) rfl
theorem w_V2_0_writes {l : Launch} {D : va_G} {cA : Nat → ClassId} {ks : List Nat} {ad : Nat → Nat} {A : Nat → Prop} (hO : klOk A ks ad) {st st' : CS} {a : Nat} {dn dm x1 r0 : Int32} (hdb : dbAt ks ad st.2.2.2 a 2 (ad 62) dn dm) (h : V2_0_writes st dn dm x1 = some (r0, st')) : cV l yX7_writes cX7_writes 2 (some .int) 3 D cA ks ad A st [.ref a, .int x1] (some (.int r0)) st' := by
  refine cc_ofV (own := RX7) (by decide) rfl (Nat.le_of_ble_eq_true rfl) (fun p e s m below meth c R args ls C hr hlk hP hS hl hcs => ?_)
  have hx := C.1
  have hb := C.2.1
  have hown := C.2.2.2.1
  have hl : lv_has ls 2 [(0, .ref a), (1, .int x1)] := hl
  rw [V2_0_writes] at h
  refine lv_aload_n hx hb dX7_writes_0 rfl (lv_at hl 0 rfl) ?_
  refine db_get C hP hdb 0 (by decide) (fun k h => (db_T h).1) q461 (fun _ h => h) rfl dX7_writes_1 ?_
  refine lv_bipush (v := 11) hx hb dX7_writes_4 (by decide) ?_
  obtain ⟨st1, hst1, h⟩ := bd1_some h
  refine k_J_begins C hO hP hS hst1 q1231 (Nat.le_of_ble_eq_true rfl) hl.1 (Nat.le_of_ble_eq_true rfl) hcs dX7_writes_6 (fun H locs hP hS => ?_)
  have hdb := db_tr (P_J_begins hst1) hdb
  refine lv_aload_n hx hb dX7_writes_9 rfl (lv_at hl 0 rfl) ?_
  refine lv_iload_n hx hb dX7_writes_10 rfl (lv_at hl 1 rfl) ?_
  obtain ⟨v3, st2, hst2, h⟩ := bd2_some h
  refine tm_virtV (q := dbC 2) (x := ⟨RX7, "owes", "(I)I"⟩) (owner := RX7) (n := 1) (As := [.int x1]) C hP hS (db_recv C hP hdb) (w_V2_2_owes hO hdb hst2) (va_cwO (owner := RX7) 1 C.2.2.2.2.1 (lw_O q1268 q2023 q1228 q2025 q1238 q97 q1240) rfl rfl rfl q1230 (by decide +kernel) (mr_ C.2.2.2.2.2.1 (Nat.le_of_ble_eq_true rfl) (by decide))) rfl hl.1 rfl (Nat.le_of_ble_eq_true rfl) dX7_writes_11 hcs (fun H locs hP hS => ?_)
  have hdb := db_tr (P_V2_2_owes hst2) hdb
  refine lv_iconst (v := 2) hx hb dX7_writes_14 (by decide) ?_
  refine lv_imul hx hb dX7_writes_15 ?_
  exact cc_viret hx hb hr hlk h hP hS dX7_writes_16
theorem P_V2_0_writes {st st' : CS} {dn dm x1 r0 : Int32} (h : V2_0_writes st dn dm x1 = some (r0, st')) : st'.2.2 = st.2.2 := by
  rw [V2_0_writes] at h
  obtain ⟨st1, hst1, h⟩ := bd1_some h
  obtain ⟨v3, st2, hst2, h⟩ := bd2_some h
  cases h
  exact ((P_V2_2_owes hst2).trans (P_J_begins hst1))
theorem q2026 : (Jvm.Cond.selects "ChapterLoan$Ghost" ({ cls := "ChapterLoan$Debtor", name := "owes", desc := "(I)I" } : Jvm.MethodName) ({ cls := "ChapterLoan$Debtor", name := "owes", desc := "(I)I" } : Jvm.MethodName)) ∈ lw_all := lw_g (lw_at lw_m9 22 rfl) rfl
theorem w_V3_0_writes {l : Launch} {D : va_G} {cA : Nat → ClassId} {ks : List Nat} {ad : Nat → Nat} {A : Nat → Prop} (hO : klOk A ks ad) {st st' : CS} {a : Nat} {dn dm x1 r0 : Int32} (hdb : dbAt ks ad st.2.2.2 a 3 (ad 62) dn dm) (h : V3_0_writes st dn dm x1 = some (r0, st')) : cV l yX7_writes cX7_writes 2 (some .int) 2 D cA ks ad A st [.ref a, .int x1] (some (.int r0)) st' := by
  refine cc_ofV (own := RX7) (by decide) rfl (Nat.le_of_ble_eq_true rfl) (fun p e s m below meth c R args ls C hr hlk hP hS hl hcs => ?_)
  have hx := C.1
  have hb := C.2.1
  have hown := C.2.2.2.1
  have hl : lv_has ls 2 [(0, .ref a), (1, .int x1)] := hl
  rw [V3_0_writes] at h
  refine lv_aload_n hx hb dX7_writes_0 rfl (lv_at hl 0 rfl) ?_
  refine db_get C hP hdb 0 (by decide) (fun k h => (db_T h).1) q461 (fun _ h => h) rfl dX7_writes_1 ?_
  refine lv_bipush (v := 11) hx hb dX7_writes_4 (by decide) ?_
  obtain ⟨st1, hst1, h⟩ := bd1_some h
  refine k_J_begins C hO hP hS hst1 q1231 (Nat.le_of_ble_eq_true rfl) hl.1 (Nat.le_of_ble_eq_true rfl) hcs dX7_writes_6 (fun H locs hP hS => ?_)
  have hdb := db_tr (P_J_begins hst1) hdb
  refine lv_aload_n hx hb dX7_writes_9 rfl (lv_at hl 0 rfl) ?_
  refine lv_iload_n hx hb dX7_writes_10 rfl (lv_at hl 1 rfl) ?_
  obtain ⟨v3, st2, hst2, h⟩ := bd2_some h
  refine tm_virtV (q := dbC 3) (x := ⟨RX7, "owes", "(I)I"⟩) (owner := RX7) (n := 1) (As := [.int x1]) C hP hS (db_recv C hP hdb) (w_V3_0_owes hO hdb hst2) (va_cwU (owner := RX7) 1 C.2.2.2.2.1 (lw_U q1268 q2023 q2026 q1228 q95 q1230) rfl rfl rfl rfl (by decide +kernel) (mr_ C.2.2.2.2.2.1 (Nat.le_of_ble_eq_true rfl) (by decide))) rfl hl.1 rfl (Nat.le_of_ble_eq_true rfl) dX7_writes_11 hcs (fun H locs hP hS => ?_)
  have hdb := db_tr (P_V3_0_owes hst2) hdb
  refine lv_iconst (v := 2) hx hb dX7_writes_14 (by decide) ?_
  refine lv_imul hx hb dX7_writes_15 ?_
  exact cc_viret hx hb hr hlk h hP hS dX7_writes_16
theorem P_V3_0_writes {st st' : CS} {dn dm x1 r0 : Int32} (h : V3_0_writes st dn dm x1 = some (r0, st')) : st'.2.2 = st.2.2 := by
  rw [V3_0_writes] at h
  obtain ⟨st1, hst1, h⟩ := bd1_some h
  obtain ⟨v3, st2, hst2, h⟩ := bd2_some h
  cases h
  exact ((P_V3_0_owes hst2).trans (P_J_begins hst1))
theorem q2030 : (Jvm.Cond.selects "ChapterLoan$Twin" ({ cls := "ChapterLoan$Debtor", name := "owes", desc := "(I)I" } : Jvm.MethodName) ({ cls := "ChapterLoan$Debtor", name := "owes", desc := "(I)I" } : Jvm.MethodName)) ∈ lw_all := lw_g (lw_at lw_m9 26 rfl) rfl
theorem w_V4_0_writes {l : Launch} {D : va_G} {cA : Nat → ClassId} {ks : List Nat} {ad : Nat → Nat} {A : Nat → Prop} (hO : klOk A ks ad) {st st' : CS} {a : Nat} {dn dm x1 r0 : Int32} (hdb : dbAt ks ad st.2.2.2 a 4 (ad 62) dn dm) (h : V4_0_writes st dn dm x1 = some (r0, st')) : cV l yX7_writes cX7_writes 2 (some .int) 2 D cA ks ad A st [.ref a, .int x1] (some (.int r0)) st' := by
  refine cc_ofV (own := RX7) (by decide) rfl (Nat.le_of_ble_eq_true rfl) (fun p e s m below meth c R args ls C hr hlk hP hS hl hcs => ?_)
  have hx := C.1
  have hb := C.2.1
  have hown := C.2.2.2.1
  have hl : lv_has ls 2 [(0, .ref a), (1, .int x1)] := hl
  rw [V4_0_writes] at h
  refine lv_aload_n hx hb dX7_writes_0 rfl (lv_at hl 0 rfl) ?_
  refine db_get C hP hdb 0 (by decide) (fun k h => (db_T h).1) q461 (fun _ h => h) rfl dX7_writes_1 ?_
  refine lv_bipush (v := 11) hx hb dX7_writes_4 (by decide) ?_
  obtain ⟨st1, hst1, h⟩ := bd1_some h
  refine k_J_begins C hO hP hS hst1 q1231 (Nat.le_of_ble_eq_true rfl) hl.1 (Nat.le_of_ble_eq_true rfl) hcs dX7_writes_6 (fun H locs hP hS => ?_)
  have hdb := db_tr (P_J_begins hst1) hdb
  refine lv_aload_n hx hb dX7_writes_9 rfl (lv_at hl 0 rfl) ?_
  refine lv_iload_n hx hb dX7_writes_10 rfl (lv_at hl 1 rfl) ?_
  obtain ⟨v3, st2, hst2, h⟩ := bd2_some h
  refine tm_virtV (q := dbC 4) (x := ⟨RX7, "owes", "(I)I"⟩) (owner := RX7) (n := 1) (As := [.int x1]) C hP hS (db_recv C hP hdb) (w_V4_0_owes hO hdb hst2) (va_cwU (owner := RX7) 1 C.2.2.2.2.1 (lw_U q1268 q2023 q2030 q1228 q95 q1230) rfl rfl rfl rfl (by decide +kernel) (mr_ C.2.2.2.2.2.1 (Nat.le_of_ble_eq_true rfl) (by decide))) rfl hl.1 rfl (Nat.le_of_ble_eq_true rfl) dX7_writes_11 hcs (fun H locs hP hS => ?_)
  have hdb := db_tr (P_V4_0_owes hst2) hdb
  refine lv_iconst (v := 2) hx hb dX7_writes_14 (by decide) ?_
  refine lv_imul hx hb dX7_writes_15 ?_
  exact cc_viret hx hb hr hlk h hP hS dX7_writes_16
theorem P_V4_0_writes {st st' : CS} {dn dm x1 r0 : Int32} (h : V4_0_writes st dn dm x1 = some (r0, st')) : st'.2.2 = st.2.2 := by
  rw [V4_0_writes] at h
  obtain ⟨st1, hst1, h⟩ := bd1_some h
  obtain ⟨v3, st2, hst2, h⟩ := bd2_some h
  cases h
  exact ((P_V4_0_owes hst2).trans (P_J_begins hst1))
theorem q1287 : (Jvm.Cond.selects "ChapterLoan$Twin" ({ cls := "ChapterLoan$Plagiarist", name := "reads", desc := "(I)I" } : Jvm.MethodName) ({ cls := "ChapterLoan$Debtor", name := "reads", desc := "(I)I" } : Jvm.MethodName)) ∈ lw_all := lw_g (lw_at lw_m6 3 rfl) rfl
theorem w_V4_1_writes {l : Launch} {D : va_G} {cA : Nat → ClassId} {ks : List Nat} {ad : Nat → Nat} {A : Nat → Prop} (hO : klOk A ks ad) {st st' : CS} {a : Nat} {dn dm x1 r0 : Int32} (hdb : dbAt ks ad st.2.2.2 a 4 (ad 62) dn dm) (h : V4_1_writes st dn dm x1 = some (r0, st')) : cV l yX8_writes cX8_writes 3 (some .int) 3 D cA ks ad A st [.ref a, .int x1] (some (.int r0)) st' := by
  refine cc_ofV (own := RX8) (by decide) rfl (Nat.le_of_ble_eq_true rfl) (fun p e s m below meth c R args ls C hr hlk hP hS hl hcs => ?_)
  have hx := C.1
  have hb := C.2.1
  have hown := C.2.2.2.1
  have hl : lv_has ls 3 [(0, .ref a), (1, .int x1)] := hl
  rw [V4_1_writes] at h
  refine lv_aload_n hx hb dX8_writes_0 rfl (lv_at hl 0 rfl) ?_
  refine db_get C hP hdb 0 (by decide) (fun k h => (db_T h).1) q466 (db_same C q467) rfl dX8_writes_1 ?_
  refine lv_bipush (v := 20) hx hb dX8_writes_4 (by decide) ?_
  obtain ⟨st1, hst1, h⟩ := bd1_some h
  refine k_J_begins C hO hP hS hst1 q1281 (Nat.le_of_ble_eq_true rfl) hl.1 (Nat.le_of_ble_eq_true rfl) hcs dX8_writes_6 (fun H locs hP hS => ?_)
  have hdb := db_tr (P_J_begins hst1) hdb
  refine lv_aload_n hx hb dX8_writes_9 rfl (lv_at hl 0 rfl) ?_
  refine lv_iload_n hx hb dX8_writes_10 rfl (lv_at hl 1 rfl) ?_
  obtain ⟨v3, st2, hst2, h⟩ := bd2_some h
  refine db_superV (As := [.int x1]) C hP hS hdb (w_V4_0_writes hO hdb hst2) (va_cwSU 1 C.2.2.2.2.1 (lw_SU q1282 q2031 q493 q1265 q95 q1267) rfl rfl rfl (by decide +kernel) (mr_ C.2.2.2.2.2.1 (Nat.le_of_ble_eq_true rfl) (by decide))) rfl hl.1 rfl (Nat.le_of_ble_eq_true rfl) dX8_writes_11 hcs (fun H locs hP hS => ?_)
  have hdb := db_tr (P_V4_0_writes hst2) hdb
  refine lv_istore_n (lv' := [(2, .int v3), (0, .ref a), (1, .int x1)]) hx hb dX8_writes_14 rfl hl (by decide) rfl (fun ls hl => ?_)
  refine lv_iload_n hx hb dX8_writes_15 rfl (lv_at hl 0 rfl) ?_
  refine lv_aload_n hx hb dX8_writes_16 rfl (lv_at hl 1 rfl) ?_
  refine lv_iconst (v := 1) hx hb dX8_writes_17 (by decide) ?_
  obtain ⟨v5, st4, hst4, h⟩ := bd2_some h
  refine tm_virtV (q := dbC 4) (x := ⟨RX8, "reads", "(I)I"⟩) (owner := RX7) (n := 1) (As := [.int 1]) C hP hS (db_recv C hP hdb) (w_V4_0_reads hO hdb hst4) (va_cwU (owner := RX7) 1 C.2.2.2.2.1 (lw_U q1283 q1284 q1287 q1288 q95 q1289) rfl rfl rfl rfl (by decide +kernel) (mr_ C.2.2.2.2.2.1 (Nat.le_of_ble_eq_true rfl) (by decide))) rfl hl.1 rfl (Nat.le_of_ble_eq_true rfl) dX8_writes_18 hcs (fun H locs hP hS => ?_)
  have hdb := db_tr (P_V4_0_reads hst4) hdb
  refine lv_isub hx hb dX8_writes_21 ?_
  exact cc_viret hx hb hr hlk h hP hS dX8_writes_22
theorem P_V4_1_writes {st st' : CS} {dn dm x1 r0 : Int32} (h : V4_1_writes st dn dm x1 = some (r0, st')) : st'.2.2 = st.2.2 := by
  rw [V4_1_writes] at h
  obtain ⟨st1, hst1, h⟩ := bd1_some h
  obtain ⟨v3, st2, hst2, h⟩ := bd2_some h
  obtain ⟨v5, st4, hst4, h⟩ := bd2_some h
  cases h
  exact ((P_V4_0_reads hst4).trans ((P_V4_0_writes hst2).trans (P_J_begins hst1)))
abbrev cX11_writes : ByteArray := prog_26_method_5_code
def yX11_writes : MethodName := ⟨RX11, "writes", "(I)I"⟩
theorem dX11_writes_0 : decode cX11_writes 0 = .ok (.aload_n 0, 1) := by decide +kernel
theorem dX11_writes_1 : decode cX11_writes 1 = .ok (.getfield 23, 3) := by decide +kernel
theorem dX11_writes_4 : decode cX11_writes 4 = .ok (.bipush 50, 2) := by decide +kernel
theorem dX11_writes_6 : decode cX11_writes 6 = .ok (.invokevirtual 27, 3) := by decide +kernel
theorem dX11_writes_9 : decode cX11_writes 9 = .ok (.aload_n 0, 1) := by decide +kernel
theorem dX11_writes_10 : decode cX11_writes 10 = .ok (.iload_n 1, 1) := by decide +kernel
theorem dX11_writes_11 : decode cX11_writes 11 = .ok (.iconst 1, 1) := by decide +kernel
theorem dX11_writes_12 : decode cX11_writes 12 = .ok (.iadd, 1) := by decide +kernel
theorem dX11_writes_13 : decode cX11_writes 13 = .ok (.invokespecial 33, 3) := by decide +kernel
theorem dX11_writes_16 : decode cX11_writes 16 = .ok (.ireturn, 1) := by decide +kernel
theorem q464 : (Jvm.Cond.fieldLink "ChapterLoan$Twin" (23 : Nat) "ChapterLoan$Twin" "trace" "LChapterLoan$Trace;") ∈ lw_all := lw_g (lw_at lw_m2 140 rfl) rfl
theorem q465 : (Jvm.Cond.sameField "ChapterLoan$Twin" "ChapterLoan$Debtor" "trace" "LChapterLoan$Trace;") ∈ lw_all := lw_g (lw_at lw_m2 141 rfl) rfl
theorem q1278 : (Jvm.Cond.instanceMethod ({ cls := "ChapterLoan$Plagiarist", name := "writes", desc := "(I)I" } : Jvm.MethodName)) ∈ lw_all := lw_g (lw_at lw_m5 234 rfl) rfl
theorem q1280 : (Jvm.Cond.code ({ cls := "ChapterLoan$Plagiarist", name := "writes", desc := "(I)I" } : Jvm.MethodName) prog_13_method_6_code (3 : Nat) (Option.some Jvm.ClassFile.FieldType.int)) ∈ lw_all := lw_g (lw_at lw_m5 236 rfl) rfl
theorem q1302 : (Jvm.Cond.methodLink "ChapterLoan$Twin" (27 : Nat) ({ cls := "ChapterLoan$Trace", name := "begins", desc := "(I)V" } : Jvm.MethodName)) ∈ lw_all := lw_g (lw_at lw_m6 18 rfl) rfl
theorem q1303 : (Jvm.Cond.methodLink "ChapterLoan$Twin" (33 : Nat) ({ cls := "ChapterLoan$Plagiarist", name := "writes", desc := "(I)I" } : Jvm.MethodName)) ∈ lw_all := lw_g (lw_at lw_m6 19 rfl) rfl
theorem q2032 : (Jvm.Cond.sameMethod "ChapterLoan$Plagiarist" "ChapterLoan$Plagiarist" "writes" "(I)I") ∈ lw_all := lw_g (lw_at lw_m9 28 rfl) rfl
theorem w_V4_4_writes {l : Launch} {D : va_G} {cA : Nat → ClassId} {ks : List Nat} {ad : Nat → Nat} {A : Nat → Prop} (hO : klOk A ks ad) {st st' : CS} {a : Nat} {dn dm x1 r0 : Int32} (hdb : dbAt ks ad st.2.2.2 a 4 (ad 62) dn dm) (h : V4_4_writes st dn dm x1 = some (r0, st')) : cV l yX11_writes cX11_writes 2 (some .int) 4 D cA ks ad A st [.ref a, .int x1] (some (.int r0)) st' := by
  refine cc_ofV (own := RX11) (by decide) rfl (Nat.le_of_ble_eq_true rfl) (fun p e s m below meth c R args ls C hr hlk hP hS hl hcs => ?_)
  have hx := C.1
  have hb := C.2.1
  have hown := C.2.2.2.1
  have hl : lv_has ls 2 [(0, .ref a), (1, .int x1)] := hl
  rw [V4_4_writes] at h
  refine lv_aload_n hx hb dX11_writes_0 rfl (lv_at hl 0 rfl) ?_
  refine db_get C hP hdb 0 (by decide) (fun k h => (db_T h).1) q464 (db_same C q465) rfl dX11_writes_1 ?_
  refine lv_bipush (v := 50) hx hb dX11_writes_4 (by decide) ?_
  obtain ⟨st1, hst1, h⟩ := bd1_some h
  refine k_J_begins C hO hP hS hst1 q1302 (Nat.le_of_ble_eq_true rfl) hl.1 (Nat.le_of_ble_eq_true rfl) hcs dX11_writes_6 (fun H locs hP hS => ?_)
  have hdb := db_tr (P_J_begins hst1) hdb
  refine lv_aload_n hx hb dX11_writes_9 rfl (lv_at hl 0 rfl) ?_
  refine lv_iload_n hx hb dX11_writes_10 rfl (lv_at hl 1 rfl) ?_
  refine lv_iconst (v := 1) hx hb dX11_writes_11 (by decide) ?_
  refine lv_iadd hx hb dX11_writes_12 ?_
  obtain ⟨v3, st2, hst2, h⟩ := bd2_some h
  refine db_superV (As := [.int (x1 + 1)]) C hP hS hdb (w_V4_1_writes hO hdb hst2) (va_cwSU 1 C.2.2.2.2.1 (lw_SU q1303 q2032 q523 q1278 q96 q1280) rfl rfl rfl (by decide +kernel) (mr_ C.2.2.2.2.2.1 (Nat.le_of_ble_eq_true rfl) (by decide))) rfl hl.1 rfl (Nat.le_of_ble_eq_true rfl) dX11_writes_13 hcs (fun H locs hP hS => ?_)
  have hdb := db_tr (P_V4_1_writes hst2) hdb
  exact cc_viret hx hb hr hlk h hP hS dX11_writes_16
theorem P_V4_4_writes {st st' : CS} {dn dm x1 r0 : Int32} (h : V4_4_writes st dn dm x1 = some (r0, st')) : st'.2.2 = st.2.2 := by
  rw [V4_4_writes] at h
  obtain ⟨st1, hst1, h⟩ := bd1_some h
  obtain ⟨v3, st2, hst2, h⟩ := bd2_some h
  cases h
  exact ((P_V4_1_writes hst2).trans (P_J_begins hst1))
theorem q2029 : (Jvm.Cond.selects "ChapterLoan$Seer" ({ cls := "ChapterLoan$Debtor", name := "owes", desc := "(I)I" } : Jvm.MethodName) ({ cls := "ChapterLoan$Dreamer", name := "owes", desc := "(I)I" } : Jvm.MethodName)) ∈ lw_all := lw_g (lw_at lw_m9 25 rfl) rfl
theorem w_V5_0_writes {l : Launch} {D : va_G} {cA : Nat → ClassId} {ks : List Nat} {ad : Nat → Nat} {A : Nat → Prop} (hO : klOk A ks ad) {st st' : CS} {a : Nat} {dn dm x1 r0 : Int32} (hdb : dbAt ks ad st.2.2.2 a 5 (ad 62) dn dm) (h : V5_0_writes st dn dm x1 = some (r0, st')) : cV l yX7_writes cX7_writes 2 (some .int) 3 D cA ks ad A st [.ref a, .int x1] (some (.int r0)) st' := by
  refine cc_ofV (own := RX7) (by decide) rfl (Nat.le_of_ble_eq_true rfl) (fun p e s m below meth c R args ls C hr hlk hP hS hl hcs => ?_)
  have hx := C.1
  have hb := C.2.1
  have hown := C.2.2.2.1
  have hl : lv_has ls 2 [(0, .ref a), (1, .int x1)] := hl
  rw [V5_0_writes] at h
  refine lv_aload_n hx hb dX7_writes_0 rfl (lv_at hl 0 rfl) ?_
  refine db_get C hP hdb 0 (by decide) (fun k h => (db_T h).1) q461 (fun _ h => h) rfl dX7_writes_1 ?_
  refine lv_bipush (v := 11) hx hb dX7_writes_4 (by decide) ?_
  obtain ⟨st1, hst1, h⟩ := bd1_some h
  refine k_J_begins C hO hP hS hst1 q1231 (Nat.le_of_ble_eq_true rfl) hl.1 (Nat.le_of_ble_eq_true rfl) hcs dX7_writes_6 (fun H locs hP hS => ?_)
  have hdb := db_tr (P_J_begins hst1) hdb
  refine lv_aload_n hx hb dX7_writes_9 rfl (lv_at hl 0 rfl) ?_
  refine lv_iload_n hx hb dX7_writes_10 rfl (lv_at hl 1 rfl) ?_
  obtain ⟨v3, st2, hst2, h⟩ := bd2_some h
  refine tm_virtV (q := dbC 5) (x := ⟨RX7, "owes", "(I)I"⟩) (owner := RX7) (n := 1) (As := [.int x1]) C hP hS (db_recv C hP hdb) (w_V5_2_owes hO hdb hst2) (va_cwO (owner := RX7) 1 C.2.2.2.2.1 (lw_O q1268 q2023 q1228 q2029 q1238 q97 q1240) rfl rfl rfl q1230 (by decide +kernel) (mr_ C.2.2.2.2.2.1 (Nat.le_of_ble_eq_true rfl) (by decide))) rfl hl.1 rfl (Nat.le_of_ble_eq_true rfl) dX7_writes_11 hcs (fun H locs hP hS => ?_)
  have hdb := db_tr (P_V5_2_owes hst2) hdb
  refine lv_iconst (v := 2) hx hb dX7_writes_14 (by decide) ?_
  refine lv_imul hx hb dX7_writes_15 ?_
  exact cc_viret hx hb hr hlk h hP hS dX7_writes_16
theorem P_V5_0_writes {st st' : CS} {dn dm x1 r0 : Int32} (h : V5_0_writes st dn dm x1 = some (r0, st')) : st'.2.2 = st.2.2 := by
  rw [V5_0_writes] at h
  obtain ⟨st1, hst1, h⟩ := bd1_some h
  obtain ⟨v3, st2, hst2, h⟩ := bd2_some h
  cases h
  exact ((P_V5_2_owes hst2).trans (P_J_begins hst1))
theorem q2028 : (Jvm.Cond.selects "ChapterLoan$Saint" ({ cls := "ChapterLoan$Debtor", name := "owes", desc := "(I)I" } : Jvm.MethodName) ({ cls := "ChapterLoan$Debtor", name := "owes", desc := "(I)I" } : Jvm.MethodName)) ∈ lw_all := lw_g (lw_at lw_m9 24 rfl) rfl
theorem w_V6_0_writes {l : Launch} {D : va_G} {cA : Nat → ClassId} {ks : List Nat} {ad : Nat → Nat} {A : Nat → Prop} (hO : klOk A ks ad) {st st' : CS} {a : Nat} {dn dm x1 r0 : Int32} (hdb : dbAt ks ad st.2.2.2 a 6 (ad 62) dn dm) (h : V6_0_writes st dn dm x1 = some (r0, st')) : cV l yX7_writes cX7_writes 2 (some .int) 2 D cA ks ad A st [.ref a, .int x1] (some (.int r0)) st' := by
  refine cc_ofV (own := RX7) (by decide) rfl (Nat.le_of_ble_eq_true rfl) (fun p e s m below meth c R args ls C hr hlk hP hS hl hcs => ?_)
  have hx := C.1
  have hb := C.2.1
  have hown := C.2.2.2.1
  have hl : lv_has ls 2 [(0, .ref a), (1, .int x1)] := hl
  rw [V6_0_writes] at h
  refine lv_aload_n hx hb dX7_writes_0 rfl (lv_at hl 0 rfl) ?_
  refine db_get C hP hdb 0 (by decide) (fun k h => (db_T h).1) q461 (fun _ h => h) rfl dX7_writes_1 ?_
  refine lv_bipush (v := 11) hx hb dX7_writes_4 (by decide) ?_
  obtain ⟨st1, hst1, h⟩ := bd1_some h
  refine k_J_begins C hO hP hS hst1 q1231 (Nat.le_of_ble_eq_true rfl) hl.1 (Nat.le_of_ble_eq_true rfl) hcs dX7_writes_6 (fun H locs hP hS => ?_)
  have hdb := db_tr (P_J_begins hst1) hdb
  refine lv_aload_n hx hb dX7_writes_9 rfl (lv_at hl 0 rfl) ?_
  refine lv_iload_n hx hb dX7_writes_10 rfl (lv_at hl 1 rfl) ?_
  obtain ⟨v3, st2, hst2, h⟩ := bd2_some h
  refine tm_virtV (q := dbC 6) (x := ⟨RX7, "owes", "(I)I"⟩) (owner := RX7) (n := 1) (As := [.int x1]) C hP hS (db_recv C hP hdb) (w_V6_0_owes hO hdb hst2) (va_cwU (owner := RX7) 1 C.2.2.2.2.1 (lw_U q1268 q2023 q2028 q1228 q95 q1230) rfl rfl rfl rfl (by decide +kernel) (mr_ C.2.2.2.2.2.1 (Nat.le_of_ble_eq_true rfl) (by decide))) rfl hl.1 rfl (Nat.le_of_ble_eq_true rfl) dX7_writes_11 hcs (fun H locs hP hS => ?_)
  have hdb := db_tr (P_V6_0_owes hst2) hdb
  refine lv_iconst (v := 2) hx hb dX7_writes_14 (by decide) ?_
  refine lv_imul hx hb dX7_writes_15 ?_
  exact cc_viret hx hb hr hlk h hP hS dX7_writes_16
theorem P_V6_0_writes {st st' : CS} {dn dm x1 r0 : Int32} (h : V6_0_writes st dn dm x1 = some (r0, st')) : st'.2.2 = st.2.2 := by
  rw [V6_0_writes] at h
  obtain ⟨st1, hst1, h⟩ := bd1_some h
  obtain ⟨v3, st2, hst2, h⟩ := bd2_some h
  cases h
  exact ((P_V6_0_owes hst2).trans (P_J_begins hst1))
abbrev cX7_tells : ByteArray := prog_3_method_10_code
def yX7_tells : MethodName := ⟨RX7, "tells", "(I)I"⟩
theorem dX7_tells_0 : decode cX7_tells 0 = .ok (.aload_n 0, 1) := by decide +kernel
theorem dX7_tells_1 : decode cX7_tells 1 = .ok (.getfield 9, 3) := by decide +kernel
theorem dX7_tells_4 : decode cX7_tells 4 = .ok (.bipush 13, 2) := by decide +kernel
theorem dX7_tells_6 : decode cX7_tells 6 = .ok (.invokevirtual 22, 3) := by decide +kernel
theorem dX7_tells_9 : decode cX7_tells 9 = .ok (.aload_n 0, 1) := by decide +kernel
theorem dX7_tells_10 : decode cX7_tells 10 = .ok (.iload_n 1, 1) := by decide +kernel
theorem dX7_tells_11 : decode cX7_tells 11 = .ok (.invokevirtual 32, 3) := by decide +kernel
theorem dX7_tells_14 : decode cX7_tells 14 = .ok (.istore_n 2, 1) := by decide +kernel
theorem dX7_tells_15 : decode cX7_tells 15 = .ok (.iload_n 2, 1) := by decide +kernel
theorem dX7_tells_16 : decode cX7_tells 16 = .ok (.aload_n 0, 1) := by decide +kernel
theorem dX7_tells_17 : decode cX7_tells 17 = .ok (.iload_n 1, 1) := by decide +kernel
theorem dX7_tells_18 : decode cX7_tells 18 = .ok (.invokevirtual 35, 3) := by decide +kernel
theorem dX7_tells_21 : decode cX7_tells 21 = .ok (.ixor, 1) := by decide +kernel
theorem dX7_tells_22 : decode cX7_tells 22 = .ok (.ireturn, 1) := by decide +kernel
theorem q1350 : (Jvm.Cond.methodLink "ChapterLoan$Debtor" (32 : Nat) ({ cls := "ChapterLoan$Debtor", name := "writes", desc := "(I)I" } : Jvm.MethodName)) ∈ lw_all := lw_g (lw_at lw_m6 66 rfl) rfl
theorem q1351 : (Jvm.Cond.methodLink "ChapterLoan$Debtor" (35 : Nat) ({ cls := "ChapterLoan$Debtor", name := "reads", desc := "(I)I" } : Jvm.MethodName)) ∈ lw_all := lw_g (lw_at lw_m6 67 rfl) rfl
theorem q2035 : (Jvm.Cond.selects "ChapterLoan$Debtor" ({ cls := "ChapterLoan$Debtor", name := "writes", desc := "(I)I" } : Jvm.MethodName) ({ cls := "ChapterLoan$Debtor", name := "writes", desc := "(I)I" } : Jvm.MethodName)) ∈ lw_all := lw_g (lw_at lw_m9 31 rfl) rfl
theorem q2042 : (Jvm.Cond.selects "ChapterLoan$Debtor" ({ cls := "ChapterLoan$Debtor", name := "reads", desc := "(I)I" } : Jvm.MethodName) ({ cls := "ChapterLoan$Debtor", name := "reads", desc := "(I)I" } : Jvm.MethodName)) ∈ lw_all := lw_g (lw_at lw_m9 38 rfl) rfl
theorem w_V0_0_tells {l : Launch} {D : va_G} {cA : Nat → ClassId} {ks : List Nat} {ad : Nat → Nat} {A : Nat → Prop} (hO : klOk A ks ad) {st st' : CS} {a : Nat} {dn dm x1 r0 : Int32} (hdb : dbAt ks ad st.2.2.2 a 0 (ad 62) dn dm) (h : V0_0_tells st dn dm x1 = some (r0, st')) : cV l yX7_tells cX7_tells 3 (some .int) 3 D cA ks ad A st [.ref a, .int x1] (some (.int r0)) st' := by
  refine cc_ofV (own := RX7) (by decide) rfl (Nat.le_of_ble_eq_true rfl) (fun p e s m below meth c R args ls C hr hlk hP hS hl hcs => ?_)
  have hx := C.1
  have hb := C.2.1
  have hown := C.2.2.2.1
  have hl : lv_has ls 3 [(0, .ref a), (1, .int x1)] := hl
  rw [V0_0_tells] at h
  refine lv_aload_n hx hb dX7_tells_0 rfl (lv_at hl 0 rfl) ?_
  refine db_get C hP hdb 0 (by decide) (fun k h => (db_T h).1) q461 (fun _ h => h) rfl dX7_tells_1 ?_
  refine lv_bipush (v := 13) hx hb dX7_tells_4 (by decide) ?_
  obtain ⟨st1, hst1, h⟩ := bd1_some h
  refine k_J_begins C hO hP hS hst1 q1231 (Nat.le_of_ble_eq_true rfl) hl.1 (Nat.le_of_ble_eq_true rfl) hcs dX7_tells_6 (fun H locs hP hS => ?_)
  have hdb := db_tr (P_J_begins hst1) hdb
  refine lv_aload_n hx hb dX7_tells_9 rfl (lv_at hl 0 rfl) ?_
  refine lv_iload_n hx hb dX7_tells_10 rfl (lv_at hl 1 rfl) ?_
  obtain ⟨v3, st2, hst2, h⟩ := bd2_some h
  refine tm_virtV (q := dbC 0) (x := ⟨RX7, "writes", "(I)I"⟩) (owner := RX7) (n := 1) (As := [.int x1]) C hP hS (db_recv C hP hdb) (w_V0_0_writes hO hdb hst2) (va_cwU (owner := RX7) 1 C.2.2.2.2.1 (lw_U q1350 q2031 q2035 q1265 q95 q1267) rfl rfl rfl rfl (by decide +kernel) (mr_ C.2.2.2.2.2.1 (Nat.le_of_ble_eq_true rfl) (by decide))) rfl hl.1 rfl (Nat.le_of_ble_eq_true rfl) dX7_tells_11 hcs (fun H locs hP hS => ?_)
  have hdb := db_tr (P_V0_0_writes hst2) hdb
  refine lv_istore_n (lv' := [(2, .int v3), (0, .ref a), (1, .int x1)]) hx hb dX7_tells_14 rfl hl (by decide) rfl (fun ls hl => ?_)
  refine lv_iload_n hx hb dX7_tells_15 rfl (lv_at hl 0 rfl) ?_
  refine lv_aload_n hx hb dX7_tells_16 rfl (lv_at hl 1 rfl) ?_
  refine lv_iload_n hx hb dX7_tells_17 rfl (lv_at hl 2 rfl) ?_
  obtain ⟨v5, st4, hst4, h⟩ := bd2_some h
  refine tm_virtV (q := dbC 0) (x := ⟨RX7, "reads", "(I)I"⟩) (owner := RX7) (n := 1) (As := [.int x1]) C hP hS (db_recv C hP hdb) (w_V0_0_reads hO hdb hst4) (va_cwU (owner := RX7) 1 C.2.2.2.2.1 (lw_U q1351 q2033 q2042 q1288 q95 q1289) rfl rfl rfl rfl (by decide +kernel) (mr_ C.2.2.2.2.2.1 (Nat.le_of_ble_eq_true rfl) (by decide))) rfl hl.1 rfl (Nat.le_of_ble_eq_true rfl) dX7_tells_18 hcs (fun H locs hP hS => ?_)
  have hdb := db_tr (P_V0_0_reads hst4) hdb
  refine lv_ixor hx hb dX7_tells_21 ?_
  exact cc_viret hx hb hr hlk h hP hS dX7_tells_22
theorem P_V0_0_tells {st st' : CS} {dn dm x1 r0 : Int32} (h : V0_0_tells st dn dm x1 = some (r0, st')) : st'.2.2 = st.2.2 := by
  rw [V0_0_tells] at h
  obtain ⟨st1, hst1, h⟩ := bd1_some h
  obtain ⟨v3, st2, hst2, h⟩ := bd2_some h
  obtain ⟨v5, st4, hst4, h⟩ := bd2_some h
  cases h
  exact ((P_V0_0_reads hst4).trans ((P_V0_0_writes hst2).trans (P_J_begins hst1)))
theorem q2038 : (Jvm.Cond.selects "ChapterLoan$Plagiarist" ({ cls := "ChapterLoan$Debtor", name := "writes", desc := "(I)I" } : Jvm.MethodName) ({ cls := "ChapterLoan$Plagiarist", name := "writes", desc := "(I)I" } : Jvm.MethodName)) ∈ lw_all := lw_g (lw_at lw_m9 34 rfl) rfl
theorem q2045 : (Jvm.Cond.selects "ChapterLoan$Plagiarist" ({ cls := "ChapterLoan$Debtor", name := "reads", desc := "(I)I" } : Jvm.MethodName) ({ cls := "ChapterLoan$Debtor", name := "reads", desc := "(I)I" } : Jvm.MethodName)) ∈ lw_all := lw_g (lw_at lw_m9 41 rfl) rfl
theorem w_V1_0_tells {l : Launch} {D : va_G} {cA : Nat → ClassId} {ks : List Nat} {ad : Nat → Nat} {A : Nat → Prop} (hO : klOk A ks ad) {st st' : CS} {a : Nat} {dn dm x1 r0 : Int32} (hdb : dbAt ks ad st.2.2.2 a 1 (ad 62) dn dm) (h : V1_0_tells st dn dm x1 = some (r0, st')) : cV l yX7_tells cX7_tells 3 (some .int) 4 D cA ks ad A st [.ref a, .int x1] (some (.int r0)) st' := by
  refine cc_ofV (own := RX7) (by decide) rfl (Nat.le_of_ble_eq_true rfl) (fun p e s m below meth c R args ls C hr hlk hP hS hl hcs => ?_)
  have hx := C.1
  have hb := C.2.1
  have hown := C.2.2.2.1
  have hl : lv_has ls 3 [(0, .ref a), (1, .int x1)] := hl
  rw [V1_0_tells] at h
  refine lv_aload_n hx hb dX7_tells_0 rfl (lv_at hl 0 rfl) ?_
  refine db_get C hP hdb 0 (by decide) (fun k h => (db_T h).1) q461 (fun _ h => h) rfl dX7_tells_1 ?_
  refine lv_bipush (v := 13) hx hb dX7_tells_4 (by decide) ?_
  obtain ⟨st1, hst1, h⟩ := bd1_some h
  refine k_J_begins C hO hP hS hst1 q1231 (Nat.le_of_ble_eq_true rfl) hl.1 (Nat.le_of_ble_eq_true rfl) hcs dX7_tells_6 (fun H locs hP hS => ?_)
  have hdb := db_tr (P_J_begins hst1) hdb
  refine lv_aload_n hx hb dX7_tells_9 rfl (lv_at hl 0 rfl) ?_
  refine lv_iload_n hx hb dX7_tells_10 rfl (lv_at hl 1 rfl) ?_
  obtain ⟨v3, st2, hst2, h⟩ := bd2_some h
  refine tm_virtV (q := dbC 1) (x := ⟨RX7, "writes", "(I)I"⟩) (owner := RX7) (n := 1) (As := [.int x1]) C hP hS (db_recv C hP hdb) (w_V1_1_writes hO hdb hst2) (va_cwO (owner := RX7) 1 C.2.2.2.2.1 (lw_O q1350 q2031 q1265 q2038 q1278 q96 q1280) rfl rfl rfl q1267 (by decide +kernel) (mr_ C.2.2.2.2.2.1 (Nat.le_of_ble_eq_true rfl) (by decide))) rfl hl.1 rfl (Nat.le_of_ble_eq_true rfl) dX7_tells_11 hcs (fun H locs hP hS => ?_)
  have hdb := db_tr (P_V1_1_writes hst2) hdb
  refine lv_istore_n (lv' := [(2, .int v3), (0, .ref a), (1, .int x1)]) hx hb dX7_tells_14 rfl hl (by decide) rfl (fun ls hl => ?_)
  refine lv_iload_n hx hb dX7_tells_15 rfl (lv_at hl 0 rfl) ?_
  refine lv_aload_n hx hb dX7_tells_16 rfl (lv_at hl 1 rfl) ?_
  refine lv_iload_n hx hb dX7_tells_17 rfl (lv_at hl 2 rfl) ?_
  obtain ⟨v5, st4, hst4, h⟩ := bd2_some h
  refine tm_virtV (q := dbC 1) (x := ⟨RX7, "reads", "(I)I"⟩) (owner := RX7) (n := 1) (As := [.int x1]) C hP hS (db_recv C hP hdb) (w_V1_0_reads hO hdb hst4) (va_cwU (owner := RX7) 1 C.2.2.2.2.1 (lw_U q1351 q2033 q2045 q1288 q95 q1289) rfl rfl rfl rfl (by decide +kernel) (mr_ C.2.2.2.2.2.1 (Nat.le_of_ble_eq_true rfl) (by decide))) rfl hl.1 rfl (Nat.le_of_ble_eq_true rfl) dX7_tells_18 hcs (fun H locs hP hS => ?_)
  have hdb := db_tr (P_V1_0_reads hst4) hdb
  refine lv_ixor hx hb dX7_tells_21 ?_
  exact cc_viret hx hb hr hlk h hP hS dX7_tells_22
theorem P_V1_0_tells {st st' : CS} {dn dm x1 r0 : Int32} (h : V1_0_tells st dn dm x1 = some (r0, st')) : st'.2.2 = st.2.2 := by
  rw [V1_0_tells] at h
  obtain ⟨st1, hst1, h⟩ := bd1_some h
  obtain ⟨v3, st2, hst2, h⟩ := bd2_some h
  obtain ⟨v5, st4, hst4, h⟩ := bd2_some h
  cases h
  exact ((P_V1_0_reads hst4).trans ((P_V1_1_writes hst2).trans (P_J_begins hst1)))
theorem q2036 : (Jvm.Cond.selects "ChapterLoan$Dreamer" ({ cls := "ChapterLoan$Debtor", name := "writes", desc := "(I)I" } : Jvm.MethodName) ({ cls := "ChapterLoan$Debtor", name := "writes", desc := "(I)I" } : Jvm.MethodName)) ∈ lw_all := lw_g (lw_at lw_m9 32 rfl) rfl
theorem q2043 : (Jvm.Cond.selects "ChapterLoan$Dreamer" ({ cls := "ChapterLoan$Debtor", name := "reads", desc := "(I)I" } : Jvm.MethodName) ({ cls := "ChapterLoan$Debtor", name := "reads", desc := "(I)I" } : Jvm.MethodName)) ∈ lw_all := lw_g (lw_at lw_m9 39 rfl) rfl
theorem w_V2_0_tells {l : Launch} {D : va_G} {cA : Nat → ClassId} {ks : List Nat} {ad : Nat → Nat} {A : Nat → Prop} (hO : klOk A ks ad) {st st' : CS} {a : Nat} {dn dm x1 r0 : Int32} (hdb : dbAt ks ad st.2.2.2 a 2 (ad 62) dn dm) (h : V2_0_tells st dn dm x1 = some (r0, st')) : cV l yX7_tells cX7_tells 3 (some .int) 4 D cA ks ad A st [.ref a, .int x1] (some (.int r0)) st' := by
  refine cc_ofV (own := RX7) (by decide) rfl (Nat.le_of_ble_eq_true rfl) (fun p e s m below meth c R args ls C hr hlk hP hS hl hcs => ?_)
  have hx := C.1
  have hb := C.2.1
  have hown := C.2.2.2.1
  have hl : lv_has ls 3 [(0, .ref a), (1, .int x1)] := hl
  rw [V2_0_tells] at h
  refine lv_aload_n hx hb dX7_tells_0 rfl (lv_at hl 0 rfl) ?_
  refine db_get C hP hdb 0 (by decide) (fun k h => (db_T h).1) q461 (fun _ h => h) rfl dX7_tells_1 ?_
  refine lv_bipush (v := 13) hx hb dX7_tells_4 (by decide) ?_
  obtain ⟨st1, hst1, h⟩ := bd1_some h
  refine k_J_begins C hO hP hS hst1 q1231 (Nat.le_of_ble_eq_true rfl) hl.1 (Nat.le_of_ble_eq_true rfl) hcs dX7_tells_6 (fun H locs hP hS => ?_)
  have hdb := db_tr (P_J_begins hst1) hdb
  refine lv_aload_n hx hb dX7_tells_9 rfl (lv_at hl 0 rfl) ?_
  refine lv_iload_n hx hb dX7_tells_10 rfl (lv_at hl 1 rfl) ?_
  obtain ⟨v3, st2, hst2, h⟩ := bd2_some h
  refine tm_virtV (q := dbC 2) (x := ⟨RX7, "writes", "(I)I"⟩) (owner := RX7) (n := 1) (As := [.int x1]) C hP hS (db_recv C hP hdb) (w_V2_0_writes hO hdb hst2) (va_cwU (owner := RX7) 1 C.2.2.2.2.1 (lw_U q1350 q2031 q2036 q1265 q95 q1267) rfl rfl rfl rfl (by decide +kernel) (mr_ C.2.2.2.2.2.1 (Nat.le_of_ble_eq_true rfl) (by decide))) rfl hl.1 rfl (Nat.le_of_ble_eq_true rfl) dX7_tells_11 hcs (fun H locs hP hS => ?_)
  have hdb := db_tr (P_V2_0_writes hst2) hdb
  refine lv_istore_n (lv' := [(2, .int v3), (0, .ref a), (1, .int x1)]) hx hb dX7_tells_14 rfl hl (by decide) rfl (fun ls hl => ?_)
  refine lv_iload_n hx hb dX7_tells_15 rfl (lv_at hl 0 rfl) ?_
  refine lv_aload_n hx hb dX7_tells_16 rfl (lv_at hl 1 rfl) ?_
  refine lv_iload_n hx hb dX7_tells_17 rfl (lv_at hl 2 rfl) ?_
  obtain ⟨v5, st4, hst4, h⟩ := bd2_some h
  refine tm_virtV (q := dbC 2) (x := ⟨RX7, "reads", "(I)I"⟩) (owner := RX7) (n := 1) (As := [.int x1]) C hP hS (db_recv C hP hdb) (w_V2_0_reads hO hdb hst4) (va_cwU (owner := RX7) 1 C.2.2.2.2.1 (lw_U q1351 q2033 q2043 q1288 q95 q1289) rfl rfl rfl rfl (by decide +kernel) (mr_ C.2.2.2.2.2.1 (Nat.le_of_ble_eq_true rfl) (by decide))) rfl hl.1 rfl (Nat.le_of_ble_eq_true rfl) dX7_tells_18 hcs (fun H locs hP hS => ?_)
  have hdb := db_tr (P_V2_0_reads hst4) hdb
  refine lv_ixor hx hb dX7_tells_21 ?_
  exact cc_viret hx hb hr hlk h hP hS dX7_tells_22
theorem P_V2_0_tells {st st' : CS} {dn dm x1 r0 : Int32} (h : V2_0_tells st dn dm x1 = some (r0, st')) : st'.2.2 = st.2.2 := by
  rw [V2_0_tells] at h
  obtain ⟨st1, hst1, h⟩ := bd1_some h
  obtain ⟨v3, st2, hst2, h⟩ := bd2_some h
  obtain ⟨v5, st4, hst4, h⟩ := bd2_some h
  cases h
  exact ((P_V2_0_reads hst4).trans ((P_V2_0_writes hst2).trans (P_J_begins hst1)))
theorem q2037 : (Jvm.Cond.selects "ChapterLoan$Ghost" ({ cls := "ChapterLoan$Debtor", name := "writes", desc := "(I)I" } : Jvm.MethodName) ({ cls := "ChapterLoan$Debtor", name := "writes", desc := "(I)I" } : Jvm.MethodName)) ∈ lw_all := lw_g (lw_at lw_m9 33 rfl) rfl
theorem q2044 : (Jvm.Cond.selects "ChapterLoan$Ghost" ({ cls := "ChapterLoan$Debtor", name := "reads", desc := "(I)I" } : Jvm.MethodName) ({ cls := "ChapterLoan$Ghost", name := "reads", desc := "(I)I" } : Jvm.MethodName)) ∈ lw_all := lw_g (lw_at lw_m9 40 rfl) rfl
theorem w_V3_0_tells {l : Launch} {D : va_G} {cA : Nat → ClassId} {ks : List Nat} {ad : Nat → Nat} {A : Nat → Prop} (hO : klOk A ks ad) {st st' : CS} {a : Nat} {dn dm x1 r0 : Int32} (hdb : dbAt ks ad st.2.2.2 a 3 (ad 62) dn dm) (h : V3_0_tells st dn dm x1 = some (r0, st')) : cV l yX7_tells cX7_tells 3 (some .int) 3 D cA ks ad A st [.ref a, .int x1] (some (.int r0)) st' := by
  refine cc_ofV (own := RX7) (by decide) rfl (Nat.le_of_ble_eq_true rfl) (fun p e s m below meth c R args ls C hr hlk hP hS hl hcs => ?_)
  have hx := C.1
  have hb := C.2.1
  have hown := C.2.2.2.1
  have hl : lv_has ls 3 [(0, .ref a), (1, .int x1)] := hl
  rw [V3_0_tells] at h
  refine lv_aload_n hx hb dX7_tells_0 rfl (lv_at hl 0 rfl) ?_
  refine db_get C hP hdb 0 (by decide) (fun k h => (db_T h).1) q461 (fun _ h => h) rfl dX7_tells_1 ?_
  refine lv_bipush (v := 13) hx hb dX7_tells_4 (by decide) ?_
  obtain ⟨st1, hst1, h⟩ := bd1_some h
  refine k_J_begins C hO hP hS hst1 q1231 (Nat.le_of_ble_eq_true rfl) hl.1 (Nat.le_of_ble_eq_true rfl) hcs dX7_tells_6 (fun H locs hP hS => ?_)
  have hdb := db_tr (P_J_begins hst1) hdb
  refine lv_aload_n hx hb dX7_tells_9 rfl (lv_at hl 0 rfl) ?_
  refine lv_iload_n hx hb dX7_tells_10 rfl (lv_at hl 1 rfl) ?_
  obtain ⟨v3, st2, hst2, h⟩ := bd2_some h
  refine tm_virtV (q := dbC 3) (x := ⟨RX7, "writes", "(I)I"⟩) (owner := RX7) (n := 1) (As := [.int x1]) C hP hS (db_recv C hP hdb) (w_V3_0_writes hO hdb hst2) (va_cwU (owner := RX7) 1 C.2.2.2.2.1 (lw_U q1350 q2031 q2037 q1265 q95 q1267) rfl rfl rfl rfl (by decide +kernel) (mr_ C.2.2.2.2.2.1 (Nat.le_of_ble_eq_true rfl) (by decide))) rfl hl.1 rfl (Nat.le_of_ble_eq_true rfl) dX7_tells_11 hcs (fun H locs hP hS => ?_)
  have hdb := db_tr (P_V3_0_writes hst2) hdb
  refine lv_istore_n (lv' := [(2, .int v3), (0, .ref a), (1, .int x1)]) hx hb dX7_tells_14 rfl hl (by decide) rfl (fun ls hl => ?_)
  refine lv_iload_n hx hb dX7_tells_15 rfl (lv_at hl 0 rfl) ?_
  refine lv_aload_n hx hb dX7_tells_16 rfl (lv_at hl 1 rfl) ?_
  refine lv_iload_n hx hb dX7_tells_17 rfl (lv_at hl 2 rfl) ?_
  obtain ⟨v5, st4, hst4, h⟩ := bd2_some h
  refine tm_virtV (q := dbC 3) (x := ⟨RX7, "reads", "(I)I"⟩) (owner := RX7) (n := 1) (As := [.int x1]) C hP hS (db_recv C hP hdb) (w_V3_3_reads hO hdb hst4) (va_cwO (owner := RX7) 1 C.2.2.2.2.1 (lw_O q1351 q2033 q1288 q2044 q1318 q98 q1320) rfl rfl rfl q1289 (by decide +kernel) (mr_ C.2.2.2.2.2.1 (Nat.le_of_ble_eq_true rfl) (by decide))) rfl hl.1 rfl (Nat.le_of_ble_eq_true rfl) dX7_tells_18 hcs (fun H locs hP hS => ?_)
  have hdb := db_tr (P_V3_3_reads hst4) hdb
  refine lv_ixor hx hb dX7_tells_21 ?_
  exact cc_viret hx hb hr hlk h hP hS dX7_tells_22
theorem P_V3_0_tells {st st' : CS} {dn dm x1 r0 : Int32} (h : V3_0_tells st dn dm x1 = some (r0, st')) : st'.2.2 = st.2.2 := by
  rw [V3_0_tells] at h
  obtain ⟨st1, hst1, h⟩ := bd1_some h
  obtain ⟨v3, st2, hst2, h⟩ := bd2_some h
  obtain ⟨v5, st4, hst4, h⟩ := bd2_some h
  cases h
  exact ((P_V3_3_reads hst4).trans ((P_V3_0_writes hst2).trans (P_J_begins hst1)))
theorem q1299 : (Jvm.Cond.instanceMethod ({ cls := "ChapterLoan$Twin", name := "writes", desc := "(I)I" } : Jvm.MethodName)) ∈ lw_all := lw_g (lw_at lw_m6 15 rfl) rfl
theorem q1301 : (Jvm.Cond.code ({ cls := "ChapterLoan$Twin", name := "writes", desc := "(I)I" } : Jvm.MethodName) prog_26_method_5_code (2 : Nat) (Option.some Jvm.ClassFile.FieldType.int)) ∈ lw_all := lw_g (lw_at lw_m6 17 rfl) rfl
theorem q2041 : (Jvm.Cond.selects "ChapterLoan$Twin" ({ cls := "ChapterLoan$Debtor", name := "writes", desc := "(I)I" } : Jvm.MethodName) ({ cls := "ChapterLoan$Twin", name := "writes", desc := "(I)I" } : Jvm.MethodName)) ∈ lw_all := lw_g (lw_at lw_m9 37 rfl) rfl
theorem q2048 : (Jvm.Cond.selects "ChapterLoan$Twin" ({ cls := "ChapterLoan$Debtor", name := "reads", desc := "(I)I" } : Jvm.MethodName) ({ cls := "ChapterLoan$Debtor", name := "reads", desc := "(I)I" } : Jvm.MethodName)) ∈ lw_all := lw_g (lw_at lw_m9 44 rfl) rfl
theorem w_V4_0_tells {l : Launch} {D : va_G} {cA : Nat → ClassId} {ks : List Nat} {ad : Nat → Nat} {A : Nat → Prop} (hO : klOk A ks ad) {st st' : CS} {a : Nat} {dn dm x1 r0 : Int32} (hdb : dbAt ks ad st.2.2.2 a 4 (ad 62) dn dm) (h : V4_0_tells st dn dm x1 = some (r0, st')) : cV l yX7_tells cX7_tells 3 (some .int) 5 D cA ks ad A st [.ref a, .int x1] (some (.int r0)) st' := by
  refine cc_ofV (own := RX7) (by decide) rfl (Nat.le_of_ble_eq_true rfl) (fun p e s m below meth c R args ls C hr hlk hP hS hl hcs => ?_)
  have hx := C.1
  have hb := C.2.1
  have hown := C.2.2.2.1
  have hl : lv_has ls 3 [(0, .ref a), (1, .int x1)] := hl
  rw [V4_0_tells] at h
  refine lv_aload_n hx hb dX7_tells_0 rfl (lv_at hl 0 rfl) ?_
  refine db_get C hP hdb 0 (by decide) (fun k h => (db_T h).1) q461 (fun _ h => h) rfl dX7_tells_1 ?_
  refine lv_bipush (v := 13) hx hb dX7_tells_4 (by decide) ?_
  obtain ⟨st1, hst1, h⟩ := bd1_some h
  refine k_J_begins C hO hP hS hst1 q1231 (Nat.le_of_ble_eq_true rfl) hl.1 (Nat.le_of_ble_eq_true rfl) hcs dX7_tells_6 (fun H locs hP hS => ?_)
  have hdb := db_tr (P_J_begins hst1) hdb
  refine lv_aload_n hx hb dX7_tells_9 rfl (lv_at hl 0 rfl) ?_
  refine lv_iload_n hx hb dX7_tells_10 rfl (lv_at hl 1 rfl) ?_
  obtain ⟨v3, st2, hst2, h⟩ := bd2_some h
  refine tm_virtV (q := dbC 4) (x := ⟨RX7, "writes", "(I)I"⟩) (owner := RX7) (n := 1) (As := [.int x1]) C hP hS (db_recv C hP hdb) (w_V4_4_writes hO hdb hst2) (va_cwO (owner := RX7) 1 C.2.2.2.2.1 (lw_O q1350 q2031 q1265 q2041 q1299 q99 q1301) rfl rfl rfl q1267 (by decide +kernel) (mr_ C.2.2.2.2.2.1 (Nat.le_of_ble_eq_true rfl) (by decide))) rfl hl.1 rfl (Nat.le_of_ble_eq_true rfl) dX7_tells_11 hcs (fun H locs hP hS => ?_)
  have hdb := db_tr (P_V4_4_writes hst2) hdb
  refine lv_istore_n (lv' := [(2, .int v3), (0, .ref a), (1, .int x1)]) hx hb dX7_tells_14 rfl hl (by decide) rfl (fun ls hl => ?_)
  refine lv_iload_n hx hb dX7_tells_15 rfl (lv_at hl 0 rfl) ?_
  refine lv_aload_n hx hb dX7_tells_16 rfl (lv_at hl 1 rfl) ?_
  refine lv_iload_n hx hb dX7_tells_17 rfl (lv_at hl 2 rfl) ?_
  obtain ⟨v5, st4, hst4, h⟩ := bd2_some h
  refine tm_virtV (q := dbC 4) (x := ⟨RX7, "reads", "(I)I"⟩) (owner := RX7) (n := 1) (As := [.int x1]) C hP hS (db_recv C hP hdb) (w_V4_0_reads hO hdb hst4) (va_cwU (owner := RX7) 1 C.2.2.2.2.1 (lw_U q1351 q2033 q2048 q1288 q95 q1289) rfl rfl rfl rfl (by decide +kernel) (mr_ C.2.2.2.2.2.1 (Nat.le_of_ble_eq_true rfl) (by decide))) rfl hl.1 rfl (Nat.le_of_ble_eq_true rfl) dX7_tells_18 hcs (fun H locs hP hS => ?_)
  have hdb := db_tr (P_V4_0_reads hst4) hdb
  refine lv_ixor hx hb dX7_tells_21 ?_
  exact cc_viret hx hb hr hlk h hP hS dX7_tells_22
theorem P_V4_0_tells {st st' : CS} {dn dm x1 r0 : Int32} (h : V4_0_tells st dn dm x1 = some (r0, st')) : st'.2.2 = st.2.2 := by
  rw [V4_0_tells] at h
  obtain ⟨st1, hst1, h⟩ := bd1_some h
  obtain ⟨v3, st2, hst2, h⟩ := bd2_some h
  obtain ⟨v5, st4, hst4, h⟩ := bd2_some h
  cases h
  exact ((P_V4_0_reads hst4).trans ((P_V4_4_writes hst2).trans (P_J_begins hst1)))
theorem q2040 : (Jvm.Cond.selects "ChapterLoan$Seer" ({ cls := "ChapterLoan$Debtor", name := "writes", desc := "(I)I" } : Jvm.MethodName) ({ cls := "ChapterLoan$Debtor", name := "writes", desc := "(I)I" } : Jvm.MethodName)) ∈ lw_all := lw_g (lw_at lw_m9 36 rfl) rfl
theorem q2047 : (Jvm.Cond.selects "ChapterLoan$Seer" ({ cls := "ChapterLoan$Debtor", name := "reads", desc := "(I)I" } : Jvm.MethodName) ({ cls := "ChapterLoan$Debtor", name := "reads", desc := "(I)I" } : Jvm.MethodName)) ∈ lw_all := lw_g (lw_at lw_m9 43 rfl) rfl
theorem w_V5_0_tells {l : Launch} {D : va_G} {cA : Nat → ClassId} {ks : List Nat} {ad : Nat → Nat} {A : Nat → Prop} (hO : klOk A ks ad) {st st' : CS} {a : Nat} {dn dm x1 r0 : Int32} (hdb : dbAt ks ad st.2.2.2 a 5 (ad 62) dn dm) (h : V5_0_tells st dn dm x1 = some (r0, st')) : cV l yX7_tells cX7_tells 3 (some .int) 4 D cA ks ad A st [.ref a, .int x1] (some (.int r0)) st' := by
  refine cc_ofV (own := RX7) (by decide) rfl (Nat.le_of_ble_eq_true rfl) (fun p e s m below meth c R args ls C hr hlk hP hS hl hcs => ?_)
  have hx := C.1
  have hb := C.2.1
  have hown := C.2.2.2.1
  have hl : lv_has ls 3 [(0, .ref a), (1, .int x1)] := hl
  rw [V5_0_tells] at h
  refine lv_aload_n hx hb dX7_tells_0 rfl (lv_at hl 0 rfl) ?_
  refine db_get C hP hdb 0 (by decide) (fun k h => (db_T h).1) q461 (fun _ h => h) rfl dX7_tells_1 ?_
  refine lv_bipush (v := 13) hx hb dX7_tells_4 (by decide) ?_
  obtain ⟨st1, hst1, h⟩ := bd1_some h
  refine k_J_begins C hO hP hS hst1 q1231 (Nat.le_of_ble_eq_true rfl) hl.1 (Nat.le_of_ble_eq_true rfl) hcs dX7_tells_6 (fun H locs hP hS => ?_)
  have hdb := db_tr (P_J_begins hst1) hdb
  refine lv_aload_n hx hb dX7_tells_9 rfl (lv_at hl 0 rfl) ?_
  refine lv_iload_n hx hb dX7_tells_10 rfl (lv_at hl 1 rfl) ?_
  obtain ⟨v3, st2, hst2, h⟩ := bd2_some h
  refine tm_virtV (q := dbC 5) (x := ⟨RX7, "writes", "(I)I"⟩) (owner := RX7) (n := 1) (As := [.int x1]) C hP hS (db_recv C hP hdb) (w_V5_0_writes hO hdb hst2) (va_cwU (owner := RX7) 1 C.2.2.2.2.1 (lw_U q1350 q2031 q2040 q1265 q95 q1267) rfl rfl rfl rfl (by decide +kernel) (mr_ C.2.2.2.2.2.1 (Nat.le_of_ble_eq_true rfl) (by decide))) rfl hl.1 rfl (Nat.le_of_ble_eq_true rfl) dX7_tells_11 hcs (fun H locs hP hS => ?_)
  have hdb := db_tr (P_V5_0_writes hst2) hdb
  refine lv_istore_n (lv' := [(2, .int v3), (0, .ref a), (1, .int x1)]) hx hb dX7_tells_14 rfl hl (by decide) rfl (fun ls hl => ?_)
  refine lv_iload_n hx hb dX7_tells_15 rfl (lv_at hl 0 rfl) ?_
  refine lv_aload_n hx hb dX7_tells_16 rfl (lv_at hl 1 rfl) ?_
  refine lv_iload_n hx hb dX7_tells_17 rfl (lv_at hl 2 rfl) ?_
  obtain ⟨v5, st4, hst4, h⟩ := bd2_some h
  refine tm_virtV (q := dbC 5) (x := ⟨RX7, "reads", "(I)I"⟩) (owner := RX7) (n := 1) (As := [.int x1]) C hP hS (db_recv C hP hdb) (w_V5_0_reads hO hdb hst4) (va_cwU (owner := RX7) 1 C.2.2.2.2.1 (lw_U q1351 q2033 q2047 q1288 q95 q1289) rfl rfl rfl rfl (by decide +kernel) (mr_ C.2.2.2.2.2.1 (Nat.le_of_ble_eq_true rfl) (by decide))) rfl hl.1 rfl (Nat.le_of_ble_eq_true rfl) dX7_tells_18 hcs (fun H locs hP hS => ?_)
  have hdb := db_tr (P_V5_0_reads hst4) hdb
  refine lv_ixor hx hb dX7_tells_21 ?_
  exact cc_viret hx hb hr hlk h hP hS dX7_tells_22
theorem P_V5_0_tells {st st' : CS} {dn dm x1 r0 : Int32} (h : V5_0_tells st dn dm x1 = some (r0, st')) : st'.2.2 = st.2.2 := by
  rw [V5_0_tells] at h
  obtain ⟨st1, hst1, h⟩ := bd1_some h
  obtain ⟨v3, st2, hst2, h⟩ := bd2_some h
  obtain ⟨v5, st4, hst4, h⟩ := bd2_some h
  cases h
  exact ((P_V5_0_reads hst4).trans ((P_V5_0_writes hst2).trans (P_J_begins hst1)))
abbrev cX12_tells : ByteArray := prog_17_method_6_code
def yX12_tells : MethodName := ⟨RX12, "tells", "(I)I"⟩
theorem dX12_tells_0 : decode cX12_tells 0 = .ok (.aload_n 0, 1) := by decide +kernel
theorem dX12_tells_1 : decode cX12_tells 1 = .ok (.getfield 27, 3) := by decide +kernel
theorem dX12_tells_4 : decode cX12_tells 4 = .ok (.bipush 60, 2) := by decide +kernel
theorem dX12_tells_6 : decode cX12_tells 6 = .ok (.invokevirtual 31, 3) := by decide +kernel
theorem dX12_tells_9 : decode cX12_tells 9 = .ok (.aload_n 0, 1) := by decide +kernel
theorem dX12_tells_10 : decode cX12_tells 10 = .ok (.iload_n 1, 1) := by decide +kernel
theorem dX12_tells_11 : decode cX12_tells 11 = .ok (.invokespecial 37, 3) := by decide +kernel
theorem dX12_tells_14 : decode cX12_tells 14 = .ok (.istore_n 2, 1) := by decide +kernel
theorem dX12_tells_15 : decode cX12_tells 15 = .ok (.iload_n 2, 1) := by decide +kernel
theorem dX12_tells_16 : decode cX12_tells 16 = .ok (.aload_n 0, 1) := by decide +kernel
theorem dX12_tells_17 : decode cX12_tells 17 = .ok (.iconst 2, 1) := by decide +kernel
theorem dX12_tells_18 : decode cX12_tells 18 = .ok (.invokevirtual 40, 3) := by decide +kernel
theorem dX12_tells_21 : decode cX12_tells 21 = .ok (.isub, 1) := by decide +kernel
theorem dX12_tells_22 : decode cX12_tells 22 = .ok (.ireturn, 1) := by decide +kernel
theorem q472 : (Jvm.Cond.fieldLink "ChapterLoan$Seer" (27 : Nat) "ChapterLoan$Seer" "trace" "LChapterLoan$Trace;") ∈ lw_all := lw_g (lw_at lw_m2 148 rfl) rfl
theorem q473 : (Jvm.Cond.sameField "ChapterLoan$Seer" "ChapterLoan$Debtor" "trace" "LChapterLoan$Trace;") ∈ lw_all := lw_g (lw_at lw_m2 149 rfl) rfl
theorem q1347 : (Jvm.Cond.instanceMethod ({ cls := "ChapterLoan$Debtor", name := "tells", desc := "(I)I" } : Jvm.MethodName)) ∈ lw_all := lw_g (lw_at lw_m6 63 rfl) rfl
theorem q1349 : (Jvm.Cond.code ({ cls := "ChapterLoan$Debtor", name := "tells", desc := "(I)I" } : Jvm.MethodName) prog_3_method_10_code (3 : Nat) (Option.some Jvm.ClassFile.FieldType.int)) ∈ lw_all := lw_g (lw_at lw_m6 65 rfl) rfl
theorem q1380 : (Jvm.Cond.methodLink "ChapterLoan$Seer" (31 : Nat) ({ cls := "ChapterLoan$Trace", name := "begins", desc := "(I)V" } : Jvm.MethodName)) ∈ lw_all := lw_g (lw_at lw_m6 96 rfl) rfl
theorem q1381 : (Jvm.Cond.methodLink "ChapterLoan$Seer" (37 : Nat) ({ cls := "ChapterLoan$Dreamer", name := "tells", desc := "(I)I" } : Jvm.MethodName)) ∈ lw_all := lw_g (lw_at lw_m6 97 rfl) rfl
theorem q1382 : (Jvm.Cond.sameMethod "ChapterLoan$Dreamer" "ChapterLoan$Debtor" "tells" "(I)I") ∈ lw_all := lw_g (lw_at lw_m6 98 rfl) rfl
theorem q1383 : (Jvm.Cond.methodLink "ChapterLoan$Seer" (40 : Nat) ({ cls := "ChapterLoan$Seer", name := "owes", desc := "(I)I" } : Jvm.MethodName)) ∈ lw_all := lw_g (lw_at lw_m6 99 rfl) rfl
theorem q1384 : (Jvm.Cond.sameMethod "ChapterLoan$Seer" "ChapterLoan$Dreamer" "owes" "(I)I") ∈ lw_all := lw_g (lw_at lw_m6 100 rfl) rfl
theorem q1386 : (Jvm.Cond.selects "ChapterLoan$Seer" ({ cls := "ChapterLoan$Seer", name := "owes", desc := "(I)I" } : Jvm.MethodName) ({ cls := "ChapterLoan$Dreamer", name := "owes", desc := "(I)I" } : Jvm.MethodName)) ∈ lw_all := lw_g (lw_at lw_m6 102 rfl) rfl
theorem w_V5_5_tells {l : Launch} {D : va_G} {cA : Nat → ClassId} {ks : List Nat} {ad : Nat → Nat} {A : Nat → Prop} (hO : klOk A ks ad) {st st' : CS} {a : Nat} {dn dm x1 r0 : Int32} (hdb : dbAt ks ad st.2.2.2 a 5 (ad 62) dn dm) (h : V5_5_tells st dn dm x1 = some (r0, st')) : cV l yX12_tells cX12_tells 3 (some .int) 5 D cA ks ad A st [.ref a, .int x1] (some (.int r0)) st' := by
  refine cc_ofV (own := RX12) (by decide) rfl (Nat.le_of_ble_eq_true rfl) (fun p e s m below meth c R args ls C hr hlk hP hS hl hcs => ?_)
  have hx := C.1
  have hb := C.2.1
  have hown := C.2.2.2.1
  have hl : lv_has ls 3 [(0, .ref a), (1, .int x1)] := hl
  rw [V5_5_tells] at h
  refine lv_aload_n hx hb dX12_tells_0 rfl (lv_at hl 0 rfl) ?_
  refine db_get C hP hdb 0 (by decide) (fun k h => (db_T h).1) q472 (db_same C q473) rfl dX12_tells_1 ?_
  refine lv_bipush (v := 60) hx hb dX12_tells_4 (by decide) ?_
  obtain ⟨st1, hst1, h⟩ := bd1_some h
  refine k_J_begins C hO hP hS hst1 q1380 (Nat.le_of_ble_eq_true rfl) hl.1 (Nat.le_of_ble_eq_true rfl) hcs dX12_tells_6 (fun H locs hP hS => ?_)
  have hdb := db_tr (P_J_begins hst1) hdb
  refine lv_aload_n hx hb dX12_tells_9 rfl (lv_at hl 0 rfl) ?_
  refine lv_iload_n hx hb dX12_tells_10 rfl (lv_at hl 1 rfl) ?_
  obtain ⟨v3, st2, hst2, h⟩ := bd2_some h
  refine db_suoV (x := ⟨"ChapterLoan$Dreamer", "tells", "(I)I"⟩) (n := 1) (As := [.int x1]) C hP hS hdb (w_V5_0_tells hO hdb hst2) q1349 (mr_ C.2.2.2.2.2.1 (Nat.le_of_ble_eq_true rfl) (by decide)) q1381 q1382 q533 q503 q1347 q95 ⟨rfl, rfl, by decide, by decide +kernel⟩ rfl hl.1 rfl (Nat.le_of_ble_eq_true rfl) dX12_tells_11 hcs (fun H locs hP hS => ?_)
  have hdb := db_tr (P_V5_0_tells hst2) hdb
  refine lv_istore_n (lv' := [(2, .int v3), (0, .ref a), (1, .int x1)]) hx hb dX12_tells_14 rfl hl (by decide) rfl (fun ls hl => ?_)
  refine lv_iload_n hx hb dX12_tells_15 rfl (lv_at hl 0 rfl) ?_
  refine lv_aload_n hx hb dX12_tells_16 rfl (lv_at hl 1 rfl) ?_
  refine lv_iconst (v := 2) hx hb dX12_tells_17 (by decide) ?_
  obtain ⟨v5, st4, hst4, h⟩ := bd2_some h
  refine tm_virtV (q := dbC 5) (x := ⟨RX12, "owes", "(I)I"⟩) (owner := RX9) (n := 1) (As := [.int 2]) C hP hS (db_recv C hP hdb) (w_V5_2_owes hO hdb hst4) (va_cwU (owner := RX9) 1 C.2.2.2.2.1 (lw_U q1383 q1384 q1386 q1238 q97 q1240) rfl rfl rfl rfl (by decide +kernel) (mr_ C.2.2.2.2.2.1 (Nat.le_of_ble_eq_true rfl) (by decide))) rfl hl.1 rfl (Nat.le_of_ble_eq_true rfl) dX12_tells_18 hcs (fun H locs hP hS => ?_)
  have hdb := db_tr (P_V5_2_owes hst4) hdb
  refine lv_isub hx hb dX12_tells_21 ?_
  exact cc_viret hx hb hr hlk h hP hS dX12_tells_22
theorem P_V5_5_tells {st st' : CS} {dn dm x1 r0 : Int32} (h : V5_5_tells st dn dm x1 = some (r0, st')) : st'.2.2 = st.2.2 := by
  rw [V5_5_tells] at h
  obtain ⟨st1, hst1, h⟩ := bd1_some h
  obtain ⟨v3, st2, hst2, h⟩ := bd2_some h
  obtain ⟨v5, st4, hst4, h⟩ := bd2_some h
  cases h
  exact ((P_V5_2_owes hst4).trans ((P_V5_0_tells hst2).trans (P_J_begins hst1)))
theorem q1329 : (Jvm.Cond.instanceMethod ({ cls := "ChapterLoan$Saint", name := "reads", desc := "(I)I" } : Jvm.MethodName)) ∈ lw_all := lw_g (lw_at lw_m6 45 rfl) rfl
theorem q1331 : (Jvm.Cond.code ({ cls := "ChapterLoan$Saint", name := "reads", desc := "(I)I" } : Jvm.MethodName) prog_16_method_6_code (2 : Nat) (Option.some Jvm.ClassFile.FieldType.int)) ∈ lw_all := lw_g (lw_at lw_m6 47 rfl) rfl
theorem q2039 : (Jvm.Cond.selects "ChapterLoan$Saint" ({ cls := "ChapterLoan$Debtor", name := "writes", desc := "(I)I" } : Jvm.MethodName) ({ cls := "ChapterLoan$Debtor", name := "writes", desc := "(I)I" } : Jvm.MethodName)) ∈ lw_all := lw_g (lw_at lw_m9 35 rfl) rfl
theorem q2046 : (Jvm.Cond.selects "ChapterLoan$Saint" ({ cls := "ChapterLoan$Debtor", name := "reads", desc := "(I)I" } : Jvm.MethodName) ({ cls := "ChapterLoan$Saint", name := "reads", desc := "(I)I" } : Jvm.MethodName)) ∈ lw_all := lw_g (lw_at lw_m9 42 rfl) rfl
theorem w_V6_0_tells {l : Launch} {D : va_G} {cA : Nat → ClassId} {ks : List Nat} {ad : Nat → Nat} {A : Nat → Prop} (hO : klOk A ks ad) {st st' : CS} {a : Nat} {dn dm x1 r0 : Int32} (hdb : dbAt ks ad st.2.2.2 a 6 (ad 62) dn dm) (h : V6_0_tells st dn dm x1 = some (r0, st')) : cV l yX7_tells cX7_tells 3 (some .int) 4 D cA ks ad A st [.ref a, .int x1] (some (.int r0)) st' := by
  refine cc_ofV (own := RX7) (by decide) rfl (Nat.le_of_ble_eq_true rfl) (fun p e s m below meth c R args ls C hr hlk hP hS hl hcs => ?_)
  have hx := C.1
  have hb := C.2.1
  have hown := C.2.2.2.1
  have hl : lv_has ls 3 [(0, .ref a), (1, .int x1)] := hl
  rw [V6_0_tells] at h
  refine lv_aload_n hx hb dX7_tells_0 rfl (lv_at hl 0 rfl) ?_
  refine db_get C hP hdb 0 (by decide) (fun k h => (db_T h).1) q461 (fun _ h => h) rfl dX7_tells_1 ?_
  refine lv_bipush (v := 13) hx hb dX7_tells_4 (by decide) ?_
  obtain ⟨st1, hst1, h⟩ := bd1_some h
  refine k_J_begins C hO hP hS hst1 q1231 (Nat.le_of_ble_eq_true rfl) hl.1 (Nat.le_of_ble_eq_true rfl) hcs dX7_tells_6 (fun H locs hP hS => ?_)
  have hdb := db_tr (P_J_begins hst1) hdb
  refine lv_aload_n hx hb dX7_tells_9 rfl (lv_at hl 0 rfl) ?_
  refine lv_iload_n hx hb dX7_tells_10 rfl (lv_at hl 1 rfl) ?_
  obtain ⟨v3, st2, hst2, h⟩ := bd2_some h
  refine tm_virtV (q := dbC 6) (x := ⟨RX7, "writes", "(I)I"⟩) (owner := RX7) (n := 1) (As := [.int x1]) C hP hS (db_recv C hP hdb) (w_V6_0_writes hO hdb hst2) (va_cwU (owner := RX7) 1 C.2.2.2.2.1 (lw_U q1350 q2031 q2039 q1265 q95 q1267) rfl rfl rfl rfl (by decide +kernel) (mr_ C.2.2.2.2.2.1 (Nat.le_of_ble_eq_true rfl) (by decide))) rfl hl.1 rfl (Nat.le_of_ble_eq_true rfl) dX7_tells_11 hcs (fun H locs hP hS => ?_)
  have hdb := db_tr (P_V6_0_writes hst2) hdb
  refine lv_istore_n (lv' := [(2, .int v3), (0, .ref a), (1, .int x1)]) hx hb dX7_tells_14 rfl hl (by decide) rfl (fun ls hl => ?_)
  refine lv_iload_n hx hb dX7_tells_15 rfl (lv_at hl 0 rfl) ?_
  refine lv_aload_n hx hb dX7_tells_16 rfl (lv_at hl 1 rfl) ?_
  refine lv_iload_n hx hb dX7_tells_17 rfl (lv_at hl 2 rfl) ?_
  obtain ⟨v5, st4, hst4, h⟩ := bd2_some h
  refine tm_virtV (q := dbC 6) (x := ⟨RX7, "reads", "(I)I"⟩) (owner := RX7) (n := 1) (As := [.int x1]) C hP hS (db_recv C hP hdb) (w_V6_6_reads hO hdb hst4) (va_cwO (owner := RX7) 1 C.2.2.2.2.1 (lw_O q1351 q2033 q1288 q2046 q1329 q101 q1331) rfl rfl rfl q1289 (by decide +kernel) (mr_ C.2.2.2.2.2.1 (Nat.le_of_ble_eq_true rfl) (by decide))) rfl hl.1 rfl (Nat.le_of_ble_eq_true rfl) dX7_tells_18 hcs (fun H locs hP hS => ?_)
  have hdb := db_tr (P_V6_6_reads hst4) hdb
  refine lv_ixor hx hb dX7_tells_21 ?_
  exact cc_viret hx hb hr hlk h hP hS dX7_tells_22
theorem P_V6_0_tells {st st' : CS} {dn dm x1 r0 : Int32} (h : V6_0_tells st dn dm x1 = some (r0, st')) : st'.2.2 = st.2.2 := by
  rw [V6_0_tells] at h
  obtain ⟨st1, hst1, h⟩ := bd1_some h
  obtain ⟨v3, st2, hst2, h⟩ := bd2_some h
  obtain ⟨v5, st4, hst4, h⟩ := bd2_some h
  cases h
  exact ((P_V6_6_reads hst4).trans ((P_V6_0_writes hst2).trans (P_J_begins hst1)))
abbrev cX13_tells : ByteArray := prog_16_method_7_code
def yX13_tells : MethodName := ⟨RX13, "tells", "(I)I"⟩
theorem dX13_tells_0 : decode cX13_tells 0 = .ok (.aload_n 0, 1) := by decide +kernel
theorem dX13_tells_1 : decode cX13_tells 1 = .ok (.getfield 27, 3) := by decide +kernel
theorem dX13_tells_4 : decode cX13_tells 4 = .ok (.bipush 71, 2) := by decide +kernel
theorem dX13_tells_6 : decode cX13_tells 6 = .ok (.invokevirtual 31, 3) := by decide +kernel
theorem dX13_tells_9 : decode cX13_tells 9 = .ok (.aload_n 0, 1) := by decide +kernel
theorem dX13_tells_10 : decode cX13_tells 10 = .ok (.iload_n 1, 1) := by decide +kernel
theorem dX13_tells_11 : decode cX13_tells 11 = .ok (.invokevirtual 44, 3) := by decide +kernel
theorem dX13_tells_14 : decode cX13_tells 14 = .ok (.istore_n 2, 1) := by decide +kernel
theorem dX13_tells_15 : decode cX13_tells 15 = .ok (.iload_n 2, 1) := by decide +kernel
theorem dX13_tells_16 : decode cX13_tells 16 = .ok (.aload_n 0, 1) := by decide +kernel
theorem dX13_tells_17 : decode cX13_tells 17 = .ok (.iload_n 1, 1) := by decide +kernel
theorem dX13_tells_18 : decode cX13_tells 18 = .ok (.invokespecial 47, 3) := by decide +kernel
theorem dX13_tells_21 : decode cX13_tells 21 = .ok (.isub, 1) := by decide +kernel
theorem dX13_tells_22 : decode cX13_tells 22 = .ok (.ireturn, 1) := by decide +kernel
theorem q1367 : (Jvm.Cond.methodLink "ChapterLoan$Saint" (44 : Nat) ({ cls := "ChapterLoan$Saint", name := "writes", desc := "(I)I" } : Jvm.MethodName)) ∈ lw_all := lw_g (lw_at lw_m6 83 rfl) rfl
theorem q1368 : (Jvm.Cond.sameMethod "ChapterLoan$Saint" "ChapterLoan$Debtor" "writes" "(I)I") ∈ lw_all := lw_g (lw_at lw_m6 84 rfl) rfl
theorem q1370 : (Jvm.Cond.selects "ChapterLoan$Saint" ({ cls := "ChapterLoan$Saint", name := "writes", desc := "(I)I" } : Jvm.MethodName) ({ cls := "ChapterLoan$Debtor", name := "writes", desc := "(I)I" } : Jvm.MethodName)) ∈ lw_all := lw_g (lw_at lw_m6 86 rfl) rfl
theorem q1371 : (Jvm.Cond.methodLink "ChapterLoan$Saint" (47 : Nat) ({ cls := "ChapterLoan$Ghost", name := "tells", desc := "(I)I" } : Jvm.MethodName)) ∈ lw_all := lw_g (lw_at lw_m6 87 rfl) rfl
theorem q1372 : (Jvm.Cond.sameMethod "ChapterLoan$Ghost" "ChapterLoan$Debtor" "tells" "(I)I") ∈ lw_all := lw_g (lw_at lw_m6 88 rfl) rfl
theorem w_V6_6_tells {l : Launch} {D : va_G} {cA : Nat → ClassId} {ks : List Nat} {ad : Nat → Nat} {A : Nat → Prop} (hO : klOk A ks ad) {st st' : CS} {a : Nat} {dn dm x1 r0 : Int32} (hdb : dbAt ks ad st.2.2.2 a 6 (ad 62) dn dm) (h : V6_6_tells st dn dm x1 = some (r0, st')) : cV l yX13_tells cX13_tells 3 (some .int) 5 D cA ks ad A st [.ref a, .int x1] (some (.int r0)) st' := by
  refine cc_ofV (own := RX13) (by decide) rfl (Nat.le_of_ble_eq_true rfl) (fun p e s m below meth c R args ls C hr hlk hP hS hl hcs => ?_)
  have hx := C.1
  have hb := C.2.1
  have hown := C.2.2.2.1
  have hl : lv_has ls 3 [(0, .ref a), (1, .int x1)] := hl
  rw [V6_6_tells] at h
  refine lv_aload_n hx hb dX13_tells_0 rfl (lv_at hl 0 rfl) ?_
  refine db_get C hP hdb 0 (by decide) (fun k h => (db_T h).1) q470 (db_same C q471) rfl dX13_tells_1 ?_
  refine lv_bipush (v := 71) hx hb dX13_tells_4 (by decide) ?_
  obtain ⟨st1, hst1, h⟩ := bd1_some h
  refine k_J_begins C hO hP hS hst1 q1332 (Nat.le_of_ble_eq_true rfl) hl.1 (Nat.le_of_ble_eq_true rfl) hcs dX13_tells_6 (fun H locs hP hS => ?_)
  have hdb := db_tr (P_J_begins hst1) hdb
  refine lv_aload_n hx hb dX13_tells_9 rfl (lv_at hl 0 rfl) ?_
  refine lv_iload_n hx hb dX13_tells_10 rfl (lv_at hl 1 rfl) ?_
  obtain ⟨v3, st2, hst2, h⟩ := bd2_some h
  refine tm_virtV (q := dbC 6) (x := ⟨RX13, "writes", "(I)I"⟩) (owner := RX7) (n := 1) (As := [.int x1]) C hP hS (db_recv C hP hdb) (w_V6_0_writes hO hdb hst2) (va_cwU (owner := RX7) 1 C.2.2.2.2.1 (lw_U q1367 q1368 q1370 q1265 q95 q1267) rfl rfl rfl rfl (by decide +kernel) (mr_ C.2.2.2.2.2.1 (Nat.le_of_ble_eq_true rfl) (by decide))) rfl hl.1 rfl (Nat.le_of_ble_eq_true rfl) dX13_tells_11 hcs (fun H locs hP hS => ?_)
  have hdb := db_tr (P_V6_0_writes hst2) hdb
  refine lv_istore_n (lv' := [(2, .int v3), (0, .ref a), (1, .int x1)]) hx hb dX13_tells_14 rfl hl (by decide) rfl (fun ls hl => ?_)
  refine lv_iload_n hx hb dX13_tells_15 rfl (lv_at hl 0 rfl) ?_
  refine lv_aload_n hx hb dX13_tells_16 rfl (lv_at hl 1 rfl) ?_
  refine lv_iload_n hx hb dX13_tells_17 rfl (lv_at hl 2 rfl) ?_
  obtain ⟨v5, st4, hst4, h⟩ := bd2_some h
  refine db_suoV (x := ⟨"ChapterLoan$Ghost", "tells", "(I)I"⟩) (n := 1) (As := [.int x1]) C hP hS hdb (w_V6_0_tells hO hdb hst4) q1349 (mr_ C.2.2.2.2.2.1 (Nat.le_of_ble_eq_true rfl) (by decide)) q1371 q1372 q543 q513 q1347 q95 ⟨rfl, rfl, by decide, by decide +kernel⟩ rfl hl.1 rfl (Nat.le_of_ble_eq_true rfl) dX13_tells_18 hcs (fun H locs hP hS => ?_)
  have hdb := db_tr (P_V6_0_tells hst4) hdb
  refine lv_isub hx hb dX13_tells_21 ?_
  exact cc_viret hx hb hr hlk h hP hS dX13_tells_22
theorem P_V6_6_tells {st st' : CS} {dn dm x1 r0 : Int32} (h : V6_6_tells st dn dm x1 = some (r0, st')) : st'.2.2 = st.2.2 := by
  rw [V6_6_tells] at h
  obtain ⟨st1, hst1, h⟩ := bd1_some h
  obtain ⟨v3, st2, hst2, h⟩ := bd2_some h
  obtain ⟨v5, st4, hst4, h⟩ := bd2_some h
  cases h
  exact ((P_V6_0_tells hst4).trans ((P_V6_0_writes hst2).trans (P_J_begins hst1)))
end
