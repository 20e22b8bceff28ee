/-! debtors: walks -/
set_option maxRecDepth 100000
section
variable {p : Program} {l : Launch} {e : Env} {R : Room} {s : State} {m : MethodId} {args : Array Value} {below : List Frame} {meth : Method} {c : Code} {H : Heap} {locs : List Loc} {cells slots d : Nat} {Q : State → Prop} {cc : ByteArray} {pc nL : Nat} {ls : Array Slot} {rest : List Value} {D : va_G} {cA : Nat → ClassId} {ks : List Nat} {ad : Nat → Nat} {A : Nat → Prop} {st : CS} {H0 : Heap} {own : String} {index : Nat} {st0 : List Value} {a k tr : Nat} {dn dm : Int32}
abbrev cX7_kind : ByteArray := prog_3_method_2_code
def yX7_kind : MethodName := ⟨RX7, "kind", "()I"⟩
theorem dX7_kind_0 : decode cX7_kind 0 = .ok (.iconst 0, 1) := by decide +kernel
theorem dX7_kind_1 : decode cX7_kind 1 = .ok (.ireturn, 1) := by decide +kernel
theorem w_B0_kind {l : Launch} {D : va_G} {cA : Nat → ClassId} {ks : List Nat} {ad : Nat → Nat} {A : Nat → Prop} {st : CS} {a k tr : Nat} {dn dm : Int32} (hdb : dbAt ks ad st.2.2.2 a k tr dn dm) {r : Int32} (h : B0_kind dn dm = some r) : cR l yX7_kind cX7_kind 1 (some .int) 0 D cA ks ad A st [.ref a] r := by
  refine cc_ofR (own := RX7) (by decide) rfl (Nat.le_of_ble_eq_true rfl) (fun p e s m below meth c R args ls C hr hlk hP hl hcs => ?_)
  have hx := C.1
  have hb := C.2.1
  have hown := C.2.2.2.1
  have hl : lv_has ls 1 [(0, .ref a)] := hl
  rw [B0_kind] at h
  refine lv_iconst (v := 0) hx hb dX7_kind_0 (by decide) ?_
  exact mm_iret hx hb hr hlk h dX7_kind_1
theorem q585 : (Jvm.Cond.code ({ cls := "ChapterLoan$Debtor", name := "kind", desc := "()I" } : Jvm.MethodName) prog_3_method_2_code (1 : Nat) (Option.some Jvm.ClassFile.FieldType.int)) ∈ lw_all := lw_g (lw_at lw_m3 21 rfl) rfl
theorem q564 : (Jvm.Cond.instanceMethod ({ cls := "ChapterLoan$Debtor", name := "kind", desc := "()I" } : Jvm.MethodName)) ∈ lw_all := lw_g (lw_at lw_m3 0 rfl) rfl
theorem q95 : (Jvm.Cond.initialized "ChapterLoan$Debtor") ∈ lw_all := lw_g (lw_at lw_m1 11 rfl) rfl
theorem q566 : (Jvm.Cond.sameMethod "ChapterLoan$Debtor" "ChapterLoan$Debtor" "kind" "()I") ∈ lw_all := lw_g (lw_at lw_m3 2 rfl) rfl
theorem su_B0_kind {v : Int32} (C : cC p R d s m args c cc nL own D cA A) (hP : cW D cA ks ad st H) (hz : s.heap.size ≤ H.size) (hdb : dbAt ks ad st.2.2.2 a k tr dn dm) (h : B0_kind dn dm = some v) (hl : Cond.methodLink own index yX7_kind ∈ lw_all) (hsp : Cond.superclass own yX7_kind.cls ∈ lw_all) (hd : 0 + 1 ≤ d) (hsz : ls.size = nL) (hW : (rest.map fun v => v.category).sum ≤ 8) (hcs : cells ≤ R.cells ∧ slots ≤ R.slots) (hdg : decode cc pc = .ok (.invokespecial index, 3)) (kk : W p l e R s m args below meth c H locs cells slots Q (F0 m (pc + 3) ls (.int v :: rest))) : W p l e R s m args below meth c H locs cells slots Q (F0 m pc ls (.ref a :: rest)) :=
  db_superR (As := []) C hP hz hdb (w_B0_kind hdb h) (va_cwSU 0 C.2.2.2.2.1 (lw_SU hl q566 hsp q564 q95 q585) rfl rfl rfl (by decide +kernel) (mr_ C.2.2.2.2.2.1 hd (by decide))) rfl hsz rfl hW hdg hcs kk
theorem suo_B0_kind {v : Int32} {x : MethodName} (C : cC p R d s m args c cc nL own D cA A) (hP : cW D cA ks ad st H) (hz : s.heap.size ≤ H.size) (hdb : dbAt ks ad st.2.2.2 a k tr dn dm) (h : B0_kind dn dm = some v) (hl : Cond.methodLink own index x ∈ lw_all) (hsm : Cond.sameMethod x.cls yX7_kind.cls x.name x.desc ∈ lw_all) (hsp : Cond.superclass own x.cls ∈ lw_all) (hsp2 : Cond.superclass x.cls yX7_kind.cls ∈ lw_all) (hd : 0 + 1 ≤ d) (hsz : ls.size = nL) (hW : (rest.map fun v => v.category).sum ≤ 8) (hcs : cells ≤ R.cells ∧ slots ≤ R.slots) (hdg : decode cc pc = .ok (.invokespecial index, 3)) (kk : W p l e R s m args below meth c H locs cells slots Q (F0 m (pc + 3) ls (.int v :: rest))) (hxn : x.name = yX7_kind.name ∧ x.desc = yX7_kind.desc := by exact ⟨rfl, rfl⟩) : W p l e R s m args below meth c H locs cells slots Q (F0 m pc ls (.ref a :: rest)) :=
  cc_callRN (runSUO (x := x) (n := 0) (C := (dbC k).1) (cC := D.1 (7 + k)) (As := []) (rest := rest) (C.2.2.2.2.2.2.1.1 _ _ (db_cl hdb.2.1)).2 ⟨C.1, C.2.1, C.2.2.1, C.2.2.2.1, C.2.2.2.2.1⟩ (w_B0_kind hdb h) (lw_meth q585) rfl rfl rfl (mr_ C.2.2.2.2.2.1 hd (by decide)) hl hsm hsp hsp2 q564 q95 ⟨hxn.1, hxn.2, by decide, by decide +kernel⟩ ⟨cc_blind, db_recv C hP hdb, cc_pre C hP hz⟩ rfl rfl hsz rfl (lv_room hW) hdg hcs) kk
abbrev cX8_kind : ByteArray := prog_13_method_2_code
def yX8_kind : MethodName := ⟨RX8, "kind", "()I"⟩
theorem dX8_kind_0 : decode cX8_kind 0 = .ok (.iconst 1, 1) := by decide +kernel
theorem dX8_kind_1 : decode cX8_kind 1 = .ok (.ireturn, 1) := by decide +kernel
theorem w_B1_kind {l : Launch} {D : va_G} {cA : Nat → ClassId} {ks : List Nat} {ad : Nat → Nat} {A : Nat → Prop} {st : CS} {a k tr : Nat} {dn dm : Int32} (hdb : dbAt ks ad st.2.2.2 a k tr dn dm) {r : Int32} (h : B1_kind dn dm = some r) : cR l yX8_kind cX8_kind 1 (some .int) 0 D cA ks ad A st [.ref a] r := by
  refine cc_ofR (own := RX8) (by decide) rfl (Nat.le_of_ble_eq_true rfl) (fun p e s m below meth c R args ls C hr hlk hP hl hcs => ?_)
  have hx := C.1
  have hb := C.2.1
  have hown := C.2.2.2.1
  have hl : lv_has ls 1 [(0, .ref a)] := hl
  rw [B1_kind] at h
  refine lv_iconst (v := 1) hx hb dX8_kind_0 (by decide) ?_
  exact mm_iret hx hb hr hlk h dX8_kind_1
theorem q575 : (Jvm.Cond.code ({ cls := "ChapterLoan$Plagiarist", name := "kind", desc := "()I" } : Jvm.MethodName) prog_13_method_2_code (1 : Nat) (Option.some Jvm.ClassFile.FieldType.int)) ∈ lw_all := lw_g (lw_at lw_m3 11 rfl) rfl
theorem q574 : (Jvm.Cond.instanceMethod ({ cls := "ChapterLoan$Plagiarist", name := "kind", desc := "()I" } : Jvm.MethodName)) ∈ lw_all := lw_g (lw_at lw_m3 10 rfl) rfl
theorem q96 : (Jvm.Cond.initialized "ChapterLoan$Plagiarist") ∈ lw_all := lw_g (lw_at lw_m1 12 rfl) rfl
abbrev cX9_kind : ByteArray := prog_4_method_2_code
def yX9_kind : MethodName := ⟨RX9, "kind", "()I"⟩
theorem dX9_kind_0 : decode cX9_kind 0 = .ok (.iconst 2, 1) := by decide +kernel
theorem dX9_kind_1 : decode cX9_kind 1 = .ok (.ireturn, 1) := by decide +kernel
theorem w_B2_kind {l : Launch} {D : va_G} {cA : Nat → ClassId} {ks : List Nat} {ad : Nat → Nat} {A : Nat → Prop} {st : CS} {a k tr : Nat} {dn dm : Int32} (hdb : dbAt ks ad st.2.2.2 a k tr dn dm) {r : Int32} (h : B2_kind dn dm = some r) : cR l yX9_kind cX9_kind 1 (some .int) 0 D cA ks ad A st [.ref a] r := by
  refine cc_ofR (own := RX9) (by decide) rfl (Nat.le_of_ble_eq_true rfl) (fun p e s m below meth c R args ls C hr hlk hP hl hcs => ?_)
  have hx := C.1
  have hb := C.2.1
  have hown := C.2.2.2.1
  have hl : lv_has ls 1 [(0, .ref a)] := hl
  rw [B2_kind] at h
  refine lv_iconst (v := 2) hx hb dX9_kind_0 (by decide) ?_
  exact mm_iret hx hb hr hlk h dX9_kind_1
theorem q569 : (Jvm.Cond.code ({ cls := "ChapterLoan$Dreamer", name := "kind", desc := "()I" } : Jvm.MethodName) prog_4_method_2_code (1 : Nat) (Option.some Jvm.ClassFile.FieldType.int)) ∈ lw_all := lw_g (lw_at lw_m3 5 rfl) rfl
theorem q568 : (Jvm.Cond.instanceMethod ({ cls := "ChapterLoan$Dreamer", name := "kind", desc := "()I" } : Jvm.MethodName)) ∈ lw_all := lw_g (lw_at lw_m3 4 rfl) rfl
theorem q97 : (Jvm.Cond.initialized "ChapterLoan$Dreamer") ∈ lw_all := lw_g (lw_at lw_m1 13 rfl) rfl
abbrev cX10_kind : ByteArray := prog_9_method_2_code
def yX10_kind : MethodName := ⟨RX10, "kind", "()I"⟩
theorem dX10_kind_0 : decode cX10_kind 0 = .ok (.iconst 3, 1) := by decide +kernel
theorem dX10_kind_1 : decode cX10_kind 1 = .ok (.ireturn, 1) := by decide +kernel
theorem w_B3_kind {l : Launch} {D : va_G} {cA : Nat → ClassId} {ks : List Nat} {ad : Nat → Nat} {A : Nat → Prop} {st : CS} {a k tr : Nat} {dn dm : Int32} (hdb : dbAt ks ad st.2.2.2 a k tr dn dm) {r : Int32} (h : B3_kind dn dm = some r) : cR l yX10_kind cX10_kind 1 (some .int) 0 D cA ks ad A st [.ref a] r := by
  refine cc_ofR (own := RX10) (by decide) rfl (Nat.le_of_ble_eq_true rfl) (fun p e s m below meth c R args ls C hr hlk hP hl hcs => ?_)
  have hx := C.1
  have hb := C.2.1
  have hown := C.2.2.2.1
  have hl : lv_has ls 1 [(0, .ref a)] := hl
  rw [B3_kind] at h
  refine lv_iconst (v := 3) hx hb dX10_kind_0 (by decide) ?_
  exact mm_iret hx hb hr hlk h dX10_kind_1
theorem q572 : (Jvm.Cond.code ({ cls := "ChapterLoan$Ghost", name := "kind", desc := "()I" } : Jvm.MethodName) prog_9_method_2_code (1 : Nat) (Option.some Jvm.ClassFile.FieldType.int)) ∈ lw_all := lw_g (lw_at lw_m3 8 rfl) rfl
theorem q571 : (Jvm.Cond.instanceMethod ({ cls := "ChapterLoan$Ghost", name := "kind", desc := "()I" } : Jvm.MethodName)) ∈ lw_all := lw_g (lw_at lw_m3 7 rfl) rfl
theorem q98 : (Jvm.Cond.initialized "ChapterLoan$Ghost") ∈ lw_all := lw_g (lw_at lw_m1 14 rfl) rfl
abbrev cX11_kind : ByteArray := prog_26_method_2_code
def yX11_kind : MethodName := ⟨RX11, "kind", "()I"⟩
theorem dX11_kind_0 : decode cX11_kind 0 = .ok (.iconst 4, 1) := by decide +kernel
theorem dX11_kind_1 : decode cX11_kind 1 = .ok (.ireturn, 1) := by decide +kernel
theorem w_B4_kind {l : Launch} {D : va_G} {cA : Nat → ClassId} {ks : List Nat} {ad : Nat → Nat} {A : Nat → Prop} {st : CS} {a k tr : Nat} {dn dm : Int32} (hdb : dbAt ks ad st.2.2.2 a k tr dn dm) {r : Int32} (h : B4_kind dn dm = some r) : cR l yX11_kind cX11_kind 1 (some .int) 0 D cA ks ad A st [.ref a] r := by
  refine cc_ofR (own := RX11) (by decide) rfl (Nat.le_of_ble_eq_true rfl) (fun p e s m below meth c R args ls C hr hlk hP hl hcs => ?_)
  have hx := C.1
  have hb := C.2.1
  have hown := C.2.2.2.1
  have hl : lv_has ls 1 [(0, .ref a)] := hl
  rw [B4_kind] at h
  refine lv_iconst (v := 4) hx hb dX11_kind_0 (by decide) ?_
  exact mm_iret hx hb hr hlk h dX11_kind_1
theorem q584 : (Jvm.Cond.code ({ cls := "ChapterLoan$Twin", name := "kind", desc := "()I" } : Jvm.MethodName) prog_26_method_2_code (1 : Nat) (Option.some Jvm.ClassFile.FieldType.int)) ∈ lw_all := lw_g (lw_at lw_m3 20 rfl) rfl
theorem q583 : (Jvm.Cond.instanceMethod ({ cls := "ChapterLoan$Twin", name := "kind", desc := "()I" } : Jvm.MethodName)) ∈ lw_all := lw_g (lw_at lw_m3 19 rfl) rfl
theorem q99 : (Jvm.Cond.initialized "ChapterLoan$Twin") ∈ lw_all := lw_g (lw_at lw_m1 15 rfl) rfl
abbrev cX12_kind : ByteArray := prog_17_method_2_code
def yX12_kind : MethodName := ⟨RX12, "kind", "()I"⟩
theorem dX12_kind_0 : decode cX12_kind 0 = .ok (.iconst 5, 1) := by decide +kernel
theorem dX12_kind_1 : decode cX12_kind 1 = .ok (.ireturn, 1) := by decide +kernel
theorem w_B5_kind {l : Launch} {D : va_G} {cA : Nat → ClassId} {ks : List Nat} {ad : Nat → Nat} {A : Nat → Prop} {st : CS} {a k tr : Nat} {dn dm : Int32} (hdb : dbAt ks ad st.2.2.2 a k tr dn dm) {r : Int32} (h : B5_kind dn dm = some r) : cR l yX12_kind cX12_kind 1 (some .int) 0 D cA ks ad A st [.ref a] r := by
  refine cc_ofR (own := RX12) (by decide) rfl (Nat.le_of_ble_eq_true rfl) (fun p e s m below meth c R args ls C hr hlk hP hl hcs => ?_)
  have hx := C.1
  have hb := C.2.1
  have hown := C.2.2.2.1
  have hl : lv_has ls 1 [(0, .ref a)] := hl
  rw [B5_kind] at h
  refine lv_iconst (v := 5) hx hb dX12_kind_0 (by decide) ?_
  exact mm_iret hx hb hr hlk h dX12_kind_1
theorem q581 : (Jvm.Cond.code ({ cls := "ChapterLoan$Seer", name := "kind", desc := "()I" } : Jvm.MethodName) prog_17_method_2_code (1 : Nat) (Option.some Jvm.ClassFile.FieldType.int)) ∈ lw_all := lw_g (lw_at lw_m3 17 rfl) rfl
theorem q580 : (Jvm.Cond.instanceMethod ({ cls := "ChapterLoan$Seer", name := "kind", desc := "()I" } : Jvm.MethodName)) ∈ lw_all := lw_g (lw_at lw_m3 16 rfl) rfl
theorem q100 : (Jvm.Cond.initialized "ChapterLoan$Seer") ∈ lw_all := lw_g (lw_at lw_m1 16 rfl) rfl
abbrev cX13_kind : ByteArray := prog_16_method_2_code
def yX13_kind : MethodName := ⟨RX13, "kind", "()I"⟩
theorem dX13_kind_0 : decode cX13_kind 0 = .ok (.bipush 6, 2) := by decide +kernel
theorem dX13_kind_2 : decode cX13_kind 2 = .ok (.ireturn, 1) := by decide +kernel
theorem w_B6_kind {l : Launch} {D : va_G} {cA : Nat → ClassId} {ks : List Nat} {ad : Nat → Nat} {A : Nat → Prop} {st : CS} {a k tr : Nat} {dn dm : Int32} (hdb : dbAt ks ad st.2.2.2 a k tr dn dm) {r : Int32} (h : B6_kind dn dm = some r) : cR l yX13_kind cX13_kind 1 (some .int) 0 D cA ks ad A st [.ref a] r := by
  refine cc_ofR (own := RX13) (by decide) rfl (Nat.le_of_ble_eq_true rfl) (fun p e s m below meth c R args ls C hr hlk hP hl hcs => ?_)
  have hx := C.1
  have hb := C.2.1
  have hown := C.2.2.2.1
  have hl : lv_has ls 1 [(0, .ref a)] := hl
  rw [B6_kind] at h
  refine lv_bipush (v := 6) hx hb dX13_kind_0 (by decide) ?_
  exact mm_iret hx hb hr hlk h dX13_kind_2
theorem q578 : (Jvm.Cond.code ({ cls := "ChapterLoan$Saint", name := "kind", desc := "()I" } : Jvm.MethodName) prog_16_method_2_code (1 : Nat) (Option.some Jvm.ClassFile.FieldType.int)) ∈ lw_all := lw_g (lw_at lw_m3 14 rfl) rfl
theorem q577 : (Jvm.Cond.instanceMethod ({ cls := "ChapterLoan$Saint", name := "kind", desc := "()I" } : Jvm.MethodName)) ∈ lw_all := lw_g (lw_at lw_m3 13 rfl) rfl
theorem q101 : (Jvm.Cond.initialized "ChapterLoan$Saint") ∈ lw_all := lw_g (lw_at lw_m1 17 rfl) rfl
theorem q565 : (Jvm.Cond.selects "ChapterLoan$Debtor" ({ cls := "ChapterLoan$Debtor", name := "kind", desc := "()I" } : Jvm.MethodName) ({ cls := "ChapterLoan$Debtor", name := "kind", desc := "()I" } : Jvm.MethodName)) ∈ lw_all := lw_g (lw_at lw_m3 1 rfl) rfl
theorem q573 : (Jvm.Cond.selects "ChapterLoan$Plagiarist" ({ cls := "ChapterLoan$Debtor", name := "kind", desc := "()I" } : Jvm.MethodName) ({ cls := "ChapterLoan$Plagiarist", name := "kind", desc := "()I" } : Jvm.MethodName)) ∈ lw_all := lw_g (lw_at lw_m3 9 rfl) rfl
theorem q567 : (Jvm.Cond.selects "ChapterLoan$Dreamer" ({ cls := "ChapterLoan$Debtor", name := "kind", desc := "()I" } : Jvm.MethodName) ({ cls := "ChapterLoan$Dreamer", name := "kind", desc := "()I" } : Jvm.MethodName)) ∈ lw_all := lw_g (lw_at lw_m3 3 rfl) rfl
theorem q570 : (Jvm.Cond.selects "ChapterLoan$Ghost" ({ cls := "ChapterLoan$Debtor", name := "kind", desc := "()I" } : Jvm.MethodName) ({ cls := "ChapterLoan$Ghost", name := "kind", desc := "()I" } : Jvm.MethodName)) ∈ lw_all := lw_g (lw_at lw_m3 6 rfl) rfl
theorem q582 : (Jvm.Cond.selects "ChapterLoan$Twin" ({ cls := "ChapterLoan$Debtor", name := "kind", desc := "()I" } : Jvm.MethodName) ({ cls := "ChapterLoan$Twin", name := "kind", desc := "()I" } : Jvm.MethodName)) ∈ lw_all := lw_g (lw_at lw_m3 18 rfl) rfl
theorem q579 : (Jvm.Cond.selects "ChapterLoan$Seer" ({ cls := "ChapterLoan$Debtor", name := "kind", desc := "()I" } : Jvm.MethodName) ({ cls := "ChapterLoan$Seer", name := "kind", desc := "()I" } : Jvm.MethodName)) ∈ lw_all := lw_g (lw_at lw_m3 15 rfl) rfl
theorem q576 : (Jvm.Cond.selects "ChapterLoan$Saint" ({ cls := "ChapterLoan$Debtor", name := "kind", desc := "()I" } : Jvm.MethodName) ({ cls := "ChapterLoan$Saint", name := "kind", desc := "()I" } : Jvm.MethodName)) ∈ lw_all := lw_g (lw_at lw_m3 12 rfl) rfl
theorem k_D_kind {v : Int32} (C : cC p R d s m args c cc nL own D cA A) (hP : cW D cA ks ad st H) (hz : s.heap.size ≤ H.size) (hdb : dbAt ks ad st.2.2.2 a k tr dn dm) (h : D_kind k dn dm  = some v) (hl : Cond.methodLink own index yX7_kind ∈ lw_all) (hd : 0 + 1 ≤ d) (hsz : ls.size = nL) (hW : (rest.map fun v => v.category).sum ≤ 8) (hcs : cells ≤ R.cells ∧ slots ≤ R.slots) (hdg : decode cc pc = .ok (.invokevirtual index, 3)) (kk : W p l e R s m args below meth c H locs cells slots Q (F0 m (pc + 3) ls (.int v :: rest))) : W p l e R s m args below meth c H locs cells slots Q (F0 m pc ls (.ref a :: rest)) := by
  match k, hdb.2.1 with
  | 0, _ => exact db_virtR (k := 0) (x := yX7_kind) (As := []) C hP hz hdb (w_B0_kind hdb h) (va_cwU (owner := RX7) 0 C.2.2.2.2.1 (lw_U hl q566 q565 q564 q95 q585) rfl rfl rfl rfl (by decide +kernel) (mr_ (d := d) (k := 0) C.2.2.2.2.2.1 (by omega) (by decide))) rfl hsz rfl hW hdg hcs kk
  | 1, _ => exact db_virtR (k := 1) (x := yX7_kind) (As := []) C hP hz hdb (w_B1_kind hdb h) (va_cwO (owner := RX7) 0 C.2.2.2.2.1 (lw_O hl q566 q564 q573 q574 q96 q575) rfl rfl rfl q585 (by decide +kernel) (mr_ (d := d) (k := 0) C.2.2.2.2.2.1 (by omega) (by decide))) rfl hsz rfl hW hdg hcs kk
  | 2, _ => exact db_virtR (k := 2) (x := yX7_kind) (As := []) C hP hz hdb (w_B2_kind hdb h) (va_cwO (owner := RX7) 0 C.2.2.2.2.1 (lw_O hl q566 q564 q567 q568 q97 q569) rfl rfl rfl q585 (by decide +kernel) (mr_ (d := d) (k := 0) C.2.2.2.2.2.1 (by omega) (by decide))) rfl hsz rfl hW hdg hcs kk
  | 3, _ => exact db_virtR (k := 3) (x := yX7_kind) (As := []) C hP hz hdb (w_B3_kind hdb h) (va_cwO (owner := RX7) 0 C.2.2.2.2.1 (lw_O hl q566 q564 q570 q571 q98 q572) rfl rfl rfl q585 (by decide +kernel) (mr_ (d := d) (k := 0) C.2.2.2.2.2.1 (by omega) (by decide))) rfl hsz rfl hW hdg hcs kk
  | 4, _ => exact db_virtR (k := 4) (x := yX7_kind) (As := []) C hP hz hdb (w_B4_kind hdb h) (va_cwO (owner := RX7) 0 C.2.2.2.2.1 (lw_O hl q566 q564 q582 q583 q99 q584) rfl rfl rfl q585 (by decide +kernel) (mr_ (d := d) (k := 0) C.2.2.2.2.2.1 (by omega) (by decide))) rfl hsz rfl hW hdg hcs kk
  | 5, _ => exact db_virtR (k := 5) (x := yX7_kind) (As := []) C hP hz hdb (w_B5_kind hdb h) (va_cwO (owner := RX7) 0 C.2.2.2.2.1 (lw_O hl q566 q564 q579 q580 q100 q581) rfl rfl rfl q585 (by decide +kernel) (mr_ (d := d) (k := 0) C.2.2.2.2.2.1 (by omega) (by decide))) rfl hsz rfl hW hdg hcs kk
  | 6, _ => exact db_virtR (k := 6) (x := yX7_kind) (As := []) C hP hz hdb (w_B6_kind hdb h) (va_cwO (owner := RX7) 0 C.2.2.2.2.1 (lw_O hl q566 q564 q576 q577 q101 q578) rfl rfl rfl q585 (by decide +kernel) (mr_ (d := d) (k := 0) C.2.2.2.2.2.1 (by omega) (by decide))) rfl hsz rfl hW hdg hcs kk
abbrev cX7_isOf : ByteArray := prog_3_method_3_code
def yX7_isOf : MethodName := ⟨RX7, "isOf", "(I)Z"⟩
theorem dX7_isOf_0 : decode cX7_isOf 0 = .ok (.iload_n 1, 1) := by decide +kernel
theorem dX7_isOf_1 : decode cX7_isOf 1 = .ok (.ifCond .ne 7, 3) := by decide +kernel
theorem dX7_isOf_4 : decode cX7_isOf 4 = .ok (.iconst 1, 1) := by decide +kernel
theorem dX7_isOf_5 : decode cX7_isOf 5 = .ok (.goto 4, 3) := by decide +kernel
theorem dX7_isOf_8 : decode cX7_isOf 8 = .ok (.iconst 0, 1) := by decide +kernel
theorem dX7_isOf_9 : decode cX7_isOf 9 = .ok (.ireturn, 1) := by decide +kernel
theorem w_B0_isOf {l : Launch} {D : va_G} {cA : Nat → ClassId} {ks : List Nat} {ad : Nat → Nat} {A : Nat → Prop} {st : CS} {a k tr : Nat} {dn dm : Int32} (hdb : dbAt ks ad st.2.2.2 a k tr dn dm) {x1 : Int32} {r : Int32} (h : B0_isOf dn dm x1 = some r) : cR l yX7_isOf cX7_isOf 2 (some .boolean) 0 D cA ks ad A st [.ref a, .int x1] r := by
  refine cc_ofR (own := RX7) (by decide) rfl (Nat.le_of_ble_eq_true rfl) (fun p e s m below meth c R args ls C hr hlk hP hl hcs => ?_)
  have hx := C.1
  have hb := C.2.1
  have hown := C.2.2.2.1
  have hl : lv_has ls 2 [(0, .ref a), (1, .int x1)] := hl
  rw [B0_isOf] at h
  refine lv_iload_n hx hb dX7_isOf_0 rfl (lv_at hl 1 rfl) ?_
  refine lv_if_ne (tgt := 8) hx hb dX7_isOf_1 rfl (fun c1 => ?_) (fun c1 => ?_)
  · have h := if_some_f h c1
    refine lv_iconst (v := 0) hx hb dX7_isOf_8 (by decide) ?_
    exact mm_zret hx hb hr hlk rfl h dX7_isOf_9
  · have h := if_some_t h c1
    refine lv_iconst (v := 1) hx hb dX7_isOf_4 (by decide) ?_
    refine lv_goto (tgt := 9) hx hb dX7_isOf_5 rfl ?_
    exact mm_zret hx hb hr hlk rfl h dX7_isOf_9
theorem q745 : (Jvm.Cond.code ({ cls := "ChapterLoan$Debtor", name := "isOf", desc := "(I)Z" } : Jvm.MethodName) prog_3_method_3_code (2 : Nat) (Option.some Jvm.ClassFile.FieldType.boolean)) ∈ lw_all := lw_g (lw_at lw_m3 181 rfl) rfl
theorem q718 : (Jvm.Cond.instanceMethod ({ cls := "ChapterLoan$Debtor", name := "isOf", desc := "(I)Z" } : Jvm.MethodName)) ∈ lw_all := lw_g (lw_at lw_m3 154 rfl) rfl
theorem q720 : (Jvm.Cond.sameMethod "ChapterLoan$Debtor" "ChapterLoan$Debtor" "isOf" "(I)Z") ∈ lw_all := lw_g (lw_at lw_m3 156 rfl) rfl
theorem su_B0_isOf {a0 : Int32} {v : Int32} (C : cC p R d s m args c cc nL own D cA A) (hP : cW D cA ks ad st H) (hz : s.heap.size ≤ H.size) (hdb : dbAt ks ad st.2.2.2 a k tr dn dm) (h : B0_isOf dn dm a0 = some v) (hl : Cond.methodLink own index yX7_isOf ∈ lw_all) (hsp : Cond.superclass own yX7_isOf.cls ∈ lw_all) (hd : 0 + 1 ≤ d) (hsz : ls.size = nL) (hW : (rest.map fun v => v.category).sum ≤ 8) (hcs : cells ≤ R.cells ∧ slots ≤ R.slots) (hdg : decode cc pc = .ok (.invokespecial index, 3)) (kk : W p l e R s m args below meth c H locs cells slots Q (F0 m (pc + 3) ls (.int v :: rest))) : W p l e R s m args below meth c H locs cells slots Q (F0 m pc ls (.int a0 :: .ref a :: rest)) :=
  db_superR (As := [.int a0]) C hP hz hdb (w_B0_isOf hdb h) (va_cwSU 1 C.2.2.2.2.1 (lw_SU hl q720 hsp q718 q95 q745) rfl rfl rfl (by decide +kernel) (mr_ C.2.2.2.2.2.1 hd (by decide))) rfl hsz rfl hW hdg hcs kk
theorem suo_B0_isOf {a0 : Int32} {v : Int32} {x : MethodName} (C : cC p R d s m args c cc nL own D cA A) (hP : cW D cA ks ad st H) (hz : s.heap.size ≤ H.size) (hdb : dbAt ks ad st.2.2.2 a k tr dn dm) (h : B0_isOf dn dm a0 = some v) (hl : Cond.methodLink own index x ∈ lw_all) (hsm : Cond.sameMethod x.cls yX7_isOf.cls x.name x.desc ∈ lw_all) (hsp : Cond.superclass own x.cls ∈ lw_all) (hsp2 : Cond.superclass x.cls yX7_isOf.cls ∈ lw_all) (hd : 0 + 1 ≤ d) (hsz : ls.size = nL) (hW : (rest.map fun v => v.category).sum ≤ 8) (hcs : cells ≤ R.cells ∧ slots ≤ R.slots) (hdg : decode cc pc = .ok (.invokespecial index, 3)) (kk : W p l e R s m args below meth c H locs cells slots Q (F0 m (pc + 3) ls (.int v :: rest))) (hxn : x.name = yX7_isOf.name ∧ x.desc = yX7_isOf.desc := by exact ⟨rfl, rfl⟩) : W p l e R s m args below meth c H locs cells slots Q (F0 m pc ls (.int a0 :: .ref a :: rest)) :=
  cc_callRN (runSUO (x := x) (n := 1) (C := (dbC k).1) (cC := D.1 (7 + k)) (As := [.int a0]) (rest := rest) (C.2.2.2.2.2.2.1.1 _ _ (db_cl hdb.2.1)).2 ⟨C.1, C.2.1, C.2.2.1, C.2.2.2.1, C.2.2.2.2.1⟩ (w_B0_isOf hdb h) (lw_meth q745) rfl rfl rfl (mr_ C.2.2.2.2.2.1 hd (by decide)) hl hsm hsp hsp2 q718 q95 ⟨hxn.1, hxn.2, by decide, by decide +kernel⟩ ⟨cc_blind, db_recv C hP hdb, cc_pre C hP hz⟩ rfl rfl hsz rfl (lv_room hW) hdg hcs) kk
abbrev cX8_isOf : ByteArray := prog_13_method_3_code
def yX8_isOf : MethodName := ⟨RX8, "isOf", "(I)Z"⟩
theorem dX8_isOf_0 : decode cX8_isOf 0 = .ok (.iload_n 1, 1) := by decide +kernel
theorem dX8_isOf_1 : decode cX8_isOf 1 = .ok (.iconst 1, 1) := by decide +kernel
theorem dX8_isOf_2 : decode cX8_isOf 2 = .ok (.if_icmp .eq 11, 3) := by decide +kernel
theorem dX8_isOf_5 : decode cX8_isOf 5 = .ok (.aload_n 0, 1) := by decide +kernel
theorem dX8_isOf_6 : decode cX8_isOf 6 = .ok (.iload_n 1, 1) := by decide +kernel
theorem dX8_isOf_7 : decode cX8_isOf 7 = .ok (.invokespecial 9, 3) := by decide +kernel
theorem dX8_isOf_10 : decode cX8_isOf 10 = .ok (.ifCond .eq 7, 3) := by decide +kernel
theorem dX8_isOf_13 : decode cX8_isOf 13 = .ok (.iconst 1, 1) := by decide +kernel
theorem dX8_isOf_14 : decode cX8_isOf 14 = .ok (.goto 4, 3) := by decide +kernel
theorem dX8_isOf_17 : decode cX8_isOf 17 = .ok (.iconst 0, 1) := by decide +kernel
theorem dX8_isOf_18 : decode cX8_isOf 18 = .ok (.ireturn, 1) := by decide +kernel
theorem q493 : (Jvm.Cond.superclass "ChapterLoan$Plagiarist" "ChapterLoan$Debtor") ∈ lw_all := lw_g (lw_at lw_m2 169 rfl) rfl
theorem q732 : (Jvm.Cond.methodLink "ChapterLoan$Plagiarist" (9 : Nat) ({ cls := "ChapterLoan$Debtor", name := "isOf", desc := "(I)Z" } : Jvm.MethodName)) ∈ lw_all := lw_g (lw_at lw_m3 168 rfl) rfl
theorem w_B1_isOf {l : Launch} {D : va_G} {cA : Nat → ClassId} {ks : List Nat} {ad : Nat → Nat} {A : Nat → Prop} {st : CS} {a k tr : Nat} {dn dm : Int32} (hdb : dbAt ks ad st.2.2.2 a k tr dn dm) {x1 : Int32} {r : Int32} (h : B1_isOf dn dm x1 = some r) : cR l yX8_isOf cX8_isOf 2 (some .boolean) 1 D cA ks ad A st [.ref a, .int x1] r := by
  refine cc_ofR (own := RX8) (by decide) rfl (Nat.le_of_ble_eq_true rfl) (fun p e s m below meth c R args ls C hr hlk hP hl hcs => ?_)
  have hx := C.1
  have hb := C.2.1
  have hown := C.2.2.2.1
  have hl : lv_has ls 2 [(0, .ref a), (1, .int x1)] := hl
  rw [B1_isOf] at h
  refine lv_iload_n hx hb dX8_isOf_0 rfl (lv_at hl 1 rfl) ?_
  refine lv_iconst (v := 1) hx hb dX8_isOf_1 (by decide) ?_
  refine lv_icmp_eq (tgt := 13) hx hb dX8_isOf_2 rfl (fun c1 => ?_) (fun c1 => ?_)
  · have h := if_some_t h c1
    refine lv_iconst (v := 1) hx hb dX8_isOf_13 (by decide) ?_
    refine lv_goto (tgt := 18) hx hb dX8_isOf_14 rfl ?_
    exact mm_zret hx hb hr hlk rfl h dX8_isOf_18
  · have h := if_some_f h c1
    refine lv_aload_n hx hb dX8_isOf_5 rfl (lv_at hl 0 rfl) ?_
    refine lv_iload_n hx hb dX8_isOf_6 rfl (lv_at hl 1 rfl) ?_
    obtain ⟨v2, hv2, h⟩ := bd1_some h
    refine su_B0_isOf C hP (Nat.le_refl _) hdb hv2 q732 q493 (Nat.le_of_ble_eq_true rfl) hl.1 (Nat.le_of_ble_eq_true rfl) hcs dX8_isOf_7 ?_
    refine lv_if_eq (tgt := 17) hx hb dX8_isOf_10 rfl (fun c3 => ?_) (fun c3 => ?_)
    · have h := if_some_t h c3
      refine lv_iconst (v := 0) hx hb dX8_isOf_17 (by decide) ?_
      exact mm_zret hx hb hr hlk rfl h dX8_isOf_18
    · have h := if_some_f h c3
      refine lv_iconst (v := 1) hx hb dX8_isOf_13 (by decide) ?_
      refine lv_goto (tgt := 18) hx hb dX8_isOf_14 rfl ?_
      exact mm_zret hx hb hr hlk rfl h dX8_isOf_18
theorem q731 : (Jvm.Cond.code ({ cls := "ChapterLoan$Plagiarist", name := "isOf", desc := "(I)Z" } : Jvm.MethodName) prog_13_method_3_code (2 : Nat) (Option.some Jvm.ClassFile.FieldType.boolean)) ∈ lw_all := lw_g (lw_at lw_m3 167 rfl) rfl
theorem q730 : (Jvm.Cond.instanceMethod ({ cls := "ChapterLoan$Plagiarist", name := "isOf", desc := "(I)Z" } : Jvm.MethodName)) ∈ lw_all := lw_g (lw_at lw_m3 166 rfl) rfl
theorem q2022 : (Jvm.Cond.sameMethod "ChapterLoan$Plagiarist" "ChapterLoan$Plagiarist" "isOf" "(I)Z") ∈ lw_all := lw_g (lw_at lw_m9 18 rfl) rfl
theorem su_B1_isOf {a0 : Int32} {v : Int32} (C : cC p R d s m args c cc nL own D cA A) (hP : cW D cA ks ad st H) (hz : s.heap.size ≤ H.size) (hdb : dbAt ks ad st.2.2.2 a k tr dn dm) (h : B1_isOf dn dm a0 = some v) (hl : Cond.methodLink own index yX8_isOf ∈ lw_all) (hsp : Cond.superclass own yX8_isOf.cls ∈ lw_all) (hd : 1 + 1 ≤ d) (hsz : ls.size = nL) (hW : (rest.map fun v => v.category).sum ≤ 8) (hcs : cells ≤ R.cells ∧ slots ≤ R.slots) (hdg : decode cc pc = .ok (.invokespecial index, 3)) (kk : W p l e R s m args below meth c H locs cells slots Q (F0 m (pc + 3) ls (.int v :: rest))) : W p l e R s m args below meth c H locs cells slots Q (F0 m pc ls (.int a0 :: .ref a :: rest)) :=
  db_superR (As := [.int a0]) C hP hz hdb (w_B1_isOf hdb h) (va_cwSU 1 C.2.2.2.2.1 (lw_SU hl q2022 hsp q730 q96 q731) rfl rfl rfl (by decide +kernel) (mr_ C.2.2.2.2.2.1 hd (by decide))) rfl hsz rfl hW hdg hcs kk
abbrev cX9_isOf : ByteArray := prog_4_method_3_code
def yX9_isOf : MethodName := ⟨RX9, "isOf", "(I)Z"⟩
theorem dX9_isOf_0 : decode cX9_isOf 0 = .ok (.iload_n 1, 1) := by decide +kernel
theorem dX9_isOf_1 : decode cX9_isOf 1 = .ok (.iconst 2, 1) := by decide +kernel
theorem dX9_isOf_2 : decode cX9_isOf 2 = .ok (.if_icmp .eq 11, 3) := by decide +kernel
theorem dX9_isOf_5 : decode cX9_isOf 5 = .ok (.aload_n 0, 1) := by decide +kernel
theorem dX9_isOf_6 : decode cX9_isOf 6 = .ok (.iload_n 1, 1) := by decide +kernel
theorem dX9_isOf_7 : decode cX9_isOf 7 = .ok (.invokespecial 9, 3) := by decide +kernel
theorem dX9_isOf_10 : decode cX9_isOf 10 = .ok (.ifCond .eq 7, 3) := by decide +kernel
theorem dX9_isOf_13 : decode cX9_isOf 13 = .ok (.iconst 1, 1) := by decide +kernel
theorem dX9_isOf_14 : decode cX9_isOf 14 = .ok (.goto 4, 3) := by decide +kernel
theorem dX9_isOf_17 : decode cX9_isOf 17 = .ok (.iconst 0, 1) := by decide +kernel
theorem dX9_isOf_18 : decode cX9_isOf 18 = .ok (.ireturn, 1) := by decide +kernel
theorem q503 : (Jvm.Cond.superclass "ChapterLoan$Dreamer" "ChapterLoan$Debtor") ∈ lw_all := lw_g (lw_at lw_m2 179 rfl) rfl
theorem q724 : (Jvm.Cond.methodLink "ChapterLoan$Dreamer" (9 : Nat) ({ cls := "ChapterLoan$Debtor", name := "isOf", desc := "(I)Z" } : Jvm.MethodName)) ∈ lw_all := lw_g (lw_at lw_m3 160 rfl) rfl
theorem w_B2_isOf {l : Launch} {D : va_G} {cA : Nat → ClassId} {ks : List Nat} {ad : Nat → Nat} {A : Nat → Prop} {st : CS} {a k tr : Nat} {dn dm : Int32} (hdb : dbAt ks ad st.2.2.2 a k tr dn dm) {x1 : Int32} {r : Int32} (h : B2_isOf dn dm x1 = some r) : cR l yX9_isOf cX9_isOf 2 (some .boolean) 1 D cA ks ad A st [.ref a, .int x1] r := by
  refine cc_ofR (own := RX9) (by decide) rfl (Nat.le_of_ble_eq_true rfl) (fun p e s m below meth c R args ls C hr hlk hP hl hcs => ?_)
  have hx := C.1
  have hb := C.2.1
  have hown := C.2.2.2.1
  have hl : lv_has ls 2 [(0, .ref a), (1, .int x1)] := hl
  rw [B2_isOf] at h
  refine lv_iload_n hx hb dX9_isOf_0 rfl (lv_at hl 1 rfl) ?_
  refine lv_iconst (v := 2) hx hb dX9_isOf_1 (by decide) ?_
  refine lv_icmp_eq (tgt := 13) hx hb dX9_isOf_2 rfl (fun c1 => ?_) (fun c1 => ?_)
  · have h := if_some_t h c1
    refine lv_iconst (v := 1) hx hb dX9_isOf_13 (by decide) ?_
    refine lv_goto (tgt := 18) hx hb dX9_isOf_14 rfl ?_
    exact mm_zret hx hb hr hlk rfl h dX9_isOf_18
  · have h := if_some_f h c1
    refine lv_aload_n hx hb dX9_isOf_5 rfl (lv_at hl 0 rfl) ?_
    refine lv_iload_n hx hb dX9_isOf_6 rfl (lv_at hl 1 rfl) ?_
    obtain ⟨v2, hv2, h⟩ := bd1_some h
    refine su_B0_isOf C hP (Nat.le_refl _) hdb hv2 q724 q503 (Nat.le_of_ble_eq_true rfl) hl.1 (Nat.le_of_ble_eq_true rfl) hcs dX9_isOf_7 ?_
    refine lv_if_eq (tgt := 17) hx hb dX9_isOf_10 rfl (fun c3 => ?_) (fun c3 => ?_)
    · have h := if_some_t h c3
      refine lv_iconst (v := 0) hx hb dX9_isOf_17 (by decide) ?_
      exact mm_zret hx hb hr hlk rfl h dX9_isOf_18
    · have h := if_some_f h c3
      refine lv_iconst (v := 1) hx hb dX9_isOf_13 (by decide) ?_
      refine lv_goto (tgt := 18) hx hb dX9_isOf_14 rfl ?_
      exact mm_zret hx hb hr hlk rfl h dX9_isOf_18
theorem q723 : (Jvm.Cond.code ({ cls := "ChapterLoan$Dreamer", name := "isOf", desc := "(I)Z" } : Jvm.MethodName) prog_4_method_3_code (2 : Nat) (Option.some Jvm.ClassFile.FieldType.boolean)) ∈ lw_all := lw_g (lw_at lw_m3 159 rfl) rfl
theorem q722 : (Jvm.Cond.instanceMethod ({ cls := "ChapterLoan$Dreamer", name := "isOf", desc := "(I)Z" } : Jvm.MethodName)) ∈ lw_all := lw_g (lw_at lw_m3 158 rfl) rfl
theorem q2021 : (Jvm.Cond.sameMethod "ChapterLoan$Dreamer" "ChapterLoan$Dreamer" "isOf" "(I)Z") ∈ lw_all := lw_g (lw_at lw_m9 17 rfl) rfl
theorem su_B2_isOf {a0 : Int32} {v : Int32} (C : cC p R d s m args c cc nL own D cA A) (hP : cW D cA ks ad st H) (hz : s.heap.size ≤ H.size) (hdb : dbAt ks ad st.2.2.2 a k tr dn dm) (h : B2_isOf dn dm a0 = some v) (hl : Cond.methodLink own index yX9_isOf ∈ lw_all) (hsp : Cond.superclass own yX9_isOf.cls ∈ lw_all) (hd : 1 + 1 ≤ d) (hsz : ls.size = nL) (hW : (rest.map fun v => v.category).sum ≤ 8) (hcs : cells ≤ R.cells ∧ slots ≤ R.slots) (hdg : decode cc pc = .ok (.invokespecial index, 3)) (kk : W p l e R s m args below meth c H locs cells slots Q (F0 m (pc + 3) ls (.int v :: rest))) : W p l e R s m args below meth c H locs cells slots Q (F0 m pc ls (.int a0 :: .ref a :: rest)) :=
  db_superR (As := [.int a0]) C hP hz hdb (w_B2_isOf hdb h) (va_cwSU 1 C.2.2.2.2.1 (lw_SU hl q2021 hsp q722 q97 q723) rfl rfl rfl (by decide +kernel) (mr_ C.2.2.2.2.2.1 hd (by decide))) rfl hsz rfl hW hdg hcs kk
abbrev cX10_isOf : ByteArray := prog_9_method_3_code
def yX10_isOf : MethodName := ⟨RX10, "isOf", "(I)Z"⟩
theorem dX10_isOf_0 : decode cX10_isOf 0 = .ok (.iload_n 1, 1) := by decide +kernel
theorem dX10_isOf_1 : decode cX10_isOf 1 = .ok (.iconst 3, 1) := by decide +kernel
theorem dX10_isOf_2 : decode cX10_isOf 2 = .ok (.if_icmp .eq 11, 3) := by decide +kernel
theorem dX10_isOf_5 : decode cX10_isOf 5 = .ok (.aload_n 0, 1) := by decide +kernel
theorem dX10_isOf_6 : decode cX10_isOf 6 = .ok (.iload_n 1, 1) := by decide +kernel
theorem dX10_isOf_7 : decode cX10_isOf 7 = .ok (.invokespecial 9, 3) := by decide +kernel
theorem dX10_isOf_10 : decode cX10_isOf 10 = .ok (.ifCond .eq 7, 3) := by decide +kernel
theorem dX10_isOf_13 : decode cX10_isOf 13 = .ok (.iconst 1, 1) := by decide +kernel
theorem dX10_isOf_14 : decode cX10_isOf 14 = .ok (.goto 4, 3) := by decide +kernel
theorem dX10_isOf_17 : decode cX10_isOf 17 = .ok (.iconst 0, 1) := by decide +kernel
theorem dX10_isOf_18 : decode cX10_isOf 18 = .ok (.ireturn, 1) := by decide +kernel
theorem q513 : (Jvm.Cond.superclass "ChapterLoan$Ghost" "ChapterLoan$Debtor") ∈ lw_all := lw_g (lw_at lw_m2 189 rfl) rfl
theorem q728 : (Jvm.Cond.methodLink "ChapterLoan$Ghost" (9 : Nat) ({ cls := "ChapterLoan$Debtor", name := "isOf", desc := "(I)Z" } : Jvm.MethodName)) ∈ lw_all := lw_g (lw_at lw_m3 164 rfl) rfl
theorem w_B3_isOf {l : Launch} {D : va_G} {cA : Nat → ClassId} {ks : List Nat} {ad : Nat → Nat} {A : Nat → Prop} {st : CS} {a k tr : Nat} {dn dm : Int32} (hdb : dbAt ks ad st.2.2.2 a k tr dn dm) {x1 : Int32} {r : Int32} (h : B3_isOf dn dm x1 = some r) : cR l yX10_isOf cX10_isOf 2 (some .boolean) 1 D cA ks ad A st [.ref a, .int x1] r := by
  refine cc_ofR (own := RX10) (by decide) rfl (Nat.le_of_ble_eq_true rfl) (fun p e s m below meth c R args ls C hr hlk hP hl hcs => ?_)
  have hx := C.1
  have hb := C.2.1
  have hown := C.2.2.2.1
  have hl : lv_has ls 2 [(0, .ref a), (1, .int x1)] := hl
  rw [B3_isOf] at h
  refine lv_iload_n hx hb dX10_isOf_0 rfl (lv_at hl 1 rfl) ?_
  refine lv_iconst (v := 3) hx hb dX10_isOf_1 (by decide) ?_
  refine lv_icmp_eq (tgt := 13) hx hb dX10_isOf_2 rfl (fun c1 => ?_) (fun c1 => ?_)
  · have h := if_some_t h c1
    refine lv_iconst (v := 1) hx hb dX10_isOf_13 (by decide) ?_
    refine lv_goto (tgt := 18) hx hb dX10_isOf_14 rfl ?_
    exact mm_zret hx hb hr hlk rfl h dX10_isOf_18
  · have h := if_some_f h c1
    refine lv_aload_n hx hb dX10_isOf_5 rfl (lv_at hl 0 rfl) ?_
    refine lv_iload_n hx hb dX10_isOf_6 rfl (lv_at hl 1 rfl) ?_
    obtain ⟨v2, hv2, h⟩ := bd1_some h
    refine su_B0_isOf C hP (Nat.le_refl _) hdb hv2 q728 q513 (Nat.le_of_ble_eq_true rfl) hl.1 (Nat.le_of_ble_eq_true rfl) hcs dX10_isOf_7 ?_
    refine lv_if_eq (tgt := 17) hx hb dX10_isOf_10 rfl (fun c3 => ?_) (fun c3 => ?_)
    · have h := if_some_t h c3
      refine lv_iconst (v := 0) hx hb dX10_isOf_17 (by decide) ?_
      exact mm_zret hx hb hr hlk rfl h dX10_isOf_18
    · have h := if_some_f h c3
      refine lv_iconst (v := 1) hx hb dX10_isOf_13 (by decide) ?_
      refine lv_goto (tgt := 18) hx hb dX10_isOf_14 rfl ?_
      exact mm_zret hx hb hr hlk rfl h dX10_isOf_18
theorem q727 : (Jvm.Cond.code ({ cls := "ChapterLoan$Ghost", name := "isOf", desc := "(I)Z" } : Jvm.MethodName) prog_9_method_3_code (2 : Nat) (Option.some Jvm.ClassFile.FieldType.boolean)) ∈ lw_all := lw_g (lw_at lw_m3 163 rfl) rfl
theorem q726 : (Jvm.Cond.instanceMethod ({ cls := "ChapterLoan$Ghost", name := "isOf", desc := "(I)Z" } : Jvm.MethodName)) ∈ lw_all := lw_g (lw_at lw_m3 162 rfl) rfl
theorem q2020 : (Jvm.Cond.sameMethod "ChapterLoan$Ghost" "ChapterLoan$Ghost" "isOf" "(I)Z") ∈ lw_all := lw_g (lw_at lw_m9 16 rfl) rfl
theorem su_B3_isOf {a0 : Int32} {v : Int32} (C : cC p R d s m args c cc nL own D cA A) (hP : cW D cA ks ad st H) (hz : s.heap.size ≤ H.size) (hdb : dbAt ks ad st.2.2.2 a k tr dn dm) (h : B3_isOf dn dm a0 = some v) (hl : Cond.methodLink own index yX10_isOf ∈ lw_all) (hsp : Cond.superclass own yX10_isOf.cls ∈ lw_all) (hd : 1 + 1 ≤ d) (hsz : ls.size = nL) (hW : (rest.map fun v => v.category).sum ≤ 8) (hcs : cells ≤ R.cells ∧ slots ≤ R.slots) (hdg : decode cc pc = .ok (.invokespecial index, 3)) (kk : W p l e R s m args below meth c H locs cells slots Q (F0 m (pc + 3) ls (.int v :: rest))) : W p l e R s m args below meth c H locs cells slots Q (F0 m pc ls (.int a0 :: .ref a :: rest)) :=
  db_superR (As := [.int a0]) C hP hz hdb (w_B3_isOf hdb h) (va_cwSU 1 C.2.2.2.2.1 (lw_SU hl q2020 hsp q726 q98 q727) rfl rfl rfl (by decide +kernel) (mr_ C.2.2.2.2.2.1 hd (by decide))) rfl hsz rfl hW hdg hcs kk
abbrev cX11_isOf : ByteArray := prog_26_method_3_code
def yX11_isOf : MethodName := ⟨RX11, "isOf", "(I)Z"⟩
theorem dX11_isOf_0 : decode cX11_isOf 0 = .ok (.iload_n 1, 1) := by decide +kernel
theorem dX11_isOf_1 : decode cX11_isOf 1 = .ok (.iconst 4, 1) := by decide +kernel
theorem dX11_isOf_2 : decode cX11_isOf 2 = .ok (.if_icmp .eq 11, 3) := by decide +kernel
theorem dX11_isOf_5 : decode cX11_isOf 5 = .ok (.aload_n 0, 1) := by decide +kernel
theorem dX11_isOf_6 : decode cX11_isOf 6 = .ok (.iload_n 1, 1) := by decide +kernel
theorem dX11_isOf_7 : decode cX11_isOf 7 = .ok (.invokespecial 9, 3) := by decide +kernel
theorem dX11_isOf_10 : decode cX11_isOf 10 = .ok (.ifCond .eq 7, 3) := by decide +kernel
theorem dX11_isOf_13 : decode cX11_isOf 13 = .ok (.iconst 1, 1) := by decide +kernel
theorem dX11_isOf_14 : decode cX11_isOf 14 = .ok (.goto 4, 3) := by decide +kernel
theorem dX11_isOf_17 : decode cX11_isOf 17 = .ok (.iconst 0, 1) := by decide +kernel
theorem dX11_isOf_18 : decode cX11_isOf 18 = .ok (.ireturn, 1) := by decide +kernel
theorem q523 : (Jvm.Cond.superclass "ChapterLoan$Twin" "ChapterLoan$Plagiarist") ∈ lw_all := lw_g (lw_at lw_m2 199 rfl) rfl
theorem q744 : (Jvm.Cond.methodLink "ChapterLoan$Twin" (9 : Nat) ({ cls := "ChapterLoan$Plagiarist", name := "isOf", desc := "(I)Z" } : Jvm.MethodName)) ∈ lw_all := lw_g (lw_at lw_m3 180 rfl) rfl
theorem w_B4_isOf {l : Launch} {D : va_G} {cA : Nat → ClassId} {ks : List Nat} {ad : Nat → Nat} {A : Nat → Prop} {st : CS} {a k tr : Nat} {dn dm : Int32} (hdb : dbAt ks ad st.2.2.2 a k tr dn dm) {x1 : Int32} {r : Int32} (h : B4_isOf dn dm x1 = some r) : cR l yX11_isOf cX11_isOf 2 (some .boolean) 2 D cA ks ad A st [.ref a, .int x1] r := by
  refine cc_ofR (own := RX11) (by decide) rfl (Nat.le_of_ble_eq_true rfl) (fun p e s m below meth c R args ls C hr hlk hP hl hcs => ?_)
  have hx := C.1
  have hb := C.2.1
  have hown := C.2.2.2.1
  have hl : lv_has ls 2 [(0, .ref a), (1, .int x1)] := hl
  rw [B4_isOf] at h
  refine lv_iload_n hx hb dX11_isOf_0 rfl (lv_at hl 1 rfl) ?_
  refine lv_iconst (v := 4) hx hb dX11_isOf_1 (by decide) ?_
  refine lv_icmp_eq (tgt := 13) hx hb dX11_isOf_2 rfl (fun c1 => ?_) (fun c1 => ?_)
  · have h := if_some_t h c1
    refine lv_iconst (v := 1) hx hb dX11_isOf_13 (by decide) ?_
    refine lv_goto (tgt := 18) hx hb dX11_isOf_14 rfl ?_
    exact mm_zret hx hb hr hlk rfl h dX11_isOf_18
  · have h := if_some_f h c1
    refine lv_aload_n hx hb dX11_isOf_5 rfl (lv_at hl 0 rfl) ?_
    refine lv_iload_n hx hb dX11_isOf_6 rfl (lv_at hl 1 rfl) ?_
    obtain ⟨v2, hv2, h⟩ := bd1_some h
    refine su_B1_isOf C hP (Nat.le_refl _) hdb hv2 q744 q523 (Nat.le_of_ble_eq_true rfl) hl.1 (Nat.le_of_ble_eq_true rfl) hcs dX11_isOf_7 ?_
    refine lv_if_eq (tgt := 17) hx hb dX11_isOf_10 rfl (fun c3 => ?_) (fun c3 => ?_)
    · have h := if_some_t h c3
      refine lv_iconst (v := 0) hx hb dX11_isOf_17 (by decide) ?_
      exact mm_zret hx hb hr hlk rfl h dX11_isOf_18
    · have h := if_some_f h c3
      refine lv_iconst (v := 1) hx hb dX11_isOf_13 (by decide) ?_
      refine lv_goto (tgt := 18) hx hb dX11_isOf_14 rfl ?_
      exact mm_zret hx hb hr hlk rfl h dX11_isOf_18
theorem q743 : (Jvm.Cond.code ({ cls := "ChapterLoan$Twin", name := "isOf", desc := "(I)Z" } : Jvm.MethodName) prog_26_method_3_code (2 : Nat) (Option.some Jvm.ClassFile.FieldType.boolean)) ∈ lw_all := lw_g (lw_at lw_m3 179 rfl) rfl
theorem q742 : (Jvm.Cond.instanceMethod ({ cls := "ChapterLoan$Twin", name := "isOf", desc := "(I)Z" } : Jvm.MethodName)) ∈ lw_all := lw_g (lw_at lw_m3 178 rfl) rfl
abbrev cX12_isOf : ByteArray := prog_17_method_3_code
def yX12_isOf : MethodName := ⟨RX12, "isOf", "(I)Z"⟩
theorem dX12_isOf_0 : decode cX12_isOf 0 = .ok (.iload_n 1, 1) := by decide +kernel
theorem dX12_isOf_1 : decode cX12_isOf 1 = .ok (.iconst 5, 1) := by decide +kernel
theorem dX12_isOf_2 : decode cX12_isOf 2 = .ok (.if_icmp .eq 11, 3) := by decide +kernel
theorem dX12_isOf_5 : decode cX12_isOf 5 = .ok (.aload_n 0, 1) := by decide +kernel
theorem dX12_isOf_6 : decode cX12_isOf 6 = .ok (.iload_n 1, 1) := by decide +kernel
theorem dX12_isOf_7 : decode cX12_isOf 7 = .ok (.invokespecial 9, 3) := by decide +kernel
theorem dX12_isOf_10 : decode cX12_isOf 10 = .ok (.ifCond .eq 7, 3) := by decide +kernel
theorem dX12_isOf_13 : decode cX12_isOf 13 = .ok (.iconst 1, 1) := by decide +kernel
theorem dX12_isOf_14 : decode cX12_isOf 14 = .ok (.goto 4, 3) := by decide +kernel
theorem dX12_isOf_17 : decode cX12_isOf 17 = .ok (.iconst 0, 1) := by decide +kernel
theorem dX12_isOf_18 : decode cX12_isOf 18 = .ok (.ireturn, 1) := by decide +kernel
theorem q533 : (Jvm.Cond.superclass "ChapterLoan$Seer" "ChapterLoan$Dreamer") ∈ lw_all := lw_g (lw_at lw_m2 209 rfl) rfl
theorem q740 : (Jvm.Cond.methodLink "ChapterLoan$Seer" (9 : Nat) ({ cls := "ChapterLoan$Dreamer", name := "isOf", desc := "(I)Z" } : Jvm.MethodName)) ∈ lw_all := lw_g (lw_at lw_m3 176 rfl) rfl
theorem w_B5_isOf {l : Launch} {D : va_G} {cA : Nat → ClassId} {ks : List Nat} {ad : Nat → Nat} {A : Nat → Prop} {st : CS} {a k tr : Nat} {dn dm : Int32} (hdb : dbAt ks ad st.2.2.2 a k tr dn dm) {x1 : Int32} {r : Int32} (h : B5_isOf dn dm x1 = some r) : cR l yX12_isOf cX12_isOf 2 (some .boolean) 2 D cA ks ad A st [.ref a, .int x1] r := by
  refine cc_ofR (own := RX12) (by decide) rfl (Nat.le_of_ble_eq_true rfl) (fun p e s m below meth c R args ls C hr hlk hP hl hcs => ?_)
  have hx := C.1
  have hb := C.2.1
  have hown := C.2.2.2.1
  have hl : lv_has ls 2 [(0, .ref a), (1, .int x1)] := hl
  rw [B5_isOf] at h
  refine lv_iload_n hx hb dX12_isOf_0 rfl (lv_at hl 1 rfl) ?_
  refine lv_iconst (v := 5) hx hb dX12_isOf_1 (by decide) ?_
  refine lv_icmp_eq (tgt := 13) hx hb dX12_isOf_2 rfl (fun c1 => ?_) (fun c1 => ?_)
  · have h := if_some_t h c1
    refine lv_iconst (v := 1) hx hb dX12_isOf_13 (by decide) ?_
    refine lv_goto (tgt := 18) hx hb dX12_isOf_14 rfl ?_
    exact mm_zret hx hb hr hlk rfl h dX12_isOf_18
  · have h := if_some_f h c1
    refine lv_aload_n hx hb dX12_isOf_5 rfl (lv_at hl 0 rfl) ?_
    refine lv_iload_n hx hb dX12_isOf_6 rfl (lv_at hl 1 rfl) ?_
    obtain ⟨v2, hv2, h⟩ := bd1_some h
    refine su_B2_isOf C hP (Nat.le_refl _) hdb hv2 q740 q533 (Nat.le_of_ble_eq_true rfl) hl.1 (Nat.le_of_ble_eq_true rfl) hcs dX12_isOf_7 ?_
    refine lv_if_eq (tgt := 17) hx hb dX12_isOf_10 rfl (fun c3 => ?_) (fun c3 => ?_)
    · have h := if_some_t h c3
      refine lv_iconst (v := 0) hx hb dX12_isOf_17 (by decide) ?_
      exact mm_zret hx hb hr hlk rfl h dX12_isOf_18
    · have h := if_some_f h c3
      refine lv_iconst (v := 1) hx hb dX12_isOf_13 (by decide) ?_
      refine lv_goto (tgt := 18) hx hb dX12_isOf_14 rfl ?_
      exact mm_zret hx hb hr hlk rfl h dX12_isOf_18
theorem q739 : (Jvm.Cond.code ({ cls := "ChapterLoan$Seer", name := "isOf", desc := "(I)Z" } : Jvm.MethodName) prog_17_method_3_code (2 : Nat) (Option.some Jvm.ClassFile.FieldType.boolean)) ∈ lw_all := lw_g (lw_at lw_m3 175 rfl) rfl
theorem q738 : (Jvm.Cond.instanceMethod ({ cls := "ChapterLoan$Seer", name := "isOf", desc := "(I)Z" } : Jvm.MethodName)) ∈ lw_all := lw_g (lw_at lw_m3 174 rfl) rfl
abbrev cX13_isOf : ByteArray := prog_16_method_3_code
def yX13_isOf : MethodName := ⟨RX13, "isOf", "(I)Z"⟩
theorem dX13_isOf_0 : decode cX13_isOf 0 = .ok (.iload_n 1, 1) := by decide +kernel
theorem dX13_isOf_1 : decode cX13_isOf 1 = .ok (.bipush 6, 2) := by decide +kernel
theorem dX13_isOf_3 : decode cX13_isOf 3 = .ok (.if_icmp .eq 11, 3) := by decide +kernel
theorem dX13_isOf_6 : decode cX13_isOf 6 = .ok (.aload_n 0, 1) := by decide +kernel
theorem dX13_isOf_7 : decode cX13_isOf 7 = .ok (.iload_n 1, 1) := by decide +kernel
theorem dX13_isOf_8 : decode cX13_isOf 8 = .ok (.invokespecial 9, 3) := by decide +kernel
theorem dX13_isOf_11 : decode cX13_isOf 11 = .ok (.ifCond .eq 7, 3) := by decide +kernel
theorem dX13_isOf_14 : decode cX13_isOf 14 = .ok (.iconst 1, 1) := by decide +kernel
theorem dX13_isOf_15 : decode cX13_isOf 15 = .ok (.goto 4, 3) := by decide +kernel
theorem dX13_isOf_18 : decode cX13_isOf 18 = .ok (.iconst 0, 1) := by decide +kernel
theorem dX13_isOf_19 : decode cX13_isOf 19 = .ok (.ireturn, 1) := by decide +kernel
theorem q543 : (Jvm.Cond.superclass "ChapterLoan$Saint" "ChapterLoan$Ghost") ∈ lw_all := lw_g (lw_at lw_m2 219 rfl) rfl
theorem q736 : (Jvm.Cond.methodLink "ChapterLoan$Saint" (9 : Nat) ({ cls := "ChapterLoan$Ghost", name := "isOf", desc := "(I)Z" } : Jvm.MethodName)) ∈ lw_all := lw_g (lw_at lw_m3 172 rfl) rfl
theorem w_B6_isOf {l : Launch} {D : va_G} {cA : Nat → ClassId} {ks : List Nat} {ad : Nat → Nat} {A : Nat → Prop} {st : CS} {a k tr : Nat} {dn dm : Int32} (hdb : dbAt ks ad st.2.2.2 a k tr dn dm) {x1 : Int32} {r : Int32} (h : B6_isOf dn dm x1 = some r) : cR l yX13_isOf cX13_isOf 2 (some .boolean) 2 D cA ks ad A st [.ref a, .int x1] r := by
  refine cc_ofR (own := RX13) (by decide) rfl (Nat.le_of_ble_eq_true rfl) (fun p e s m below meth c R args ls C hr hlk hP hl hcs => ?_)
  have hx := C.1
  have hb := C.2.1
  have hown := C.2.2.2.1
  have hl : lv_has ls 2 [(0, .ref a), (1, .int x1)] := hl
  rw [B6_isOf] at h
  refine lv_iload_n hx hb dX13_isOf_0 rfl (lv_at hl 1 rfl) ?_
  refine lv_bipush (v := 6) hx hb dX13_isOf_1 (by decide) ?_
  refine lv_icmp_eq (tgt := 14) hx hb dX13_isOf_3 rfl (fun c1 => ?_) (fun c1 => ?_)
  · have h := if_some_t h c1
    refine lv_iconst (v := 1) hx hb dX13_isOf_14 (by decide) ?_
    refine lv_goto (tgt := 19) hx hb dX13_isOf_15 rfl ?_
    exact mm_zret hx hb hr hlk rfl h dX13_isOf_19
  · have h := if_some_f h c1
    refine lv_aload_n hx hb dX13_isOf_6 rfl (lv_at hl 0 rfl) ?_
    refine lv_iload_n hx hb dX13_isOf_7 rfl (lv_at hl 1 rfl) ?_
    obtain ⟨v2, hv2, h⟩ := bd1_some h
    refine su_B3_isOf C hP (Nat.le_refl _) hdb hv2 q736 q543 (Nat.le_of_ble_eq_true rfl) hl.1 (Nat.le_of_ble_eq_true rfl) hcs dX13_isOf_8 ?_
    refine lv_if_eq (tgt := 18) hx hb dX13_isOf_11 rfl (fun c3 => ?_) (fun c3 => ?_)
    · have h := if_some_t h c3
      refine lv_iconst (v := 0) hx hb dX13_isOf_18 (by decide) ?_
      exact mm_zret hx hb hr hlk rfl h dX13_isOf_19
    · have h := if_some_f h c3
      refine lv_iconst (v := 1) hx hb dX13_isOf_14 (by decide) ?_
      refine lv_goto (tgt := 19) hx hb dX13_isOf_15 rfl ?_
      exact mm_zret hx hb hr hlk rfl h dX13_isOf_19
theorem q735 : (Jvm.Cond.code ({ cls := "ChapterLoan$Saint", name := "isOf", desc := "(I)Z" } : Jvm.MethodName) prog_16_method_3_code (2 : Nat) (Option.some Jvm.ClassFile.FieldType.boolean)) ∈ lw_all := lw_g (lw_at lw_m3 171 rfl) rfl
theorem q734 : (Jvm.Cond.instanceMethod ({ cls := "ChapterLoan$Saint", name := "isOf", desc := "(I)Z" } : Jvm.MethodName)) ∈ lw_all := lw_g (lw_at lw_m3 170 rfl) rfl
theorem q719 : (Jvm.Cond.selects "ChapterLoan$Debtor" ({ cls := "ChapterLoan$Debtor", name := "isOf", desc := "(I)Z" } : Jvm.MethodName) ({ cls := "ChapterLoan$Debtor", name := "isOf", desc := "(I)Z" } : Jvm.MethodName)) ∈ lw_all := lw_g (lw_at lw_m3 155 rfl) rfl
theorem q729 : (Jvm.Cond.selects "ChapterLoan$Plagiarist" ({ cls := "ChapterLoan$Debtor", name := "isOf", desc := "(I)Z" } : Jvm.MethodName) ({ cls := "ChapterLoan$Plagiarist", name := "isOf", desc := "(I)Z" } : Jvm.MethodName)) ∈ lw_all := lw_g (lw_at lw_m3 165 rfl) rfl
theorem q721 : (Jvm.Cond.selects "ChapterLoan$Dreamer" ({ cls := "ChapterLoan$Debtor", name := "isOf", desc := "(I)Z" } : Jvm.MethodName) ({ cls := "ChapterLoan$Dreamer", name := "isOf", desc := "(I)Z" } : Jvm.MethodName)) ∈ lw_all := lw_g (lw_at lw_m3 157 rfl) rfl
theorem q725 : (Jvm.Cond.selects "ChapterLoan$Ghost" ({ cls := "ChapterLoan$Debtor", name := "isOf", desc := "(I)Z" } : Jvm.MethodName) ({ cls := "ChapterLoan$Ghost", name := "isOf", desc := "(I)Z" } : Jvm.MethodName)) ∈ lw_all := lw_g (lw_at lw_m3 161 rfl) rfl
theorem q741 : (Jvm.Cond.selects "ChapterLoan$Twin" ({ cls := "ChapterLoan$Debtor", name := "isOf", desc := "(I)Z" } : Jvm.MethodName) ({ cls := "ChapterLoan$Twin", name := "isOf", desc := "(I)Z" } : Jvm.MethodName)) ∈ lw_all := lw_g (lw_at lw_m3 177 rfl) rfl
theorem q737 : (Jvm.Cond.selects "ChapterLoan$Seer" ({ cls := "ChapterLoan$Debtor", name := "isOf", desc := "(I)Z" } : Jvm.MethodName) ({ cls := "ChapterLoan$Seer", name := "isOf", desc := "(I)Z" } : Jvm.MethodName)) ∈ lw_all := lw_g (lw_at lw_m3 173 rfl) rfl
theorem q733 : (Jvm.Cond.selects "ChapterLoan$Saint" ({ cls := "ChapterLoan$Debtor", name := "isOf", desc := "(I)Z" } : Jvm.MethodName) ({ cls := "ChapterLoan$Saint", name := "isOf", desc := "(I)Z" } : Jvm.MethodName)) ∈ lw_all := lw_g (lw_at lw_m3 169 rfl) rfl
theorem k_D_isOf {a0 : Int32} {v : Int32} (C : cC p R d s m args c cc nL own D cA A) (hP : cW D cA ks ad st H) (hz : s.heap.size ≤ H.size) (hdb : dbAt ks ad st.2.2.2 a k tr dn dm) (h : D_isOf k dn dm a0 = some v) (hl : Cond.methodLink own index yX7_isOf ∈ lw_all) (hd : 2 + 1 ≤ d) (hsz : ls.size = nL) (hW : (rest.map fun v => v.category).sum ≤ 8) (hcs : cells ≤ R.cells ∧ slots ≤ R.slots) (hdg : decode cc pc = .ok (.invokevirtual index, 3)) (kk : W p l e R s m args below meth c H locs cells slots Q (F0 m (pc + 3) ls (.int v :: rest))) : W p l e R s m args below meth c H locs cells slots Q (F0 m pc ls (.int a0 :: .ref a :: rest)) := by
  match k, hdb.2.1 with
  | 0, _ => exact db_virtR (k := 0) (x := yX7_isOf) (As := [.int a0]) C hP hz hdb (w_B0_isOf hdb h) (va_cwU (owner := RX7) 1 C.2.2.2.2.1 (lw_U hl q720 q719 q718 q95 q745) rfl rfl rfl rfl (by decide +kernel) (mr_ (d := d) (k := 0) C.2.2.2.2.2.1 (by omega) (by decide))) rfl hsz rfl hW hdg hcs kk
  | 1, _ => exact db_virtR (k := 1) (x := yX7_isOf) (As := [.int a0]) C hP hz hdb (w_B1_isOf hdb h) (va_cwO (owner := RX7) 1 C.2.2.2.2.1 (lw_O hl q720 q718 q729 q730 q96 q731) rfl rfl rfl q745 (by decide +kernel) (mr_ (d := d) (k := 1) C.2.2.2.2.2.1 (by omega) (by decide))) rfl hsz rfl hW hdg hcs kk
  | 2, _ => exact db_virtR (k := 2) (x := yX7_isOf) (As := [.int a0]) C hP hz hdb (w_B2_isOf hdb h) (va_cwO (owner := RX7) 1 C.2.2.2.2.1 (lw_O hl q720 q718 q721 q722 q97 q723) rfl rfl rfl q745 (by decide +kernel) (mr_ (d := d) (k := 1) C.2.2.2.2.2.1 (by omega) (by decide))) rfl hsz rfl hW hdg hcs kk
  | 3, _ => exact db_virtR (k := 3) (x := yX7_isOf) (As := [.int a0]) C hP hz hdb (w_B3_isOf hdb h) (va_cwO (owner := RX7) 1 C.2.2.2.2.1 (lw_O hl q720 q718 q725 q726 q98 q727) rfl rfl rfl q745 (by decide +kernel) (mr_ (d := d) (k := 1) C.2.2.2.2.2.1 (by omega) (by decide))) rfl hsz rfl hW hdg hcs kk
  | 4, _ => exact db_virtR (k := 4) (x := yX7_isOf) (As := [.int a0]) C hP hz hdb (w_B4_isOf hdb h) (va_cwO (owner := RX7) 1 C.2.2.2.2.1 (lw_O hl q720 q718 q741 q742 q99 q743) rfl rfl rfl q745 (by decide +kernel) (mr_ (d := d) (k := 2) C.2.2.2.2.2.1 (by omega) (by decide))) rfl hsz rfl hW hdg hcs kk
  | 5, _ => exact db_virtR (k := 5) (x := yX7_isOf) (As := [.int a0]) C hP hz hdb (w_B5_isOf hdb h) (va_cwO (owner := RX7) 1 C.2.2.2.2.1 (lw_O hl q720 q718 q737 q738 q100 q739) rfl rfl rfl q745 (by decide +kernel) (mr_ (d := d) (k := 2) C.2.2.2.2.2.1 (by omega) (by decide))) rfl hsz rfl hW hdg hcs kk
  | 6, _ => exact db_virtR (k := 6) (x := yX7_isOf) (As := [.int a0]) C hP hz hdb (w_B6_isOf hdb h) (va_cwO (owner := RX7) 1 C.2.2.2.2.1 (lw_O hl q720 q718 q733 q734 q101 q735) rfl rfl rfl q745 (by decide +kernel) (mr_ (d := d) (k := 2) C.2.2.2.2.2.1 (by omega) (by decide))) rfl hsz rfl hW hdg hcs kk
abbrev cX7_may : ByteArray := prog_3_method_4_code
def yX7_may : MethodName := ⟨RX7, "may", "(IIZZ)Z"⟩
theorem dX7_may_0 : decode cX7_may 0 = .ok (.iload_n 2, 1) := by decide +kernel
theorem dX7_may_1 : decode cX7_may 1 = .ok (.ifCond .ne 11, 3) := by decide +kernel
theorem dX7_may_4 : decode cX7_may 4 = .ok (.iload_n 3, 1) := by decide +kernel
theorem dX7_may_5 : decode cX7_may 5 = .ok (.ifCond .eq 7, 3) := by decide +kernel
theorem dX7_may_8 : decode cX7_may 8 = .ok (.iconst 1, 1) := by decide +kernel
theorem dX7_may_9 : decode cX7_may 9 = .ok (.goto 4, 3) := by decide +kernel
theorem dX7_may_12 : decode cX7_may 12 = .ok (.iconst 0, 1) := by decide +kernel
theorem dX7_may_13 : decode cX7_may 13 = .ok (.ireturn, 1) := by decide +kernel
theorem w_B0_may {l : Launch} {D : va_G} {cA : Nat → ClassId} {ks : List Nat} {ad : Nat → Nat} {A : Nat → Prop} {st : CS} {a k tr : Nat} {dn dm : Int32} (hdb : dbAt ks ad st.2.2.2 a k tr dn dm) {x1 : Int32} {x2 : Int32} {x3 : Int32} {x4 : Int32} {r : Int32} (h : B0_may dn dm x1 x2 x3 x4 = some r) : cR l yX7_may cX7_may 5 (some .boolean) 0 D cA ks ad A st [.ref a, .int x1, .int x2, .int x3, .int x4] r := by
  refine cc_ofR (own := RX7) (by decide) rfl (Nat.le_of_ble_eq_true rfl) (fun p e s m below meth c R args ls C hr hlk hP hl hcs => ?_)
  have hx := C.1
  have hb := C.2.1
  have hown := C.2.2.2.1
  have hl : lv_has ls 5 [(0, .ref a), (1, .int x1), (2, .int x2), (3, .int x3), (4, .int x4)] := hl
  rw [B0_may] at h
  refine lv_iload_n hx hb dX7_may_0 rfl (lv_at hl 2 rfl) ?_
  refine lv_if_ne (tgt := 12) hx hb dX7_may_1 rfl (fun c1 => ?_) (fun c1 => ?_)
  · have h := if_some_f h c1
    refine lv_iconst (v := 0) hx hb dX7_may_12 (by decide) ?_
    exact mm_zret hx hb hr hlk rfl h dX7_may_13
  · have h := if_some_t h c1
    refine lv_iload_n hx hb dX7_may_4 rfl (lv_at hl 3 rfl) ?_
    refine lv_if_eq (tgt := 12) hx hb dX7_may_5 rfl (fun c2 => ?_) (fun c2 => ?_)
    · have h := if_some_t h c2
      refine lv_iconst (v := 0) hx hb dX7_may_12 (by decide) ?_
      exact mm_zret hx hb hr hlk rfl h dX7_may_13
    · have h := if_some_f h c2
      refine lv_iconst (v := 1) hx hb dX7_may_8 (by decide) ?_
      refine lv_goto (tgt := 13) hx hb dX7_may_9 rfl ?_
      exact mm_zret hx hb hr hlk rfl h dX7_may_13
theorem q650 : (Jvm.Cond.code ({ cls := "ChapterLoan$Debtor", name := "may", desc := "(IIZZ)Z" } : Jvm.MethodName) prog_3_method_4_code (5 : Nat) (Option.some Jvm.ClassFile.FieldType.boolean)) ∈ lw_all := lw_g (lw_at lw_m3 86 rfl) rfl
theorem q628 : (Jvm.Cond.instanceMethod ({ cls := "ChapterLoan$Debtor", name := "may", desc := "(IIZZ)Z" } : Jvm.MethodName)) ∈ lw_all := lw_g (lw_at lw_m3 64 rfl) rfl
theorem q630 : (Jvm.Cond.sameMethod "ChapterLoan$Debtor" "ChapterLoan$Debtor" "may" "(IIZZ)Z") ∈ lw_all := lw_g (lw_at lw_m3 66 rfl) rfl
theorem su_B0_may {a0 : Int32} {a1 : Int32} {a2 : Int32} {a3 : Int32} {v : Int32} (C : cC p R d s m args c cc nL own D cA A) (hP : cW D cA ks ad st H) (hz : s.heap.size ≤ H.size) (hdb : dbAt ks ad st.2.2.2 a k tr dn dm) (h : B0_may dn dm a0 a1 a2 a3 = some v) (hl : Cond.methodLink own index yX7_may ∈ lw_all) (hsp : Cond.superclass own yX7_may.cls ∈ lw_all) (hd : 0 + 1 ≤ d) (hsz : ls.size = nL) (hW : (rest.map fun v => v.category).sum ≤ 8) (hcs : cells ≤ R.cells ∧ slots ≤ R.slots) (hdg : decode cc pc = .ok (.invokespecial index, 3)) (kk : W p l e R s m args below meth c H locs cells slots Q (F0 m (pc + 3) ls (.int v :: rest))) : W p l e R s m args below meth c H locs cells slots Q (F0 m pc ls (.int a3 :: .int a2 :: .int a1 :: .int a0 :: .ref a :: rest)) :=
  db_superR (As := [.int a0, .int a1, .int a2, .int a3]) C hP hz hdb (w_B0_may hdb h) (va_cwSU 4 C.2.2.2.2.1 (lw_SU hl q630 hsp q628 q95 q650) rfl rfl rfl (by decide +kernel) (mr_ C.2.2.2.2.2.1 hd (by decide))) rfl hsz rfl hW hdg hcs kk
theorem suo_B0_may {a0 : Int32} {a1 : Int32} {a2 : Int32} {a3 : Int32} {v : Int32} {x : MethodName} (C : cC p R d s m args c cc nL own D cA A) (hP : cW D cA ks ad st H) (hz : s.heap.size ≤ H.size) (hdb : dbAt ks ad st.2.2.2 a k tr dn dm) (h : B0_may dn dm a0 a1 a2 a3 = some v) (hl : Cond.methodLink own index x ∈ lw_all) (hsm : Cond.sameMethod x.cls yX7_may.cls x.name x.desc ∈ lw_all) (hsp : Cond.superclass own x.cls ∈ lw_all) (hsp2 : Cond.superclass x.cls yX7_may.cls ∈ lw_all) (hd : 0 + 1 ≤ d) (hsz : ls.size = nL) (hW : (rest.map fun v => v.category).sum ≤ 8) (hcs : cells ≤ R.cells ∧ slots ≤ R.slots) (hdg : decode cc pc = .ok (.invokespecial index, 3)) (kk : W p l e R s m args below meth c H locs cells slots Q (F0 m (pc + 3) ls (.int v :: rest))) (hxn : x.name = yX7_may.name ∧ x.desc = yX7_may.desc := by exact ⟨rfl, rfl⟩) : W p l e R s m args below meth c H locs cells slots Q (F0 m pc ls (.int a3 :: .int a2 :: .int a1 :: .int a0 :: .ref a :: rest)) :=
  cc_callRN (runSUO (x := x) (n := 4) (C := (dbC k).1) (cC := D.1 (7 + k)) (As := [.int a0, .int a1, .int a2, .int a3]) (rest := rest) (C.2.2.2.2.2.2.1.1 _ _ (db_cl hdb.2.1)).2 ⟨C.1, C.2.1, C.2.2.1, C.2.2.2.1, C.2.2.2.2.1⟩ (w_B0_may hdb h) (lw_meth q650) rfl rfl rfl (mr_ C.2.2.2.2.2.1 hd (by decide)) hl hsm hsp hsp2 q628 q95 ⟨hxn.1, hxn.2, by decide, by decide +kernel⟩ ⟨cc_blind, db_recv C hP hdb, cc_pre C hP hz⟩ rfl rfl hsz rfl (lv_room hW) hdg hcs) kk
abbrev cX8_may : ByteArray := prog_13_method_4_code
def yX8_may : MethodName := ⟨RX8, "may", "(IIZZ)Z"⟩
theorem dX8_may_0 : decode cX8_may 0 = .ok (.aload_n 0, 1) := by decide +kernel
theorem dX8_may_1 : decode cX8_may 1 = .ok (.iload_n 1, 1) := by decide +kernel
theorem dX8_may_2 : decode cX8_may 2 = .ok (.iload_n 2, 1) := by decide +kernel
theorem dX8_may_3 : decode cX8_may 3 = .ok (.iload_n 3, 1) := by decide +kernel
theorem dX8_may_4 : decode cX8_may 4 = .ok (.iload 4, 2) := by decide +kernel
theorem dX8_may_6 : decode cX8_may 6 = .ok (.invokespecial 13, 3) := by decide +kernel
theorem dX8_may_9 : decode cX8_may 9 = .ok (.ifCond .ne 12, 3) := by decide +kernel
theorem dX8_may_12 : decode cX8_may 12 = .ok (.iload 4, 2) := by decide +kernel
theorem dX8_may_14 : decode cX8_may 14 = .ok (.ifCond .eq 11, 3) := by decide +kernel
theorem dX8_may_17 : decode cX8_may 17 = .ok (.iload_n 3, 1) := by decide +kernel
theorem dX8_may_18 : decode cX8_may 18 = .ok (.ifCond .eq 7, 3) := by decide +kernel
theorem dX8_may_21 : decode cX8_may 21 = .ok (.iconst 1, 1) := by decide +kernel
theorem dX8_may_22 : decode cX8_may 22 = .ok (.goto 4, 3) := by decide +kernel
theorem dX8_may_25 : decode cX8_may 25 = .ok (.iconst 0, 1) := by decide +kernel
theorem dX8_may_26 : decode cX8_may 26 = .ok (.ireturn, 1) := by decide +kernel
theorem q640 : (Jvm.Cond.methodLink "ChapterLoan$Plagiarist" (13 : Nat) ({ cls := "ChapterLoan$Debtor", name := "may", desc := "(IIZZ)Z" } : Jvm.MethodName)) ∈ lw_all := lw_g (lw_at lw_m3 76 rfl) rfl
theorem w_B1_may {l : Launch} {D : va_G} {cA : Nat → ClassId} {ks : List Nat} {ad : Nat → Nat} {A : Nat → Prop} {st : CS} {a k tr : Nat} {dn dm : Int32} (hdb : dbAt ks ad st.2.2.2 a k tr dn dm) {x1 : Int32} {x2 : Int32} {x3 : Int32} {x4 : Int32} {r : Int32} (h : B1_may dn dm x1 x2 x3 x4 = some r) : cR l yX8_may cX8_may 5 (some .boolean) 1 D cA ks ad A st [.ref a, .int x1, .int x2, .int x3, .int x4] r := by
  refine cc_ofR (own := RX8) (by decide) rfl (Nat.le_of_ble_eq_true rfl) (fun p e s m below meth c R args ls C hr hlk hP hl hcs => ?_)
  have hx := C.1
  have hb := C.2.1
  have hown := C.2.2.2.1
  have hl : lv_has ls 5 [(0, .ref a), (1, .int x1), (2, .int x2), (3, .int x3), (4, .int x4)] := hl
  rw [B1_may] at h
  refine lv_aload_n hx hb dX8_may_0 rfl (lv_at hl 0 rfl) ?_
  refine lv_iload_n hx hb dX8_may_1 rfl (lv_at hl 1 rfl) ?_
  refine lv_iload_n hx hb dX8_may_2 rfl (lv_at hl 2 rfl) ?_
  refine lv_iload_n hx hb dX8_may_3 rfl (lv_at hl 3 rfl) ?_
  refine lv_iload hx hb dX8_may_4 (lv_at hl 4 rfl) ?_
  obtain ⟨v1, hv1, h⟩ := bd1_some h
  refine su_B0_may C hP (Nat.le_refl _) hdb hv1 q640 q493 (Nat.le_of_ble_eq_true rfl) hl.1 (Nat.le_of_ble_eq_true rfl) hcs dX8_may_6 ?_
  refine lv_if_ne (tgt := 21) hx hb dX8_may_9 rfl (fun c2 => ?_) (fun c2 => ?_)
  · have h := if_some_f h c2
    refine lv_iconst (v := 1) hx hb dX8_may_21 (by decide) ?_
    refine lv_goto (tgt := 26) hx hb dX8_may_22 rfl ?_
    exact mm_zret hx hb hr hlk rfl h dX8_may_26
  · have h := if_some_t h c2
    refine lv_iload hx hb dX8_may_12 (lv_at hl 4 rfl) ?_
    refine lv_if_eq (tgt := 25) hx hb dX8_may_14 rfl (fun c3 => ?_) (fun c3 => ?_)
    · have h := if_some_t h c3
      refine lv_iconst (v := 0) hx hb dX8_may_25 (by decide) ?_
      exact mm_zret hx hb hr hlk rfl h dX8_may_26
    · have h := if_some_f h c3
      refine lv_iload_n hx hb dX8_may_17 rfl (lv_at hl 3 rfl) ?_
      refine lv_if_eq (tgt := 25) hx hb dX8_may_18 rfl (fun c4 => ?_) (fun c4 => ?_)
      · have h := if_some_t h c4
        refine lv_iconst (v := 0) hx hb dX8_may_25 (by decide) ?_
        exact mm_zret hx hb hr hlk rfl h dX8_may_26
      · have h := if_some_f h c4
        refine lv_iconst (v := 1) hx hb dX8_may_21 (by decide) ?_
        refine lv_goto (tgt := 26) hx hb dX8_may_22 rfl ?_
        exact mm_zret hx hb hr hlk rfl h dX8_may_26
theorem q639 : (Jvm.Cond.code ({ cls := "ChapterLoan$Plagiarist", name := "may", desc := "(IIZZ)Z" } : Jvm.MethodName) prog_13_method_4_code (5 : Nat) (Option.some Jvm.ClassFile.FieldType.boolean)) ∈ lw_all := lw_g (lw_at lw_m3 75 rfl) rfl
theorem q638 : (Jvm.Cond.instanceMethod ({ cls := "ChapterLoan$Plagiarist", name := "may", desc := "(IIZZ)Z" } : Jvm.MethodName)) ∈ lw_all := lw_g (lw_at lw_m3 74 rfl) rfl
abbrev cX9_may : ByteArray := prog_4_method_4_code
def yX9_may : MethodName := ⟨RX9, "may", "(IIZZ)Z"⟩
theorem dX9_may_0 : decode cX9_may 0 = .ok (.iload_n 2, 1) := by decide +kernel
theorem dX9_may_1 : decode cX9_may 1 = .ok (.aload_n 0, 1) := by decide +kernel
theorem dX9_may_2 : decode cX9_may 2 = .ok (.getfield 13, 3) := by decide +kernel
theorem dX9_may_5 : decode cX9_may 5 = .ok (.iconst 3, 1) := by decide +kernel
theorem dX9_may_6 : decode cX9_may 6 = .ok (.irem, 1) := by decide +kernel
theorem dX9_may_7 : decode cX9_may 7 = .ok (.if_icmp .gt 11, 3) := by decide +kernel
theorem dX9_may_10 : decode cX9_may 10 = .ok (.iload_n 3, 1) := by decide +kernel
theorem dX9_may_11 : decode cX9_may 11 = .ok (.ifCond .eq 7, 3) := by decide +kernel
theorem dX9_may_14 : decode cX9_may 14 = .ok (.iconst 1, 1) := by decide +kernel
theorem dX9_may_15 : decode cX9_may 15 = .ok (.goto 4, 3) := by decide +kernel
theorem dX9_may_18 : decode cX9_may 18 = .ok (.iconst 0, 1) := by decide +kernel
theorem dX9_may_19 : decode cX9_may 19 = .ok (.ireturn, 1) := by decide +kernel
theorem q478 : (Jvm.Cond.fieldLink "ChapterLoan$Dreamer" (13 : Nat) "ChapterLoan$Dreamer" "m" "I") ∈ lw_all := lw_g (lw_at lw_m2 154 rfl) rfl
theorem q479 : (Jvm.Cond.sameField "ChapterLoan$Dreamer" "ChapterLoan$Debtor" "m" "I") ∈ lw_all := lw_g (lw_at lw_m2 155 rfl) rfl
theorem w_B2_may {l : Launch} {D : va_G} {cA : Nat → ClassId} {ks : List Nat} {ad : Nat → Nat} {A : Nat → Prop} {st : CS} {a k tr : Nat} {dn dm : Int32} (hdb : dbAt ks ad st.2.2.2 a k tr dn dm) {x1 : Int32} {x2 : Int32} {x3 : Int32} {x4 : Int32} {r : Int32} (h : B2_may dn dm x1 x2 x3 x4 = some r) : cR l yX9_may cX9_may 5 (some .boolean) 0 D cA ks ad A st [.ref a, .int x1, .int x2, .int x3, .int x4] r := by
  refine cc_ofR (own := RX9) (by decide) rfl (Nat.le_of_ble_eq_true rfl) (fun p e s m below meth c R args ls C hr hlk hP hl hcs => ?_)
  have hx := C.1
  have hb := C.2.1
  have hown := C.2.2.2.1
  have hl : lv_has ls 5 [(0, .ref a), (1, .int x1), (2, .int x2), (3, .int x3), (4, .int x4)] := hl
  rw [B2_may] at h
  refine lv_iload_n hx hb dX9_may_0 rfl (lv_at hl 2 rfl) ?_
  refine lv_aload_n hx hb dX9_may_1 rfl (lv_at hl 0 rfl) ?_
  refine db_get C hP hdb 2 (by decide) (fun k h => (db_T h).2.2.1) q478 (db_same C q479) rfl dX9_may_2 ?_
  refine lv_iconst (v := 3) hx hb dX9_may_5 (by decide) ?_
  refine lv_irem hx hb dX9_may_6 (by decide) ?_
  refine lv_icmp_gt (tgt := 18) hx hb dX9_may_7 rfl (fun c1 => ?_) (fun c1 => ?_)
  · have h := if_some_t h c1
    refine lv_iconst (v := 0) hx hb dX9_may_18 (by decide) ?_
    exact mm_zret hx hb hr hlk rfl h dX9_may_19
  · have h := if_some_f h c1
    refine lv_iload_n hx hb dX9_may_10 rfl (lv_at hl 3 rfl) ?_
    refine lv_if_eq (tgt := 18) hx hb dX9_may_11 rfl (fun c2 => ?_) (fun c2 => ?_)
    · have h := if_some_t h c2
      refine lv_iconst (v := 0) hx hb dX9_may_18 (by decide) ?_
      exact mm_zret hx hb hr hlk rfl h dX9_may_19
    · have h := if_some_f h c2
      refine lv_iconst (v := 1) hx hb dX9_may_14 (by decide) ?_
      refine lv_goto (tgt := 19) hx hb dX9_may_15 rfl ?_
      exact mm_zret hx hb hr hlk rfl h dX9_may_19
theorem q633 : (Jvm.Cond.code ({ cls := "ChapterLoan$Dreamer", name := "may", desc := "(IIZZ)Z" } : Jvm.MethodName) prog_4_method_4_code (5 : Nat) (Option.some Jvm.ClassFile.FieldType.boolean)) ∈ lw_all := lw_g (lw_at lw_m3 69 rfl) rfl
theorem q632 : (Jvm.Cond.instanceMethod ({ cls := "ChapterLoan$Dreamer", name := "may", desc := "(IIZZ)Z" } : Jvm.MethodName)) ∈ lw_all := lw_g (lw_at lw_m3 68 rfl) rfl
theorem q2019 : (Jvm.Cond.sameMethod "ChapterLoan$Dreamer" "ChapterLoan$Dreamer" "may" "(IIZZ)Z") ∈ lw_all := lw_g (lw_at lw_m9 15 rfl) rfl
theorem su_B2_may {a0 : Int32} {a1 : Int32} {a2 : Int32} {a3 : Int32} {v : Int32} (C : cC p R d s m args c cc nL own D cA A) (hP : cW D cA ks ad st H) (hz : s.heap.size ≤ H.size) (hdb : dbAt ks ad st.2.2.2 a k tr dn dm) (h : B2_may dn dm a0 a1 a2 a3 = some v) (hl : Cond.methodLink own index yX9_may ∈ lw_all) (hsp : Cond.superclass own yX9_may.cls ∈ lw_all) (hd : 0 + 1 ≤ d) (hsz : ls.size = nL) (hW : (rest.map fun v => v.category).sum ≤ 8) (hcs : cells ≤ R.cells ∧ slots ≤ R.slots) (hdg : decode cc pc = .ok (.invokespecial index, 3)) (kk : W p l e R s m args below meth c H locs cells slots Q (F0 m (pc + 3) ls (.int v :: rest))) : W p l e R s m args below meth c H locs cells slots Q (F0 m pc ls (.int a3 :: .int a2 :: .int a1 :: .int a0 :: .ref a :: rest)) :=
  db_superR (As := [.int a0, .int a1, .int a2, .int a3]) C hP hz hdb (w_B2_may hdb h) (va_cwSU 4 C.2.2.2.2.1 (lw_SU hl q2019 hsp q632 q97 q633) rfl rfl rfl (by decide +kernel) (mr_ C.2.2.2.2.2.1 hd (by decide))) rfl hsz rfl hW hdg hcs kk
abbrev cX10_may : ByteArray := prog_9_method_4_code
def yX10_may : MethodName := ⟨RX10, "may", "(IIZZ)Z"⟩
theorem dX10_may_0 : decode cX10_may 0 = .ok (.iload_n 2, 1) := by decide +kernel
theorem dX10_may_1 : decode cX10_may 1 = .ok (.ifCond .ne 7, 3) := by decide +kernel
theorem dX10_may_4 : decode cX10_may 4 = .ok (.iconst 1, 1) := by decide +kernel
theorem dX10_may_5 : decode cX10_may 5 = .ok (.goto 4, 3) := by decide +kernel
theorem dX10_may_8 : decode cX10_may 8 = .ok (.iconst 0, 1) := by decide +kernel
theorem dX10_may_9 : decode cX10_may 9 = .ok (.ireturn, 1) := by decide +kernel
theorem w_B3_may {l : Launch} {D : va_G} {cA : Nat → ClassId} {ks : List Nat} {ad : Nat → Nat} {A : Nat → Prop} {st : CS} {a k tr : Nat} {dn dm : Int32} (hdb : dbAt ks ad st.2.2.2 a k tr dn dm) {x1 : Int32} {x2 : Int32} {x3 : Int32} {x4 : Int32} {r : Int32} (h : B3_may dn dm x1 x2 x3 x4 = some r) : cR l yX10_may cX10_may 5 (some .boolean) 0 D cA ks ad A st [.ref a, .int x1, .int x2, .int x3, .int x4] r := by
  refine cc_ofR (own := RX10) (by decide) rfl (Nat.le_of_ble_eq_true rfl) (fun p e s m below meth c R args ls C hr hlk hP hl hcs => ?_)
  have hx := C.1
  have hb := C.2.1
  have hown := C.2.2.2.1
  have hl : lv_has ls 5 [(0, .ref a), (1, .int x1), (2, .int x2), (3, .int x3), (4, .int x4)] := hl
  rw [B3_may] at h
  refine lv_iload_n hx hb dX10_may_0 rfl (lv_at hl 2 rfl) ?_
  refine lv_if_ne (tgt := 8) hx hb dX10_may_1 rfl (fun c1 => ?_) (fun c1 => ?_)
  · have h := if_some_f h c1
    refine lv_iconst (v := 0) hx hb dX10_may_8 (by decide) ?_
    exact mm_zret hx hb hr hlk rfl h dX10_may_9
  · have h := if_some_t h c1
    refine lv_iconst (v := 1) hx hb dX10_may_4 (by decide) ?_
    refine lv_goto (tgt := 9) hx hb dX10_may_5 rfl ?_
    exact mm_zret hx hb hr hlk rfl h dX10_may_9
theorem q636 : (Jvm.Cond.code ({ cls := "ChapterLoan$Ghost", name := "may", desc := "(IIZZ)Z" } : Jvm.MethodName) prog_9_method_4_code (5 : Nat) (Option.some Jvm.ClassFile.FieldType.boolean)) ∈ lw_all := lw_g (lw_at lw_m3 72 rfl) rfl
theorem q635 : (Jvm.Cond.instanceMethod ({ cls := "ChapterLoan$Ghost", name := "may", desc := "(IIZZ)Z" } : Jvm.MethodName)) ∈ lw_all := lw_g (lw_at lw_m3 71 rfl) rfl
theorem q2018 : (Jvm.Cond.sameMethod "ChapterLoan$Ghost" "ChapterLoan$Ghost" "may" "(IIZZ)Z") ∈ lw_all := lw_g (lw_at lw_m9 14 rfl) rfl
theorem su_B3_may {a0 : Int32} {a1 : Int32} {a2 : Int32} {a3 : Int32} {v : Int32} (C : cC p R d s m args c cc nL own D cA A) (hP : cW D cA ks ad st H) (hz : s.heap.size ≤ H.size) (hdb : dbAt ks ad st.2.2.2 a k tr dn dm) (h : B3_may dn dm a0 a1 a2 a3 = some v) (hl : Cond.methodLink own index yX10_may ∈ lw_all) (hsp : Cond.superclass own yX10_may.cls ∈ lw_all) (hd : 0 + 1 ≤ d) (hsz : ls.size = nL) (hW : (rest.map fun v => v.category).sum ≤ 8) (hcs : cells ≤ R.cells ∧ slots ≤ R.slots) (hdg : decode cc pc = .ok (.invokespecial index, 3)) (kk : W p l e R s m args below meth c H locs cells slots Q (F0 m (pc + 3) ls (.int v :: rest))) : W p l e R s m args below meth c H locs cells slots Q (F0 m pc ls (.int a3 :: .int a2 :: .int a1 :: .int a0 :: .ref a :: rest)) :=
  db_superR (As := [.int a0, .int a1, .int a2, .int a3]) C hP hz hdb (w_B3_may hdb h) (va_cwSU 4 C.2.2.2.2.1 (lw_SU hl q2018 hsp q635 q98 q636) rfl rfl rfl (by decide +kernel) (mr_ C.2.2.2.2.2.1 hd (by decide))) rfl hsz rfl hW hdg hcs kk
abbrev cX12_may : ByteArray := prog_17_method_4_code
def yX12_may : MethodName := ⟨RX12, "may", "(IIZZ)Z"⟩
theorem dX12_may_0 : decode cX12_may 0 = .ok (.iload_n 1, 1) := by decide +kernel
theorem dX12_may_1 : decode cX12_may 1 = .ok (.aload_n 0, 1) := by decide +kernel
theorem dX12_may_2 : decode cX12_may 2 = .ok (.getfield 13, 3) := by decide +kernel
theorem dX12_may_5 : decode cX12_may 5 = .ok (.if_icmp .eq 19, 3) := by decide +kernel
theorem dX12_may_8 : decode cX12_may 8 = .ok (.aload_n 0, 1) := by decide +kernel
theorem dX12_may_9 : decode cX12_may 9 = .ok (.iload_n 1, 1) := by decide +kernel
theorem dX12_may_10 : decode cX12_may 10 = .ok (.iload_n 2, 1) := by decide +kernel
theorem dX12_may_11 : decode cX12_may 11 = .ok (.iload_n 3, 1) := by decide +kernel
theorem dX12_may_12 : decode cX12_may 12 = .ok (.iload 4, 2) := by decide +kernel
theorem dX12_may_14 : decode cX12_may 14 = .ok (.invokespecial 19, 3) := by decide +kernel
theorem dX12_may_17 : decode cX12_may 17 = .ok (.ifCond .eq 7, 3) := by decide +kernel
theorem dX12_may_20 : decode cX12_may 20 = .ok (.iconst 1, 1) := by decide +kernel
theorem dX12_may_21 : decode cX12_may 21 = .ok (.goto 4, 3) := by decide +kernel
theorem dX12_may_24 : decode cX12_may 24 = .ok (.iconst 0, 1) := by decide +kernel
theorem dX12_may_25 : decode cX12_may 25 = .ok (.ireturn, 1) := by decide +kernel
theorem q480 : (Jvm.Cond.fieldLink "ChapterLoan$Seer" (13 : Nat) "ChapterLoan$Seer" "m" "I") ∈ lw_all := lw_g (lw_at lw_m2 156 rfl) rfl
theorem q481 : (Jvm.Cond.sameField "ChapterLoan$Seer" "ChapterLoan$Debtor" "m" "I") ∈ lw_all := lw_g (lw_at lw_m2 157 rfl) rfl
theorem q648 : (Jvm.Cond.methodLink "ChapterLoan$Seer" (19 : Nat) ({ cls := "ChapterLoan$Dreamer", name := "may", desc := "(IIZZ)Z" } : Jvm.MethodName)) ∈ lw_all := lw_g (lw_at lw_m3 84 rfl) rfl
theorem w_B5_may {l : Launch} {D : va_G} {cA : Nat → ClassId} {ks : List Nat} {ad : Nat → Nat} {A : Nat → Prop} {st : CS} {a k tr : Nat} {dn dm : Int32} (hdb : dbAt ks ad st.2.2.2 a k tr dn dm) {x1 : Int32} {x2 : Int32} {x3 : Int32} {x4 : Int32} {r : Int32} (h : B5_may dn dm x1 x2 x3 x4 = some r) : cR l yX12_may cX12_may 5 (some .boolean) 1 D cA ks ad A st [.ref a, .int x1, .int x2, .int x3, .int x4] r := by
  refine cc_ofR (own := RX12) (by decide) rfl (Nat.le_of_ble_eq_true rfl) (fun p e s m below meth c R args ls C hr hlk hP hl hcs => ?_)
  have hx := C.1
  have hb := C.2.1
  have hown := C.2.2.2.1
  have hl : lv_has ls 5 [(0, .ref a), (1, .int x1), (2, .int x2), (3, .int x3), (4, .int x4)] := hl
  rw [B5_may] at h
  refine lv_iload_n hx hb dX12_may_0 rfl (lv_at hl 1 rfl) ?_
  refine lv_aload_n hx hb dX12_may_1 rfl (lv_at hl 0 rfl) ?_
  refine db_get C hP hdb 2 (by decide) (fun k h => (db_T h).2.2.1) q480 (db_same C q481) rfl dX12_may_2 ?_
  refine lv_icmp_eq (tgt := 24) hx hb dX12_may_5 rfl (fun c1 => ?_) (fun c1 => ?_)
  · have h := if_some_t h c1
    refine lv_iconst (v := 0) hx hb dX12_may_24 (by decide) ?_
    exact mm_zret hx hb hr hlk rfl h dX12_may_25
  · have h := if_some_f h c1
    refine lv_aload_n hx hb dX12_may_8 rfl (lv_at hl 0 rfl) ?_
    refine lv_iload_n hx hb dX12_may_9 rfl (lv_at hl 1 rfl) ?_
    refine lv_iload_n hx hb dX12_may_10 rfl (lv_at hl 2 rfl) ?_
    refine lv_iload_n hx hb dX12_may_11 rfl (lv_at hl 3 rfl) ?_
    refine lv_iload hx hb dX12_may_12 (lv_at hl 4 rfl) ?_
    obtain ⟨v2, hv2, h⟩ := bd1_some h
    refine su_B2_may C hP (Nat.le_refl _) hdb hv2 q648 q533 (Nat.le_of_ble_eq_true rfl) hl.1 (Nat.le_of_ble_eq_true rfl) hcs dX12_may_14 ?_
    refine lv_if_eq (tgt := 24) hx hb dX12_may_17 rfl (fun c3 => ?_) (fun c3 => ?_)
    · have h := if_some_t h c3
      refine lv_iconst (v := 0) hx hb dX12_may_24 (by decide) ?_
      exact mm_zret hx hb hr hlk rfl h dX12_may_25
    · have h := if_some_f h c3
      refine lv_iconst (v := 1) hx hb dX12_may_20 (by decide) ?_
      refine lv_goto (tgt := 25) hx hb dX12_may_21 rfl ?_
      exact mm_zret hx hb hr hlk rfl h dX12_may_25
theorem q647 : (Jvm.Cond.code ({ cls := "ChapterLoan$Seer", name := "may", desc := "(IIZZ)Z" } : Jvm.MethodName) prog_17_method_4_code (5 : Nat) (Option.some Jvm.ClassFile.FieldType.boolean)) ∈ lw_all := lw_g (lw_at lw_m3 83 rfl) rfl
theorem q646 : (Jvm.Cond.instanceMethod ({ cls := "ChapterLoan$Seer", name := "may", desc := "(IIZZ)Z" } : Jvm.MethodName)) ∈ lw_all := lw_g (lw_at lw_m3 82 rfl) rfl
abbrev cX13_may : ByteArray := prog_16_method_4_code
def yX13_may : MethodName := ⟨RX13, "may", "(IIZZ)Z"⟩
theorem dX13_may_0 : decode cX13_may 0 = .ok (.aload_n 0, 1) := by decide +kernel
theorem dX13_may_1 : decode cX13_may 1 = .ok (.iload_n 1, 1) := by decide +kernel
theorem dX13_may_2 : decode cX13_may 2 = .ok (.iload_n 2, 1) := by decide +kernel
theorem dX13_may_3 : decode cX13_may 3 = .ok (.iload_n 3, 1) := by decide +kernel
theorem dX13_may_4 : decode cX13_may 4 = .ok (.iload 4, 2) := by decide +kernel
theorem dX13_may_6 : decode cX13_may 6 = .ok (.invokespecial 13, 3) := by decide +kernel
theorem dX13_may_9 : decode cX13_may 9 = .ok (.ifCond .eq 21, 3) := by decide +kernel
theorem dX13_may_12 : decode cX13_may 12 = .ok (.iload_n 3, 1) := by decide +kernel
theorem dX13_may_13 : decode cX13_may 13 = .ok (.ifCond .ne 13, 3) := by decide +kernel
theorem dX13_may_16 : decode cX13_may 16 = .ok (.aload_n 0, 1) := by decide +kernel
theorem dX13_may_17 : decode cX13_may 17 = .ok (.getfield 17, 3) := by decide +kernel
theorem dX13_may_20 : decode cX13_may 20 = .ok (.iconst 2, 1) := by decide +kernel
theorem dX13_may_21 : decode cX13_may 21 = .ok (.irem, 1) := by decide +kernel
theorem dX13_may_22 : decode cX13_may 22 = .ok (.iconst 1, 1) := by decide +kernel
theorem dX13_may_23 : decode cX13_may 23 = .ok (.if_icmp .ne 7, 3) := by decide +kernel
theorem dX13_may_26 : decode cX13_may 26 = .ok (.iconst 1, 1) := by decide +kernel
theorem dX13_may_27 : decode cX13_may 27 = .ok (.goto 4, 3) := by decide +kernel
theorem dX13_may_30 : decode cX13_may 30 = .ok (.iconst 0, 1) := by decide +kernel
theorem dX13_may_31 : decode cX13_may 31 = .ok (.ireturn, 1) := by decide +kernel
theorem q484 : (Jvm.Cond.fieldLink "ChapterLoan$Saint" (17 : Nat) "ChapterLoan$Saint" "m" "I") ∈ lw_all := lw_g (lw_at lw_m2 160 rfl) rfl
theorem q485 : (Jvm.Cond.sameField "ChapterLoan$Saint" "ChapterLoan$Debtor" "m" "I") ∈ lw_all := lw_g (lw_at lw_m2 161 rfl) rfl
theorem q644 : (Jvm.Cond.methodLink "ChapterLoan$Saint" (13 : Nat) ({ cls := "ChapterLoan$Ghost", name := "may", desc := "(IIZZ)Z" } : Jvm.MethodName)) ∈ lw_all := lw_g (lw_at lw_m3 80 rfl) rfl
theorem w_B6_may {l : Launch} {D : va_G} {cA : Nat → ClassId} {ks : List Nat} {ad : Nat → Nat} {A : Nat → Prop} {st : CS} {a k tr : Nat} {dn dm : Int32} (hdb : dbAt ks ad st.2.2.2 a k tr dn dm) {x1 : Int32} {x2 : Int32} {x3 : Int32} {x4 : Int32} {r : Int32} (h : B6_may dn dm x1 x2 x3 x4 = some r) : cR l yX13_may cX13_may 5 (some .boolean) 1 D cA ks ad A st [.ref a, .int x1, .int x2, .int x3, .int x4] r := by
  refine cc_ofR (own := RX13) (by decide) rfl (Nat.le_of_ble_eq_true rfl) (fun p e s m below meth c R args ls C hr hlk hP hl hcs => ?_)
  have hx := C.1
  have hb := C.2.1
  have hown := C.2.2.2.1
  have hl : lv_has ls 5 [(0, .ref a), (1, .int x1), (2, .int x2), (3, .int x3), (4, .int x4)] := hl
  rw [B6_may] at h
  refine lv_aload_n hx hb dX13_may_0 rfl (lv_at hl 0 rfl) ?_
  refine lv_iload_n hx hb dX13_may_1 rfl (lv_at hl 1 rfl) ?_
  refine lv_iload_n hx hb dX13_may_2 rfl (lv_at hl 2 rfl) ?_
  refine lv_iload_n hx hb dX13_may_3 rfl (lv_at hl 3 rfl) ?_
  refine lv_iload hx hb dX13_may_4 (lv_at hl 4 rfl) ?_
  obtain ⟨v1, hv1, h⟩ := bd1_some h
  refine su_B3_may C hP (Nat.le_refl _) hdb hv1 q644 q543 (Nat.le_of_ble_eq_true rfl) hl.1 (Nat.le_of_ble_eq_true rfl) hcs dX13_may_6 ?_
  refine lv_if_eq (tgt := 30) hx hb dX13_may_9 rfl (fun c2 => ?_) (fun c2 => ?_)
  · have h := if_some_t h c2
    refine lv_iconst (v := 0) hx hb dX13_may_30 (by decide) ?_
    exact mm_zret hx hb hr hlk rfl h dX13_may_31
  · have h := if_some_f h c2
    refine lv_iload_n hx hb dX13_may_12 rfl (lv_at hl 3 rfl) ?_
    refine lv_if_ne (tgt := 26) hx hb dX13_may_13 rfl (fun c3 => ?_) (fun c3 => ?_)
    · have h := if_some_f h c3
      refine lv_iconst (v := 1) hx hb dX13_may_26 (by decide) ?_
      refine lv_goto (tgt := 31) hx hb dX13_may_27 rfl ?_
      exact mm_zret hx hb hr hlk rfl h dX13_may_31
    · have h := if_some_t h c3
      refine lv_aload_n hx hb dX13_may_16 rfl (lv_at hl 0 rfl) ?_
      refine db_get C hP hdb 2 (by decide) (fun k h => (db_T h).2.2.1) q484 (db_same C q485) rfl dX13_may_17 ?_
      refine lv_iconst (v := 2) hx hb dX13_may_20 (by decide) ?_
      refine lv_irem hx hb dX13_may_21 (by decide) ?_
      refine lv_iconst (v := 1) hx hb dX13_may_22 (by decide) ?_
      refine lv_icmp_ne (tgt := 30) hx hb dX13_may_23 rfl (fun c4 => ?_) (fun c4 => ?_)
      · have h := if_some_f h c4
        refine lv_iconst (v := 0) hx hb dX13_may_30 (by decide) ?_
        exact mm_zret hx hb hr hlk rfl h dX13_may_31
      · have h := if_some_t h c4
        refine lv_iconst (v := 1) hx hb dX13_may_26 (by decide) ?_
        refine lv_goto (tgt := 31) hx hb dX13_may_27 rfl ?_
        exact mm_zret hx hb hr hlk rfl h dX13_may_31
theorem q643 : (Jvm.Cond.code ({ cls := "ChapterLoan$Saint", name := "may", desc := "(IIZZ)Z" } : Jvm.MethodName) prog_16_method_4_code (5 : Nat) (Option.some Jvm.ClassFile.FieldType.boolean)) ∈ lw_all := lw_g (lw_at lw_m3 79 rfl) rfl
theorem q642 : (Jvm.Cond.instanceMethod ({ cls := "ChapterLoan$Saint", name := "may", desc := "(IIZZ)Z" } : Jvm.MethodName)) ∈ lw_all := lw_g (lw_at lw_m3 78 rfl) rfl
theorem q629 : (Jvm.Cond.selects "ChapterLoan$Debtor" ({ cls := "ChapterLoan$Debtor", name := "may", desc := "(IIZZ)Z" } : Jvm.MethodName) ({ cls := "ChapterLoan$Debtor", name := "may", desc := "(IIZZ)Z" } : Jvm.MethodName)) ∈ lw_all := lw_g (lw_at lw_m3 65 rfl) rfl
theorem q637 : (Jvm.Cond.selects "ChapterLoan$Plagiarist" ({ cls := "ChapterLoan$Debtor", name := "may", desc := "(IIZZ)Z" } : Jvm.MethodName) ({ cls := "ChapterLoan$Plagiarist", name := "may", desc := "(IIZZ)Z" } : Jvm.MethodName)) ∈ lw_all := lw_g (lw_at lw_m3 73 rfl) rfl
theorem q631 : (Jvm.Cond.selects "ChapterLoan$Dreamer" ({ cls := "ChapterLoan$Debtor", name := "may", desc := "(IIZZ)Z" } : Jvm.MethodName) ({ cls := "ChapterLoan$Dreamer", name := "may", desc := "(IIZZ)Z" } : Jvm.MethodName)) ∈ lw_all := lw_g (lw_at lw_m3 67 rfl) rfl
theorem q634 : (Jvm.Cond.selects "ChapterLoan$Ghost" ({ cls := "ChapterLoan$Debtor", name := "may", desc := "(IIZZ)Z" } : Jvm.MethodName) ({ cls := "ChapterLoan$Ghost", name := "may", desc := "(IIZZ)Z" } : Jvm.MethodName)) ∈ lw_all := lw_g (lw_at lw_m3 70 rfl) rfl
theorem q649 : (Jvm.Cond.selects "ChapterLoan$Twin" ({ cls := "ChapterLoan$Debtor", name := "may", desc := "(IIZZ)Z" } : Jvm.MethodName) ({ cls := "ChapterLoan$Plagiarist", name := "may", desc := "(IIZZ)Z" } : Jvm.MethodName)) ∈ lw_all := lw_g (lw_at lw_m3 85 rfl) rfl
theorem q645 : (Jvm.Cond.selects "ChapterLoan$Seer" ({ cls := "ChapterLoan$Debtor", name := "may", desc := "(IIZZ)Z" } : Jvm.MethodName) ({ cls := "ChapterLoan$Seer", name := "may", desc := "(IIZZ)Z" } : Jvm.MethodName)) ∈ lw_all := lw_g (lw_at lw_m3 81 rfl) rfl
theorem q641 : (Jvm.Cond.selects "ChapterLoan$Saint" ({ cls := "ChapterLoan$Debtor", name := "may", desc := "(IIZZ)Z" } : Jvm.MethodName) ({ cls := "ChapterLoan$Saint", name := "may", desc := "(IIZZ)Z" } : Jvm.MethodName)) ∈ lw_all := lw_g (lw_at lw_m3 77 rfl) rfl
theorem k_D_may {a0 : Int32} {a1 : Int32} {a2 : Int32} {a3 : Int32} {v : Int32} (C : cC p R d s m args c cc nL own D cA A) (hP : cW D cA ks ad st H) (hz : s.heap.size ≤ H.size) (hdb : dbAt ks ad st.2.2.2 a k tr dn dm) (h : D_may k dn dm a0 a1 a2 a3 = some v) (hl : Cond.methodLink own index yX7_may ∈ lw_all) (hd : 1 + 1 ≤ d) (hsz : ls.size = nL) (hW : (rest.map fun v => v.category).sum ≤ 8) (hcs : cells ≤ R.cells ∧ slots ≤ R.slots) (hdg : decode cc pc = .ok (.invokevirtual index, 3)) (kk : W p l e R s m args below meth c H locs cells slots Q (F0 m (pc + 3) ls (.int v :: rest))) : W p l e R s m args below meth c H locs cells slots Q (F0 m pc ls (.int a3 :: .int a2 :: .int a1 :: .int a0 :: .ref a :: rest)) := by
  match k, hdb.2.1 with
  | 0, _ => exact db_virtR (k := 0) (x := yX7_may) (As := [.int a0, .int a1, .int a2, .int a3]) C hP hz hdb (w_B0_may hdb h) (va_cwU (owner := RX7) 4 C.2.2.2.2.1 (lw_U hl q630 q629 q628 q95 q650) rfl rfl rfl rfl (by decide +kernel) (mr_ (d := d) (k := 0) C.2.2.2.2.2.1 (by omega) (by decide))) rfl hsz rfl hW hdg hcs kk
  | 1, _ => exact db_virtR (k := 1) (x := yX7_may) (As := [.int a0, .int a1, .int a2, .int a3]) C hP hz hdb (w_B1_may hdb h) (va_cwO (owner := RX7) 4 C.2.2.2.2.1 (lw_O hl q630 q628 q637 q638 q96 q639) rfl rfl rfl q650 (by decide +kernel) (mr_ (d := d) (k := 1) C.2.2.2.2.2.1 (by omega) (by decide))) rfl hsz rfl hW hdg hcs kk
  | 2, _ => exact db_virtR (k := 2) (x := yX7_may) (As := [.int a0, .int a1, .int a2, .int a3]) C hP hz hdb (w_B2_may hdb h) (va_cwO (owner := RX7) 4 C.2.2.2.2.1 (lw_O hl q630 q628 q631 q632 q97 q633) rfl rfl rfl q650 (by decide +kernel) (mr_ (d := d) (k := 0) C.2.2.2.2.2.1 (by omega) (by decide))) rfl hsz rfl hW hdg hcs kk
  | 3, _ => exact db_virtR (k := 3) (x := yX7_may) (As := [.int a0, .int a1, .int a2, .int a3]) C hP hz hdb (w_B3_may hdb h) (va_cwO (owner := RX7) 4 C.2.2.2.2.1 (lw_O hl q630 q628 q634 q635 q98 q636) rfl rfl rfl q650 (by decide +kernel) (mr_ (d := d) (k := 0) C.2.2.2.2.2.1 (by omega) (by decide))) rfl hsz rfl hW hdg hcs kk
  | 4, _ => exact db_virtR (k := 4) (x := yX7_may) (As := [.int a0, .int a1, .int a2, .int a3]) C hP hz hdb (w_B1_may hdb h) (va_cwO (owner := RX7) 4 C.2.2.2.2.1 (lw_O hl q630 q628 q649 q638 q96 q639) rfl rfl rfl q650 (by decide +kernel) (mr_ (d := d) (k := 1) C.2.2.2.2.2.1 (by omega) (by decide))) rfl hsz rfl hW hdg hcs kk
  | 5, _ => exact db_virtR (k := 5) (x := yX7_may) (As := [.int a0, .int a1, .int a2, .int a3]) C hP hz hdb (w_B5_may hdb h) (va_cwO (owner := RX7) 4 C.2.2.2.2.1 (lw_O hl q630 q628 q645 q646 q100 q647) rfl rfl rfl q650 (by decide +kernel) (mr_ (d := d) (k := 1) C.2.2.2.2.2.1 (by omega) (by decide))) rfl hsz rfl hW hdg hcs kk
  | 6, _ => exact db_virtR (k := 6) (x := yX7_may) (As := [.int a0, .int a1, .int a2, .int a3]) C hP hz hdb (w_B6_may hdb h) (va_cwO (owner := RX7) 4 C.2.2.2.2.1 (lw_O hl q630 q628 q641 q642 q101 q643) rfl rfl rfl q650 (by decide +kernel) (mr_ (d := d) (k := 1) C.2.2.2.2.2.1 (by omega) (by decide))) rfl hsz rfl hW hdg hcs kk
abbrev cX7_due : ByteArray := prog_3_method_5_code
def yX7_due : MethodName := ⟨RX7, "due", "()I"⟩
theorem dX7_due_0 : decode cX7_due 0 = .ok (.iconst 1, 1) := by decide +kernel
theorem dX7_due_1 : decode cX7_due 1 = .ok (.ireturn, 1) := by decide +kernel
theorem w_B0_due {l : Launch} {D : va_G} {cA : Nat → ClassId} {ks : List Nat} {ad : Nat → Nat} {A : Nat → Prop} {st : CS} {a k tr : Nat} {dn dm : Int32} (hdb : dbAt ks ad st.2.2.2 a k tr dn dm) {r : Int32} (h : B0_due dn dm = some r) : cR l yX7_due cX7_due 1 (some .int) 0 D cA ks ad A st [.ref a] r := by
  refine cc_ofR (own := RX7) (by decide) rfl (Nat.le_of_ble_eq_true rfl) (fun p e s m below meth c R args ls C hr hlk hP hl hcs => ?_)
  have hx := C.1
  have hb := C.2.1
  have hown := C.2.2.2.1
  have hl : lv_has ls 1 [(0, .ref a)] := hl
  rw [B0_due] at h
  refine lv_iconst (v := 1) hx hb dX7_due_0 (by decide) ?_
  exact mm_iret hx hb hr hlk h dX7_due_1
theorem q606 : (Jvm.Cond.code ({ cls := "ChapterLoan$Debtor", name := "due", desc := "()I" } : Jvm.MethodName) prog_3_method_5_code (1 : Nat) (Option.some Jvm.ClassFile.FieldType.int)) ∈ lw_all := lw_g (lw_at lw_m3 42 rfl) rfl
theorem q587 : (Jvm.Cond.instanceMethod ({ cls := "ChapterLoan$Debtor", name := "due", desc := "()I" } : Jvm.MethodName)) ∈ lw_all := lw_g (lw_at lw_m3 23 rfl) rfl
theorem q589 : (Jvm.Cond.sameMethod "ChapterLoan$Debtor" "ChapterLoan$Debtor" "due" "()I") ∈ lw_all := lw_g (lw_at lw_m3 25 rfl) rfl
theorem su_B0_due {v : Int32} (C : cC p R d s m args c cc nL own D cA A) (hP : cW D cA ks ad st H) (hz : s.heap.size ≤ H.size) (hdb : dbAt ks ad st.2.2.2 a k tr dn dm) (h : B0_due dn dm = some v) (hl : Cond.methodLink own index yX7_due ∈ lw_all) (hsp : Cond.superclass own yX7_due.cls ∈ lw_all) (hd : 0 + 1 ≤ d) (hsz : ls.size = nL) (hW : (rest.map fun v => v.category).sum ≤ 8) (hcs : cells ≤ R.cells ∧ slots ≤ R.slots) (hdg : decode cc pc = .ok (.invokespecial index, 3)) (kk : W p l e R s m args below meth c H locs cells slots Q (F0 m (pc + 3) ls (.int v :: rest))) : W p l e R s m args below meth c H locs cells slots Q (F0 m pc ls (.ref a :: rest)) :=
  db_superR (As := []) C hP hz hdb (w_B0_due hdb h) (va_cwSU 0 C.2.2.2.2.1 (lw_SU hl q589 hsp q587 q95 q606) rfl rfl rfl (by decide +kernel) (mr_ C.2.2.2.2.2.1 hd (by decide))) rfl hsz rfl hW hdg hcs kk
theorem suo_B0_due {v : Int32} {x : MethodName} (C : cC p R d s m args c cc nL own D cA A) (hP : cW D cA ks ad st H) (hz : s.heap.size ≤ H.size) (hdb : dbAt ks ad st.2.2.2 a k tr dn dm) (h : B0_due dn dm = some v) (hl : Cond.methodLink own index x ∈ lw_all) (hsm : Cond.sameMethod x.cls yX7_due.cls x.name x.desc ∈ lw_all) (hsp : Cond.superclass own x.cls ∈ lw_all) (hsp2 : Cond.superclass x.cls yX7_due.cls ∈ lw_all) (hd : 0 + 1 ≤ d) (hsz : ls.size = nL) (hW : (rest.map fun v => v.category).sum ≤ 8) (hcs : cells ≤ R.cells ∧ slots ≤ R.slots) (hdg : decode cc pc = .ok (.invokespecial index, 3)) (kk : W p l e R s m args below meth c H locs cells slots Q (F0 m (pc + 3) ls (.int v :: rest))) (hxn : x.name = yX7_due.name ∧ x.desc = yX7_due.desc := by exact ⟨rfl, rfl⟩) : W p l e R s m args below meth c H locs cells slots Q (F0 m pc ls (.ref a :: rest)) :=
  cc_callRN (runSUO (x := x) (n := 0) (C := (dbC k).1) (cC := D.1 (7 + k)) (As := []) (rest := rest) (C.2.2.2.2.2.2.1.1 _ _ (db_cl hdb.2.1)).2 ⟨C.1, C.2.1, C.2.2.1, C.2.2.2.1, C.2.2.2.2.1⟩ (w_B0_due hdb h) (lw_meth q606) rfl rfl rfl (mr_ C.2.2.2.2.2.1 hd (by decide)) hl hsm hsp hsp2 q587 q95 ⟨hxn.1, hxn.2, by decide, by decide +kernel⟩ ⟨cc_blind, db_recv C hP hdb, cc_pre C hP hz⟩ rfl rfl hsz rfl (lv_room hW) hdg hcs) kk
abbrev cX10_due : ByteArray := prog_9_method_5_code
def yX10_due : MethodName := ⟨RX10, "due", "()I"⟩
theorem dX10_due_0 : decode cX10_due 0 = .ok (.iconst 2, 1) := by decide +kernel
theorem dX10_due_1 : decode cX10_due 1 = .ok (.ireturn, 1) := by decide +kernel
theorem w_B3_due {l : Launch} {D : va_G} {cA : Nat → ClassId} {ks : List Nat} {ad : Nat → Nat} {A : Nat → Prop} {st : CS} {a k tr : Nat} {dn dm : Int32} (hdb : dbAt ks ad st.2.2.2 a k tr dn dm) {r : Int32} (h : B3_due dn dm = some r) : cR l yX10_due cX10_due 1 (some .int) 0 D cA ks ad A st [.ref a] r := by
  refine cc_ofR (own := RX10) (by decide) rfl (Nat.le_of_ble_eq_true rfl) (fun p e s m below meth c R args ls C hr hlk hP hl hcs => ?_)
  have hx := C.1
  have hb := C.2.1
  have hown := C.2.2.2.1
  have hl : lv_has ls 1 [(0, .ref a)] := hl
  rw [B3_due] at h
  refine lv_iconst (v := 2) hx hb dX10_due_0 (by decide) ?_
  exact mm_iret hx hb hr hlk h dX10_due_1
theorem q593 : (Jvm.Cond.code ({ cls := "ChapterLoan$Ghost", name := "due", desc := "()I" } : Jvm.MethodName) prog_9_method_5_code (1 : Nat) (Option.some Jvm.ClassFile.FieldType.int)) ∈ lw_all := lw_g (lw_at lw_m3 29 rfl) rfl
theorem q592 : (Jvm.Cond.instanceMethod ({ cls := "ChapterLoan$Ghost", name := "due", desc := "()I" } : Jvm.MethodName)) ∈ lw_all := lw_g (lw_at lw_m3 28 rfl) rfl
theorem q2017 : (Jvm.Cond.sameMethod "ChapterLoan$Ghost" "ChapterLoan$Ghost" "due" "()I") ∈ lw_all := lw_g (lw_at lw_m9 13 rfl) rfl
theorem su_B3_due {v : Int32} (C : cC p R d s m args c cc nL own D cA A) (hP : cW D cA ks ad st H) (hz : s.heap.size ≤ H.size) (hdb : dbAt ks ad st.2.2.2 a k tr dn dm) (h : B3_due dn dm = some v) (hl : Cond.methodLink own index yX10_due ∈ lw_all) (hsp : Cond.superclass own yX10_due.cls ∈ lw_all) (hd : 0 + 1 ≤ d) (hsz : ls.size = nL) (hW : (rest.map fun v => v.category).sum ≤ 8) (hcs : cells ≤ R.cells ∧ slots ≤ R.slots) (hdg : decode cc pc = .ok (.invokespecial index, 3)) (kk : W p l e R s m args below meth c H locs cells slots Q (F0 m (pc + 3) ls (.int v :: rest))) : W p l e R s m args below meth c H locs cells slots Q (F0 m pc ls (.ref a :: rest)) :=
  db_superR (As := []) C hP hz hdb (w_B3_due hdb h) (va_cwSU 0 C.2.2.2.2.1 (lw_SU hl q2017 hsp q592 q98 q593) rfl rfl rfl (by decide +kernel) (mr_ C.2.2.2.2.2.1 hd (by decide))) rfl hsz rfl hW hdg hcs kk
abbrev cX11_due : ByteArray := prog_26_method_4_code
def yX11_due : MethodName := ⟨RX11, "due", "()I"⟩
theorem dX11_due_0 : decode cX11_due 0 = .ok (.aload_n 0, 1) := by decide +kernel
theorem dX11_due_1 : decode cX11_due 1 = .ok (.invokespecial 13, 3) := by decide +kernel
theorem dX11_due_4 : decode cX11_due 4 = .ok (.aload_n 0, 1) := by decide +kernel
theorem dX11_due_5 : decode cX11_due 5 = .ok (.getfield 17, 3) := by decide +kernel
theorem dX11_due_8 : decode cX11_due 8 = .ok (.iconst 2, 1) := by decide +kernel
theorem dX11_due_9 : decode cX11_due 9 = .ok (.irem, 1) := by decide +kernel
theorem dX11_due_10 : decode cX11_due 10 = .ok (.iadd, 1) := by decide +kernel
theorem dX11_due_11 : decode cX11_due 11 = .ok (.ireturn, 1) := by decide +kernel
theorem q482 : (Jvm.Cond.fieldLink "ChapterLoan$Twin" (17 : Nat) "ChapterLoan$Twin" "m" "I") ∈ lw_all := lw_g (lw_at lw_m2 158 rfl) rfl
theorem q483 : (Jvm.Cond.sameField "ChapterLoan$Twin" "ChapterLoan$Debtor" "m" "I") ∈ lw_all := lw_g (lw_at lw_m2 159 rfl) rfl
theorem q603 : (Jvm.Cond.methodLink "ChapterLoan$Twin" (13 : Nat) ({ cls := "ChapterLoan$Plagiarist", name := "due", desc := "()I" } : Jvm.MethodName)) ∈ lw_all := lw_g (lw_at lw_m3 39 rfl) rfl
theorem q604 : (Jvm.Cond.sameMethod "ChapterLoan$Plagiarist" "ChapterLoan$Debtor" "due" "()I") ∈ lw_all := lw_g (lw_at lw_m3 40 rfl) rfl
theorem w_B4_due {l : Launch} {D : va_G} {cA : Nat → ClassId} {ks : List Nat} {ad : Nat → Nat} {A : Nat → Prop} {st : CS} {a k tr : Nat} {dn dm : Int32} (hdb : dbAt ks ad st.2.2.2 a k tr dn dm) {r : Int32} (h : B4_due dn dm = some r) : cR l yX11_due cX11_due 1 (some .int) 1 D cA ks ad A st [.ref a] r := by
  refine cc_ofR (own := RX11) (by decide) rfl (Nat.le_of_ble_eq_true rfl) (fun p e s m below meth c R args ls C hr hlk hP hl hcs => ?_)
  have hx := C.1
  have hb := C.2.1
  have hown := C.2.2.2.1
  have hl : lv_has ls 1 [(0, .ref a)] := hl
  rw [B4_due] at h
  refine lv_aload_n hx hb dX11_due_0 rfl (lv_at hl 0 rfl) ?_
  obtain ⟨v1, hv1, h⟩ := bd1_some h
  refine suo_B0_due (x := ⟨"ChapterLoan$Plagiarist", "due", "()I"⟩) C hP (Nat.le_refl _) hdb hv1 q603 q604 q523 q493 (Nat.le_of_ble_eq_true rfl) hl.1 (Nat.le_of_ble_eq_true rfl) hcs dX11_due_1 ?_
  refine lv_aload_n hx hb dX11_due_4 rfl (lv_at hl 0 rfl) ?_
  refine db_get C hP hdb 2 (by decide) (fun k h => (db_T h).2.2.1) q482 (db_same C q483) rfl dX11_due_5 ?_
  refine lv_iconst (v := 2) hx hb dX11_due_8 (by decide) ?_
  refine lv_irem hx hb dX11_due_9 (by decide) ?_
  refine lv_iadd hx hb dX11_due_10 ?_
  exact mm_iret hx hb hr hlk h dX11_due_11
theorem q602 : (Jvm.Cond.code ({ cls := "ChapterLoan$Twin", name := "due", desc := "()I" } : Jvm.MethodName) prog_26_method_4_code (1 : Nat) (Option.some Jvm.ClassFile.FieldType.int)) ∈ lw_all := lw_g (lw_at lw_m3 38 rfl) rfl
theorem q601 : (Jvm.Cond.instanceMethod ({ cls := "ChapterLoan$Twin", name := "due", desc := "()I" } : Jvm.MethodName)) ∈ lw_all := lw_g (lw_at lw_m3 37 rfl) rfl
abbrev cX13_due : ByteArray := prog_16_method_5_code
def yX13_due : MethodName := ⟨RX13, "due", "()I"⟩
theorem dX13_due_0 : decode cX13_due 0 = .ok (.aload_n 0, 1) := by decide +kernel
theorem dX13_due_1 : decode cX13_due 1 = .ok (.invokespecial 23, 3) := by decide +kernel
theorem dX13_due_4 : decode cX13_due 4 = .ok (.aload_n 0, 1) := by decide +kernel
theorem dX13_due_5 : decode cX13_due 5 = .ok (.getfield 17, 3) := by decide +kernel
theorem dX13_due_8 : decode cX13_due 8 = .ok (.iconst 2, 1) := by decide +kernel
theorem dX13_due_9 : decode cX13_due 9 = .ok (.irem, 1) := by decide +kernel
theorem dX13_due_10 : decode cX13_due 10 = .ok (.isub, 1) := by decide +kernel
theorem dX13_due_11 : decode cX13_due 11 = .ok (.ireturn, 1) := by decide +kernel
theorem q598 : (Jvm.Cond.methodLink "ChapterLoan$Saint" (23 : Nat) ({ cls := "ChapterLoan$Ghost", name := "due", desc := "()I" } : Jvm.MethodName)) ∈ lw_all := lw_g (lw_at lw_m3 34 rfl) rfl
theorem w_B6_due {l : Launch} {D : va_G} {cA : Nat → ClassId} {ks : List Nat} {ad : Nat → Nat} {A : Nat → Prop} {st : CS} {a k tr : Nat} {dn dm : Int32} (hdb : dbAt ks ad st.2.2.2 a k tr dn dm) {r : Int32} (h : B6_due dn dm = some r) : cR l yX13_due cX13_due 1 (some .int) 1 D cA ks ad A st [.ref a] r := by
  refine cc_ofR (own := RX13) (by decide) rfl (Nat.le_of_ble_eq_true rfl) (fun p e s m below meth c R args ls C hr hlk hP hl hcs => ?_)
  have hx := C.1
  have hb := C.2.1
  have hown := C.2.2.2.1
  have hl : lv_has ls 1 [(0, .ref a)] := hl
  rw [B6_due] at h
  refine lv_aload_n hx hb dX13_due_0 rfl (lv_at hl 0 rfl) ?_
  obtain ⟨v1, hv1, h⟩ := bd1_some h
  refine su_B3_due C hP (Nat.le_refl _) hdb hv1 q598 q543 (Nat.le_of_ble_eq_true rfl) hl.1 (Nat.le_of_ble_eq_true rfl) hcs dX13_due_1 ?_
  refine lv_aload_n hx hb dX13_due_4 rfl (lv_at hl 0 rfl) ?_
  refine db_get C hP hdb 2 (by decide) (fun k h => (db_T h).2.2.1) q484 (db_same C q485) rfl dX13_due_5 ?_
  refine lv_iconst (v := 2) hx hb dX13_due_8 (by decide) ?_
  refine lv_irem hx hb dX13_due_9 (by decide) ?_
  refine lv_isub hx hb dX13_due_10 ?_
  exact mm_iret hx hb hr hlk h dX13_due_11
theorem q597 : (Jvm.Cond.code ({ cls := "ChapterLoan$Saint", name := "due", desc := "()I" } : Jvm.MethodName) prog_16_method_5_code (1 : Nat) (Option.some Jvm.ClassFile.FieldType.int)) ∈ lw_all := lw_g (lw_at lw_m3 33 rfl) rfl
theorem q596 : (Jvm.Cond.instanceMethod ({ cls := "ChapterLoan$Saint", name := "due", desc := "()I" } : Jvm.MethodName)) ∈ lw_all := lw_g (lw_at lw_m3 32 rfl) rfl
theorem q588 : (Jvm.Cond.selects "ChapterLoan$Debtor" ({ cls := "ChapterLoan$Debtor", name := "due", desc := "()I" } : Jvm.MethodName) ({ cls := "ChapterLoan$Debtor", name := "due", desc := "()I" } : Jvm.MethodName)) ∈ lw_all := lw_g (lw_at lw_m3 24 rfl) rfl
theorem q594 : (Jvm.Cond.selects "ChapterLoan$Plagiarist" ({ cls := "ChapterLoan$Debtor", name := "due", desc := "()I" } : Jvm.MethodName) ({ cls := "ChapterLoan$Debtor", name := "due", desc := "()I" } : Jvm.MethodName)) ∈ lw_all := lw_g (lw_at lw_m3 30 rfl) rfl
theorem q590 : (Jvm.Cond.selects "ChapterLoan$Dreamer" ({ cls := "ChapterLoan$Debtor", name := "due", desc := "()I" } : Jvm.MethodName) ({ cls := "ChapterLoan$Debtor", name := "due", desc := "()I" } : Jvm.MethodName)) ∈ lw_all := lw_g (lw_at lw_m3 26 rfl) rfl
theorem q591 : (Jvm.Cond.selects "ChapterLoan$Ghost" ({ cls := "ChapterLoan$Debtor", name := "due", desc := "()I" } : Jvm.MethodName) ({ cls := "ChapterLoan$Ghost", name := "due", desc := "()I" } : Jvm.MethodName)) ∈ lw_all := lw_g (lw_at lw_m3 27 rfl) rfl
theorem q600 : (Jvm.Cond.selects "ChapterLoan$Twin" ({ cls := "ChapterLoan$Debtor", name := "due", desc := "()I" } : Jvm.MethodName) ({ cls := "ChapterLoan$Twin", name := "due", desc := "()I" } : Jvm.MethodName)) ∈ lw_all := lw_g (lw_at lw_m3 36 rfl) rfl
theorem q599 : (Jvm.Cond.selects "ChapterLoan$Seer" ({ cls := "ChapterLoan$Debtor", name := "due", desc := "()I" } : Jvm.MethodName) ({ cls := "ChapterLoan$Debtor", name := "due", desc := "()I" } : Jvm.MethodName)) ∈ lw_all := lw_g (lw_at lw_m3 35 rfl) rfl
theorem q595 : (Jvm.Cond.selects "ChapterLoan$Saint" ({ cls := "ChapterLoan$Debtor", name := "due", desc := "()I" } : Jvm.MethodName) ({ cls := "ChapterLoan$Saint", name := "due", desc := "()I" } : Jvm.MethodName)) ∈ lw_all := lw_g (lw_at lw_m3 31 rfl) rfl
theorem k_D_due {v : Int32} (C : cC p R d s m args c cc nL own D cA A) (hP : cW D cA ks ad st H) (hz : s.heap.size ≤ H.size) (hdb : dbAt ks ad st.2.2.2 a k tr dn dm) (h : D_due k dn dm  = some v) (hl : Cond.methodLink own index yX7_due ∈ lw_all) (hd : 1 + 1 ≤ d) (hsz : ls.size = nL) (hW : (rest.map fun v => v.category).sum ≤ 8) (hcs : cells ≤ R.cells ∧ slots ≤ R.slots) (hdg : decode cc pc = .ok (.invokevirtual index, 3)) (kk : W p l e R s m args below meth c H locs cells slots Q (F0 m (pc + 3) ls (.int v :: rest))) : W p l e R s m args below meth c H locs cells slots Q (F0 m pc ls (.ref a :: rest)) := by
  match k, hdb.2.1 with
  | 0, _ => exact db_virtR (k := 0) (x := yX7_due) (As := []) C hP hz hdb (w_B0_due hdb h) (va_cwU (owner := RX7) 0 C.2.2.2.2.1 (lw_U hl q589 q588 q587 q95 q606) rfl rfl rfl rfl (by decide +kernel) (mr_ (d := d) (k := 0) C.2.2.2.2.2.1 (by omega) (by decide))) rfl hsz rfl hW hdg hcs kk
  | 1, _ => exact db_virtR (k := 1) (x := yX7_due) (As := []) C hP hz hdb (w_B0_due hdb h) (va_cwU (owner := RX7) 0 C.2.2.2.2.1 (lw_U hl q589 q594 q587 q95 q606) rfl rfl rfl rfl (by decide +kernel) (mr_ (d := d) (k := 0) C.2.2.2.2.2.1 (by omega) (by decide))) rfl hsz rfl hW hdg hcs kk
  | 2, _ => exact db_virtR (k := 2) (x := yX7_due) (As := []) C hP hz hdb (w_B0_due hdb h) (va_cwU (owner := RX7) 0 C.2.2.2.2.1 (lw_U hl q589 q590 q587 q95 q606) rfl rfl rfl rfl (by decide +kernel) (mr_ (d := d) (k := 0) C.2.2.2.2.2.1 (by omega) (by decide))) rfl hsz rfl hW hdg hcs kk
  | 3, _ => exact db_virtR (k := 3) (x := yX7_due) (As := []) C hP hz hdb (w_B3_due hdb h) (va_cwO (owner := RX7) 0 C.2.2.2.2.1 (lw_O hl q589 q587 q591 q592 q98 q593) rfl rfl rfl q606 (by decide +kernel) (mr_ (d := d) (k := 0) C.2.2.2.2.2.1 (by omega) (by decide))) rfl hsz rfl hW hdg hcs kk
  | 4, _ => exact db_virtR (k := 4) (x := yX7_due) (As := []) C hP hz hdb (w_B4_due hdb h) (va_cwO (owner := RX7) 0 C.2.2.2.2.1 (lw_O hl q589 q587 q600 q601 q99 q602) rfl rfl rfl q606 (by decide +kernel) (mr_ (d := d) (k := 1) C.2.2.2.2.2.1 (by omega) (by decide))) rfl hsz rfl hW hdg hcs kk
  | 5, _ => exact db_virtR (k := 5) (x := yX7_due) (As := []) C hP hz hdb (w_B0_due hdb h) (va_cwU (owner := RX7) 0 C.2.2.2.2.1 (lw_U hl q589 q599 q587 q95 q606) rfl rfl rfl rfl (by decide +kernel) (mr_ (d := d) (k := 0) C.2.2.2.2.2.1 (by omega) (by decide))) rfl hsz rfl hW hdg hcs kk
  | 6, _ => exact db_virtR (k := 6) (x := yX7_due) (As := []) C hP hz hdb (w_B6_due hdb h) (va_cwO (owner := RX7) 0 C.2.2.2.2.1 (lw_O hl q589 q587 q595 q596 q101 q597) rfl rfl rfl q606 (by decide +kernel) (mr_ (d := d) (k := 1) C.2.2.2.2.2.1 (by omega) (by decide))) rfl hsz rfl hW hdg hcs kk
abbrev cX7_pays : ByteArray := prog_3_method_6_code
def yX7_pays : MethodName := ⟨RX7, "pays", "(I)I"⟩
theorem dX7_pays_0 : decode cX7_pays 0 = .ok (.iload_n 1, 1) := by decide +kernel
theorem dX7_pays_1 : decode cX7_pays 1 = .ok (.ireturn, 1) := by decide +kernel
theorem w_B0_pays {l : Launch} {D : va_G} {cA : Nat → ClassId} {ks : List Nat} {ad : Nat → Nat} {A : Nat → Prop} {st : CS} {a k tr : Nat} {dn dm : Int32} (hdb : dbAt ks ad st.2.2.2 a k tr dn dm) {x1 : Int32} {r : Int32} (h : B0_pays dn dm x1 = some r) : cR l yX7_pays cX7_pays 2 (some .int) 0 D cA ks ad A st [.ref a, .int x1] r := by
  refine cc_ofR (own := RX7) (by decide) rfl (Nat.le_of_ble_eq_true rfl) (fun p e s m below meth c R args ls C hr hlk hP hl hcs => ?_)
  have hx := C.1
  have hb := C.2.1
  have hown := C.2.2.2.1
  have hl : lv_has ls 2 [(0, .ref a), (1, .int x1)] := hl
  rw [B0_pays] at h
  refine lv_iload_n hx hb dX7_pays_0 rfl (lv_at hl 1 rfl) ?_
  exact mm_iret hx hb hr hlk h dX7_pays_1
theorem q789 : (Jvm.Cond.code ({ cls := "ChapterLoan$Debtor", name := "pays", desc := "(I)I" } : Jvm.MethodName) prog_3_method_6_code (2 : Nat) (Option.some Jvm.ClassFile.FieldType.int)) ∈ lw_all := lw_g (lw_at lw_m3 225 rfl) rfl
theorem q772 : (Jvm.Cond.instanceMethod ({ cls := "ChapterLoan$Debtor", name := "pays", desc := "(I)I" } : Jvm.MethodName)) ∈ lw_all := lw_g (lw_at lw_m3 208 rfl) rfl
theorem q774 : (Jvm.Cond.sameMethod "ChapterLoan$Debtor" "ChapterLoan$Debtor" "pays" "(I)I") ∈ lw_all := lw_g (lw_at lw_m3 210 rfl) rfl
theorem su_B0_pays {a0 : Int32} {v : Int32} (C : cC p R d s m args c cc nL own D cA A) (hP : cW D cA ks ad st H) (hz : s.heap.size ≤ H.size) (hdb : dbAt ks ad st.2.2.2 a k tr dn dm) (h : B0_pays dn dm a0 = some v) (hl : Cond.methodLink own index yX7_pays ∈ lw_all) (hsp : Cond.superclass own yX7_pays.cls ∈ lw_all) (hd : 0 + 1 ≤ d) (hsz : ls.size = nL) (hW : (rest.map fun v => v.category).sum ≤ 8) (hcs : cells ≤ R.cells ∧ slots ≤ R.slots) (hdg : decode cc pc = .ok (.invokespecial index, 3)) (kk : W p l e R s m args below meth c H locs cells slots Q (F0 m (pc + 3) ls (.int v :: rest))) : W p l e R s m args below meth c H locs cells slots Q (F0 m pc ls (.int a0 :: .ref a :: rest)) :=
  db_superR (As := [.int a0]) C hP hz hdb (w_B0_pays hdb h) (va_cwSU 1 C.2.2.2.2.1 (lw_SU hl q774 hsp q772 q95 q789) rfl rfl rfl (by decide +kernel) (mr_ C.2.2.2.2.2.1 hd (by decide))) rfl hsz rfl hW hdg hcs kk
theorem suo_B0_pays {a0 : Int32} {v : Int32} {x : MethodName} (C : cC p R d s m args c cc nL own D cA A) (hP : cW D cA ks ad st H) (hz : s.heap.size ≤ H.size) (hdb : dbAt ks ad st.2.2.2 a k tr dn dm) (h : B0_pays dn dm a0 = some v) (hl : Cond.methodLink own index x ∈ lw_all) (hsm : Cond.sameMethod x.cls yX7_pays.cls x.name x.desc ∈ lw_all) (hsp : Cond.superclass own x.cls ∈ lw_all) (hsp2 : Cond.superclass x.cls yX7_pays.cls ∈ lw_all) (hd : 0 + 1 ≤ d) (hsz : ls.size = nL) (hW : (rest.map fun v => v.category).sum ≤ 8) (hcs : cells ≤ R.cells ∧ slots ≤ R.slots) (hdg : decode cc pc = .ok (.invokespecial index, 3)) (kk : W p l e R s m args below meth c H locs cells slots Q (F0 m (pc + 3) ls (.int v :: rest))) (hxn : x.name = yX7_pays.name ∧ x.desc = yX7_pays.desc := by exact ⟨rfl, rfl⟩) : W p l e R s m args below meth c H locs cells slots Q (F0 m pc ls (.int a0 :: .ref a :: rest)) :=
  cc_callRN (runSUO (x := x) (n := 1) (C := (dbC k).1) (cC := D.1 (7 + k)) (As := [.int a0]) (rest := rest) (C.2.2.2.2.2.2.1.1 _ _ (db_cl hdb.2.1)).2 ⟨C.1, C.2.1, C.2.2.1, C.2.2.2.1, C.2.2.2.2.1⟩ (w_B0_pays hdb h) (lw_meth q789) rfl rfl rfl (mr_ C.2.2.2.2.2.1 hd (by decide)) hl hsm hsp hsp2 q772 q95 ⟨hxn.1, hxn.2, by decide, by decide +kernel⟩ ⟨cc_blind, db_recv C hP hdb, cc_pre C hP hz⟩ rfl rfl hsz rfl (lv_room hW) hdg hcs) kk
abbrev cX8_pays : ByteArray := prog_13_method_5_code
def yX8_pays : MethodName := ⟨RX8, "pays", "(I)I"⟩
theorem dX8_pays_0 : decode cX8_pays 0 = .ok (.aload_n 0, 1) := by decide +kernel
theorem dX8_pays_1 : decode cX8_pays 1 = .ok (.iload_n 1, 1) := by decide +kernel
theorem dX8_pays_2 : decode cX8_pays 2 = .ok (.invokespecial 17, 3) := by decide +kernel
theorem dX8_pays_5 : decode cX8_pays 5 = .ok (.iconst 2, 1) := by decide +kernel
theorem dX8_pays_6 : decode cX8_pays 6 = .ok (.idiv, 1) := by decide +kernel
theorem dX8_pays_7 : decode cX8_pays 7 = .ok (.ireturn, 1) := by decide +kernel
theorem q780 : (Jvm.Cond.methodLink "ChapterLoan$Plagiarist" (17 : Nat) ({ cls := "ChapterLoan$Debtor", name := "pays", desc := "(I)I" } : Jvm.MethodName)) ∈ lw_all := lw_g (lw_at lw_m3 216 rfl) rfl
theorem w_B1_pays {l : Launch} {D : va_G} {cA : Nat → ClassId} {ks : List Nat} {ad : Nat → Nat} {A : Nat → Prop} {st : CS} {a k tr : Nat} {dn dm : Int32} (hdb : dbAt ks ad st.2.2.2 a k tr dn dm) {x1 : Int32} {r : Int32} (h : B1_pays dn dm x1 = some r) : cR l yX8_pays cX8_pays 2 (some .int) 1 D cA ks ad A st [.ref a, .int x1] r := by
  refine cc_ofR (own := RX8) (by decide) rfl (Nat.le_of_ble_eq_true rfl) (fun p e s m below meth c R args ls C hr hlk hP hl hcs => ?_)
  have hx := C.1
  have hb := C.2.1
  have hown := C.2.2.2.1
  have hl : lv_has ls 2 [(0, .ref a), (1, .int x1)] := hl
  rw [B1_pays] at h
  refine lv_aload_n hx hb dX8_pays_0 rfl (lv_at hl 0 rfl) ?_
  refine lv_iload_n hx hb dX8_pays_1 rfl (lv_at hl 1 rfl) ?_
  obtain ⟨v1, hv1, h⟩ := bd1_some h
  refine su_B0_pays C hP (Nat.le_refl _) hdb hv1 q780 q493 (Nat.le_of_ble_eq_true rfl) hl.1 (Nat.le_of_ble_eq_true rfl) hcs dX8_pays_2 ?_
  refine lv_iconst (v := 2) hx hb dX8_pays_5 (by decide) ?_
  refine lv_idiv hx hb dX8_pays_6 (by decide) ?_
  exact mm_iret hx hb hr hlk h dX8_pays_7
theorem q779 : (Jvm.Cond.code ({ cls := "ChapterLoan$Plagiarist", name := "pays", desc := "(I)I" } : Jvm.MethodName) prog_13_method_5_code (2 : Nat) (Option.some Jvm.ClassFile.FieldType.int)) ∈ lw_all := lw_g (lw_at lw_m3 215 rfl) rfl
theorem q778 : (Jvm.Cond.instanceMethod ({ cls := "ChapterLoan$Plagiarist", name := "pays", desc := "(I)I" } : Jvm.MethodName)) ∈ lw_all := lw_g (lw_at lw_m3 214 rfl) rfl
abbrev cX12_pays : ByteArray := prog_17_method_5_code
def yX12_pays : MethodName := ⟨RX12, "pays", "(I)I"⟩
theorem dX12_pays_0 : decode cX12_pays 0 = .ok (.iconst 2, 1) := by decide +kernel
theorem dX12_pays_1 : decode cX12_pays 1 = .ok (.aload_n 0, 1) := by decide +kernel
theorem dX12_pays_2 : decode cX12_pays 2 = .ok (.iload_n 1, 1) := by decide +kernel
theorem dX12_pays_3 : decode cX12_pays 3 = .ok (.invokespecial 23, 3) := by decide +kernel
theorem dX12_pays_6 : decode cX12_pays 6 = .ok (.imul, 1) := by decide +kernel
theorem dX12_pays_7 : decode cX12_pays 7 = .ok (.ireturn, 1) := by decide +kernel
theorem q785 : (Jvm.Cond.methodLink "ChapterLoan$Seer" (23 : Nat) ({ cls := "ChapterLoan$Dreamer", name := "pays", desc := "(I)I" } : Jvm.MethodName)) ∈ lw_all := lw_g (lw_at lw_m3 221 rfl) rfl
theorem q786 : (Jvm.Cond.sameMethod "ChapterLoan$Dreamer" "ChapterLoan$Debtor" "pays" "(I)I") ∈ lw_all := lw_g (lw_at lw_m3 222 rfl) rfl
theorem w_B5_pays {l : Launch} {D : va_G} {cA : Nat → ClassId} {ks : List Nat} {ad : Nat → Nat} {A : Nat → Prop} {st : CS} {a k tr : Nat} {dn dm : Int32} (hdb : dbAt ks ad st.2.2.2 a k tr dn dm) {x1 : Int32} {r : Int32} (h : B5_pays dn dm x1 = some r) : cR l yX12_pays cX12_pays 2 (some .int) 1 D cA ks ad A st [.ref a, .int x1] r := by
  refine cc_ofR (own := RX12) (by decide) rfl (Nat.le_of_ble_eq_true rfl) (fun p e s m below meth c R args ls C hr hlk hP hl hcs => ?_)
  have hx := C.1
  have hb := C.2.1
  have hown := C.2.2.2.1
  have hl : lv_has ls 2 [(0, .ref a), (1, .int x1)] := hl
  rw [B5_pays] at h
  refine lv_iconst (v := 2) hx hb dX12_pays_0 (by decide) ?_
  refine lv_aload_n hx hb dX12_pays_1 rfl (lv_at hl 0 rfl) ?_
  refine lv_iload_n hx hb dX12_pays_2 rfl (lv_at hl 1 rfl) ?_
  obtain ⟨v1, hv1, h⟩ := bd1_some h
  refine suo_B0_pays (x := ⟨"ChapterLoan$Dreamer", "pays", "(I)I"⟩) C hP (Nat.le_refl _) hdb hv1 q785 q786 q533 q503 (Nat.le_of_ble_eq_true rfl) hl.1 (Nat.le_of_ble_eq_true rfl) hcs dX12_pays_3 ?_
  refine lv_imul hx hb dX12_pays_6 ?_
  exact mm_iret hx hb hr hlk h dX12_pays_7
theorem q784 : (Jvm.Cond.code ({ cls := "ChapterLoan$Seer", name := "pays", desc := "(I)I" } : Jvm.MethodName) prog_17_method_5_code (2 : Nat) (Option.some Jvm.ClassFile.FieldType.int)) ∈ lw_all := lw_g (lw_at lw_m3 220 rfl) rfl
theorem q783 : (Jvm.Cond.instanceMethod ({ cls := "ChapterLoan$Seer", name := "pays", desc := "(I)I" } : Jvm.MethodName)) ∈ lw_all := lw_g (lw_at lw_m3 219 rfl) rfl
theorem q773 : (Jvm.Cond.selects "ChapterLoan$Debtor" ({ cls := "ChapterLoan$Debtor", name := "pays", desc := "(I)I" } : Jvm.MethodName) ({ cls := "ChapterLoan$Debtor", name := "pays", desc := "(I)I" } : Jvm.MethodName)) ∈ lw_all := lw_g (lw_at lw_m3 209 rfl) rfl
theorem q777 : (Jvm.Cond.selects "ChapterLoan$Plagiarist" ({ cls := "ChapterLoan$Debtor", name := "pays", desc := "(I)I" } : Jvm.MethodName) ({ cls := "ChapterLoan$Plagiarist", name := "pays", desc := "(I)I" } : Jvm.MethodName)) ∈ lw_all := lw_g (lw_at lw_m3 213 rfl) rfl
theorem q775 : (Jvm.Cond.selects "ChapterLoan$Dreamer" ({ cls := "ChapterLoan$Debtor", name := "pays", desc := "(I)I" } : Jvm.MethodName) ({ cls := "ChapterLoan$Debtor", name := "pays", desc := "(I)I" } : Jvm.MethodName)) ∈ lw_all := lw_g (lw_at lw_m3 211 rfl) rfl
theorem q776 : (Jvm.Cond.selects "ChapterLoan$Ghost" ({ cls := "ChapterLoan$Debtor", name := "pays", desc := "(I)I" } : Jvm.MethodName) ({ cls := "ChapterLoan$Debtor", name := "pays", desc := "(I)I" } : Jvm.MethodName)) ∈ lw_all := lw_g (lw_at lw_m3 212 rfl) rfl
theorem q788 : (Jvm.Cond.selects "ChapterLoan$Twin" ({ cls := "ChapterLoan$Debtor", name := "pays", desc := "(I)I" } : Jvm.MethodName) ({ cls := "ChapterLoan$Plagiarist", name := "pays", desc := "(I)I" } : Jvm.MethodName)) ∈ lw_all := lw_g (lw_at lw_m3 224 rfl) rfl
theorem q782 : (Jvm.Cond.selects "ChapterLoan$Seer" ({ cls := "ChapterLoan$Debtor", name := "pays", desc := "(I)I" } : Jvm.MethodName) ({ cls := "ChapterLoan$Seer", name := "pays", desc := "(I)I" } : Jvm.MethodName)) ∈ lw_all := lw_g (lw_at lw_m3 218 rfl) rfl
theorem q781 : (Jvm.Cond.selects "ChapterLoan$Saint" ({ cls := "ChapterLoan$Debtor", name := "pays", desc := "(I)I" } : Jvm.MethodName) ({ cls := "ChapterLoan$Debtor", name := "pays", desc := "(I)I" } : Jvm.MethodName)) ∈ lw_all := lw_g (lw_at lw_m3 217 rfl) rfl
theorem k_D_pays {a0 : Int32} {v : Int32} (C : cC p R d s m args c cc nL own D cA A) (hP : cW D cA ks ad st H) (hz : s.heap.size ≤ H.size) (hdb : dbAt ks ad st.2.2.2 a k tr dn dm) (h : D_pays k dn dm a0 = some v) (hl : Cond.methodLink own index yX7_pays ∈ lw_all) (hd : 1 + 1 ≤ d) (hsz : ls.size = nL) (hW : (rest.map fun v => v.category).sum ≤ 8) (hcs : cells ≤ R.cells ∧ slots ≤ R.slots) (hdg : decode cc pc = .ok (.invokevirtual index, 3)) (kk : W p l e R s m args below meth c H locs cells slots Q (F0 m (pc + 3) ls (.int v :: rest))) : W p l e R s m args below meth c H locs cells slots Q (F0 m pc ls (.int a0 :: .ref a :: rest)) := by
  match k, hdb.2.1 with
  | 0, _ => exact db_virtR (k := 0) (x := yX7_pays) (As := [.int a0]) C hP hz hdb (w_B0_pays hdb h) (va_cwU (owner := RX7) 1 C.2.2.2.2.1 (lw_U hl q774 q773 q772 q95 q789) rfl rfl rfl rfl (by decide +kernel) (mr_ (d := d) (k := 0) C.2.2.2.2.2.1 (by omega) (by decide))) rfl hsz rfl hW hdg hcs kk
  | 1, _ => exact db_virtR (k := 1) (x := yX7_pays) (As := [.int a0]) C hP hz hdb (w_B1_pays hdb h) (va_cwO (owner := RX7) 1 C.2.2.2.2.1 (lw_O hl q774 q772 q777 q778 q96 q779) rfl rfl rfl q789 (by decide +kernel) (mr_ (d := d) (k := 1) C.2.2.2.2.2.1 (by omega) (by decide))) rfl hsz rfl hW hdg hcs kk
  | 2, _ => exact db_virtR (k := 2) (x := yX7_pays) (As := [.int a0]) C hP hz hdb (w_B0_pays hdb h) (va_cwU (owner := RX7) 1 C.2.2.2.2.1 (lw_U hl q774 q775 q772 q95 q789) rfl rfl rfl rfl (by decide +kernel) (mr_ (d := d) (k := 0) C.2.2.2.2.2.1 (by omega) (by decide))) rfl hsz rfl hW hdg hcs kk
  | 3, _ => exact db_virtR (k := 3) (x := yX7_pays) (As := [.int a0]) C hP hz hdb (w_B0_pays hdb h) (va_cwU (owner := RX7) 1 C.2.2.2.2.1 (lw_U hl q774 q776 q772 q95 q789) rfl rfl rfl rfl (by decide +kernel) (mr_ (d := d) (k := 0) C.2.2.2.2.2.1 (by omega) (by decide))) rfl hsz rfl hW hdg hcs kk
  | 4, _ => exact db_virtR (k := 4) (x := yX7_pays) (As := [.int a0]) C hP hz hdb (w_B1_pays hdb h) (va_cwO (owner := RX7) 1 C.2.2.2.2.1 (lw_O hl q774 q772 q788 q778 q96 q779) rfl rfl rfl q789 (by decide +kernel) (mr_ (d := d) (k := 1) C.2.2.2.2.2.1 (by omega) (by decide))) rfl hsz rfl hW hdg hcs kk
  | 5, _ => exact db_virtR (k := 5) (x := yX7_pays) (As := [.int a0]) C hP hz hdb (w_B5_pays hdb h) (va_cwO (owner := RX7) 1 C.2.2.2.2.1 (lw_O hl q774 q772 q782 q783 q100 q784) rfl rfl rfl q789 (by decide +kernel) (mr_ (d := d) (k := 1) C.2.2.2.2.2.1 (by omega) (by decide))) rfl hsz rfl hW hdg hcs kk
  | 6, _ => exact db_virtR (k := 6) (x := yX7_pays) (As := [.int a0]) C hP hz hdb (w_B0_pays hdb h) (va_cwU (owner := RX7) 1 C.2.2.2.2.1 (lw_U hl q774 q781 q772 q95 q789) rfl rfl rfl rfl (by decide +kernel) (mr_ (d := d) (k := 0) C.2.2.2.2.2.1 (by omega) (by decide))) rfl hsz rfl hW hdg hcs kk
end
