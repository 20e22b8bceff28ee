/-! ChapterLoan: sheets read and written: walks -/
set_option maxRecDepth 100000
section
variable {p : Program} {l : Launch} {e : Env} {R : Room} {s : State} {m : MethodId} {args : Array Value} {below : List Frame} {meth : Method} {c : Code} {H : Heap} {locs : List Loc} {cells slots d : Nat} {Q : State → Prop} {cc : ByteArray} {pc nL : Nat} {ls : Array Slot} {rest : List Value} {D : va_G} {cA : Nat → ClassId} {ks : List Nat} {ad : Nat → Nat} {A : Nat → Prop} {st : CS} {H0 : Heap} {own : String} {index : Nat} {t : Nat}
theorem rdi_some {n j : Nat} {i : Int32} (h : rdi n i = some j) : vp_in i n ∧ i.toNatClampNeg = j ∧ j < n := by
  unfold rdi at h
  split at h
  · cases h
  · rename_i hq
    have e := Option.some.inj h
    exact ⟨hq, e, by omega⟩
theorem rdi_lt {n j : Nat} {i : Int32} (h : rdi n i = some j) : j < n := (rdi_some h).2.2
theorem cg_sh {j : Nat} (hj : j < 4) : cg cA ad st (69 + j) = .inr (5, [va_rf (st.2.2.1 (69 + j) 0)]) := by
  match j, hj with
  | 0, _ => rfl
  | 1, _ => rfl
  | 2, _ => rfl
  | 3, _ => rfl
theorem sh_ald {i : Int32} {j : Nat} (C : cC p R d s m args c cc nL own D cA A) (hO : klOk A ks ad) (hP : cW D cA ks ad st H) (hj : rdi 4 i = some j) (hdg : decode cc pc = .ok (.aaload, 1)) (kk : W p l e R s m args below meth c H locs cells slots Q (F0 m (pc + 1) ls (.ref (ad (69 + j)) :: rest))) : W p l e R s m args below meth c H locs cells slots Q (F0 m pc ls (.int i :: .ref (ad 68) :: rest)) := by
  obtain ⟨h1, h2, h3⟩ := rdi_some hj
  refine cc_ald (v := some (ad (69 + j))) (a := st.2.2.1 68) (n := 4) C hP 6 (hO.2.2.2 68 (by decide)) rfl rfl ?_ hdg kk
  unfold rdq
  rw [if_neg h1, h2, hP.2.2.2 j h3]
theorem sh_held {j : Nat} {r : Option Nat} (C : cC p R d s m args c cc nL RX0 D cA A) (hO : klOk A ks ad) (hP : cW D cA ks ad st H) (hj : j < 4) (er : st.2.2.1 (69 + j) 0 = r) (hdg : decode cc pc = .ok (.getfield 98, 3)) (kk : W p l e R s m args below meth c H locs cells slots Q (F0 m (pc + 3) ls (va_rf r :: rest))) : W p l e R s m args below meth c H locs cells slots Q (F0 m pc ls (.ref (ad (69 + j)) :: rest)) := by
  subst er
  exact cc_getN (Cn := RX5) (ref := RX5) (T := TX5) (N := 1) C hP (hO.2.2.2 (69 + j) (by omega)) (cg_sh hj) rfl in_X5 0 (by decide) (List.mem_of_getElem? (i := 40) rfl) (fun _ h => h) rfl hdg kk
theorem sh_live {j a : Nat} (hP : cW D cA ks ad st H) (hj : j < 4) (er : st.2.2.1 (69 + j) 0 = some a) : live ks ad a := hP.2.1 (69 + j) 0 a (by omega) (by omega) (by omega) er
theorem sh_cast {a w b n : Nat} {f : Nat → Int32} (C : cC p R d s m args c cc nL own D cA A) (hP : cW D cA ks ad st H) (hta : live ks ad a) (hsh : shOf cA st.2.2.2 a = some (w, b, n, f)) (hl : Cond.classLink own index RX21 ∈ lw_all) (hdg : decode cc pc = .ok (.checkcast index, 3)) (kk : W p l e R s m args below meth c H locs cells slots Q (F0 m (pc + 3) ls (.ref a :: rest))) : W p l e R s m args below meth c H locs cells slots Q (F0 m pc ls (.ref a :: rest)) := by
  rcases shOf_some hsh with ⟨rfl, hpe, hpb⟩ | ⟨rfl, hpe, hpb⟩ | ⟨rfl, hpe, hpb⟩
  · exact va_castY (C := RX22) C.1 C.2.1 C.2.2.2.1 (C.2.2.2.2.1 _ hl) (C.2.2.2.2.2.2.2.1 _ (List.mem_of_getElem? (i := 95) rfl)) (tm_recv C hP hta hpe (q := (RX22, TX22, 1)) rfl) hdg kk
  · exact va_castY (C := RX23) C.1 C.2.1 C.2.2.2.1 (C.2.2.2.2.1 _ hl) (C.2.2.2.2.2.2.2.1 _ (List.mem_of_getElem? (i := 97) rfl)) (tm_recv C hP hta hpe (q := (RX23, TX23, 1)) rfl) hdg kk
  · exact va_castY (C := RX24) C.1 C.2.1 C.2.2.2.1 (C.2.2.2.2.1 _ hl) (C.2.2.2.2.2.2.2.1 _ (List.mem_of_getElem? (i := 96) rfl)) (tm_recv C hP hta hpe (q := (RX24, TX24, 1)) rfl) hdg kk

abbrev cX0_sheetAt : ByteArray := prog_1_method_15_code
def yX0_sheetAt : MethodName := ⟨RX0, "sheetAt", "(I)LChapterLoan$Sheet;"⟩
theorem dX0_sheetAt_0 : decode cX0_sheetAt 0 = .ok (.aload_n 0, 1) := by decide +kernel
theorem dX0_sheetAt_1 : decode cX0_sheetAt 1 = .ok (.aload_n 0, 1) := by decide +kernel
theorem dX0_sheetAt_2 : decode cX0_sheetAt 2 = .ok (.getfield 69, 3) := by decide +kernel
theorem dX0_sheetAt_5 : decode cX0_sheetAt 5 = .ok (.iload_n 1, 1) := by decide +kernel
theorem dX0_sheetAt_6 : decode cX0_sheetAt 6 = .ok (.aaload, 1) := by decide +kernel
theorem dX0_sheetAt_7 : decode cX0_sheetAt 7 = .ok (.getfield 98, 3) := by decide +kernel
theorem dX0_sheetAt_10 : decode cX0_sheetAt 10 = .ok (.ifnull 7, 3) := by decide +kernel
theorem dX0_sheetAt_13 : decode cX0_sheetAt 13 = .ok (.iconst 1, 1) := by decide +kernel
theorem dX0_sheetAt_14 : decode cX0_sheetAt 14 = .ok (.goto 4, 3) := by decide +kernel
theorem dX0_sheetAt_17 : decode cX0_sheetAt 17 = .ok (.iconst 0, 1) := by decide +kernel
theorem dX0_sheetAt_18 : decode cX0_sheetAt 18 = .ok (.iconst 2, 1) := by decide +kernel
theorem dX0_sheetAt_19 : decode cX0_sheetAt 19 = .ok (.invokevirtual 102, 3) := by decide +kernel
theorem dX0_sheetAt_22 : decode cX0_sheetAt 22 = .ok (.aload_n 0, 1) := by decide +kernel
theorem dX0_sheetAt_23 : decode cX0_sheetAt 23 = .ok (.getfield 69, 3) := by decide +kernel
theorem dX0_sheetAt_26 : decode cX0_sheetAt 26 = .ok (.iload_n 1, 1) := by decide +kernel
theorem dX0_sheetAt_27 : decode cX0_sheetAt 27 = .ok (.aaload, 1) := by decide +kernel
theorem dX0_sheetAt_28 : decode cX0_sheetAt 28 = .ok (.getfield 98, 3) := by decide +kernel
theorem dX0_sheetAt_31 : decode cX0_sheetAt 31 = .ok (.checkcast 106, 3) := by decide +kernel
theorem dX0_sheetAt_34 : decode cX0_sheetAt 34 = .ok (.areturn, 1) := by decide +kernel
theorem q1150 : (Jvm.Cond.classLink "ChapterLoan" (106 : Nat) "ChapterLoan$Sheet") ∈ lw_all := lw_g (lw_at lw_m5 106 rfl) rfl
theorem w_L_sheetAt {l : Launch} {D : va_G} {cA : Nat → ClassId} {ks : List Nat} {ad : Nat → Nat} {A : Nat → Prop} (hO : klOk A ks ad) {st st' : CS} {x1 : Int32} {o : Option Nat} (h : L_sheetAt cA st x1 = some (o, st')) : cX l yX0_sheetAt cX0_sheetAt 2 (some (.object "ChapterLoan$Sheet")) 2 D cA ks ad A st [.ref (ad 60), .int x1] (o.map fun v => some (.ref v)) st' := by
  refine cc_ofX (own := RX0) (by decide) rfl (Nat.le_of_ble_eq_true rfl) (fun p e s m below meth c R args ls C hr hlk htab hP hS hl hcs => ?_)
  have hx := C.1
  have hb := C.2.1
  have hown := C.2.2.2.1
  have hNst := C.2.2.2.2.2.2.2.1
  have hl : lv_has ls 2 [(0, .ref (ad 60)), (1, .int x1)] := hl
  rw [L_sheetAt] at h
  refine lv_aload_n hx hb dX0_sheetAt_0 rfl (lv_at hl 0 rfl) ?_
  refine lv_aload_n hx hb dX0_sheetAt_1 rfl (lv_at hl 0 rfl) ?_
  refine lg_sheets C hO hP dX0_sheetAt_2 ?_
  refine lv_iload_n hx hb dX0_sheetAt_5 rfl (lv_at hl 1 rfl) ?_
  obtain ⟨j1, hj1, h⟩ := bd1_some h
  refine sh_ald C hO hP hj1 dX0_sheetAt_6 ?_
  obtain ⟨r2, hr2, h⟩ := bd1_some h
  have er2 := Option.some.inj hr2
  refine sh_held C hO hP (rdi_lt hj1) er2 dX0_sheetAt_7 ?_
  rcases r2 with _ | a3
  · rw [onq_none] at h
    refine lv_ifnullN (tgt := 17) hx hb dX0_sheetAt_10 rfl ?_
    refine lv_iconst (v := 0) hx hb dX0_sheetAt_17 (by decide) ?_
    refine lv_iconst (v := 2) hx hb dX0_sheetAt_18 (by decide) ?_
    obtain ⟨o6, st5, hv4, h⟩ := bd2_some h
    rcases o6 with _ | v4
    · rw [onx_none] at h
      refine k_L_needT C hO hP hS hv4 q402 (Nat.le_of_ble_eq_true rfl) hl.1 (Nat.le_of_ble_eq_true rfl) hcs dX0_sheetAt_19 (fun H locs hP hS => ?_)
      cases h
      exact x_out htab hlk rfl hP hS
    · rw [onx_some] at h
      refine k_L_needR C hO hP hS hv4 q402 (Nat.le_of_ble_eq_true rfl) hl.1 (Nat.le_of_ble_eq_true rfl) hcs dX0_sheetAt_19 (fun H locs hP hS => ?_)
      refine lv_aload_n hx hb dX0_sheetAt_22 rfl (lv_at hl 0 rfl) ?_
      refine lg_sheets C hO hP dX0_sheetAt_23 ?_
      refine lv_iload_n hx hb dX0_sheetAt_26 rfl (lv_at hl 1 rfl) ?_
      obtain ⟨j7, hj7, h⟩ := bd1_some h
      refine sh_ald C hO hP hj7 dX0_sheetAt_27 ?_
      obtain ⟨r8, hr8, h⟩ := bd1_some h
      have er8 := Option.some.inj hr8
      refine sh_held C hO hP (rdi_lt hj7) er8 dX0_sheetAt_28 ?_
      rcases r8 with _ | a9
      · exact non_some h
      · rw [onq_some] at h
        have hla9 := sh_live hP (rdi_lt hj7) er8
        obtain ⟨w10, b11, n12, f13, hsw10, h⟩ := bd4_some h
        refine sh_cast C hP hla9 hsw10 q1150 dX0_sheetAt_31 ?_
        cases h
        exact x_ans rfl (W.aret hx hb hr (Or.inl ⟨_, rfl⟩) (Or.inr ⟨_, rfl⟩) (fun t ht _ => ⟨rfl, by rw [ht]; exact hP, hS.F ht⟩) hS.2.2 dX0_sheetAt_34)
  · rw [onq_some] at h
    refine lv_ifnull hx hb dX0_sheetAt_10 ?_
    refine lv_iconst (v := 1) hx hb dX0_sheetAt_13 (by decide) ?_
    refine lv_goto (tgt := 18) hx hb dX0_sheetAt_14 rfl ?_
    refine lv_iconst (v := 2) hx hb dX0_sheetAt_18 (by decide) ?_
    obtain ⟨o16, st15, hv14, h⟩ := bd2_some h
    rcases o16 with _ | v14
    · rw [onx_none] at h
      refine k_L_needT C hO hP hS hv14 q402 (Nat.le_of_ble_eq_true rfl) hl.1 (Nat.le_of_ble_eq_true rfl) hcs dX0_sheetAt_19 (fun H locs hP hS => ?_)
      cases h
      exact x_out htab hlk rfl hP hS
    · rw [onx_some] at h
      refine k_L_needR C hO hP hS hv14 q402 (Nat.le_of_ble_eq_true rfl) hl.1 (Nat.le_of_ble_eq_true rfl) hcs dX0_sheetAt_19 (fun H locs hP hS => ?_)
      refine lv_aload_n hx hb dX0_sheetAt_22 rfl (lv_at hl 0 rfl) ?_
      refine lg_sheets C hO hP dX0_sheetAt_23 ?_
      refine lv_iload_n hx hb dX0_sheetAt_26 rfl (lv_at hl 1 rfl) ?_
      obtain ⟨j17, hj17, h⟩ := bd1_some h
      refine sh_ald C hO hP hj17 dX0_sheetAt_27 ?_
      obtain ⟨r18, hr18, h⟩ := bd1_some h
      have er18 := Option.some.inj hr18
      refine sh_held C hO hP (rdi_lt hj17) er18 dX0_sheetAt_28 ?_
      rcases r18 with _ | a19
      · exact non_some h
      · rw [onq_some] at h
        have hla19 := sh_live hP (rdi_lt hj17) er18
        obtain ⟨w20, b21, n22, f23, hsw20, h⟩ := bd4_some h
        refine sh_cast C hP hla19 hsw20 q1150 dX0_sheetAt_31 ?_
        cases h
        exact x_ans rfl (W.aret hx hb hr (Or.inl ⟨_, rfl⟩) (Or.inr ⟨_, rfl⟩) (fun t ht _ => ⟨rfl, by rw [ht]; exact hP, hS.F ht⟩) hS.2.2 dX0_sheetAt_34)
theorem q1149 : (Jvm.Cond.code ({ cls := "ChapterLoan", name := "sheetAt", desc := "(I)LChapterLoan$Sheet;" } : Jvm.MethodName) prog_1_method_15_code (2 : Nat) (Option.some (Jvm.ClassFile.FieldType.object "ChapterLoan$Sheet"))) ∈ lw_all := lw_g (lw_at lw_m5 105 rfl) rfl
theorem q1148 : (Jvm.Cond.instanceMethod ({ cls := "ChapterLoan", name := "sheetAt", desc := "(I)LChapterLoan$Sheet;" } : Jvm.MethodName)) ∈ lw_all := lw_g (lw_at lw_m5 104 rfl) rfl
theorem k_L_sheetAtR {a0 : Int32} {v : Nat} {st' : CS} (C : cC p R d s m args c cc nL RX0 D cA A) (hO : klOk A ks ad) (hP : cW D cA ks ad st H) (hS : va_S A s.heap H locs) (h : L_sheetAt cA st a0 = some ((some v), st')) (hl : Cond.methodLink RX0 index yX0_sheetAt ∈ lw_all) (hd : 2 + 1 ≤ d) (hsz : ls.size = nL) (hW : (rest.map fun v => v.category).sum ≤ 8) (hcs : cells ≤ R.cells ∧ slots ≤ R.slots) (hdg : decode cc pc = .ok (.invokevirtual index, 3)) (kk : ∀ (H1 : Heap) (locs1 : List Loc), cW D cA ks ad st' H1 → va_S A s.heap H1 locs1 → W p l e R s m args below meth c H1 locs1 cells slots Q (F0 m (pc + 3) ls (.ref v :: rest))) : W p l e R s m args below meth c H locs cells slots Q (F0 m pc ls (.int a0 :: .ref (ad 60) :: rest)) :=
  cc_cXR (As := [.int a0]) C hP hS (w_L_sheetAt hO h) (cwV 1 C.2.2.2.2.1 (lw_V hl q1148 qs26 q85 q1149) rfl rfl rfl (by decide +kernel) (mr_ C.2.2.2.2.2.1 hd (by decide))) (cc_recv C hP (hO.2.2.2 60 (by decide)) rfl (q := (RX0, TX0, 13)) rfl) rfl (by decide +kernel) hsz rfl hW hdg hcs kk
theorem k_L_sheetAtT {a0 : Int32} {st' : CS} (C : cC p R d s m args c cc nL RX0 D cA A) (hO : klOk A ks ad) (hP : cW D cA ks ad st H) (hS : va_S A s.heap H locs) (h : L_sheetAt cA st a0 = some (none, st')) (hl : Cond.methodLink RX0 index yX0_sheetAt ∈ lw_all) (hd : 2 + 1 ≤ d) (hsz : ls.size = nL) (hW : (rest.map fun v => v.category).sum ≤ 8) (hcs : cells ≤ R.cells ∧ slots ≤ R.slots) (hdg : decode cc pc = .ok (.invokevirtual index, 3)) (kk : ∀ (H1 : Heap) (locs1 : List Loc), cW D cA ks ad st' H1 → va_S A s.heap H1 locs1 → WT p l e R s m args below meth c H1 locs1 cells slots Q (ad 61) (F0 m pc ls rest)) : W p l e R s m args below meth c H locs cells slots Q (F0 m pc ls (.int a0 :: .ref (ad 60) :: rest)) :=
  cc_cXT (As := [.int a0]) C hP hS (w_L_sheetAt hO h) (cwV 1 C.2.2.2.2.1 (lw_V hl q1148 qs26 q85 q1149) rfl rfl rfl (by decide +kernel) (mr_ C.2.2.2.2.2.1 hd (by decide))) (cc_recv C hP (hO.2.2.2 60 (by decide)) rfl (q := (RX0, TX0, 13)) rfl) rfl (by decide +kernel) hsz rfl hW hdg hcs kk
theorem w_live_L_sheetAt {st st' : CS} {x1 : Int32} {v : Nat} (hP : cW D cA ks ad st' H) (h : L_sheetAt cA st x1 = some (some v, st')) : live ks ad v := by
  rw [L_sheetAt] at h
  obtain ⟨j, -, h⟩ := bd1_some h
  obtain ⟨r, -, h⟩ := bd1_some h
  have key : ∀ (e : Option (Option Unit × CS)), (bd2 e fun o s1 => onx o (some (none, s1)) fun _ => bd1 (rdi 4 x1) fun j => bd1 (some (s1.2.2.1 (69 + j) 0)) fun r => onq r none fun a => bd4 (shOf cA s1.2.2.2 a) fun _ _ _ _ => some (some a, s1)) = some (some v, st') → live ks ad v := by
    intro e h
    obtain ⟨o, s1, -, h⟩ := bd2_some h
    rcases o with _ | u
    · rw [onx_none] at h; cases h
    · rw [onx_some] at h
      obtain ⟨j, hj, h⟩ := bd1_some h
      obtain ⟨r, hr, h⟩ := bd1_some h
      rcases r with _ | a
      · cases h
      · rw [onq_some] at h
        obtain ⟨w, b, n, f, -, h⟩ := bd4_some h
        cases h
        exact sh_live hP (rdi_lt hj) (Option.some.inj hr)
  rcases r with _ | a
  · exact key _ h
  · exact key _ h
abbrev cX0_reads : ByteArray := prog_1_method_58_code
def yX0_reads : MethodName := ⟨RX0, "reads", "(I)I"⟩
theorem dX0_reads_0 : decode cX0_reads 0 = .ok (.aload_n 0, 1) := by decide +kernel
theorem dX0_reads_1 : decode cX0_reads 1 = .ok (.iload_n 1, 1) := by decide +kernel
theorem dX0_reads_2 : decode cX0_reads 2 = .ok (.invokestatic 313, 3) := by decide +kernel
theorem dX0_reads_5 : decode cX0_reads 5 = .ok (.iconst 1, 1) := by decide +kernel
theorem dX0_reads_6 : decode cX0_reads 6 = .ok (.invokevirtual 102, 3) := by decide +kernel
theorem dX0_reads_9 : decode cX0_reads 9 = .ok (.aload_n 0, 1) := by decide +kernel
theorem dX0_reads_10 : decode cX0_reads 10 = .ok (.iload_n 1, 1) := by decide +kernel
theorem dX0_reads_11 : decode cX0_reads 11 = .ok (.invokevirtual 316, 3) := by decide +kernel
theorem dX0_reads_14 : decode cX0_reads 14 = .ok (.astore_n 2, 1) := by decide +kernel
theorem dX0_reads_15 : decode cX0_reads 15 = .ok (.iconst 0, 1) := by decide +kernel
theorem dX0_reads_16 : decode cX0_reads 16 = .ok (.istore_n 3, 1) := by decide +kernel
theorem dX0_reads_17 : decode cX0_reads 17 = .ok (.iload_n 3, 1) := by decide +kernel
theorem dX0_reads_18 : decode cX0_reads 18 = .ok (.aload_n 2, 1) := by decide +kernel
theorem dX0_reads_19 : decode cX0_reads 19 = .ok (.invokevirtual 307, 3) := by decide +kernel
theorem dX0_reads_22 : decode cX0_reads 22 = .ok (.if_icmp .ge 55, 3) := by decide +kernel
theorem dX0_reads_25 : decode cX0_reads 25 = .ok (.aload_n 0, 1) := by decide +kernel
theorem dX0_reads_26 : decode cX0_reads 26 = .ok (.iconst 0, 1) := by decide +kernel
theorem dX0_reads_27 : decode cX0_reads 27 = .ok (.invokevirtual 160, 3) := by decide +kernel
theorem dX0_reads_30 : decode cX0_reads 30 = .ok (.ifCond .eq 47, 3) := by decide +kernel
theorem dX0_reads_33 : decode cX0_reads 33 = .ok (.aload_n 0, 1) := by decide +kernel
theorem dX0_reads_34 : decode cX0_reads 34 = .ok (.aload_n 2, 1) := by decide +kernel
theorem dX0_reads_35 : decode cX0_reads 35 = .ok (.iload_n 3, 1) := by decide +kernel
theorem dX0_reads_36 : decode cX0_reads 36 = .ok (.invokevirtual 310, 3) := by decide +kernel
theorem dX0_reads_39 : decode cX0_reads 39 = .ok (.invokevirtual 127, 3) := by decide +kernel
theorem dX0_reads_42 : decode cX0_reads 42 = .ok (.ifCond .eq 35, 3) := by decide +kernel
theorem dX0_reads_45 : decode cX0_reads 45 = .ok (.aload_n 0, 1) := by decide +kernel
theorem dX0_reads_46 : decode cX0_reads 46 = .ok (.iconst 0, 1) := by decide +kernel
theorem dX0_reads_47 : decode cX0_reads 47 = .ok (.aload_n 2, 1) := by decide +kernel
theorem dX0_reads_48 : decode cX0_reads 48 = .ok (.iload_n 3, 1) := by decide +kernel
theorem dX0_reads_49 : decode cX0_reads 49 = .ok (.invokevirtual 310, 3) := by decide +kernel
theorem dX0_reads_52 : decode cX0_reads 52 = .ok (.invokevirtual 207, 3) := by decide +kernel
theorem dX0_reads_55 : decode cX0_reads 55 = .ok (.ifCond .eq 22, 3) := by decide +kernel
theorem dX0_reads_58 : decode cX0_reads 58 = .ok (.aload_n 0, 1) := by decide +kernel
theorem dX0_reads_59 : decode cX0_reads 59 = .ok (.getfield 46, 3) := by decide +kernel
theorem dX0_reads_62 : decode cX0_reads 62 = .ok (.iconst 0, 1) := by decide +kernel
theorem dX0_reads_63 : decode cX0_reads 63 = .ok (.aload_n 2, 1) := by decide +kernel
theorem dX0_reads_64 : decode cX0_reads 64 = .ok (.iload_n 3, 1) := by decide +kernel
theorem dX0_reads_65 : decode cX0_reads 65 = .ok (.invokevirtual 310, 3) := by decide +kernel
theorem dX0_reads_68 : decode cX0_reads 68 = .ok (.invokevirtual 210, 3) := by decide +kernel
theorem dX0_reads_71 : decode cX0_reads 71 = .ok (.iinc 3 1, 3) := by decide +kernel
theorem dX0_reads_74 : decode cX0_reads 74 = .ok (.goto (-57), 3) := by decide +kernel
theorem dX0_reads_77 : decode cX0_reads 77 = .ok (.iload_n 3, 1) := by decide +kernel
theorem dX0_reads_78 : decode cX0_reads 78 = .ok (.ireturn, 1) := by decide +kernel
theorem dX0_reads_79 : decode cX0_reads 79 = .ok (.astore_n 2, 1) := by decide +kernel
theorem dX0_reads_80 : decode cX0_reads 80 = .ok (.aload_n 0, 1) := by decide +kernel
theorem dX0_reads_81 : decode cX0_reads 81 = .ok (.aload_n 2, 1) := by decide +kernel
theorem dX0_reads_82 : decode cX0_reads 82 = .ok (.invokevirtual 123, 3) := by decide +kernel
theorem dX0_reads_85 : decode cX0_reads 85 = .ok (.ireturn, 1) := by decide +kernel
theorem q1143 : (Jvm.Cond.methodLink "ChapterLoan" (313 : Nat) ({ cls := "ChapterLoan", name := "isSheet", desc := "(I)Z" } : Jvm.MethodName)) ∈ lw_all := lw_g (lw_at lw_m5 99 rfl) rfl
theorem q1146 : (Jvm.Cond.methodLink "ChapterLoan" (316 : Nat) ({ cls := "ChapterLoan", name := "sheetAt", desc := "(I)LChapterLoan$Sheet;" } : Jvm.MethodName)) ∈ lw_all := lw_g (lw_at lw_m5 102 rfl) rfl
theorem q1155 : (Jvm.Cond.methodLink "ChapterLoan" (307 : Nat) ({ cls := "ChapterLoan$Sheet", name := "size", desc := "()I" } : Jvm.MethodName)) ∈ lw_all := lw_g (lw_at lw_m5 111 rfl) rfl
theorem q1167 : (Jvm.Cond.methodLink "ChapterLoan" (310 : Nat) ({ cls := "ChapterLoan$Sheet", name := "get", desc := "(I)I" } : Jvm.MethodName)) ∈ lw_all := lw_g (lw_at lw_m5 123 rfl) rfl
theorem w_L_reads {l : Launch} {D : va_G} {cA : Nat → ClassId} {ks : List Nat} {ad : Nat → Nat} {A : Nat → Prop} (hO : klOk A ks ad) {st st' : CS} {N : Nat} {x1 : Int32} {r0 : Int32} (h : L_reads cA N st x1 = some (r0, st')) : Met l yX0_reads (wsW_ yX0_reads cX0_reads 4 (some .int) [(0, 78, 79, 8)]) (k2_rm 64 (40 * 64)) (cPre D cA ks ad A st [.ref (ad 60), .int x1]) (cQ (some (.int r0)) D cA ks ad A st') 0 0 A := by
  refine cc_ofH (own := RX0) (by decide) rfl (Nat.le_of_ble_eq_true rfl) (fun p e s m below meth c R args ls C hr hlk htab hP hS hl hcs => ?_)
  have hx := C.1
  have hb := C.2.1
  have hown := C.2.2.2.1
  have hNst := C.2.2.2.2.2.2.2.1
  have hl : lv_has ls 4 [(0, .ref (ad 60)), (1, .int x1)] := hl
  have L17 : ∀ (x2 : Nat), ∀ (hlx2 : live ks ad x2), ∀ (n : Nat) (st : CS) (x3 : Int32) (st2 : CS) (z3 : Int32), L_reads_L17 N cA x2 n st x3 = some (st2, z3) → ∀ (H : Heap) (locs : List Loc), cW D cA ks ad st H → va_S A s.heap H locs → ∀ ls : Array Slot, lv_has ls 4 [(0, .ref (ad 60)), (2, .ref x2), (3, .int x3)] → (∀ (H : Heap) (locs : List Loc), cW D cA ks ad st2 H → va_S A s.heap H locs → ∀ ls : Array Slot, lv_has ls 4 [(3, .int z3)] → cWV p l e R s m args below meth c D cA ks ad A (some (.int r0)) st' H locs (F0 m 77 ls [])) → cWV p l e R s m args below meth c D cA ks ad A (some (.int r0)) st' H locs (F0 m 17 ls []) := by
    intro x2 hlx2 n
    induction n with
    | zero =>
      intro st x3 st2 z3 h
      exact non_some h
    | succ n ih =>
      intro st x3 st2 z3 h H locs hP hS ls hl kx
      rw [L_reads_L17] at h
      refine lv_iload_n hx hb dX0_reads_17 rfl (lv_at hl 2 rfl) ?_
      refine lv_aload_n hx hb dX0_reads_18 rfl (lv_at hl 1 rfl) ?_
      obtain ⟨v12, hv12, h⟩ := bd1_some h
      refine k_S_size C hO hP hS.1 hlx2 hv12 q1155 (Nat.le_of_ble_eq_true rfl) hl.1 (Nat.le_of_ble_eq_true rfl) hcs dX0_reads_19 ?_
      refine lv_icmp_ge (tgt := 77) hx hb dX0_reads_22 rfl (fun c13 => ?_) (fun c13 => ?_)
      · have h := if_some_t h c13
        cases h
        exact kx _ _ hP hS ls (lv_sub hl [2] rfl)
      · have h := if_some_f h c13
        refine lv_aload_n hx hb dX0_reads_25 rfl (lv_at hl 0 rfl) ?_
        refine lv_iconst (v := 0) hx hb dX0_reads_26 (by decide) ?_
        obtain ⟨v14, hv14, h⟩ := bd1_some h
        refine k_L_isDebtor C hO hP hv14 q559 (Nat.le_of_ble_eq_true rfl) hS.1 hl.1 (Nat.le_of_ble_eq_true rfl) hcs dX0_reads_27 ?_
        refine lv_if_eq (tgt := 77) hx hb dX0_reads_30 rfl (fun c15 => ?_) (fun c15 => ?_)
        · have h := if_some_t h c15
          cases h
          exact kx _ _ hP hS ls (lv_sub hl [2] rfl)
        · have h := if_some_f h c15
          refine lv_aload_n hx hb dX0_reads_33 rfl (lv_at hl 0 rfl) ?_
          refine lv_aload_n hx hb dX0_reads_34 rfl (lv_at hl 1 rfl) ?_
          refine lv_iload_n hx hb dX0_reads_35 rfl (lv_at hl 2 rfl) ?_
          obtain ⟨v16, hv16, h⟩ := bd1_some h
          refine k_S_get C hO hP hS.1 hlx2 hv16 q1167 (Nat.le_of_ble_eq_true rfl) hl.1 (Nat.le_of_ble_eq_true rfl) hcs dX0_reads_36 ?_
          obtain ⟨v17, hv17, h⟩ := bd1_some h
          refine k_L_isFact C hO hP hv17 q419 (Nat.le_of_ble_eq_true rfl) hS.1 hl.1 (Nat.le_of_ble_eq_true rfl) hcs dX0_reads_39 ?_
          refine lv_if_eq (tgt := 77) hx hb dX0_reads_42 rfl (fun c18 => ?_) (fun c18 => ?_)
          · have h := if_some_t h c18
            cases h
            exact kx _ _ hP hS ls (lv_sub hl [2] rfl)
          · have h := if_some_f h c18
            refine lv_aload_n hx hb dX0_reads_45 rfl (lv_at hl 0 rfl) ?_
            refine lv_iconst (v := 0) hx hb dX0_reads_46 (by decide) ?_
            refine lv_aload_n hx hb dX0_reads_47 rfl (lv_at hl 1 rfl) ?_
            refine lv_iload_n hx hb dX0_reads_48 rfl (lv_at hl 2 rfl) ?_
            obtain ⟨v19, hv19, h⟩ := bd1_some h
            refine k_S_get C hO hP hS.1 hlx2 hv19 q1167 (Nat.le_of_ble_eq_true rfl) hl.1 (Nat.le_of_ble_eq_true rfl) hcs dX0_reads_49 ?_
            obtain ⟨v20, hv20, h⟩ := bd1_some h
            refine k_L_canTell C hO hP hv20 q758 (Nat.le_of_ble_eq_true rfl) hS.1 hl.1 (Nat.le_of_ble_eq_true rfl) hcs dX0_reads_52 ?_
            refine lv_if_eq (tgt := 77) hx hb dX0_reads_55 rfl (fun c21 => ?_) (fun c21 => ?_)
            · have h := if_some_t h c21
              cases h
              exact kx _ _ hP hS ls (lv_sub hl [2] rfl)
            · have h := if_some_f h c21
              refine lv_aload_n hx hb dX0_reads_58 rfl (lv_at hl 0 rfl) ?_
              refine lg_town C hO hP dX0_reads_59 ?_
              refine lv_iconst (v := 0) hx hb dX0_reads_62 (by decide) ?_
              refine lv_aload_n hx hb dX0_reads_63 rfl (lv_at hl 1 rfl) ?_
              refine lv_iload_n hx hb dX0_reads_64 rfl (lv_at hl 2 rfl) ?_
              obtain ⟨v22, hv22, h⟩ := bd1_some h
              refine k_S_get C hO hP hS.1 hlx2 hv22 q1167 (Nat.le_of_ble_eq_true rfl) hl.1 (Nat.le_of_ble_eq_true rfl) hcs dX0_reads_65 ?_
              obtain ⟨st24, hv23, h⟩ := bd1_some h
              refine k_T_tells (t := 0) C hO (by decide) hP hS hv23 q763 (Nat.le_of_ble_eq_true rfl) hl.1 (Nat.le_of_ble_eq_true rfl) hcs dX0_reads_68 (fun H locs hP hS => ?_)
              refine lv_iinc (v := x3 + 1) (lv' := [(3, .int (x3 + 1)), (0, .ref (ad 60)), (2, .ref x2)]) hx hb dX0_reads_71 hl (k := 2) rfl rfl (by decide) rfl (fun ls hl => ?_)
              refine lv_goto (tgt := 17) hx hb dX0_reads_74 rfl ?_
              exact ih st24 (x3 + 1) _ _ h _ _ hP hS ls (lv_sub hl [1, 2, 0] rfl) kx
  rw [L_reads] at h
  refine lv_aload_n hx hb dX0_reads_0 rfl (lv_at hl 0 rfl) ?_
  refine lv_iload_n hx hb dX0_reads_1 rfl (lv_at hl 1 rfl) ?_
  obtain ⟨v1, hv1, h⟩ := bd1_some h
  refine k_L_isSheet hx hb C.2.2.1 hown C.2.2.2.2.1 C.2.2.2.2.2.1 q1143 hv1 (Nat.le_of_ble_eq_true rfl) hl.1 (Nat.le_of_ble_eq_true rfl) hcs dX0_reads_2 ?_
  refine lv_iconst (v := 1) hx hb dX0_reads_5 (by decide) ?_
  obtain ⟨o4, st3, hv2, h⟩ := bd2_some h
  rcases o4 with _ | v2
  · rw [onx_none] at h
    refine k_L_needT C hO hP hS hv2 q402 (Nat.le_of_ble_eq_true rfl) hl.1 (Nat.le_of_ble_eq_true rfl) hcs dX0_reads_6 (fun H locs hP hS => ?_)
    refine cc_catch (pre := []) (a1 := 0) (a2 := 78) (hp := 79) (post := []) C hO hP q129 htab rfl rfl ?_
    refine lv_astore_n (lv' := [(2, .ref (ad 61)), (0, .ref (ad 60)), (1, .int x1)]) hx hb dX0_reads_79 rfl hl (by decide) rfl (fun ls hl => ?_)
    refine lv_aload_n hx hb dX0_reads_80 rfl (lv_at hl 1 rfl) ?_
    refine lv_aload_n hx hb dX0_reads_81 rfl (lv_at hl 0 rfl) ?_
    obtain ⟨v5, st6, hv5, h⟩ := bd2_some h
    refine k_L_finds C hO hP hS hv5 q410 (Nat.le_of_ble_eq_true rfl) hl.1 (Nat.le_of_ble_eq_true rfl) hcs dX0_reads_82 (fun H locs hP hS => ?_)
    exact cc_viret hx hb hr hlk h hP hS dX0_reads_85
  · rw [onx_some] at h
    refine k_L_needR C hO hP hS hv2 q402 (Nat.le_of_ble_eq_true rfl) hl.1 (Nat.le_of_ble_eq_true rfl) hcs dX0_reads_6 (fun H locs hP hS => ?_)
    refine lv_aload_n hx hb dX0_reads_9 rfl (lv_at hl 0 rfl) ?_
    refine lv_iload_n hx hb dX0_reads_10 rfl (lv_at hl 1 rfl) ?_
    obtain ⟨o9, st8, hv7, h⟩ := bd2_some h
    rcases o9 with _ | v7
    · rw [onx_none] at h
      refine k_L_sheetAtT C hO hP hS hv7 q1146 (Nat.le_of_ble_eq_true rfl) hl.1 (Nat.le_of_ble_eq_true rfl) hcs dX0_reads_11 (fun H locs hP hS => ?_)
      refine cc_catch (pre := []) (a1 := 0) (a2 := 78) (hp := 79) (post := []) C hO hP q129 htab rfl rfl ?_
      refine lv_astore_n (lv' := [(2, .ref (ad 61)), (0, .ref (ad 60)), (1, .int x1)]) hx hb dX0_reads_79 rfl hl (by decide) rfl (fun ls hl => ?_)
      refine lv_aload_n hx hb dX0_reads_80 rfl (lv_at hl 1 rfl) ?_
      refine lv_aload_n hx hb dX0_reads_81 rfl (lv_at hl 0 rfl) ?_
      obtain ⟨v10, st11, hv10, h⟩ := bd2_some h
      refine k_L_finds C hO hP hS hv10 q410 (Nat.le_of_ble_eq_true rfl) hl.1 (Nat.le_of_ble_eq_true rfl) hcs dX0_reads_82 (fun H locs hP hS => ?_)
      exact cc_viret hx hb hr hlk h hP hS dX0_reads_85
    · rw [onx_some] at h
      refine k_L_sheetAtR C hO hP hS hv7 q1146 (Nat.le_of_ble_eq_true rfl) hl.1 (Nat.le_of_ble_eq_true rfl) hcs dX0_reads_11 (fun H locs hP hS => ?_)
      have hlv7 := (w_live_L_sheetAt hP hv7)
      refine lv_astore_n (lv' := [(2, .ref v7), (0, .ref (ad 60)), (1, .int x1)]) hx hb dX0_reads_14 rfl hl (by decide) rfl (fun ls hl => ?_)
      refine lv_iconst (v := 0) hx hb dX0_reads_15 (by decide) ?_
      refine lv_istore_n (lv' := [(3, .int 0), (2, .ref v7), (0, .ref (ad 60)), (1, .int x1)]) hx hb dX0_reads_16 rfl hl (by decide) rfl (fun ls hl => ?_)
      obtain ⟨st25, z26, hz27, h⟩ := bd2_some h
      refine L17 v7 hlv7 N _ 0 _ _ hz27 _ _ hP hS ls (lv_sub hl [2, 1, 0] rfl) (fun H locs hP hS ls hl => ?_)
      refine lv_iload_n hx hb dX0_reads_77 rfl (lv_at hl 0 rfl) ?_
      exact cc_viret hx hb hr hlk h hP hS dX0_reads_78
abbrev cX0_judge : ByteArray := prog_1_method_59_code
def yX0_judge : MethodName := ⟨RX0, "judge", "(II)I"⟩
theorem dX0_judge_0 : decode cX0_judge 0 = .ok (.aload_n 0, 1) := by decide +kernel
theorem dX0_judge_1 : decode cX0_judge 1 = .ok (.iload_n 1, 1) := by decide +kernel
theorem dX0_judge_2 : decode cX0_judge 2 = .ok (.invokestatic 313, 3) := by decide +kernel
theorem dX0_judge_5 : decode cX0_judge 5 = .ok (.ifCond .eq 15, 3) := by decide +kernel
theorem dX0_judge_8 : decode cX0_judge 8 = .ok (.aload_n 0, 1) := by decide +kernel
theorem dX0_judge_9 : decode cX0_judge 9 = .ok (.iload_n 2, 1) := by decide +kernel
theorem dX0_judge_10 : decode cX0_judge 10 = .ok (.invokevirtual 160, 3) := by decide +kernel
theorem dX0_judge_13 : decode cX0_judge 13 = .ok (.ifCond .eq 7, 3) := by decide +kernel
theorem dX0_judge_16 : decode cX0_judge 16 = .ok (.iconst 1, 1) := by decide +kernel
theorem dX0_judge_17 : decode cX0_judge 17 = .ok (.goto 4, 3) := by decide +kernel
theorem dX0_judge_20 : decode cX0_judge 20 = .ok (.iconst 0, 1) := by decide +kernel
theorem dX0_judge_21 : decode cX0_judge 21 = .ok (.iconst 1, 1) := by decide +kernel
theorem dX0_judge_22 : decode cX0_judge 22 = .ok (.invokevirtual 102, 3) := by decide +kernel
theorem dX0_judge_25 : decode cX0_judge 25 = .ok (.aload_n 0, 1) := by decide +kernel
theorem dX0_judge_26 : decode cX0_judge 26 = .ok (.iload_n 1, 1) := by decide +kernel
theorem dX0_judge_27 : decode cX0_judge 27 = .ok (.invokevirtual 316, 3) := by decide +kernel
theorem dX0_judge_30 : decode cX0_judge 30 = .ok (.astore_n 3, 1) := by decide +kernel
theorem dX0_judge_31 : decode cX0_judge 31 = .ok (.aload_n 0, 1) := by decide +kernel
theorem dX0_judge_32 : decode cX0_judge 32 = .ok (.getfield 46, 3) := by decide +kernel
theorem dX0_judge_35 : decode cX0_judge 35 = .ok (.getfield 157, 3) := by decide +kernel
theorem dX0_judge_38 : decode cX0_judge 38 = .ok (.iload_n 2, 1) := by decide +kernel
theorem dX0_judge_39 : decode cX0_judge 39 = .ok (.iaload, 1) := by decide +kernel
theorem dX0_judge_40 : decode cX0_judge 40 = .ok (.istore 4, 2) := by decide +kernel
theorem dX0_judge_42 : decode cX0_judge 42 = .ok (.iconst 0, 1) := by decide +kernel
theorem dX0_judge_43 : decode cX0_judge 43 = .ok (.istore 5, 2) := by decide +kernel
theorem dX0_judge_45 : decode cX0_judge 45 = .ok (.iload 5, 2) := by decide +kernel
theorem dX0_judge_47 : decode cX0_judge 47 = .ok (.aload_n 3, 1) := by decide +kernel
theorem dX0_judge_48 : decode cX0_judge 48 = .ok (.invokevirtual 307, 3) := by decide +kernel
theorem dX0_judge_51 : decode cX0_judge 51 = .ok (.if_icmp .ge 35, 3) := by decide +kernel
theorem dX0_judge_54 : decode cX0_judge 54 = .ok (.iload 5, 2) := by decide +kernel
theorem dX0_judge_56 : decode cX0_judge 56 = .ok (.iload 4, 2) := by decide +kernel
theorem dX0_judge_58 : decode cX0_judge 58 = .ok (.if_icmp .ge 28, 3) := by decide +kernel
theorem dX0_judge_61 : decode cX0_judge 61 = .ok (.aload_n 3, 1) := by decide +kernel
theorem dX0_judge_62 : decode cX0_judge 62 = .ok (.iload 5, 2) := by decide +kernel
theorem dX0_judge_64 : decode cX0_judge 64 = .ok (.invokevirtual 310, 3) := by decide +kernel
theorem dX0_judge_67 : decode cX0_judge 67 = .ok (.aload_n 0, 1) := by decide +kernel
theorem dX0_judge_68 : decode cX0_judge 68 = .ok (.getfield 46, 3) := by decide +kernel
theorem dX0_judge_71 : decode cX0_judge 71 = .ok (.iload_n 2, 1) := by decide +kernel
theorem dX0_judge_72 : decode cX0_judge 72 = .ok (.iload 5, 2) := by decide +kernel
theorem dX0_judge_74 : decode cX0_judge 74 = .ok (.invokevirtual 190, 3) := by decide +kernel
theorem dX0_judge_77 : decode cX0_judge 77 = .ok (.if_icmp .ne 9, 3) := by decide +kernel
theorem dX0_judge_80 : decode cX0_judge 80 = .ok (.iinc 5 1, 3) := by decide +kernel
theorem dX0_judge_83 : decode cX0_judge 83 = .ok (.goto (-38), 3) := by decide +kernel
theorem dX0_judge_86 : decode cX0_judge 86 = .ok (.iload 5, 2) := by decide +kernel
theorem dX0_judge_88 : decode cX0_judge 88 = .ok (.aload_n 3, 1) := by decide +kernel
theorem dX0_judge_89 : decode cX0_judge 89 = .ok (.invokevirtual 307, 3) := by decide +kernel
theorem dX0_judge_92 : decode cX0_judge 92 = .ok (.if_icmp .ne 14, 3) := by decide +kernel
theorem dX0_judge_95 : decode cX0_judge 95 = .ok (.iload 5, 2) := by decide +kernel
theorem dX0_judge_97 : decode cX0_judge 97 = .ok (.iload 4, 2) := by decide +kernel
theorem dX0_judge_99 : decode cX0_judge 99 = .ok (.if_icmp .ne 7, 3) := by decide +kernel
theorem dX0_judge_102 : decode cX0_judge 102 = .ok (.iconst (-1), 1) := by decide +kernel
theorem dX0_judge_103 : decode cX0_judge 103 = .ok (.goto 5, 3) := by decide +kernel
theorem dX0_judge_106 : decode cX0_judge 106 = .ok (.iload 5, 2) := by decide +kernel
theorem dX0_judge_108 : decode cX0_judge 108 = .ok (.ireturn, 1) := by decide +kernel
theorem dX0_judge_109 : decode cX0_judge 109 = .ok (.astore_n 3, 1) := by decide +kernel
theorem dX0_judge_110 : decode cX0_judge 110 = .ok (.aload_n 0, 1) := by decide +kernel
theorem dX0_judge_111 : decode cX0_judge 111 = .ok (.aload_n 3, 1) := by decide +kernel
theorem dX0_judge_112 : decode cX0_judge 112 = .ok (.invokevirtual 123, 3) := by decide +kernel
theorem dX0_judge_115 : decode cX0_judge 115 = .ok (.ireturn, 1) := by decide +kernel
theorem w_L_judge {l : Launch} {D : va_G} {cA : Nat → ClassId} {ks : List Nat} {ad : Nat → Nat} {A : Nat → Prop} (hO : klOk A ks ad) {st st' : CS} {N : Nat} {x1 : Int32} {x2 : Int32} {r0 : Int32} (h : L_judge cA N st x1 x2 = some (r0, st')) : Met l yX0_judge (wsW_ yX0_judge cX0_judge 6 (some .int) [(0, 108, 109, 8)]) (k2_rm 3 (40 * 3)) (cPre D cA ks ad A st [.ref (ad 60), .int x1, .int x2]) (cQ (some (.int r0)) D cA ks ad A st') 0 0 A := by
  refine cc_ofH (own := RX0) (by decide) rfl (Nat.le_of_ble_eq_true rfl) (fun p e s m below meth c R args ls C hr hlk htab hP hS hl hcs => ?_)
  have hx := C.1
  have hb := C.2.1
  have hown := C.2.2.2.1
  have hNst := C.2.2.2.2.2.2.2.1
  have hl : lv_has ls 6 [(0, .ref (ad 60)), (1, .int x1), (2, .int x2)] := hl
  have L45 : ∀ (st : CS), ∀ (x2 : Int32), ∀ (x3 : Nat), ∀ (hlx3 : live ks ad x3), ∀ (x4 : Int32), ∀ (n : Nat) (x5 : Int32) (z5 : Int32), L_judge_L45 N cA st x2 x3 x4 n x5 = some z5 → ∀ (H : Heap) (locs : List Loc), cW D cA ks ad st H → va_S A s.heap H locs → ∀ ls : Array Slot, lv_has ls 6 [(0, .ref (ad 60)), (2, .int x2), (3, .ref x3), (4, .int x4), (5, .int x5)] → (∀ ls : Array Slot, lv_has ls 6 [(3, .ref x3), (4, .int x4), (5, .int z5)] → cWV p l e R s m args below meth c D cA ks ad A (some (.int r0)) st' H locs (F0 m 86 ls [])) → cWV p l e R s m args below meth c D cA ks ad A (some (.int r0)) st' H locs (F0 m 45 ls []) := by
    intro st x2 x3 hlx3 x4 n
    induction n with
    | zero =>
      intro x5 z5 h
      exact non_some h
    | succ n ih =>
      intro x5 z5 h H locs hP hS ls hl kx
      rw [L_judge_L45] at h
      refine lv_iload hx hb dX0_judge_45 (lv_at hl 4 rfl) ?_
      refine lv_aload_n hx hb dX0_judge_47 rfl (lv_at hl 2 rfl) ?_
      obtain ⟨v14, hv14, h⟩ := bd1_some h
      refine k_S_size C hO hP hS.1 hlx3 hv14 q1155 (Nat.le_of_ble_eq_true rfl) hl.1 (Nat.le_of_ble_eq_true rfl) hcs dX0_judge_48 ?_
      refine lv_icmp_ge (tgt := 86) hx hb dX0_judge_51 rfl (fun c15 => ?_) (fun c15 => ?_)
      · have h := if_some_t h c15
        cases h
        exact kx ls (lv_sub hl [2, 3, 4] rfl)
      · have h := if_some_f h c15
        refine lv_iload hx hb dX0_judge_54 (lv_at hl 4 rfl) ?_
        refine lv_iload hx hb dX0_judge_56 (lv_at hl 3 rfl) ?_
        refine lv_icmp_ge (tgt := 86) hx hb dX0_judge_58 rfl (fun c16 => ?_) (fun c16 => ?_)
        · have h := if_some_t h c16
          cases h
          exact kx ls (lv_sub hl [2, 3, 4] rfl)
        · have h := if_some_f h c16
          refine lv_aload_n hx hb dX0_judge_61 rfl (lv_at hl 2 rfl) ?_
          refine lv_iload hx hb dX0_judge_62 (lv_at hl 4 rfl) ?_
          obtain ⟨v17, hv17, h⟩ := bd1_some h
          refine k_S_get C hO hP hS.1 hlx3 hv17 q1167 (Nat.le_of_ble_eq_true rfl) hl.1 (Nat.le_of_ble_eq_true rfl) hcs dX0_judge_64 ?_
          refine lv_aload_n hx hb dX0_judge_67 rfl (lv_at hl 0 rfl) ?_
          refine lg_town C hO hP dX0_judge_68 ?_
          refine lv_iload_n hx hb dX0_judge_71 rfl (lv_at hl 1 rfl) ?_
          refine lv_iload hx hb dX0_judge_72 (lv_at hl 4 rfl) ?_
          obtain ⟨v18, hv18, h⟩ := bd1_some h
          refine k_T_factAt (t := 0) C hO (by decide) hP hv18 q708 (Nat.le_of_ble_eq_true rfl) hS.1 hl.1 (Nat.le_of_ble_eq_true rfl) hcs dX0_judge_74 ?_
          refine lv_icmp_ne (tgt := 86) hx hb dX0_judge_77 rfl (fun c19 => ?_) (fun c19 => ?_)
          · have h := if_some_f h c19
            cases h
            exact kx ls (lv_sub hl [2, 3, 4] rfl)
          · have h := if_some_t h c19
            refine lv_iinc (v := x5 + 1) (lv' := [(5, .int (x5 + 1)), (0, .ref (ad 60)), (2, .int x2), (3, .ref x3), (4, .int x4)]) hx hb dX0_judge_80 hl (k := 4) rfl rfl (by decide) rfl (fun ls hl => ?_)
            refine lv_goto (tgt := 45) hx hb dX0_judge_83 rfl ?_
            exact ih (x5 + 1) _ h _ _ hP hS ls (lv_sub hl [1, 2, 3, 4, 0] rfl) kx
  rw [L_judge] at h
  refine lv_aload_n hx hb dX0_judge_0 rfl (lv_at hl 0 rfl) ?_
  refine lv_iload_n hx hb dX0_judge_1 rfl (lv_at hl 1 rfl) ?_
  obtain ⟨v1, hv1, h⟩ := bd1_some h
  refine k_L_isSheet hx hb C.2.2.1 hown C.2.2.2.2.1 C.2.2.2.2.2.1 q1143 hv1 (Nat.le_of_ble_eq_true rfl) hl.1 (Nat.le_of_ble_eq_true rfl) hcs dX0_judge_2 ?_
  refine lv_if_eq (tgt := 20) hx hb dX0_judge_5 rfl (fun c2 => ?_) (fun c2 => ?_)
  · have h := if_some_t h c2
    refine lv_iconst (v := 0) hx hb dX0_judge_20 (by decide) ?_
    refine lv_iconst (v := 1) hx hb dX0_judge_21 (by decide) ?_
    obtain ⟨o5, st4, hv3, h⟩ := bd2_some h
    rcases o5 with _ | v3
    · rw [onx_none] at h
      refine k_L_needT C hO hP hS hv3 q402 (Nat.le_of_ble_eq_true rfl) hl.1 (Nat.le_of_ble_eq_true rfl) hcs dX0_judge_22 (fun H locs hP hS => ?_)
      refine cc_catch (pre := []) (a1 := 0) (a2 := 108) (hp := 109) (post := []) C hO hP q129 htab rfl rfl ?_
      refine lv_astore_n (lv' := [(3, .ref (ad 61)), (0, .ref (ad 60)), (1, .int x1), (2, .int x2)]) hx hb dX0_judge_109 rfl hl (by decide) rfl (fun ls hl => ?_)
      refine lv_aload_n hx hb dX0_judge_110 rfl (lv_at hl 1 rfl) ?_
      refine lv_aload_n hx hb dX0_judge_111 rfl (lv_at hl 0 rfl) ?_
      obtain ⟨v6, st7, hv6, h⟩ := bd2_some h
      refine k_L_finds C hO hP hS hv6 q410 (Nat.le_of_ble_eq_true rfl) hl.1 (Nat.le_of_ble_eq_true rfl) hcs dX0_judge_112 (fun H locs hP hS => ?_)
      exact cc_viret hx hb hr hlk h hP hS dX0_judge_115
    · rw [onx_some] at h
      refine k_L_needR C hO hP hS hv3 q402 (Nat.le_of_ble_eq_true rfl) hl.1 (Nat.le_of_ble_eq_true rfl) hcs dX0_judge_22 (fun H locs hP hS => ?_)
      refine lv_aload_n hx hb dX0_judge_25 rfl (lv_at hl 0 rfl) ?_
      refine lv_iload_n hx hb dX0_judge_26 rfl (lv_at hl 1 rfl) ?_
      obtain ⟨o10, st9, hv8, h⟩ := bd2_some h
      rcases o10 with _ | v8
      · rw [onx_none] at h
        refine k_L_sheetAtT C hO hP hS hv8 q1146 (Nat.le_of_ble_eq_true rfl) hl.1 (Nat.le_of_ble_eq_true rfl) hcs dX0_judge_27 (fun H locs hP hS => ?_)
        refine cc_catch (pre := []) (a1 := 0) (a2 := 108) (hp := 109) (post := []) C hO hP q129 htab rfl rfl ?_
        refine lv_astore_n (lv' := [(3, .ref (ad 61)), (0, .ref (ad 60)), (1, .int x1), (2, .int x2)]) hx hb dX0_judge_109 rfl hl (by decide) rfl (fun ls hl => ?_)
        refine lv_aload_n hx hb dX0_judge_110 rfl (lv_at hl 1 rfl) ?_
        refine lv_aload_n hx hb dX0_judge_111 rfl (lv_at hl 0 rfl) ?_
        obtain ⟨v11, st12, hv11, h⟩ := bd2_some h
        refine k_L_finds C hO hP hS hv11 q410 (Nat.le_of_ble_eq_true rfl) hl.1 (Nat.le_of_ble_eq_true rfl) hcs dX0_judge_112 (fun H locs hP hS => ?_)
        exact cc_viret hx hb hr hlk h hP hS dX0_judge_115
      · rw [onx_some] at h
        refine k_L_sheetAtR C hO hP hS hv8 q1146 (Nat.le_of_ble_eq_true rfl) hl.1 (Nat.le_of_ble_eq_true rfl) hcs dX0_judge_27 (fun H locs hP hS => ?_)
        have hlv8 := (w_live_L_sheetAt hP hv8)
        refine lv_astore_n (lv' := [(3, .ref v8), (0, .ref (ad 60)), (1, .int x1), (2, .int x2)]) hx hb dX0_judge_30 rfl hl (by decide) rfl (fun ls hl => ?_)
        refine lv_aload_n hx hb dX0_judge_31 rfl (lv_at hl 1 rfl) ?_
        refine lg_town C hO hP dX0_judge_32 ?_
        refine tgN_many (t := 0) C hO (by decide) hP dX0_judge_35 ?_
        refine lv_iload_n hx hb dX0_judge_38 rfl (lv_at hl 3 rfl) ?_
        obtain ⟨v13, hv13, h⟩ := bd1_some h
        refine cc_ild C hP (hO.2.2.2 _ (tk_ 8 (by decide) (by decide))) (cg_t 8 (by decide) (by decide)) hv13 dX0_judge_39 ?_
        refine lv_istore (lv' := [(4, .int v13), (3, .ref v8), (0, .ref (ad 60)), (1, .int x1), (2, .int x2)]) hx hb dX0_judge_40 hl (by decide) rfl (fun ls hl => ?_)
        refine lv_iconst (v := 0) hx hb dX0_judge_42 (by decide) ?_
        refine lv_istore (lv' := [(5, .int 0), (4, .int v13), (3, .ref v8), (0, .ref (ad 60)), (1, .int x1), (2, .int x2)]) hx hb dX0_judge_43 hl (by decide) rfl (fun ls hl => ?_)
        obtain ⟨z20, hz24, h⟩ := bd1_some h
        refine L45 st9 x2 v8 hlv8 v13 N 0 _ hz24 _ _ hP hS ls (lv_sub hl [3, 5, 2, 1, 0] rfl) (fun ls hl => ?_)
        refine lv_iload hx hb dX0_judge_86 (lv_at hl 2 rfl) ?_
        refine lv_aload_n hx hb dX0_judge_88 rfl (lv_at hl 0 rfl) ?_
        obtain ⟨v21, hv21, h⟩ := bd1_some h
        refine k_S_size C hO hP hS.1 hlv8 hv21 q1155 (Nat.le_of_ble_eq_true rfl) hl.1 (Nat.le_of_ble_eq_true rfl) hcs dX0_judge_89 ?_
        refine lv_icmp_ne (tgt := 106) hx hb dX0_judge_92 rfl (fun c22 => ?_) (fun c22 => ?_)
        · have h := if_some_f h c22
          refine lv_iload hx hb dX0_judge_106 (lv_at hl 2 rfl) ?_
          exact cc_viret hx hb hr hlk h hP hS dX0_judge_108
        · have h := if_some_t h c22
          refine lv_iload hx hb dX0_judge_95 (lv_at hl 2 rfl) ?_
          refine lv_iload hx hb dX0_judge_97 (lv_at hl 1 rfl) ?_
          refine lv_icmp_ne (tgt := 106) hx hb dX0_judge_99 rfl (fun c23 => ?_) (fun c23 => ?_)
          · have h := if_some_f h c23
            refine lv_iload hx hb dX0_judge_106 (lv_at hl 2 rfl) ?_
            exact cc_viret hx hb hr hlk h hP hS dX0_judge_108
          · have h := if_some_t h c23
            refine lv_iconst (v := (-1)) hx hb dX0_judge_102 (by decide) ?_
            refine lv_goto (tgt := 108) hx hb dX0_judge_103 rfl ?_
            exact cc_viret hx hb hr hlk h hP hS dX0_judge_108
  · have h := if_some_f h c2
    refine lv_aload_n hx hb dX0_judge_8 rfl (lv_at hl 0 rfl) ?_
    refine lv_iload_n hx hb dX0_judge_9 rfl (lv_at hl 2 rfl) ?_
    obtain ⟨v25, hv25, h⟩ := bd1_some h
    refine k_L_isDebtor C hO hP hv25 q559 (Nat.le_of_ble_eq_true rfl) hS.1 hl.1 (Nat.le_of_ble_eq_true rfl) hcs dX0_judge_10 ?_
    refine lv_if_eq (tgt := 20) hx hb dX0_judge_13 rfl (fun c26 => ?_) (fun c26 => ?_)
    · have h := if_some_t h c26
      refine lv_iconst (v := 0) hx hb dX0_judge_20 (by decide) ?_
      refine lv_iconst (v := 1) hx hb dX0_judge_21 (by decide) ?_
      obtain ⟨o29, st28, hv27, h⟩ := bd2_some h
      rcases o29 with _ | v27
      · rw [onx_none] at h
        refine k_L_needT C hO hP hS hv27 q402 (Nat.le_of_ble_eq_true rfl) hl.1 (Nat.le_of_ble_eq_true rfl) hcs dX0_judge_22 (fun H locs hP hS => ?_)
        refine cc_catch (pre := []) (a1 := 0) (a2 := 108) (hp := 109) (post := []) C hO hP q129 htab rfl rfl ?_
        refine lv_astore_n (lv' := [(3, .ref (ad 61)), (0, .ref (ad 60)), (1, .int x1), (2, .int x2)]) hx hb dX0_judge_109 rfl hl (by decide) rfl (fun ls hl => ?_)
        refine lv_aload_n hx hb dX0_judge_110 rfl (lv_at hl 1 rfl) ?_
        refine lv_aload_n hx hb dX0_judge_111 rfl (lv_at hl 0 rfl) ?_
        obtain ⟨v30, st31, hv30, h⟩ := bd2_some h
        refine k_L_finds C hO hP hS hv30 q410 (Nat.le_of_ble_eq_true rfl) hl.1 (Nat.le_of_ble_eq_true rfl) hcs dX0_judge_112 (fun H locs hP hS => ?_)
        exact cc_viret hx hb hr hlk h hP hS dX0_judge_115
      · rw [onx_some] at h
        refine k_L_needR C hO hP hS hv27 q402 (Nat.le_of_ble_eq_true rfl) hl.1 (Nat.le_of_ble_eq_true rfl) hcs dX0_judge_22 (fun H locs hP hS => ?_)
        refine lv_aload_n hx hb dX0_judge_25 rfl (lv_at hl 0 rfl) ?_
        refine lv_iload_n hx hb dX0_judge_26 rfl (lv_at hl 1 rfl) ?_
        obtain ⟨o34, st33, hv32, h⟩ := bd2_some h
        rcases o34 with _ | v32
        · rw [onx_none] at h
          refine k_L_sheetAtT C hO hP hS hv32 q1146 (Nat.le_of_ble_eq_true rfl) hl.1 (Nat.le_of_ble_eq_true rfl) hcs dX0_judge_27 (fun H locs hP hS => ?_)
          refine cc_catch (pre := []) (a1 := 0) (a2 := 108) (hp := 109) (post := []) C hO hP q129 htab rfl rfl ?_
          refine lv_astore_n (lv' := [(3, .ref (ad 61)), (0, .ref (ad 60)), (1, .int x1), (2, .int x2)]) hx hb dX0_judge_109 rfl hl (by decide) rfl (fun ls hl => ?_)
          refine lv_aload_n hx hb dX0_judge_110 rfl (lv_at hl 1 rfl) ?_
          refine lv_aload_n hx hb dX0_judge_111 rfl (lv_at hl 0 rfl) ?_
          obtain ⟨v35, st36, hv35, h⟩ := bd2_some h
          refine k_L_finds C hO hP hS hv35 q410 (Nat.le_of_ble_eq_true rfl) hl.1 (Nat.le_of_ble_eq_true rfl) hcs dX0_judge_112 (fun H locs hP hS => ?_)
          exact cc_viret hx hb hr hlk h hP hS dX0_judge_115
        · rw [onx_some] at h
          refine k_L_sheetAtR C hO hP hS hv32 q1146 (Nat.le_of_ble_eq_true rfl) hl.1 (Nat.le_of_ble_eq_true rfl) hcs dX0_judge_27 (fun H locs hP hS => ?_)
          have hlv32 := (w_live_L_sheetAt hP hv32)
          refine lv_astore_n (lv' := [(3, .ref v32), (0, .ref (ad 60)), (1, .int x1), (2, .int x2)]) hx hb dX0_judge_30 rfl hl (by decide) rfl (fun ls hl => ?_)
          refine lv_aload_n hx hb dX0_judge_31 rfl (lv_at hl 1 rfl) ?_
          refine lg_town C hO hP dX0_judge_32 ?_
          refine tgN_many (t := 0) C hO (by decide) hP dX0_judge_35 ?_
          refine lv_iload_n hx hb dX0_judge_38 rfl (lv_at hl 3 rfl) ?_
          obtain ⟨v37, hv37, h⟩ := bd1_some h
          refine cc_ild C hP (hO.2.2.2 _ (tk_ 8 (by decide) (by decide))) (cg_t 8 (by decide) (by decide)) hv37 dX0_judge_39 ?_
          refine lv_istore (lv' := [(4, .int v37), (3, .ref v32), (0, .ref (ad 60)), (1, .int x1), (2, .int x2)]) hx hb dX0_judge_40 hl (by decide) rfl (fun ls hl => ?_)
          refine lv_iconst (v := 0) hx hb dX0_judge_42 (by decide) ?_
          refine lv_istore (lv' := [(5, .int 0), (4, .int v37), (3, .ref v32), (0, .ref (ad 60)), (1, .int x1), (2, .int x2)]) hx hb dX0_judge_43 hl (by decide) rfl (fun ls hl => ?_)
          obtain ⟨z38, hz42, h⟩ := bd1_some h
          refine L45 st33 x2 v32 hlv32 v37 N 0 _ hz42 _ _ hP hS ls (lv_sub hl [3, 5, 2, 1, 0] rfl) (fun ls hl => ?_)
          refine lv_iload hx hb dX0_judge_86 (lv_at hl 2 rfl) ?_
          refine lv_aload_n hx hb dX0_judge_88 rfl (lv_at hl 0 rfl) ?_
          obtain ⟨v39, hv39, h⟩ := bd1_some h
          refine k_S_size C hO hP hS.1 hlv32 hv39 q1155 (Nat.le_of_ble_eq_true rfl) hl.1 (Nat.le_of_ble_eq_true rfl) hcs dX0_judge_89 ?_
          refine lv_icmp_ne (tgt := 106) hx hb dX0_judge_92 rfl (fun c40 => ?_) (fun c40 => ?_)
          · have h := if_some_f h c40
            refine lv_iload hx hb dX0_judge_106 (lv_at hl 2 rfl) ?_
            exact cc_viret hx hb hr hlk h hP hS dX0_judge_108
          · have h := if_some_t h c40
            refine lv_iload hx hb dX0_judge_95 (lv_at hl 2 rfl) ?_
            refine lv_iload hx hb dX0_judge_97 (lv_at hl 1 rfl) ?_
            refine lv_icmp_ne (tgt := 106) hx hb dX0_judge_99 rfl (fun c41 => ?_) (fun c41 => ?_)
            · have h := if_some_f h c41
              refine lv_iload hx hb dX0_judge_106 (lv_at hl 2 rfl) ?_
              exact cc_viret hx hb hr hlk h hP hS dX0_judge_108
            · have h := if_some_t h c41
              refine lv_iconst (v := (-1)) hx hb dX0_judge_102 (by decide) ?_
              refine lv_goto (tgt := 108) hx hb dX0_judge_103 rfl ?_
              exact cc_viret hx hb hr hlk h hP hS dX0_judge_108
    · have h := if_some_f h c26
      refine lv_iconst (v := 1) hx hb dX0_judge_16 (by decide) ?_
      refine lv_goto (tgt := 21) hx hb dX0_judge_17 rfl ?_
      refine lv_iconst (v := 1) hx hb dX0_judge_21 (by decide) ?_
      obtain ⟨o45, st44, hv43, h⟩ := bd2_some h
      rcases o45 with _ | v43
      · rw [onx_none] at h
        refine k_L_needT C hO hP hS hv43 q402 (Nat.le_of_ble_eq_true rfl) hl.1 (Nat.le_of_ble_eq_true rfl) hcs dX0_judge_22 (fun H locs hP hS => ?_)
        refine cc_catch (pre := []) (a1 := 0) (a2 := 108) (hp := 109) (post := []) C hO hP q129 htab rfl rfl ?_
        refine lv_astore_n (lv' := [(3, .ref (ad 61)), (0, .ref (ad 60)), (1, .int x1), (2, .int x2)]) hx hb dX0_judge_109 rfl hl (by decide) rfl (fun ls hl => ?_)
        refine lv_aload_n hx hb dX0_judge_110 rfl (lv_at hl 1 rfl) ?_
        refine lv_aload_n hx hb dX0_judge_111 rfl (lv_at hl 0 rfl) ?_
        obtain ⟨v46, st47, hv46, h⟩ := bd2_some h
        refine k_L_finds C hO hP hS hv46 q410 (Nat.le_of_ble_eq_true rfl) hl.1 (Nat.le_of_ble_eq_true rfl) hcs dX0_judge_112 (fun H locs hP hS => ?_)
        exact cc_viret hx hb hr hlk h hP hS dX0_judge_115
      · rw [onx_some] at h
        refine k_L_needR C hO hP hS hv43 q402 (Nat.le_of_ble_eq_true rfl) hl.1 (Nat.le_of_ble_eq_true rfl) hcs dX0_judge_22 (fun H locs hP hS => ?_)
        refine lv_aload_n hx hb dX0_judge_25 rfl (lv_at hl 0 rfl) ?_
        refine lv_iload_n hx hb dX0_judge_26 rfl (lv_at hl 1 rfl) ?_
        obtain ⟨o50, st49, hv48, h⟩ := bd2_some h
        rcases o50 with _ | v48
        · rw [onx_none] at h
          refine k_L_sheetAtT C hO hP hS hv48 q1146 (Nat.le_of_ble_eq_true rfl) hl.1 (Nat.le_of_ble_eq_true rfl) hcs dX0_judge_27 (fun H locs hP hS => ?_)
          refine cc_catch (pre := []) (a1 := 0) (a2 := 108) (hp := 109) (post := []) C hO hP q129 htab rfl rfl ?_
          refine lv_astore_n (lv' := [(3, .ref (ad 61)), (0, .ref (ad 60)), (1, .int x1), (2, .int x2)]) hx hb dX0_judge_109 rfl hl (by decide) rfl (fun ls hl => ?_)
          refine lv_aload_n hx hb dX0_judge_110 rfl (lv_at hl 1 rfl) ?_
          refine lv_aload_n hx hb dX0_judge_111 rfl (lv_at hl 0 rfl) ?_
          obtain ⟨v51, st52, hv51, h⟩ := bd2_some h
          refine k_L_finds C hO hP hS hv51 q410 (Nat.le_of_ble_eq_true rfl) hl.1 (Nat.le_of_ble_eq_true rfl) hcs dX0_judge_112 (fun H locs hP hS => ?_)
          exact cc_viret hx hb hr hlk h hP hS dX0_judge_115
        · rw [onx_some] at h
          refine k_L_sheetAtR C hO hP hS hv48 q1146 (Nat.le_of_ble_eq_true rfl) hl.1 (Nat.le_of_ble_eq_true rfl) hcs dX0_judge_27 (fun H locs hP hS => ?_)
          have hlv48 := (w_live_L_sheetAt hP hv48)
          refine lv_astore_n (lv' := [(3, .ref v48), (0, .ref (ad 60)), (1, .int x1), (2, .int x2)]) hx hb dX0_judge_30 rfl hl (by decide) rfl (fun ls hl => ?_)
          refine lv_aload_n hx hb dX0_judge_31 rfl (lv_at hl 1 rfl) ?_
          refine lg_town C hO hP dX0_judge_32 ?_
          refine tgN_many (t := 0) C hO (by decide) hP dX0_judge_35 ?_
          refine lv_iload_n hx hb dX0_judge_38 rfl (lv_at hl 3 rfl) ?_
          obtain ⟨v53, hv53, h⟩ := bd1_some h
          refine cc_ild C hP (hO.2.2.2 _ (tk_ 8 (by decide) (by decide))) (cg_t 8 (by decide) (by decide)) hv53 dX0_judge_39 ?_
          refine lv_istore (lv' := [(4, .int v53), (3, .ref v48), (0, .ref (ad 60)), (1, .int x1), (2, .int x2)]) hx hb dX0_judge_40 hl (by decide) rfl (fun ls hl => ?_)
          refine lv_iconst (v := 0) hx hb dX0_judge_42 (by decide) ?_
          refine lv_istore (lv' := [(5, .int 0), (4, .int v53), (3, .ref v48), (0, .ref (ad 60)), (1, .int x1), (2, .int x2)]) hx hb dX0_judge_43 hl (by decide) rfl (fun ls hl => ?_)
          obtain ⟨z54, hz58, h⟩ := bd1_some h
          refine L45 st49 x2 v48 hlv48 v53 N 0 _ hz58 _ _ hP hS ls (lv_sub hl [3, 5, 2, 1, 0] rfl) (fun ls hl => ?_)
          refine lv_iload hx hb dX0_judge_86 (lv_at hl 2 rfl) ?_
          refine lv_aload_n hx hb dX0_judge_88 rfl (lv_at hl 0 rfl) ?_
          obtain ⟨v55, hv55, h⟩ := bd1_some h
          refine k_S_size C hO hP hS.1 hlv48 hv55 q1155 (Nat.le_of_ble_eq_true rfl) hl.1 (Nat.le_of_ble_eq_true rfl) hcs dX0_judge_89 ?_
          refine lv_icmp_ne (tgt := 106) hx hb dX0_judge_92 rfl (fun c56 => ?_) (fun c56 => ?_)
          · have h := if_some_f h c56
            refine lv_iload hx hb dX0_judge_106 (lv_at hl 2 rfl) ?_
            exact cc_viret hx hb hr hlk h hP hS dX0_judge_108
          · have h := if_some_t h c56
            refine lv_iload hx hb dX0_judge_95 (lv_at hl 2 rfl) ?_
            refine lv_iload hx hb dX0_judge_97 (lv_at hl 1 rfl) ?_
            refine lv_icmp_ne (tgt := 106) hx hb dX0_judge_99 rfl (fun c57 => ?_) (fun c57 => ?_)
            · have h := if_some_f h c57
              refine lv_iload hx hb dX0_judge_106 (lv_at hl 2 rfl) ?_
              exact cc_viret hx hb hr hlk h hP hS dX0_judge_108
            · have h := if_some_t h c57
              refine lv_iconst (v := (-1)) hx hb dX0_judge_102 (by decide) ?_
              refine lv_goto (tgt := 108) hx hb dX0_judge_103 rfl ?_
              exact cc_viret hx hb hr hlk h hP hS dX0_judge_108
abbrev cX0_put : ByteArray := prog_1_method_61_code
def yX0_put : MethodName := ⟨RX0, "put", "(III)I"⟩
theorem dX0_put_0 : decode cX0_put 0 = .ok (.aload_n 0, 1) := by decide +kernel
theorem dX0_put_1 : decode cX0_put 1 = .ok (.iload_n 1, 1) := by decide +kernel
theorem dX0_put_2 : decode cX0_put 2 = .ok (.invokestatic 313, 3) := by decide +kernel
theorem dX0_put_5 : decode cX0_put 5 = .ok (.iconst 1, 1) := by decide +kernel
theorem dX0_put_6 : decode cX0_put 6 = .ok (.invokevirtual 102, 3) := by decide +kernel
theorem dX0_put_9 : decode cX0_put 9 = .ok (.aload_n 0, 1) := by decide +kernel
theorem dX0_put_10 : decode cX0_put 10 = .ok (.iload_n 1, 1) := by decide +kernel
theorem dX0_put_11 : decode cX0_put 11 = .ok (.invokevirtual 316, 3) := by decide +kernel
theorem dX0_put_14 : decode cX0_put 14 = .ok (.astore 4, 2) := by decide +kernel
theorem dX0_put_16 : decode cX0_put 16 = .ok (.aload_n 0, 1) := by decide +kernel
theorem dX0_put_17 : decode cX0_put 17 = .ok (.iload_n 2, 1) := by decide +kernel
theorem dX0_put_18 : decode cX0_put 18 = .ok (.iconst 0, 1) := by decide +kernel
theorem dX0_put_19 : decode cX0_put 19 = .ok (.aload 4, 2) := by decide +kernel
theorem dX0_put_21 : decode cX0_put 21 = .ok (.invokevirtual 307, 3) := by decide +kernel
theorem dX0_put_24 : decode cX0_put 24 = .ok (.iconst 1, 1) := by decide +kernel
theorem dX0_put_25 : decode cX0_put 25 = .ok (.isub, 1) := by decide +kernel
theorem dX0_put_26 : decode cX0_put 26 = .ok (.invokestatic 91, 3) := by decide +kernel
theorem dX0_put_29 : decode cX0_put 29 = .ok (.iconst 1, 1) := by decide +kernel
theorem dX0_put_30 : decode cX0_put 30 = .ok (.invokevirtual 102, 3) := by decide +kernel
theorem dX0_put_33 : decode cX0_put 33 = .ok (.aload 4, 2) := by decide +kernel
theorem dX0_put_35 : decode cX0_put 35 = .ok (.iload_n 2, 1) := by decide +kernel
theorem dX0_put_36 : decode cX0_put 36 = .ok (.iload_n 3, 1) := by decide +kernel
theorem dX0_put_37 : decode cX0_put 37 = .ok (.invokevirtual 390, 3) := by decide +kernel
theorem dX0_put_40 : decode cX0_put 40 = .ok (.iconst 1, 1) := by decide +kernel
theorem dX0_put_41 : decode cX0_put 41 = .ok (.ireturn, 1) := by decide +kernel
theorem dX0_put_42 : decode cX0_put 42 = .ok (.astore 4, 2) := by decide +kernel
theorem dX0_put_44 : decode cX0_put 44 = .ok (.aload_n 0, 1) := by decide +kernel
theorem dX0_put_45 : decode cX0_put 45 = .ok (.aload 4, 2) := by decide +kernel
theorem dX0_put_47 : decode cX0_put 47 = .ok (.invokevirtual 123, 3) := by decide +kernel
theorem dX0_put_50 : decode cX0_put 50 = .ok (.ireturn, 1) := by decide +kernel
theorem q1447 : (Jvm.Cond.methodLink "ChapterLoan" (390 : Nat) ({ cls := "ChapterLoan$Sheet", name := "put", desc := "(II)V" } : Jvm.MethodName)) ∈ lw_all := lw_g (lw_at lw_m6 163 rfl) rfl
theorem w_L_put {l : Launch} {D : va_G} {cA : Nat → ClassId} {ks : List Nat} {ad : Nat → Nat} {A : Nat → Prop} (hO : klOk A ks ad) {st st' : CS} {x1 : Int32} {x2 : Int32} {x3 : Int32} {r0 : Int32} (h : L_put cA st x1 x2 x3 = some (r0, st')) : Met l yX0_put (wsW_ yX0_put cX0_put 5 (some .int) [(0, 41, 42, 8)]) (k2_rm 3 (40 * 3)) (cPre D cA ks ad A st [.ref (ad 60), .int x1, .int x2, .int x3]) (cQ (some (.int r0)) D cA ks ad A st') 0 0 A := by
  refine cc_ofH (own := RX0) (by decide) rfl (Nat.le_of_ble_eq_true rfl) (fun p e s m below meth c R args ls C hr hlk htab hP hS hl hcs => ?_)
  have hx := C.1
  have hb := C.2.1
  have hown := C.2.2.2.1
  have hNst := C.2.2.2.2.2.2.2.1
  have hl : lv_has ls 5 [(0, .ref (ad 60)), (1, .int x1), (2, .int x2), (3, .int x3)] := hl
  rw [L_put] at h
  refine lv_aload_n hx hb dX0_put_0 rfl (lv_at hl 0 rfl) ?_
  refine lv_iload_n hx hb dX0_put_1 rfl (lv_at hl 1 rfl) ?_
  obtain ⟨v1, hv1, h⟩ := bd1_some h
  refine k_L_isSheet hx hb C.2.2.1 hown C.2.2.2.2.1 C.2.2.2.2.2.1 q1143 hv1 (Nat.le_of_ble_eq_true rfl) hl.1 (Nat.le_of_ble_eq_true rfl) hcs dX0_put_2 ?_
  refine lv_iconst (v := 1) hx hb dX0_put_5 (by decide) ?_
  obtain ⟨o4, st3, hv2, h⟩ := bd2_some h
  rcases o4 with _ | v2
  · rw [onx_none] at h
    refine k_L_needT C hO hP hS hv2 q402 (Nat.le_of_ble_eq_true rfl) hl.1 (Nat.le_of_ble_eq_true rfl) hcs dX0_put_6 (fun H locs hP hS => ?_)
    refine cc_catch (pre := []) (a1 := 0) (a2 := 41) (hp := 42) (post := []) C hO hP q129 htab rfl rfl ?_
    refine lv_astore (lv' := [(4, .ref (ad 61)), (0, .ref (ad 60)), (1, .int x1), (2, .int x2), (3, .int x3)]) hx hb dX0_put_42 hl (by decide) rfl (fun ls hl => ?_)
    refine lv_aload_n hx hb dX0_put_44 rfl (lv_at hl 1 rfl) ?_
    refine lv_aload hx hb dX0_put_45 (lv_at hl 0 rfl) ?_
    obtain ⟨v5, st6, hv5, h⟩ := bd2_some h
    refine k_L_finds C hO hP hS hv5 q410 (Nat.le_of_ble_eq_true rfl) hl.1 (Nat.le_of_ble_eq_true rfl) hcs dX0_put_47 (fun H locs hP hS => ?_)
    exact cc_viret hx hb hr hlk h hP hS dX0_put_50
  · rw [onx_some] at h
    refine k_L_needR C hO hP hS hv2 q402 (Nat.le_of_ble_eq_true rfl) hl.1 (Nat.le_of_ble_eq_true rfl) hcs dX0_put_6 (fun H locs hP hS => ?_)
    refine lv_aload_n hx hb dX0_put_9 rfl (lv_at hl 0 rfl) ?_
    refine lv_iload_n hx hb dX0_put_10 rfl (lv_at hl 1 rfl) ?_
    obtain ⟨o9, st8, hv7, h⟩ := bd2_some h
    rcases o9 with _ | v7
    · rw [onx_none] at h
      refine k_L_sheetAtT C hO hP hS hv7 q1146 (Nat.le_of_ble_eq_true rfl) hl.1 (Nat.le_of_ble_eq_true rfl) hcs dX0_put_11 (fun H locs hP hS => ?_)
      refine cc_catch (pre := []) (a1 := 0) (a2 := 41) (hp := 42) (post := []) C hO hP q129 htab rfl rfl ?_
      refine lv_astore (lv' := [(4, .ref (ad 61)), (0, .ref (ad 60)), (1, .int x1), (2, .int x2), (3, .int x3)]) hx hb dX0_put_42 hl (by decide) rfl (fun ls hl => ?_)
      refine lv_aload_n hx hb dX0_put_44 rfl (lv_at hl 1 rfl) ?_
      refine lv_aload hx hb dX0_put_45 (lv_at hl 0 rfl) ?_
      obtain ⟨v10, st11, hv10, h⟩ := bd2_some h
      refine k_L_finds C hO hP hS hv10 q410 (Nat.le_of_ble_eq_true rfl) hl.1 (Nat.le_of_ble_eq_true rfl) hcs dX0_put_47 (fun H locs hP hS => ?_)
      exact cc_viret hx hb hr hlk h hP hS dX0_put_50
    · rw [onx_some] at h
      refine k_L_sheetAtR C hO hP hS hv7 q1146 (Nat.le_of_ble_eq_true rfl) hl.1 (Nat.le_of_ble_eq_true rfl) hcs dX0_put_11 (fun H locs hP hS => ?_)
      have hlv7 := (w_live_L_sheetAt hP hv7)
      refine lv_astore (lv' := [(4, .ref v7), (0, .ref (ad 60)), (1, .int x1), (2, .int x2), (3, .int x3)]) hx hb dX0_put_14 hl (by decide) rfl (fun ls hl => ?_)
      refine lv_aload_n hx hb dX0_put_16 rfl (lv_at hl 1 rfl) ?_
      refine lv_iload_n hx hb dX0_put_17 rfl (lv_at hl 3 rfl) ?_
      refine lv_iconst (v := 0) hx hb dX0_put_18 (by decide) ?_
      refine lv_aload hx hb dX0_put_19 (lv_at hl 0 rfl) ?_
      obtain ⟨v12, hv12, h⟩ := bd1_some h
      refine k_S_size C hO hP hS.1 hlv7 hv12 q1155 (Nat.le_of_ble_eq_true rfl) hl.1 (Nat.le_of_ble_eq_true rfl) hcs dX0_put_21 ?_
      refine lv_iconst (v := 1) hx hb dX0_put_24 (by decide) ?_
      refine lv_isub hx hb dX0_put_25 ?_
      obtain ⟨v13, hv13, h⟩ := bd1_some h
      refine k_L_in hx hb C.2.2.1 hown C.2.2.2.2.1 C.2.2.2.2.2.1 q399 hv13 (Nat.le_of_ble_eq_true rfl) hl.1 (Nat.le_of_ble_eq_true rfl) hcs dX0_put_26 ?_
      refine lv_iconst (v := 1) hx hb dX0_put_29 (by decide) ?_
      obtain ⟨o16, st15, hv14, h⟩ := bd2_some h
      rcases o16 with _ | v14
      · rw [onx_none] at h
        refine k_L_needT C hO hP hS hv14 q402 (Nat.le_of_ble_eq_true rfl) hl.1 (Nat.le_of_ble_eq_true rfl) hcs dX0_put_30 (fun H locs hP hS => ?_)
        refine cc_catch (pre := []) (a1 := 0) (a2 := 41) (hp := 42) (post := []) C hO hP q129 htab rfl rfl ?_
        refine lv_astore (lv' := [(4, .ref (ad 61)), (0, .ref (ad 60)), (1, .int x1), (2, .int x2), (3, .int x3)]) hx hb dX0_put_42 hl (by decide) rfl (fun ls hl => ?_)
        refine lv_aload_n hx hb dX0_put_44 rfl (lv_at hl 1 rfl) ?_
        refine lv_aload hx hb dX0_put_45 (lv_at hl 0 rfl) ?_
        obtain ⟨v17, st18, hv17, h⟩ := bd2_some h
        refine k_L_finds C hO hP hS hv17 q410 (Nat.le_of_ble_eq_true rfl) hl.1 (Nat.le_of_ble_eq_true rfl) hcs dX0_put_47 (fun H locs hP hS => ?_)
        exact cc_viret hx hb hr hlk h hP hS dX0_put_50
      · rw [onx_some] at h
        refine k_L_needR C hO hP hS hv14 q402 (Nat.le_of_ble_eq_true rfl) hl.1 (Nat.le_of_ble_eq_true rfl) hcs dX0_put_30 (fun H locs hP hS => ?_)
        refine lv_aload hx hb dX0_put_33 (lv_at hl 0 rfl) ?_
        refine lv_iload_n hx hb dX0_put_35 rfl (lv_at hl 3 rfl) ?_
        refine lv_iload_n hx hb dX0_put_36 rfl (lv_at hl 4 rfl) ?_
        obtain ⟨st19, hst19, h⟩ := bd1_some h
        refine k_S_put C hO hP hS hlv7 hst19 q1447 (Nat.le_of_ble_eq_true rfl) hl.1 (Nat.le_of_ble_eq_true rfl) hcs dX0_put_37 (fun H locs hP hS => ?_)
        refine lv_iconst (v := 1) hx hb dX0_put_40 (by decide) ?_
        exact cc_viret hx hb hr hlk h hP hS dX0_put_41
end
