/-! explained: walks -/
set_option maxRecDepth 100000
section
variable {p : Program} {l : Launch} {e : Env} {R : Room} {s : State} {m : MethodId} {args : Array Value} {below : List Frame} {meth : Method} {c : Code} {H : Heap} {locs : List Loc} {cells slots d : Nat} {Q : State → Prop} {cc : ByteArray} {pc nL : Nat} {ls : Array Slot} {rest : List Value} {D : va_G} {cA : Nat → ClassId} {ks : List Nat} {ad : Nat → Nat} {A : Nat → Prop} {st : CS} {H0 : Heap} {own : String} {index : Nat}
theorem q1154 : (Jvm.Cond.code ({ cls := "ChapterLoan", name := "explains", desc := "(LChapterLoan$Sheet;II)Z" } : Jvm.MethodName) prog_1_method_47_code (7 : Nat) (Option.some Jvm.ClassFile.FieldType.boolean)) ∈ lw_all := lw_g (lw_at lw_m5 110 rfl) rfl
theorem q1153 : (Jvm.Cond.instanceMethod ({ cls := "ChapterLoan", name := "explains", desc := "(LChapterLoan$Sheet;II)Z" } : Jvm.MethodName)) ∈ lw_all := lw_g (lw_at lw_m5 109 rfl) rfl
/-- a call of explains -/
theorem k_L_explains {a2 a3 v : Int32} {N x1 : Nat} {st' : CS} {nx : Nat} (C : cC p R d s m args c cc nL RX0 D cA A) (had : adP ad) (hO : klOk A ks ad) (hP : cW D cA ks ad st H) (hS : va_S A s.heap H locs) (hH : H.size = nx) (hlx1 : live ks ad x1) (h : L_explains (ad 62) nx N cA st x1 a2 a3 = some (v, st')) (hl : Cond.methodLink RX0 index yX0_explains ∈ lw_all) (hd : 66 + 1 ≤ d) (hsz : ls.size = nL) (hW : (rest.map fun v => v.category).sum ≤ 8) (hcs : cells + 1 ≤ R.cells ∧ slots + 3 ≤ R.slots) (hdg : decode cc pc = .ok (.invokevirtual index, 3))
    (kk : ∀ (H1 : Heap) (locs1 : List Loc), klOk A (ks ++ [1000 + nx]) ad → cW D cA (ks ++ [1000 + nx]) ad st' H1 → va_S A s.heap H1 locs1 → H1.size = nx + 1 → W p l e R s m args below meth c H1 locs1 (cells + 1) (slots + 3) Q (F0 m (pc + 3) ls (.int v :: rest))) : W p l e R s m args below meth c H locs cells slots Q (F0 m pc ls (.int a3 :: .int a2 :: .ref x1 :: .ref (ad 60) :: rest)) := by
  have hO1 : klOk A (ks ++ [1000 + nx]) ad := by
    have h1 := klOk_new had hO hP (C.2.2.2.2.2.2.2.2 _ hS.1)
    rw [hH] at h1
    exact h1
  intro T hT X
  obtain ⟨v, st₀, t, T', L, h0, X', hL, e1, ⟨hv, hw, ⟨hz, hk⟩, hn1⟩, st⟩ := (W.runV (As := [.ref x1, .int a2, .int a3]) (rest := rest) ⟨C.1, C.2.1, C.2.2.1, C.2.2.2.1, C.2.2.2.2.1⟩ (w_L_explains (l := l) (D := D) (cA := cA) (A := A) had hO hlx1 h) (cwV 3 C.2.2.2.2.1 (lw_V hl q1153 qs27 q85 q1154) rfl rfl rfl (by decide +kernel) (mrA C.2.2.2.2.2.1 hd (by decide))) ⟨nPre_blind, cc_recv C hP (hO.2.2.2 60 (by decide)) rfl (q := (RX0, TX0, 13)) rfl, fun U hU hW => ⟨cc_pre C hP hS.1 U hU hW, by rw [hU]; exact hH⟩⟩ rfl rfl hsz rfl (lv_room hW) hdg hcs : CallRun p l e R s m args below meth c H locs cells slots 1 3 (F0 m pc ls (.int a3 :: .int a2 :: .ref x1 :: .ref (ad 60) :: rest)) rest (nQ nx (some (.int v)) D cA ks ad A st' _) A) T hT X
  cases hv
  rw [h0] at hz hk
  obtain ⟨t2, a1, b1⟩ := kk T'.heap (locs ++ L) hO1 (by rw [e1]; exact hw)
    ⟨Nat.le_trans hS.1 (by rw [e1]; exact hz), fun q h1 h2 => by rw [e1, hk q (Nat.lt_of_lt_of_le h1 hS.1) h2]; exact hS.2.1 q h1 h2, fun q hq => by
      rcases List.mem_append.mp hq with h | h
      · exact hS.2.2 q h
      · exact hL q h⟩ (by rw [e1]; exact hn1) T' rfl X'
  exact ⟨t2, st t2 a1, b1⟩
abbrev cX0_explained : ByteArray := prog_1_method_48_code
def yX0_explained : MethodName := ⟨RX0, "explained", "(II)I"⟩
theorem dX0_explained_0 : decode cX0_explained 0 = .ok (.aload_n 0, 1) := by decide +kernel
theorem dX0_explained_1 : decode cX0_explained 1 = .ok (.aload_n 0, 1) := by decide +kernel
theorem dX0_explained_2 : decode cX0_explained 2 = .ok (.iload_n 1, 1) := by decide +kernel
theorem dX0_explained_3 : decode cX0_explained 3 = .ok (.invokevirtual 160, 3) := by decide +kernel
theorem dX0_explained_6 : decode cX0_explained 6 = .ok (.ifCond .eq 14, 3) := by decide +kernel
theorem dX0_explained_9 : decode cX0_explained 9 = .ok (.iload_n 2, 1) := by decide +kernel
theorem dX0_explained_10 : decode cX0_explained 10 = .ok (.invokestatic 313, 3) := by decide +kernel
theorem dX0_explained_13 : decode cX0_explained 13 = .ok (.ifCond .eq 7, 3) := by decide +kernel
theorem dX0_explained_16 : decode cX0_explained 16 = .ok (.iconst 1, 1) := by decide +kernel
theorem dX0_explained_17 : decode cX0_explained 17 = .ok (.goto 4, 3) := by decide +kernel
theorem dX0_explained_20 : decode cX0_explained 20 = .ok (.iconst 0, 1) := by decide +kernel
theorem dX0_explained_21 : decode cX0_explained 21 = .ok (.iconst 1, 1) := by decide +kernel
theorem dX0_explained_22 : decode cX0_explained 22 = .ok (.invokevirtual 102, 3) := by decide +kernel
theorem dX0_explained_25 : decode cX0_explained 25 = .ok (.aload_n 0, 1) := by decide +kernel
theorem dX0_explained_26 : decode cX0_explained 26 = .ok (.iload_n 2, 1) := by decide +kernel
theorem dX0_explained_27 : decode cX0_explained 27 = .ok (.invokevirtual 316, 3) := by decide +kernel
theorem dX0_explained_30 : decode cX0_explained 30 = .ok (.astore_n 3, 1) := by decide +kernel
theorem dX0_explained_31 : decode cX0_explained 31 = .ok (.iconst 0, 1) := by decide +kernel
theorem dX0_explained_32 : decode cX0_explained 32 = .ok (.istore 4, 2) := by decide +kernel
theorem dX0_explained_34 : decode cX0_explained 34 = .ok (.iload 4, 2) := by decide +kernel
theorem dX0_explained_36 : decode cX0_explained 36 = .ok (.bipush 6, 2) := by decide +kernel
theorem dX0_explained_38 : decode cX0_explained 38 = .ok (.if_icmp .gt 20, 3) := by decide +kernel
theorem dX0_explained_41 : decode cX0_explained 41 = .ok (.aload_n 0, 1) := by decide +kernel
theorem dX0_explained_42 : decode cX0_explained 42 = .ok (.aload_n 3, 1) := by decide +kernel
theorem dX0_explained_43 : decode cX0_explained 43 = .ok (.iload_n 1, 1) := by decide +kernel
theorem dX0_explained_44 : decode cX0_explained 44 = .ok (.iload 4, 2) := by decide +kernel
theorem dX0_explained_46 : decode cX0_explained 46 = .ok (.invokevirtual 320, 3) := by decide +kernel
theorem dX0_explained_49 : decode cX0_explained 49 = .ok (.ifCond .ne 9, 3) := by decide +kernel
theorem dX0_explained_52 : decode cX0_explained 52 = .ok (.iinc 4 1, 3) := by decide +kernel
theorem dX0_explained_55 : decode cX0_explained 55 = .ok (.goto (-21), 3) := by decide +kernel
theorem dX0_explained_58 : decode cX0_explained 58 = .ok (.aload_n 0, 1) := by decide +kernel
theorem dX0_explained_59 : decode cX0_explained 59 = .ok (.iload 4, 2) := by decide +kernel
theorem dX0_explained_61 : decode cX0_explained 61 = .ok (.bipush 6, 2) := by decide +kernel
theorem dX0_explained_63 : decode cX0_explained 63 = .ok (.if_icmp .gt 7, 3) := by decide +kernel
theorem dX0_explained_66 : decode cX0_explained 66 = .ok (.iconst 1, 1) := by decide +kernel
theorem dX0_explained_67 : decode cX0_explained 67 = .ok (.goto 4, 3) := by decide +kernel
theorem dX0_explained_70 : decode cX0_explained 70 = .ok (.iconst 0, 1) := by decide +kernel
theorem dX0_explained_71 : decode cX0_explained 71 = .ok (.iconst 2, 1) := by decide +kernel
theorem dX0_explained_72 : decode cX0_explained 72 = .ok (.invokevirtual 102, 3) := by decide +kernel
theorem dX0_explained_75 : decode cX0_explained 75 = .ok (.iload 4, 2) := by decide +kernel
theorem dX0_explained_77 : decode cX0_explained 77 = .ok (.ireturn, 1) := by decide +kernel
theorem dX0_explained_78 : decode cX0_explained 78 = .ok (.astore_n 3, 1) := by decide +kernel
theorem dX0_explained_79 : decode cX0_explained 79 = .ok (.aload_n 0, 1) := by decide +kernel
theorem dX0_explained_80 : decode cX0_explained 80 = .ok (.aload_n 3, 1) := by decide +kernel
theorem dX0_explained_81 : decode cX0_explained 81 = .ok (.invokevirtual 123, 3) := by decide +kernel
theorem dX0_explained_84 : decode cX0_explained 84 = .ok (.ireturn, 1) := by decide +kernel
theorem q1151 : (Jvm.Cond.methodLink "ChapterLoan" (320 : Nat) ({ cls := "ChapterLoan", name := "explains", desc := "(LChapterLoan$Sheet;II)Z" } : Jvm.MethodName)) ∈ lw_all := lw_g (lw_at lw_m5 107 rfl) rfl
theorem w_L_explained {l : Launch} {D : va_G} {cA : Nat → ClassId} {ks : List Nat} {ad : Nat → Nat} {A : Nat → Prop} (had : adP ad) (hO : klOk A ks ad) {N : Nat} {st st' : CS} {nx : Nat} {x1 x2 r0 : Int32} (h : L_explained (ad 62) nx N cA st x1 x2 = some (r0, st')) : Met l yX0_explained (wsW_ yX0_explained cX0_explained 5 (some .int) [(0, 77, 78, 8)]) (rmA 67 7 21) (nPre nx D cA ks ad A st [.ref (ad 60), .int x1, .int x2]) (aQ (some (.int r0)) D cA ks ad A st') 7 21 A := by
  refine cc_ofHA (own := RX0) (by decide) rfl (Nat.le_of_ble_eq_true rfl) (fun p e s m below meth c R args ls C hr hlk htab hP hS hl hcsA hnx => ?_)
  have hx := C.1
  have hb := C.2.1
  have hown := C.2.2.2.1
  have hNst := C.2.2.2.2.2.2.2.1
  have hcs : 0 ≤ R.cells ∧ 0 ≤ R.slots := ⟨Nat.zero_le _, Nat.zero_le _⟩
  have hsub : ∀ k ∈ ks, k ∈ ks := fun _ h => h
  have hl : lv_has ls 5 [(0, .ref (ad 60)), (1, .int x1), (2, .int x2)] := hl
  rw [L_explained] at h
  refine lv_aload_n hx hb dX0_explained_0 rfl (lv_at hl 0 rfl) ?_
  refine lv_aload_n hx hb dX0_explained_1 rfl (lv_at hl 0 rfl) ?_
  refine lv_iload_n hx hb dX0_explained_2 rfl (lv_at hl 1 rfl) ?_
  obtain ⟨v1, hv1, h⟩ := bd1_some h
  refine k_L_isDebtor C hO hP hv1 q559 (Nat.le_of_ble_eq_true rfl) hS.1 hl.1 (Nat.le_of_ble_eq_true rfl) hcs dX0_explained_3 ?_
  refine lv_if_eq (tgt := 20) hx hb dX0_explained_6 rfl (fun c2 => ?_) (fun c2 => ?_)
  · have h := if_some_t h c2
    refine lv_iconst (v := 0) hx hb dX0_explained_20 (by decide) ?_
    refine lv_iconst (v := 1) hx hb dX0_explained_21 (by decide) ?_
    obtain ⟨o5, st4, hv3, h⟩ := bd2_some h
    rcases o5 with _ | v3
    · rw [onx_none] at h
      refine k_L_needT C hO hP hS hv3 q402 (Nat.le_of_ble_eq_true rfl) hl.1 (Nat.le_of_ble_eq_true rfl) hcs dX0_explained_22 (fun H locs hP hS => ?_)
      refine cc_catch (pre := []) (a1 := 0) (a2 := 77) (hp := 78) (post := []) C hO hP q129 htab rfl rfl ?_
      refine lv_astore_n (lv' := [(3, .ref (ad 61)), (0, .ref (ad 60)), (1, .int x1), (2, .int x2)]) hx hb dX0_explained_78 rfl hl (by decide) rfl (fun ls hl => ?_)
      refine lv_aload_n hx hb dX0_explained_79 rfl (lv_at hl 1 rfl) ?_
      refine lv_aload_n hx hb dX0_explained_80 rfl (lv_at hl 0 rfl) ?_
      obtain ⟨v6, st7, hv6, h⟩ := bd2_some h
      refine k_L_finds C hO hP hS hv6 q410 (Nat.le_of_ble_eq_true rfl) hl.1 (Nat.le_of_ble_eq_true rfl) hcs dX0_explained_81 (fun H locs hP hS => ?_)
      cases h
      refine W.widen (k := 7) (n := 21) (Nat.le_of_ble_eq_true rfl) (Nat.le_of_ble_eq_true rfl) ?_
      exact W.iret hx hb hr (fun t ht _ => ⟨rfl, hS.F ht, _, hsub, hO, by rw [ht]; exact hP⟩) hS.2.2 dX0_explained_84
    · rw [onx_some] at h
      refine k_L_needR C hO hP hS hv3 q402 (Nat.le_of_ble_eq_true rfl) hl.1 (Nat.le_of_ble_eq_true rfl) hcs dX0_explained_22 (fun H locs hP hS => ?_)
      refine lv_aload_n hx hb dX0_explained_25 rfl (lv_at hl 0 rfl) ?_
      refine lv_iload_n hx hb dX0_explained_26 rfl (lv_at hl 2 rfl) ?_
      obtain ⟨o10, st9, hv8, h⟩ := bd2_some h
      rcases o10 with _ | v8
      · rw [onx_none] at h
        refine k_L_sheetAtT C hO hP hS hv8 q1146 (Nat.le_of_ble_eq_true rfl) hl.1 (Nat.le_of_ble_eq_true rfl) hcs dX0_explained_27 (fun H locs hP hS => ?_)
        refine cc_catch (pre := []) (a1 := 0) (a2 := 77) (hp := 78) (post := []) C hO hP q129 htab rfl rfl ?_
        refine lv_astore_n (lv' := [(3, .ref (ad 61)), (0, .ref (ad 60)), (1, .int x1), (2, .int x2)]) hx hb dX0_explained_78 rfl hl (by decide) rfl (fun ls hl => ?_)
        refine lv_aload_n hx hb dX0_explained_79 rfl (lv_at hl 1 rfl) ?_
        refine lv_aload_n hx hb dX0_explained_80 rfl (lv_at hl 0 rfl) ?_
        obtain ⟨v11, st12, hv11, h⟩ := bd2_some h
        refine k_L_finds C hO hP hS hv11 q410 (Nat.le_of_ble_eq_true rfl) hl.1 (Nat.le_of_ble_eq_true rfl) hcs dX0_explained_81 (fun H locs hP hS => ?_)
        cases h
        refine W.widen (k := 7) (n := 21) (Nat.le_of_ble_eq_true rfl) (Nat.le_of_ble_eq_true rfl) ?_
        exact W.iret hx hb hr (fun t ht _ => ⟨rfl, hS.F ht, _, hsub, hO, by rw [ht]; exact hP⟩) hS.2.2 dX0_explained_84
      · rw [onx_some] at h
        refine k_L_sheetAtR C hO hP hS hv8 q1146 (Nat.le_of_ble_eq_true rfl) hl.1 (Nat.le_of_ble_eq_true rfl) hcs dX0_explained_27 (fun H locs hP hS => ?_)
        have hlv8 := (w_live_L_sheetAt hP hv8)
        refine lv_astore_n (lv' := [(3, .ref v8), (0, .ref (ad 60)), (1, .int x1), (2, .int x2)]) hx hb dX0_explained_30 rfl hl (by decide) rfl (fun ls hl => ?_)
        refine lv_iconst (v := 0) hx hb dX0_explained_31 (by decide) ?_
        refine lv_istore (lv' := [(4, .int 0), (3, .ref v8), (0, .ref (ad 60)), (1, .int x1), (2, .int x2)]) hx hb dX0_explained_32 hl (by decide) rfl (fun ls hl => ?_)
        refine lv_iload hx hb dX0_explained_34 (lv_at hl 0 rfl) ?_
        refine lv_bipush (v := 6) hx hb dX0_explained_36 (by decide) ?_
        refine lv_icmp_gt (tgt := 58) hx hb dX0_explained_38 rfl (fun c => absurd c (by decide)) (fun _ => ?_)
        refine lv_aload_n hx hb dX0_explained_41 rfl (lv_at hl 2 rfl) ?_
        refine lv_aload_n hx hb dX0_explained_42 rfl (lv_at hl 1 rfl) ?_
        refine lv_iload_n hx hb dX0_explained_43 rfl (lv_at hl 3 rfl) ?_
        refine lv_iload hx hb dX0_explained_44 (lv_at hl 0 rfl) ?_
        obtain ⟨v13, st14, hst14, h⟩ := bd2_some h
        refine W.size0 (fun hH => ?_)
        rw [hnx] at hH
        refine k_L_explains (nx := (nx + 0)) C had hO hP hS hH hlv8 hst14 q1151 (Nat.le_of_ble_eq_true rfl) hl.1 (Nat.le_of_ble_eq_true rfl) ⟨by omega, by omega⟩ dX0_explained_46 (fun H locs hO hP hS hH => ?_)
        have hcs : 0 + 1 ≤ R.cells ∧ 0 + 3 ≤ R.slots := ⟨by omega, by omega⟩
        have hsub := fun k h => List.mem_append_left [1000 + (nx + 0)] (hsub k h)
        have hlv8 := live_app (l := [1000 + (nx + 0)]) hlv8
        refine lv_if_ne (tgt := 58) hx hb dX0_explained_49 rfl (fun c15 => ?_) (fun c15 => ?_)
        · have h := if_some_f h c15
          refine lv_aload_n hx hb dX0_explained_58 rfl (lv_at hl 2 rfl) ?_
          refine lv_iload hx hb dX0_explained_59 (lv_at hl 0 rfl) ?_
          refine lv_bipush (v := 6) hx hb dX0_explained_61 (by decide) ?_
          refine lv_icmp_gt (tgt := 70) hx hb dX0_explained_63 rfl (fun c => absurd c (by decide)) (fun _ => ?_)
          refine lv_iconst (v := 1) hx hb dX0_explained_66 (by decide) ?_
          refine lv_goto (tgt := 71) hx hb dX0_explained_67 rfl ?_
          refine lv_iconst (v := 2) hx hb dX0_explained_71 (by decide) ?_
          obtain ⟨o18, st17, hv16, h⟩ := bd2_some h
          rcases o18 with _ | v16
          · rw [onx_none] at h
            refine k_L_needT C hO hP hS hv16 q402 (Nat.le_of_ble_eq_true rfl) hl.1 (Nat.le_of_ble_eq_true rfl) hcs dX0_explained_72 (fun H locs hP hS => ?_)
            refine cc_catch (pre := []) (a1 := 0) (a2 := 77) (hp := 78) (post := []) C hO hP q129 htab rfl rfl ?_
            refine lv_astore_n (lv' := [(3, .ref (ad 61)), (4, .int 0), (0, .ref (ad 60)), (1, .int x1), (2, .int x2)]) hx hb dX0_explained_78 rfl hl (by decide) rfl (fun ls hl => ?_)
            refine lv_aload_n hx hb dX0_explained_79 rfl (lv_at hl 2 rfl) ?_
            refine lv_aload_n hx hb dX0_explained_80 rfl (lv_at hl 0 rfl) ?_
            obtain ⟨v19, st20, hv19, h⟩ := bd2_some h
            refine k_L_finds C hO hP hS hv19 q410 (Nat.le_of_ble_eq_true rfl) hl.1 (Nat.le_of_ble_eq_true rfl) hcs dX0_explained_81 (fun H locs hP hS => ?_)
            cases h
            refine W.widen (k := 7) (n := 21) (Nat.le_of_ble_eq_true rfl) (Nat.le_of_ble_eq_true rfl) ?_
            exact W.iret hx hb hr (fun t ht _ => ⟨rfl, hS.F ht, _, hsub, hO, by rw [ht]; exact hP⟩) hS.2.2 dX0_explained_84
          · rw [onx_some] at h
            refine k_L_needR C hO hP hS hv16 q402 (Nat.le_of_ble_eq_true rfl) hl.1 (Nat.le_of_ble_eq_true rfl) hcs dX0_explained_72 (fun H locs hP hS => ?_)
            refine lv_iload hx hb dX0_explained_75 (lv_at hl 0 rfl) ?_
            cases h
            refine W.widen (k := 7) (n := 21) (Nat.le_of_ble_eq_true rfl) (Nat.le_of_ble_eq_true rfl) ?_
            exact W.iret hx hb hr (fun t ht _ => ⟨rfl, hS.F ht, _, hsub, hO, by rw [ht]; exact hP⟩) hS.2.2 dX0_explained_77
        · have h := if_some_t h c15
          refine lv_iinc (v := 1) (lv' := [(4, .int 1), (3, .ref v8), (0, .ref (ad 60)), (1, .int x1), (2, .int x2)]) hx hb dX0_explained_52 hl (k := 0) rfl (by decide) (by decide) rfl (fun ls hl => ?_)
          refine lv_goto (tgt := 34) hx hb dX0_explained_55 rfl ?_
          refine lv_iload hx hb dX0_explained_34 (lv_at hl 0 rfl) ?_
          refine lv_bipush (v := 6) hx hb dX0_explained_36 (by decide) ?_
          refine lv_icmp_gt (tgt := 58) hx hb dX0_explained_38 rfl (fun c => absurd c (by decide)) (fun _ => ?_)
          refine lv_aload_n hx hb dX0_explained_41 rfl (lv_at hl 2 rfl) ?_
          refine lv_aload_n hx hb dX0_explained_42 rfl (lv_at hl 1 rfl) ?_
          refine lv_iload_n hx hb dX0_explained_43 rfl (lv_at hl 3 rfl) ?_
          refine lv_iload hx hb dX0_explained_44 (lv_at hl 0 rfl) ?_
          obtain ⟨v21, st22, hst22, h⟩ := bd2_some h
          refine k_L_explains (nx := (nx + 1)) C had hO hP hS hH hlv8 hst22 q1151 (Nat.le_of_ble_eq_true rfl) hl.1 (Nat.le_of_ble_eq_true rfl) ⟨by omega, by omega⟩ dX0_explained_46 (fun H locs hO hP hS hH => ?_)
          have hcs : 0 + 1 + 1 ≤ R.cells ∧ 0 + 3 + 3 ≤ R.slots := ⟨by omega, by omega⟩
          have hsub := fun k h => List.mem_append_left [1000 + (nx + 1)] (hsub k h)
          have hlv8 := live_app (l := [1000 + (nx + 1)]) hlv8
          refine lv_if_ne (tgt := 58) hx hb dX0_explained_49 rfl (fun c23 => ?_) (fun c23 => ?_)
          · have h := if_some_f h c23
            refine lv_aload_n hx hb dX0_explained_58 rfl (lv_at hl 2 rfl) ?_
            refine lv_iload hx hb dX0_explained_59 (lv_at hl 0 rfl) ?_
            refine lv_bipush (v := 6) hx hb dX0_explained_61 (by decide) ?_
            refine lv_icmp_gt (tgt := 70) hx hb dX0_explained_63 rfl (fun c => absurd c (by decide)) (fun _ => ?_)
            refine lv_iconst (v := 1) hx hb dX0_explained_66 (by decide) ?_
            refine lv_goto (tgt := 71) hx hb dX0_explained_67 rfl ?_
            refine lv_iconst (v := 2) hx hb dX0_explained_71 (by decide) ?_
            obtain ⟨o26, st25, hv24, h⟩ := bd2_some h
            rcases o26 with _ | v24
            · rw [onx_none] at h
              refine k_L_needT C hO hP hS hv24 q402 (Nat.le_of_ble_eq_true rfl) hl.1 (Nat.le_of_ble_eq_true rfl) hcs dX0_explained_72 (fun H locs hP hS => ?_)
              refine cc_catch (pre := []) (a1 := 0) (a2 := 77) (hp := 78) (post := []) C hO hP q129 htab rfl rfl ?_
              refine lv_astore_n (lv' := [(3, .ref (ad 61)), (4, .int 1), (0, .ref (ad 60)), (1, .int x1), (2, .int x2)]) hx hb dX0_explained_78 rfl hl (by decide) rfl (fun ls hl => ?_)
              refine lv_aload_n hx hb dX0_explained_79 rfl (lv_at hl 2 rfl) ?_
              refine lv_aload_n hx hb dX0_explained_80 rfl (lv_at hl 0 rfl) ?_
              obtain ⟨v27, st28, hv27, h⟩ := bd2_some h
              refine k_L_finds C hO hP hS hv27 q410 (Nat.le_of_ble_eq_true rfl) hl.1 (Nat.le_of_ble_eq_true rfl) hcs dX0_explained_81 (fun H locs hP hS => ?_)
              cases h
              refine W.widen (k := 7) (n := 21) (Nat.le_of_ble_eq_true rfl) (Nat.le_of_ble_eq_true rfl) ?_
              exact W.iret hx hb hr (fun t ht _ => ⟨rfl, hS.F ht, _, hsub, hO, by rw [ht]; exact hP⟩) hS.2.2 dX0_explained_84
            · rw [onx_some] at h
              refine k_L_needR C hO hP hS hv24 q402 (Nat.le_of_ble_eq_true rfl) hl.1 (Nat.le_of_ble_eq_true rfl) hcs dX0_explained_72 (fun H locs hP hS => ?_)
              refine lv_iload hx hb dX0_explained_75 (lv_at hl 0 rfl) ?_
              cases h
              refine W.widen (k := 7) (n := 21) (Nat.le_of_ble_eq_true rfl) (Nat.le_of_ble_eq_true rfl) ?_
              exact W.iret hx hb hr (fun t ht _ => ⟨rfl, hS.F ht, _, hsub, hO, by rw [ht]; exact hP⟩) hS.2.2 dX0_explained_77
          · have h := if_some_t h c23
            refine lv_iinc (v := 2) (lv' := [(4, .int 2), (3, .ref v8), (0, .ref (ad 60)), (1, .int x1), (2, .int x2)]) hx hb dX0_explained_52 hl (k := 0) rfl (by decide) (by decide) rfl (fun ls hl => ?_)
            refine lv_goto (tgt := 34) hx hb dX0_explained_55 rfl ?_
            refine lv_iload hx hb dX0_explained_34 (lv_at hl 0 rfl) ?_
            refine lv_bipush (v := 6) hx hb dX0_explained_36 (by decide) ?_
            refine lv_icmp_gt (tgt := 58) hx hb dX0_explained_38 rfl (fun c => absurd c (by decide)) (fun _ => ?_)
            refine lv_aload_n hx hb dX0_explained_41 rfl (lv_at hl 2 rfl) ?_
            refine lv_aload_n hx hb dX0_explained_42 rfl (lv_at hl 1 rfl) ?_
            refine lv_iload_n hx hb dX0_explained_43 rfl (lv_at hl 3 rfl) ?_
            refine lv_iload hx hb dX0_explained_44 (lv_at hl 0 rfl) ?_
            obtain ⟨v29, st30, hst30, h⟩ := bd2_some h
            refine k_L_explains (nx := (nx + 2)) C had hO hP hS hH hlv8 hst30 q1151 (Nat.le_of_ble_eq_true rfl) hl.1 (Nat.le_of_ble_eq_true rfl) ⟨by omega, by omega⟩ dX0_explained_46 (fun H locs hO hP hS hH => ?_)
            have hcs : 0 + 1 + 1 + 1 ≤ R.cells ∧ 0 + 3 + 3 + 3 ≤ R.slots := ⟨by omega, by omega⟩
            have hsub := fun k h => List.mem_append_left [1000 + (nx + 2)] (hsub k h)
            have hlv8 := live_app (l := [1000 + (nx + 2)]) hlv8
            refine lv_if_ne (tgt := 58) hx hb dX0_explained_49 rfl (fun c31 => ?_) (fun c31 => ?_)
            · have h := if_some_f h c31
              refine lv_aload_n hx hb dX0_explained_58 rfl (lv_at hl 2 rfl) ?_
              refine lv_iload hx hb dX0_explained_59 (lv_at hl 0 rfl) ?_
              refine lv_bipush (v := 6) hx hb dX0_explained_61 (by decide) ?_
              refine lv_icmp_gt (tgt := 70) hx hb dX0_explained_63 rfl (fun c => absurd c (by decide)) (fun _ => ?_)
              refine lv_iconst (v := 1) hx hb dX0_explained_66 (by decide) ?_
              refine lv_goto (tgt := 71) hx hb dX0_explained_67 rfl ?_
              refine lv_iconst (v := 2) hx hb dX0_explained_71 (by decide) ?_
              obtain ⟨o34, st33, hv32, h⟩ := bd2_some h
              rcases o34 with _ | v32
              · rw [onx_none] at h
                refine k_L_needT C hO hP hS hv32 q402 (Nat.le_of_ble_eq_true rfl) hl.1 (Nat.le_of_ble_eq_true rfl) hcs dX0_explained_72 (fun H locs hP hS => ?_)
                refine cc_catch (pre := []) (a1 := 0) (a2 := 77) (hp := 78) (post := []) C hO hP q129 htab rfl rfl ?_
                refine lv_astore_n (lv' := [(3, .ref (ad 61)), (4, .int 2), (0, .ref (ad 60)), (1, .int x1), (2, .int x2)]) hx hb dX0_explained_78 rfl hl (by decide) rfl (fun ls hl => ?_)
                refine lv_aload_n hx hb dX0_explained_79 rfl (lv_at hl 2 rfl) ?_
                refine lv_aload_n hx hb dX0_explained_80 rfl (lv_at hl 0 rfl) ?_
                obtain ⟨v35, st36, hv35, h⟩ := bd2_some h
                refine k_L_finds C hO hP hS hv35 q410 (Nat.le_of_ble_eq_true rfl) hl.1 (Nat.le_of_ble_eq_true rfl) hcs dX0_explained_81 (fun H locs hP hS => ?_)
                cases h
                refine W.widen (k := 7) (n := 21) (Nat.le_of_ble_eq_true rfl) (Nat.le_of_ble_eq_true rfl) ?_
                exact W.iret hx hb hr (fun t ht _ => ⟨rfl, hS.F ht, _, hsub, hO, by rw [ht]; exact hP⟩) hS.2.2 dX0_explained_84
              · rw [onx_some] at h
                refine k_L_needR C hO hP hS hv32 q402 (Nat.le_of_ble_eq_true rfl) hl.1 (Nat.le_of_ble_eq_true rfl) hcs dX0_explained_72 (fun H locs hP hS => ?_)
                refine lv_iload hx hb dX0_explained_75 (lv_at hl 0 rfl) ?_
                cases h
                refine W.widen (k := 7) (n := 21) (Nat.le_of_ble_eq_true rfl) (Nat.le_of_ble_eq_true rfl) ?_
                exact W.iret hx hb hr (fun t ht _ => ⟨rfl, hS.F ht, _, hsub, hO, by rw [ht]; exact hP⟩) hS.2.2 dX0_explained_77
            · have h := if_some_t h c31
              refine lv_iinc (v := 3) (lv' := [(4, .int 3), (3, .ref v8), (0, .ref (ad 60)), (1, .int x1), (2, .int x2)]) hx hb dX0_explained_52 hl (k := 0) rfl (by decide) (by decide) rfl (fun ls hl => ?_)
              refine lv_goto (tgt := 34) hx hb dX0_explained_55 rfl ?_
              refine lv_iload hx hb dX0_explained_34 (lv_at hl 0 rfl) ?_
              refine lv_bipush (v := 6) hx hb dX0_explained_36 (by decide) ?_
              refine lv_icmp_gt (tgt := 58) hx hb dX0_explained_38 rfl (fun c => absurd c (by decide)) (fun _ => ?_)
              refine lv_aload_n hx hb dX0_explained_41 rfl (lv_at hl 2 rfl) ?_
              refine lv_aload_n hx hb dX0_explained_42 rfl (lv_at hl 1 rfl) ?_
              refine lv_iload_n hx hb dX0_explained_43 rfl (lv_at hl 3 rfl) ?_
              refine lv_iload hx hb dX0_explained_44 (lv_at hl 0 rfl) ?_
              obtain ⟨v37, st38, hst38, h⟩ := bd2_some h
              refine k_L_explains (nx := (nx + 3)) C had hO hP hS hH hlv8 hst38 q1151 (Nat.le_of_ble_eq_true rfl) hl.1 (Nat.le_of_ble_eq_true rfl) ⟨by omega, by omega⟩ dX0_explained_46 (fun H locs hO hP hS hH => ?_)
              have hcs : 0 + 1 + 1 + 1 + 1 ≤ R.cells ∧ 0 + 3 + 3 + 3 + 3 ≤ R.slots := ⟨by omega, by omega⟩
              have hsub := fun k h => List.mem_append_left [1000 + (nx + 3)] (hsub k h)
              have hlv8 := live_app (l := [1000 + (nx + 3)]) hlv8
              refine lv_if_ne (tgt := 58) hx hb dX0_explained_49 rfl (fun c39 => ?_) (fun c39 => ?_)
              · have h := if_some_f h c39
                refine lv_aload_n hx hb dX0_explained_58 rfl (lv_at hl 2 rfl) ?_
                refine lv_iload hx hb dX0_explained_59 (lv_at hl 0 rfl) ?_
                refine lv_bipush (v := 6) hx hb dX0_explained_61 (by decide) ?_
                refine lv_icmp_gt (tgt := 70) hx hb dX0_explained_63 rfl (fun c => absurd c (by decide)) (fun _ => ?_)
                refine lv_iconst (v := 1) hx hb dX0_explained_66 (by decide) ?_
                refine lv_goto (tgt := 71) hx hb dX0_explained_67 rfl ?_
                refine lv_iconst (v := 2) hx hb dX0_explained_71 (by decide) ?_
                obtain ⟨o42, st41, hv40, h⟩ := bd2_some h
                rcases o42 with _ | v40
                · rw [onx_none] at h
                  refine k_L_needT C hO hP hS hv40 q402 (Nat.le_of_ble_eq_true rfl) hl.1 (Nat.le_of_ble_eq_true rfl) hcs dX0_explained_72 (fun H locs hP hS => ?_)
                  refine cc_catch (pre := []) (a1 := 0) (a2 := 77) (hp := 78) (post := []) C hO hP q129 htab rfl rfl ?_
                  refine lv_astore_n (lv' := [(3, .ref (ad 61)), (4, .int 3), (0, .ref (ad 60)), (1, .int x1), (2, .int x2)]) hx hb dX0_explained_78 rfl hl (by decide) rfl (fun ls hl => ?_)
                  refine lv_aload_n hx hb dX0_explained_79 rfl (lv_at hl 2 rfl) ?_
                  refine lv_aload_n hx hb dX0_explained_80 rfl (lv_at hl 0 rfl) ?_
                  obtain ⟨v43, st44, hv43, h⟩ := bd2_some h
                  refine k_L_finds C hO hP hS hv43 q410 (Nat.le_of_ble_eq_true rfl) hl.1 (Nat.le_of_ble_eq_true rfl) hcs dX0_explained_81 (fun H locs hP hS => ?_)
                  cases h
                  refine W.widen (k := 7) (n := 21) (Nat.le_of_ble_eq_true rfl) (Nat.le_of_ble_eq_true rfl) ?_
                  exact W.iret hx hb hr (fun t ht _ => ⟨rfl, hS.F ht, _, hsub, hO, by rw [ht]; exact hP⟩) hS.2.2 dX0_explained_84
                · rw [onx_some] at h
                  refine k_L_needR C hO hP hS hv40 q402 (Nat.le_of_ble_eq_true rfl) hl.1 (Nat.le_of_ble_eq_true rfl) hcs dX0_explained_72 (fun H locs hP hS => ?_)
                  refine lv_iload hx hb dX0_explained_75 (lv_at hl 0 rfl) ?_
                  cases h
                  refine W.widen (k := 7) (n := 21) (Nat.le_of_ble_eq_true rfl) (Nat.le_of_ble_eq_true rfl) ?_
                  exact W.iret hx hb hr (fun t ht _ => ⟨rfl, hS.F ht, _, hsub, hO, by rw [ht]; exact hP⟩) hS.2.2 dX0_explained_77
              · have h := if_some_t h c39
                refine lv_iinc (v := 4) (lv' := [(4, .int 4), (3, .ref v8), (0, .ref (ad 60)), (1, .int x1), (2, .int x2)]) hx hb dX0_explained_52 hl (k := 0) rfl (by decide) (by decide) rfl (fun ls hl => ?_)
                refine lv_goto (tgt := 34) hx hb dX0_explained_55 rfl ?_
                refine lv_iload hx hb dX0_explained_34 (lv_at hl 0 rfl) ?_
                refine lv_bipush (v := 6) hx hb dX0_explained_36 (by decide) ?_
                refine lv_icmp_gt (tgt := 58) hx hb dX0_explained_38 rfl (fun c => absurd c (by decide)) (fun _ => ?_)
                refine lv_aload_n hx hb dX0_explained_41 rfl (lv_at hl 2 rfl) ?_
                refine lv_aload_n hx hb dX0_explained_42 rfl (lv_at hl 1 rfl) ?_
                refine lv_iload_n hx hb dX0_explained_43 rfl (lv_at hl 3 rfl) ?_
                refine lv_iload hx hb dX0_explained_44 (lv_at hl 0 rfl) ?_
                obtain ⟨v45, st46, hst46, h⟩ := bd2_some h
                refine k_L_explains (nx := (nx + 4)) C had hO hP hS hH hlv8 hst46 q1151 (Nat.le_of_ble_eq_true rfl) hl.1 (Nat.le_of_ble_eq_true rfl) ⟨by omega, by omega⟩ dX0_explained_46 (fun H locs hO hP hS hH => ?_)
                have hcs : 0 + 1 + 1 + 1 + 1 + 1 ≤ R.cells ∧ 0 + 3 + 3 + 3 + 3 + 3 ≤ R.slots := ⟨by omega, by omega⟩
                have hsub := fun k h => List.mem_append_left [1000 + (nx + 4)] (hsub k h)
                have hlv8 := live_app (l := [1000 + (nx + 4)]) hlv8
                refine lv_if_ne (tgt := 58) hx hb dX0_explained_49 rfl (fun c47 => ?_) (fun c47 => ?_)
                · have h := if_some_f h c47
                  refine lv_aload_n hx hb dX0_explained_58 rfl (lv_at hl 2 rfl) ?_
                  refine lv_iload hx hb dX0_explained_59 (lv_at hl 0 rfl) ?_
                  refine lv_bipush (v := 6) hx hb dX0_explained_61 (by decide) ?_
                  refine lv_icmp_gt (tgt := 70) hx hb dX0_explained_63 rfl (fun c => absurd c (by decide)) (fun _ => ?_)
                  refine lv_iconst (v := 1) hx hb dX0_explained_66 (by decide) ?_
                  refine lv_goto (tgt := 71) hx hb dX0_explained_67 rfl ?_
                  refine lv_iconst (v := 2) hx hb dX0_explained_71 (by decide) ?_
                  obtain ⟨o50, st49, hv48, h⟩ := bd2_some h
                  rcases o50 with _ | v48
                  · rw [onx_none] at h
                    refine k_L_needT C hO hP hS hv48 q402 (Nat.le_of_ble_eq_true rfl) hl.1 (Nat.le_of_ble_eq_true rfl) hcs dX0_explained_72 (fun H locs hP hS => ?_)
                    refine cc_catch (pre := []) (a1 := 0) (a2 := 77) (hp := 78) (post := []) C hO hP q129 htab rfl rfl ?_
                    refine lv_astore_n (lv' := [(3, .ref (ad 61)), (4, .int 4), (0, .ref (ad 60)), (1, .int x1), (2, .int x2)]) hx hb dX0_explained_78 rfl hl (by decide) rfl (fun ls hl => ?_)
                    refine lv_aload_n hx hb dX0_explained_79 rfl (lv_at hl 2 rfl) ?_
                    refine lv_aload_n hx hb dX0_explained_80 rfl (lv_at hl 0 rfl) ?_
                    obtain ⟨v51, st52, hv51, h⟩ := bd2_some h
                    refine k_L_finds C hO hP hS hv51 q410 (Nat.le_of_ble_eq_true rfl) hl.1 (Nat.le_of_ble_eq_true rfl) hcs dX0_explained_81 (fun H locs hP hS => ?_)
                    cases h
                    refine W.widen (k := 7) (n := 21) (Nat.le_of_ble_eq_true rfl) (Nat.le_of_ble_eq_true rfl) ?_
                    exact W.iret hx hb hr (fun t ht _ => ⟨rfl, hS.F ht, _, hsub, hO, by rw [ht]; exact hP⟩) hS.2.2 dX0_explained_84
                  · rw [onx_some] at h
                    refine k_L_needR C hO hP hS hv48 q402 (Nat.le_of_ble_eq_true rfl) hl.1 (Nat.le_of_ble_eq_true rfl) hcs dX0_explained_72 (fun H locs hP hS => ?_)
                    refine lv_iload hx hb dX0_explained_75 (lv_at hl 0 rfl) ?_
                    cases h
                    refine W.widen (k := 7) (n := 21) (Nat.le_of_ble_eq_true rfl) (Nat.le_of_ble_eq_true rfl) ?_
                    exact W.iret hx hb hr (fun t ht _ => ⟨rfl, hS.F ht, _, hsub, hO, by rw [ht]; exact hP⟩) hS.2.2 dX0_explained_77
                · have h := if_some_t h c47
                  refine lv_iinc (v := 5) (lv' := [(4, .int 5), (3, .ref v8), (0, .ref (ad 60)), (1, .int x1), (2, .int x2)]) hx hb dX0_explained_52 hl (k := 0) rfl (by decide) (by decide) rfl (fun ls hl => ?_)
                  refine lv_goto (tgt := 34) hx hb dX0_explained_55 rfl ?_
                  refine lv_iload hx hb dX0_explained_34 (lv_at hl 0 rfl) ?_
                  refine lv_bipush (v := 6) hx hb dX0_explained_36 (by decide) ?_
                  refine lv_icmp_gt (tgt := 58) hx hb dX0_explained_38 rfl (fun c => absurd c (by decide)) (fun _ => ?_)
                  refine lv_aload_n hx hb dX0_explained_41 rfl (lv_at hl 2 rfl) ?_
                  refine lv_aload_n hx hb dX0_explained_42 rfl (lv_at hl 1 rfl) ?_
                  refine lv_iload_n hx hb dX0_explained_43 rfl (lv_at hl 3 rfl) ?_
                  refine lv_iload hx hb dX0_explained_44 (lv_at hl 0 rfl) ?_
                  obtain ⟨v53, st54, hst54, h⟩ := bd2_some h
                  refine k_L_explains (nx := (nx + 5)) C had hO hP hS hH hlv8 hst54 q1151 (Nat.le_of_ble_eq_true rfl) hl.1 (Nat.le_of_ble_eq_true rfl) ⟨by omega, by omega⟩ dX0_explained_46 (fun H locs hO hP hS hH => ?_)
                  have hcs : 0 + 1 + 1 + 1 + 1 + 1 + 1 ≤ R.cells ∧ 0 + 3 + 3 + 3 + 3 + 3 + 3 ≤ R.slots := ⟨by omega, by omega⟩
                  have hsub := fun k h => List.mem_append_left [1000 + (nx + 5)] (hsub k h)
                  have hlv8 := live_app (l := [1000 + (nx + 5)]) hlv8
                  refine lv_if_ne (tgt := 58) hx hb dX0_explained_49 rfl (fun c55 => ?_) (fun c55 => ?_)
                  · have h := if_some_f h c55
                    refine lv_aload_n hx hb dX0_explained_58 rfl (lv_at hl 2 rfl) ?_
                    refine lv_iload hx hb dX0_explained_59 (lv_at hl 0 rfl) ?_
                    refine lv_bipush (v := 6) hx hb dX0_explained_61 (by decide) ?_
                    refine lv_icmp_gt (tgt := 70) hx hb dX0_explained_63 rfl (fun c => absurd c (by decide)) (fun _ => ?_)
                    refine lv_iconst (v := 1) hx hb dX0_explained_66 (by decide) ?_
                    refine lv_goto (tgt := 71) hx hb dX0_explained_67 rfl ?_
                    refine lv_iconst (v := 2) hx hb dX0_explained_71 (by decide) ?_
                    obtain ⟨o58, st57, hv56, h⟩ := bd2_some h
                    rcases o58 with _ | v56
                    · rw [onx_none] at h
                      refine k_L_needT C hO hP hS hv56 q402 (Nat.le_of_ble_eq_true rfl) hl.1 (Nat.le_of_ble_eq_true rfl) hcs dX0_explained_72 (fun H locs hP hS => ?_)
                      refine cc_catch (pre := []) (a1 := 0) (a2 := 77) (hp := 78) (post := []) C hO hP q129 htab rfl rfl ?_
                      refine lv_astore_n (lv' := [(3, .ref (ad 61)), (4, .int 5), (0, .ref (ad 60)), (1, .int x1), (2, .int x2)]) hx hb dX0_explained_78 rfl hl (by decide) rfl (fun ls hl => ?_)
                      refine lv_aload_n hx hb dX0_explained_79 rfl (lv_at hl 2 rfl) ?_
                      refine lv_aload_n hx hb dX0_explained_80 rfl (lv_at hl 0 rfl) ?_
                      obtain ⟨v59, st60, hv59, h⟩ := bd2_some h
                      refine k_L_finds C hO hP hS hv59 q410 (Nat.le_of_ble_eq_true rfl) hl.1 (Nat.le_of_ble_eq_true rfl) hcs dX0_explained_81 (fun H locs hP hS => ?_)
                      cases h
                      refine W.widen (k := 7) (n := 21) (Nat.le_of_ble_eq_true rfl) (Nat.le_of_ble_eq_true rfl) ?_
                      exact W.iret hx hb hr (fun t ht _ => ⟨rfl, hS.F ht, _, hsub, hO, by rw [ht]; exact hP⟩) hS.2.2 dX0_explained_84
                    · rw [onx_some] at h
                      refine k_L_needR C hO hP hS hv56 q402 (Nat.le_of_ble_eq_true rfl) hl.1 (Nat.le_of_ble_eq_true rfl) hcs dX0_explained_72 (fun H locs hP hS => ?_)
                      refine lv_iload hx hb dX0_explained_75 (lv_at hl 0 rfl) ?_
                      cases h
                      refine W.widen (k := 7) (n := 21) (Nat.le_of_ble_eq_true rfl) (Nat.le_of_ble_eq_true rfl) ?_
                      exact W.iret hx hb hr (fun t ht _ => ⟨rfl, hS.F ht, _, hsub, hO, by rw [ht]; exact hP⟩) hS.2.2 dX0_explained_77
                  · have h := if_some_t h c55
                    refine lv_iinc (v := 6) (lv' := [(4, .int 6), (3, .ref v8), (0, .ref (ad 60)), (1, .int x1), (2, .int x2)]) hx hb dX0_explained_52 hl (k := 0) rfl (by decide) (by decide) rfl (fun ls hl => ?_)
                    refine lv_goto (tgt := 34) hx hb dX0_explained_55 rfl ?_
                    refine lv_iload hx hb dX0_explained_34 (lv_at hl 0 rfl) ?_
                    refine lv_bipush (v := 6) hx hb dX0_explained_36 (by decide) ?_
                    refine lv_icmp_gt (tgt := 58) hx hb dX0_explained_38 rfl (fun c => absurd c (by decide)) (fun _ => ?_)
                    refine lv_aload_n hx hb dX0_explained_41 rfl (lv_at hl 2 rfl) ?_
                    refine lv_aload_n hx hb dX0_explained_42 rfl (lv_at hl 1 rfl) ?_
                    refine lv_iload_n hx hb dX0_explained_43 rfl (lv_at hl 3 rfl) ?_
                    refine lv_iload hx hb dX0_explained_44 (lv_at hl 0 rfl) ?_
                    obtain ⟨v61, st62, hst62, h⟩ := bd2_some h
                    refine k_L_explains (nx := (nx + 6)) C had hO hP hS hH hlv8 hst62 q1151 (Nat.le_of_ble_eq_true rfl) hl.1 (Nat.le_of_ble_eq_true rfl) ⟨by omega, by omega⟩ dX0_explained_46 (fun H locs hO hP hS hH => ?_)
                    have hcs : 0 + 1 + 1 + 1 + 1 + 1 + 1 + 1 ≤ R.cells ∧ 0 + 3 + 3 + 3 + 3 + 3 + 3 + 3 ≤ R.slots := ⟨by omega, by omega⟩
                    have hsub := fun k h => List.mem_append_left [1000 + (nx + 6)] (hsub k h)
                    have hlv8 := live_app (l := [1000 + (nx + 6)]) hlv8
                    refine lv_if_ne (tgt := 58) hx hb dX0_explained_49 rfl (fun c63 => ?_) (fun c63 => ?_)
                    · have h := if_some_f h c63
                      refine lv_aload_n hx hb dX0_explained_58 rfl (lv_at hl 2 rfl) ?_
                      refine lv_iload hx hb dX0_explained_59 (lv_at hl 0 rfl) ?_
                      refine lv_bipush (v := 6) hx hb dX0_explained_61 (by decide) ?_
                      refine lv_icmp_gt (tgt := 70) hx hb dX0_explained_63 rfl (fun c => absurd c (by decide)) (fun _ => ?_)
                      refine lv_iconst (v := 1) hx hb dX0_explained_66 (by decide) ?_
                      refine lv_goto (tgt := 71) hx hb dX0_explained_67 rfl ?_
                      refine lv_iconst (v := 2) hx hb dX0_explained_71 (by decide) ?_
                      obtain ⟨o66, st65, hv64, h⟩ := bd2_some h
                      rcases o66 with _ | v64
                      · rw [onx_none] at h
                        refine k_L_needT C hO hP hS hv64 q402 (Nat.le_of_ble_eq_true rfl) hl.1 (Nat.le_of_ble_eq_true rfl) hcs dX0_explained_72 (fun H locs hP hS => ?_)
                        refine cc_catch (pre := []) (a1 := 0) (a2 := 77) (hp := 78) (post := []) C hO hP q129 htab rfl rfl ?_
                        refine lv_astore_n (lv' := [(3, .ref (ad 61)), (4, .int 6), (0, .ref (ad 60)), (1, .int x1), (2, .int x2)]) hx hb dX0_explained_78 rfl hl (by decide) rfl (fun ls hl => ?_)
                        refine lv_aload_n hx hb dX0_explained_79 rfl (lv_at hl 2 rfl) ?_
                        refine lv_aload_n hx hb dX0_explained_80 rfl (lv_at hl 0 rfl) ?_
                        obtain ⟨v67, st68, hv67, h⟩ := bd2_some h
                        refine k_L_finds C hO hP hS hv67 q410 (Nat.le_of_ble_eq_true rfl) hl.1 (Nat.le_of_ble_eq_true rfl) hcs dX0_explained_81 (fun H locs hP hS => ?_)
                        cases h
                        refine W.widen (k := 7) (n := 21) (Nat.le_of_ble_eq_true rfl) (Nat.le_of_ble_eq_true rfl) ?_
                        exact W.iret hx hb hr (fun t ht _ => ⟨rfl, hS.F ht, _, hsub, hO, by rw [ht]; exact hP⟩) hS.2.2 dX0_explained_84
                      · rw [onx_some] at h
                        refine k_L_needR C hO hP hS hv64 q402 (Nat.le_of_ble_eq_true rfl) hl.1 (Nat.le_of_ble_eq_true rfl) hcs dX0_explained_72 (fun H locs hP hS => ?_)
                        refine lv_iload hx hb dX0_explained_75 (lv_at hl 0 rfl) ?_
                        cases h
                        refine W.widen (k := 7) (n := 21) (Nat.le_of_ble_eq_true rfl) (Nat.le_of_ble_eq_true rfl) ?_
                        exact W.iret hx hb hr (fun t ht _ => ⟨rfl, hS.F ht, _, hsub, hO, by rw [ht]; exact hP⟩) hS.2.2 dX0_explained_77
                    · have h := if_some_t h c63
                      refine lv_iinc (v := 7) (lv' := [(4, .int 7), (3, .ref v8), (0, .ref (ad 60)), (1, .int x1), (2, .int x2)]) hx hb dX0_explained_52 hl (k := 0) rfl (by decide) (by decide) rfl (fun ls hl => ?_)
                      refine lv_goto (tgt := 34) hx hb dX0_explained_55 rfl ?_
                      refine lv_iload hx hb dX0_explained_34 (lv_at hl 0 rfl) ?_
                      refine lv_bipush (v := 6) hx hb dX0_explained_36 (by decide) ?_
                      refine lv_icmp_gt (tgt := 58) hx hb dX0_explained_38 rfl (fun _ => ?_) (fun c => absurd c (by decide))
                      refine lv_aload_n hx hb dX0_explained_58 rfl (lv_at hl 2 rfl) ?_
                      refine lv_iload hx hb dX0_explained_59 (lv_at hl 0 rfl) ?_
                      refine lv_bipush (v := 6) hx hb dX0_explained_61 (by decide) ?_
                      refine lv_icmp_gt (tgt := 70) hx hb dX0_explained_63 rfl (fun _ => ?_) (fun c => absurd c (by decide))
                      refine lv_iconst (v := 0) hx hb dX0_explained_70 (by decide) ?_
                      refine lv_iconst (v := 2) hx hb dX0_explained_71 (by decide) ?_
                      obtain ⟨o71, st70, hv69, h⟩ := bd2_some h
                      rcases o71 with _ | v69
                      · rw [onx_none] at h
                        refine k_L_needT C hO hP hS hv69 q402 (Nat.le_of_ble_eq_true rfl) hl.1 (Nat.le_of_ble_eq_true rfl) hcs dX0_explained_72 (fun H locs hP hS => ?_)
                        refine cc_catch (pre := []) (a1 := 0) (a2 := 77) (hp := 78) (post := []) C hO hP q129 htab rfl rfl ?_
                        refine lv_astore_n (lv' := [(3, .ref (ad 61)), (4, .int 7), (0, .ref (ad 60)), (1, .int x1), (2, .int x2)]) hx hb dX0_explained_78 rfl hl (by decide) rfl (fun ls hl => ?_)
                        refine lv_aload_n hx hb dX0_explained_79 rfl (lv_at hl 2 rfl) ?_
                        refine lv_aload_n hx hb dX0_explained_80 rfl (lv_at hl 0 rfl) ?_
                        obtain ⟨v72, st73, hv72, h⟩ := bd2_some h
                        refine k_L_finds C hO hP hS hv72 q410 (Nat.le_of_ble_eq_true rfl) hl.1 (Nat.le_of_ble_eq_true rfl) hcs dX0_explained_81 (fun H locs hP hS => ?_)
                        cases h
                        refine W.widen (k := 7) (n := 21) (Nat.le_of_ble_eq_true rfl) (Nat.le_of_ble_eq_true rfl) ?_
                        exact W.iret hx hb hr (fun t ht _ => ⟨rfl, hS.F ht, _, hsub, hO, by rw [ht]; exact hP⟩) hS.2.2 dX0_explained_84
                      · rw [onx_some] at h
                        refine k_L_needR C hO hP hS hv69 q402 (Nat.le_of_ble_eq_true rfl) hl.1 (Nat.le_of_ble_eq_true rfl) hcs dX0_explained_72 (fun H locs hP hS => ?_)
                        refine lv_iload hx hb dX0_explained_75 (lv_at hl 0 rfl) ?_
                        cases h
                        refine W.widen (k := 7) (n := 21) (Nat.le_of_ble_eq_true rfl) (Nat.le_of_ble_eq_true rfl) ?_
                        exact W.iret hx hb hr (fun t ht _ => ⟨rfl, hS.F ht, _, hsub, hO, by rw [ht]; exact hP⟩) hS.2.2 dX0_explained_77
  · have h := if_some_f h c2
    refine lv_iload_n hx hb dX0_explained_9 rfl (lv_at hl 2 rfl) ?_
    obtain ⟨v74, hv74, h⟩ := bd1_some h
    refine k_L_isSheet hx hb C.2.2.1 hown C.2.2.2.2.1 C.2.2.2.2.2.1 q1143 hv74 (Nat.le_of_ble_eq_true rfl) hl.1 (Nat.le_of_ble_eq_true rfl) hcs dX0_explained_10 ?_
    refine lv_if_eq (tgt := 20) hx hb dX0_explained_13 rfl (fun c75 => ?_) (fun c75 => ?_)
    · have h := if_some_t h c75
      refine lv_iconst (v := 0) hx hb dX0_explained_20 (by decide) ?_
      refine lv_iconst (v := 1) hx hb dX0_explained_21 (by decide) ?_
      obtain ⟨o78, st77, hv76, h⟩ := bd2_some h
      rcases o78 with _ | v76
      · rw [onx_none] at h
        refine k_L_needT C hO hP hS hv76 q402 (Nat.le_of_ble_eq_true rfl) hl.1 (Nat.le_of_ble_eq_true rfl) hcs dX0_explained_22 (fun H locs hP hS => ?_)
        refine cc_catch (pre := []) (a1 := 0) (a2 := 77) (hp := 78) (post := []) C hO hP q129 htab rfl rfl ?_
        refine lv_astore_n (lv' := [(3, .ref (ad 61)), (0, .ref (ad 60)), (1, .int x1), (2, .int x2)]) hx hb dX0_explained_78 rfl hl (by decide) rfl (fun ls hl => ?_)
        refine lv_aload_n hx hb dX0_explained_79 rfl (lv_at hl 1 rfl) ?_
        refine lv_aload_n hx hb dX0_explained_80 rfl (lv_at hl 0 rfl) ?_
        obtain ⟨v79, st80, hv79, h⟩ := bd2_some h
        refine k_L_finds C hO hP hS hv79 q410 (Nat.le_of_ble_eq_true rfl) hl.1 (Nat.le_of_ble_eq_true rfl) hcs dX0_explained_81 (fun H locs hP hS => ?_)
        cases h
        refine W.widen (k := 7) (n := 21) (Nat.le_of_ble_eq_true rfl) (Nat.le_of_ble_eq_true rfl) ?_
        exact W.iret hx hb hr (fun t ht _ => ⟨rfl, hS.F ht, _, hsub, hO, by rw [ht]; exact hP⟩) hS.2.2 dX0_explained_84
      · rw [onx_some] at h
        refine k_L_needR C hO hP hS hv76 q402 (Nat.le_of_ble_eq_true rfl) hl.1 (Nat.le_of_ble_eq_true rfl) hcs dX0_explained_22 (fun H locs hP hS => ?_)
        refine lv_aload_n hx hb dX0_explained_25 rfl (lv_at hl 0 rfl) ?_
        refine lv_iload_n hx hb dX0_explained_26 rfl (lv_at hl 2 rfl) ?_
        obtain ⟨o83, st82, hv81, h⟩ := bd2_some h
        rcases o83 with _ | v81
        · rw [onx_none] at h
          refine k_L_sheetAtT C hO hP hS hv81 q1146 (Nat.le_of_ble_eq_true rfl) hl.1 (Nat.le_of_ble_eq_true rfl) hcs dX0_explained_27 (fun H locs hP hS => ?_)
          refine cc_catch (pre := []) (a1 := 0) (a2 := 77) (hp := 78) (post := []) C hO hP q129 htab rfl rfl ?_
          refine lv_astore_n (lv' := [(3, .ref (ad 61)), (0, .ref (ad 60)), (1, .int x1), (2, .int x2)]) hx hb dX0_explained_78 rfl hl (by decide) rfl (fun ls hl => ?_)
          refine lv_aload_n hx hb dX0_explained_79 rfl (lv_at hl 1 rfl) ?_
          refine lv_aload_n hx hb dX0_explained_80 rfl (lv_at hl 0 rfl) ?_
          obtain ⟨v84, st85, hv84, h⟩ := bd2_some h
          refine k_L_finds C hO hP hS hv84 q410 (Nat.le_of_ble_eq_true rfl) hl.1 (Nat.le_of_ble_eq_true rfl) hcs dX0_explained_81 (fun H locs hP hS => ?_)
          cases h
          refine W.widen (k := 7) (n := 21) (Nat.le_of_ble_eq_true rfl) (Nat.le_of_ble_eq_true rfl) ?_
          exact W.iret hx hb hr (fun t ht _ => ⟨rfl, hS.F ht, _, hsub, hO, by rw [ht]; exact hP⟩) hS.2.2 dX0_explained_84
        · rw [onx_some] at h
          refine k_L_sheetAtR C hO hP hS hv81 q1146 (Nat.le_of_ble_eq_true rfl) hl.1 (Nat.le_of_ble_eq_true rfl) hcs dX0_explained_27 (fun H locs hP hS => ?_)
          have hlv81 := (w_live_L_sheetAt hP hv81)
          refine lv_astore_n (lv' := [(3, .ref v81), (0, .ref (ad 60)), (1, .int x1), (2, .int x2)]) hx hb dX0_explained_30 rfl hl (by decide) rfl (fun ls hl => ?_)
          refine lv_iconst (v := 0) hx hb dX0_explained_31 (by decide) ?_
          refine lv_istore (lv' := [(4, .int 0), (3, .ref v81), (0, .ref (ad 60)), (1, .int x1), (2, .int x2)]) hx hb dX0_explained_32 hl (by decide) rfl (fun ls hl => ?_)
          refine lv_iload hx hb dX0_explained_34 (lv_at hl 0 rfl) ?_
          refine lv_bipush (v := 6) hx hb dX0_explained_36 (by decide) ?_
          refine lv_icmp_gt (tgt := 58) hx hb dX0_explained_38 rfl (fun c => absurd c (by decide)) (fun _ => ?_)
          refine lv_aload_n hx hb dX0_explained_41 rfl (lv_at hl 2 rfl) ?_
          refine lv_aload_n hx hb dX0_explained_42 rfl (lv_at hl 1 rfl) ?_
          refine lv_iload_n hx hb dX0_explained_43 rfl (lv_at hl 3 rfl) ?_
          refine lv_iload hx hb dX0_explained_44 (lv_at hl 0 rfl) ?_
          obtain ⟨v86, st87, hst87, h⟩ := bd2_some h
          refine W.size0 (fun hH => ?_)
          rw [hnx] at hH
          refine k_L_explains (nx := (nx + 0)) C had hO hP hS hH hlv81 hst87 q1151 (Nat.le_of_ble_eq_true rfl) hl.1 (Nat.le_of_ble_eq_true rfl) ⟨by omega, by omega⟩ dX0_explained_46 (fun H locs hO hP hS hH => ?_)
          have hcs : 0 + 1 ≤ R.cells ∧ 0 + 3 ≤ R.slots := ⟨by omega, by omega⟩
          have hsub := fun k h => List.mem_append_left [1000 + (nx + 0)] (hsub k h)
          have hlv81 := live_app (l := [1000 + (nx + 0)]) hlv81
          refine lv_if_ne (tgt := 58) hx hb dX0_explained_49 rfl (fun c88 => ?_) (fun c88 => ?_)
          · have h := if_some_f h c88
            refine lv_aload_n hx hb dX0_explained_58 rfl (lv_at hl 2 rfl) ?_
            refine lv_iload hx hb dX0_explained_59 (lv_at hl 0 rfl) ?_
            refine lv_bipush (v := 6) hx hb dX0_explained_61 (by decide) ?_
            refine lv_icmp_gt (tgt := 70) hx hb dX0_explained_63 rfl (fun c => absurd c (by decide)) (fun _ => ?_)
            refine lv_iconst (v := 1) hx hb dX0_explained_66 (by decide) ?_
            refine lv_goto (tgt := 71) hx hb dX0_explained_67 rfl ?_
            refine lv_iconst (v := 2) hx hb dX0_explained_71 (by decide) ?_
            obtain ⟨o91, st90, hv89, h⟩ := bd2_some h
            rcases o91 with _ | v89
            · rw [onx_none] at h
              refine k_L_needT C hO hP hS hv89 q402 (Nat.le_of_ble_eq_true rfl) hl.1 (Nat.le_of_ble_eq_true rfl) hcs dX0_explained_72 (fun H locs hP hS => ?_)
              refine cc_catch (pre := []) (a1 := 0) (a2 := 77) (hp := 78) (post := []) C hO hP q129 htab rfl rfl ?_
              refine lv_astore_n (lv' := [(3, .ref (ad 61)), (4, .int 0), (0, .ref (ad 60)), (1, .int x1), (2, .int x2)]) hx hb dX0_explained_78 rfl hl (by decide) rfl (fun ls hl => ?_)
              refine lv_aload_n hx hb dX0_explained_79 rfl (lv_at hl 2 rfl) ?_
              refine lv_aload_n hx hb dX0_explained_80 rfl (lv_at hl 0 rfl) ?_
              obtain ⟨v92, st93, hv92, h⟩ := bd2_some h
              refine k_L_finds C hO hP hS hv92 q410 (Nat.le_of_ble_eq_true rfl) hl.1 (Nat.le_of_ble_eq_true rfl) hcs dX0_explained_81 (fun H locs hP hS => ?_)
              cases h
              refine W.widen (k := 7) (n := 21) (Nat.le_of_ble_eq_true rfl) (Nat.le_of_ble_eq_true rfl) ?_
              exact W.iret hx hb hr (fun t ht _ => ⟨rfl, hS.F ht, _, hsub, hO, by rw [ht]; exact hP⟩) hS.2.2 dX0_explained_84
            · rw [onx_some] at h
              refine k_L_needR C hO hP hS hv89 q402 (Nat.le_of_ble_eq_true rfl) hl.1 (Nat.le_of_ble_eq_true rfl) hcs dX0_explained_72 (fun H locs hP hS => ?_)
              refine lv_iload hx hb dX0_explained_75 (lv_at hl 0 rfl) ?_
              cases h
              refine W.widen (k := 7) (n := 21) (Nat.le_of_ble_eq_true rfl) (Nat.le_of_ble_eq_true rfl) ?_
              exact W.iret hx hb hr (fun t ht _ => ⟨rfl, hS.F ht, _, hsub, hO, by rw [ht]; exact hP⟩) hS.2.2 dX0_explained_77
          · have h := if_some_t h c88
            refine lv_iinc (v := 1) (lv' := [(4, .int 1), (3, .ref v81), (0, .ref (ad 60)), (1, .int x1), (2, .int x2)]) hx hb dX0_explained_52 hl (k := 0) rfl (by decide) (by decide) rfl (fun ls hl => ?_)
            refine lv_goto (tgt := 34) hx hb dX0_explained_55 rfl ?_
            refine lv_iload hx hb dX0_explained_34 (lv_at hl 0 rfl) ?_
            refine lv_bipush (v := 6) hx hb dX0_explained_36 (by decide) ?_
            refine lv_icmp_gt (tgt := 58) hx hb dX0_explained_38 rfl (fun c => absurd c (by decide)) (fun _ => ?_)
            refine lv_aload_n hx hb dX0_explained_41 rfl (lv_at hl 2 rfl) ?_
            refine lv_aload_n hx hb dX0_explained_42 rfl (lv_at hl 1 rfl) ?_
            refine lv_iload_n hx hb dX0_explained_43 rfl (lv_at hl 3 rfl) ?_
            refine lv_iload hx hb dX0_explained_44 (lv_at hl 0 rfl) ?_
            obtain ⟨v94, st95, hst95, h⟩ := bd2_some h
            refine k_L_explains (nx := (nx + 1)) C had hO hP hS hH hlv81 hst95 q1151 (Nat.le_of_ble_eq_true rfl) hl.1 (Nat.le_of_ble_eq_true rfl) ⟨by omega, by omega⟩ dX0_explained_46 (fun H locs hO hP hS hH => ?_)
            have hcs : 0 + 1 + 1 ≤ R.cells ∧ 0 + 3 + 3 ≤ R.slots := ⟨by omega, by omega⟩
            have hsub := fun k h => List.mem_append_left [1000 + (nx + 1)] (hsub k h)
            have hlv81 := live_app (l := [1000 + (nx + 1)]) hlv81
            refine lv_if_ne (tgt := 58) hx hb dX0_explained_49 rfl (fun c96 => ?_) (fun c96 => ?_)
            · have h := if_some_f h c96
              refine lv_aload_n hx hb dX0_explained_58 rfl (lv_at hl 2 rfl) ?_
              refine lv_iload hx hb dX0_explained_59 (lv_at hl 0 rfl) ?_
              refine lv_bipush (v := 6) hx hb dX0_explained_61 (by decide) ?_
              refine lv_icmp_gt (tgt := 70) hx hb dX0_explained_63 rfl (fun c => absurd c (by decide)) (fun _ => ?_)
              refine lv_iconst (v := 1) hx hb dX0_explained_66 (by decide) ?_
              refine lv_goto (tgt := 71) hx hb dX0_explained_67 rfl ?_
              refine lv_iconst (v := 2) hx hb dX0_explained_71 (by decide) ?_
              obtain ⟨o99, st98, hv97, h⟩ := bd2_some h
              rcases o99 with _ | v97
              · rw [onx_none] at h
                refine k_L_needT C hO hP hS hv97 q402 (Nat.le_of_ble_eq_true rfl) hl.1 (Nat.le_of_ble_eq_true rfl) hcs dX0_explained_72 (fun H locs hP hS => ?_)
                refine cc_catch (pre := []) (a1 := 0) (a2 := 77) (hp := 78) (post := []) C hO hP q129 htab rfl rfl ?_
                refine lv_astore_n (lv' := [(3, .ref (ad 61)), (4, .int 1), (0, .ref (ad 60)), (1, .int x1), (2, .int x2)]) hx hb dX0_explained_78 rfl hl (by decide) rfl (fun ls hl => ?_)
                refine lv_aload_n hx hb dX0_explained_79 rfl (lv_at hl 2 rfl) ?_
                refine lv_aload_n hx hb dX0_explained_80 rfl (lv_at hl 0 rfl) ?_
                obtain ⟨v100, st101, hv100, h⟩ := bd2_some h
                refine k_L_finds C hO hP hS hv100 q410 (Nat.le_of_ble_eq_true rfl) hl.1 (Nat.le_of_ble_eq_true rfl) hcs dX0_explained_81 (fun H locs hP hS => ?_)
                cases h
                refine W.widen (k := 7) (n := 21) (Nat.le_of_ble_eq_true rfl) (Nat.le_of_ble_eq_true rfl) ?_
                exact W.iret hx hb hr (fun t ht _ => ⟨rfl, hS.F ht, _, hsub, hO, by rw [ht]; exact hP⟩) hS.2.2 dX0_explained_84
              · rw [onx_some] at h
                refine k_L_needR C hO hP hS hv97 q402 (Nat.le_of_ble_eq_true rfl) hl.1 (Nat.le_of_ble_eq_true rfl) hcs dX0_explained_72 (fun H locs hP hS => ?_)
                refine lv_iload hx hb dX0_explained_75 (lv_at hl 0 rfl) ?_
                cases h
                refine W.widen (k := 7) (n := 21) (Nat.le_of_ble_eq_true rfl) (Nat.le_of_ble_eq_true rfl) ?_
                exact W.iret hx hb hr (fun t ht _ => ⟨rfl, hS.F ht, _, hsub, hO, by rw [ht]; exact hP⟩) hS.2.2 dX0_explained_77
            · have h := if_some_t h c96
              refine lv_iinc (v := 2) (lv' := [(4, .int 2), (3, .ref v81), (0, .ref (ad 60)), (1, .int x1), (2, .int x2)]) hx hb dX0_explained_52 hl (k := 0) rfl (by decide) (by decide) rfl (fun ls hl => ?_)
              refine lv_goto (tgt := 34) hx hb dX0_explained_55 rfl ?_
              refine lv_iload hx hb dX0_explained_34 (lv_at hl 0 rfl) ?_
              refine lv_bipush (v := 6) hx hb dX0_explained_36 (by decide) ?_
              refine lv_icmp_gt (tgt := 58) hx hb dX0_explained_38 rfl (fun c => absurd c (by decide)) (fun _ => ?_)
              refine lv_aload_n hx hb dX0_explained_41 rfl (lv_at hl 2 rfl) ?_
              refine lv_aload_n hx hb dX0_explained_42 rfl (lv_at hl 1 rfl) ?_
              refine lv_iload_n hx hb dX0_explained_43 rfl (lv_at hl 3 rfl) ?_
              refine lv_iload hx hb dX0_explained_44 (lv_at hl 0 rfl) ?_
              obtain ⟨v102, st103, hst103, h⟩ := bd2_some h
              refine k_L_explains (nx := (nx + 2)) C had hO hP hS hH hlv81 hst103 q1151 (Nat.le_of_ble_eq_true rfl) hl.1 (Nat.le_of_ble_eq_true rfl) ⟨by omega, by omega⟩ dX0_explained_46 (fun H locs hO hP hS hH => ?_)
              have hcs : 0 + 1 + 1 + 1 ≤ R.cells ∧ 0 + 3 + 3 + 3 ≤ R.slots := ⟨by omega, by omega⟩
              have hsub := fun k h => List.mem_append_left [1000 + (nx + 2)] (hsub k h)
              have hlv81 := live_app (l := [1000 + (nx + 2)]) hlv81
              refine lv_if_ne (tgt := 58) hx hb dX0_explained_49 rfl (fun c104 => ?_) (fun c104 => ?_)
              · have h := if_some_f h c104
                refine lv_aload_n hx hb dX0_explained_58 rfl (lv_at hl 2 rfl) ?_
                refine lv_iload hx hb dX0_explained_59 (lv_at hl 0 rfl) ?_
                refine lv_bipush (v := 6) hx hb dX0_explained_61 (by decide) ?_
                refine lv_icmp_gt (tgt := 70) hx hb dX0_explained_63 rfl (fun c => absurd c (by decide)) (fun _ => ?_)
                refine lv_iconst (v := 1) hx hb dX0_explained_66 (by decide) ?_
                refine lv_goto (tgt := 71) hx hb dX0_explained_67 rfl ?_
                refine lv_iconst (v := 2) hx hb dX0_explained_71 (by decide) ?_
                obtain ⟨o107, st106, hv105, h⟩ := bd2_some h
                rcases o107 with _ | v105
                · rw [onx_none] at h
                  refine k_L_needT C hO hP hS hv105 q402 (Nat.le_of_ble_eq_true rfl) hl.1 (Nat.le_of_ble_eq_true rfl) hcs dX0_explained_72 (fun H locs hP hS => ?_)
                  refine cc_catch (pre := []) (a1 := 0) (a2 := 77) (hp := 78) (post := []) C hO hP q129 htab rfl rfl ?_
                  refine lv_astore_n (lv' := [(3, .ref (ad 61)), (4, .int 2), (0, .ref (ad 60)), (1, .int x1), (2, .int x2)]) hx hb dX0_explained_78 rfl hl (by decide) rfl (fun ls hl => ?_)
                  refine lv_aload_n hx hb dX0_explained_79 rfl (lv_at hl 2 rfl) ?_
                  refine lv_aload_n hx hb dX0_explained_80 rfl (lv_at hl 0 rfl) ?_
                  obtain ⟨v108, st109, hv108, h⟩ := bd2_some h
                  refine k_L_finds C hO hP hS hv108 q410 (Nat.le_of_ble_eq_true rfl) hl.1 (Nat.le_of_ble_eq_true rfl) hcs dX0_explained_81 (fun H locs hP hS => ?_)
                  cases h
                  refine W.widen (k := 7) (n := 21) (Nat.le_of_ble_eq_true rfl) (Nat.le_of_ble_eq_true rfl) ?_
                  exact W.iret hx hb hr (fun t ht _ => ⟨rfl, hS.F ht, _, hsub, hO, by rw [ht]; exact hP⟩) hS.2.2 dX0_explained_84
                · rw [onx_some] at h
                  refine k_L_needR C hO hP hS hv105 q402 (Nat.le_of_ble_eq_true rfl) hl.1 (Nat.le_of_ble_eq_true rfl) hcs dX0_explained_72 (fun H locs hP hS => ?_)
                  refine lv_iload hx hb dX0_explained_75 (lv_at hl 0 rfl) ?_
                  cases h
                  refine W.widen (k := 7) (n := 21) (Nat.le_of_ble_eq_true rfl) (Nat.le_of_ble_eq_true rfl) ?_
                  exact W.iret hx hb hr (fun t ht _ => ⟨rfl, hS.F ht, _, hsub, hO, by rw [ht]; exact hP⟩) hS.2.2 dX0_explained_77
              · have h := if_some_t h c104
                refine lv_iinc (v := 3) (lv' := [(4, .int 3), (3, .ref v81), (0, .ref (ad 60)), (1, .int x1), (2, .int x2)]) hx hb dX0_explained_52 hl (k := 0) rfl (by decide) (by decide) rfl (fun ls hl => ?_)
                refine lv_goto (tgt := 34) hx hb dX0_explained_55 rfl ?_
                refine lv_iload hx hb dX0_explained_34 (lv_at hl 0 rfl) ?_
                refine lv_bipush (v := 6) hx hb dX0_explained_36 (by decide) ?_
                refine lv_icmp_gt (tgt := 58) hx hb dX0_explained_38 rfl (fun c => absurd c (by decide)) (fun _ => ?_)
                refine lv_aload_n hx hb dX0_explained_41 rfl (lv_at hl 2 rfl) ?_
                refine lv_aload_n hx hb dX0_explained_42 rfl (lv_at hl 1 rfl) ?_
                refine lv_iload_n hx hb dX0_explained_43 rfl (lv_at hl 3 rfl) ?_
                refine lv_iload hx hb dX0_explained_44 (lv_at hl 0 rfl) ?_
                obtain ⟨v110, st111, hst111, h⟩ := bd2_some h
                refine k_L_explains (nx := (nx + 3)) C had hO hP hS hH hlv81 hst111 q1151 (Nat.le_of_ble_eq_true rfl) hl.1 (Nat.le_of_ble_eq_true rfl) ⟨by omega, by omega⟩ dX0_explained_46 (fun H locs hO hP hS hH => ?_)
                have hcs : 0 + 1 + 1 + 1 + 1 ≤ R.cells ∧ 0 + 3 + 3 + 3 + 3 ≤ R.slots := ⟨by omega, by omega⟩
                have hsub := fun k h => List.mem_append_left [1000 + (nx + 3)] (hsub k h)
                have hlv81 := live_app (l := [1000 + (nx + 3)]) hlv81
                refine lv_if_ne (tgt := 58) hx hb dX0_explained_49 rfl (fun c112 => ?_) (fun c112 => ?_)
                · have h := if_some_f h c112
                  refine lv_aload_n hx hb dX0_explained_58 rfl (lv_at hl 2 rfl) ?_
                  refine lv_iload hx hb dX0_explained_59 (lv_at hl 0 rfl) ?_
                  refine lv_bipush (v := 6) hx hb dX0_explained_61 (by decide) ?_
                  refine lv_icmp_gt (tgt := 70) hx hb dX0_explained_63 rfl (fun c => absurd c (by decide)) (fun _ => ?_)
                  refine lv_iconst (v := 1) hx hb dX0_explained_66 (by decide) ?_
                  refine lv_goto (tgt := 71) hx hb dX0_explained_67 rfl ?_
                  refine lv_iconst (v := 2) hx hb dX0_explained_71 (by decide) ?_
                  obtain ⟨o115, st114, hv113, h⟩ := bd2_some h
                  rcases o115 with _ | v113
                  · rw [onx_none] at h
                    refine k_L_needT C hO hP hS hv113 q402 (Nat.le_of_ble_eq_true rfl) hl.1 (Nat.le_of_ble_eq_true rfl) hcs dX0_explained_72 (fun H locs hP hS => ?_)
                    refine cc_catch (pre := []) (a1 := 0) (a2 := 77) (hp := 78) (post := []) C hO hP q129 htab rfl rfl ?_
                    refine lv_astore_n (lv' := [(3, .ref (ad 61)), (4, .int 3), (0, .ref (ad 60)), (1, .int x1), (2, .int x2)]) hx hb dX0_explained_78 rfl hl (by decide) rfl (fun ls hl => ?_)
                    refine lv_aload_n hx hb dX0_explained_79 rfl (lv_at hl 2 rfl) ?_
                    refine lv_aload_n hx hb dX0_explained_80 rfl (lv_at hl 0 rfl) ?_
                    obtain ⟨v116, st117, hv116, h⟩ := bd2_some h
                    refine k_L_finds C hO hP hS hv116 q410 (Nat.le_of_ble_eq_true rfl) hl.1 (Nat.le_of_ble_eq_true rfl) hcs dX0_explained_81 (fun H locs hP hS => ?_)
                    cases h
                    refine W.widen (k := 7) (n := 21) (Nat.le_of_ble_eq_true rfl) (Nat.le_of_ble_eq_true rfl) ?_
                    exact W.iret hx hb hr (fun t ht _ => ⟨rfl, hS.F ht, _, hsub, hO, by rw [ht]; exact hP⟩) hS.2.2 dX0_explained_84
                  · rw [onx_some] at h
                    refine k_L_needR C hO hP hS hv113 q402 (Nat.le_of_ble_eq_true rfl) hl.1 (Nat.le_of_ble_eq_true rfl) hcs dX0_explained_72 (fun H locs hP hS => ?_)
                    refine lv_iload hx hb dX0_explained_75 (lv_at hl 0 rfl) ?_
                    cases h
                    refine W.widen (k := 7) (n := 21) (Nat.le_of_ble_eq_true rfl) (Nat.le_of_ble_eq_true rfl) ?_
                    exact W.iret hx hb hr (fun t ht _ => ⟨rfl, hS.F ht, _, hsub, hO, by rw [ht]; exact hP⟩) hS.2.2 dX0_explained_77
                · have h := if_some_t h c112
                  refine lv_iinc (v := 4) (lv' := [(4, .int 4), (3, .ref v81), (0, .ref (ad 60)), (1, .int x1), (2, .int x2)]) hx hb dX0_explained_52 hl (k := 0) rfl (by decide) (by decide) rfl (fun ls hl => ?_)
                  refine lv_goto (tgt := 34) hx hb dX0_explained_55 rfl ?_
                  refine lv_iload hx hb dX0_explained_34 (lv_at hl 0 rfl) ?_
                  refine lv_bipush (v := 6) hx hb dX0_explained_36 (by decide) ?_
                  refine lv_icmp_gt (tgt := 58) hx hb dX0_explained_38 rfl (fun c => absurd c (by decide)) (fun _ => ?_)
                  refine lv_aload_n hx hb dX0_explained_41 rfl (lv_at hl 2 rfl) ?_
                  refine lv_aload_n hx hb dX0_explained_42 rfl (lv_at hl 1 rfl) ?_
                  refine lv_iload_n hx hb dX0_explained_43 rfl (lv_at hl 3 rfl) ?_
                  refine lv_iload hx hb dX0_explained_44 (lv_at hl 0 rfl) ?_
                  obtain ⟨v118, st119, hst119, h⟩ := bd2_some h
                  refine k_L_explains (nx := (nx + 4)) C had hO hP hS hH hlv81 hst119 q1151 (Nat.le_of_ble_eq_true rfl) hl.1 (Nat.le_of_ble_eq_true rfl) ⟨by omega, by omega⟩ dX0_explained_46 (fun H locs hO hP hS hH => ?_)
                  have hcs : 0 + 1 + 1 + 1 + 1 + 1 ≤ R.cells ∧ 0 + 3 + 3 + 3 + 3 + 3 ≤ R.slots := ⟨by omega, by omega⟩
                  have hsub := fun k h => List.mem_append_left [1000 + (nx + 4)] (hsub k h)
                  have hlv81 := live_app (l := [1000 + (nx + 4)]) hlv81
                  refine lv_if_ne (tgt := 58) hx hb dX0_explained_49 rfl (fun c120 => ?_) (fun c120 => ?_)
                  · have h := if_some_f h c120
                    refine lv_aload_n hx hb dX0_explained_58 rfl (lv_at hl 2 rfl) ?_
                    refine lv_iload hx hb dX0_explained_59 (lv_at hl 0 rfl) ?_
                    refine lv_bipush (v := 6) hx hb dX0_explained_61 (by decide) ?_
                    refine lv_icmp_gt (tgt := 70) hx hb dX0_explained_63 rfl (fun c => absurd c (by decide)) (fun _ => ?_)
                    refine lv_iconst (v := 1) hx hb dX0_explained_66 (by decide) ?_
                    refine lv_goto (tgt := 71) hx hb dX0_explained_67 rfl ?_
                    refine lv_iconst (v := 2) hx hb dX0_explained_71 (by decide) ?_
                    obtain ⟨o123, st122, hv121, h⟩ := bd2_some h
                    rcases o123 with _ | v121
                    · rw [onx_none] at h
                      refine k_L_needT C hO hP hS hv121 q402 (Nat.le_of_ble_eq_true rfl) hl.1 (Nat.le_of_ble_eq_true rfl) hcs dX0_explained_72 (fun H locs hP hS => ?_)
                      refine cc_catch (pre := []) (a1 := 0) (a2 := 77) (hp := 78) (post := []) C hO hP q129 htab rfl rfl ?_
                      refine lv_astore_n (lv' := [(3, .ref (ad 61)), (4, .int 4), (0, .ref (ad 60)), (1, .int x1), (2, .int x2)]) hx hb dX0_explained_78 rfl hl (by decide) rfl (fun ls hl => ?_)
                      refine lv_aload_n hx hb dX0_explained_79 rfl (lv_at hl 2 rfl) ?_
                      refine lv_aload_n hx hb dX0_explained_80 rfl (lv_at hl 0 rfl) ?_
                      obtain ⟨v124, st125, hv124, h⟩ := bd2_some h
                      refine k_L_finds C hO hP hS hv124 q410 (Nat.le_of_ble_eq_true rfl) hl.1 (Nat.le_of_ble_eq_true rfl) hcs dX0_explained_81 (fun H locs hP hS => ?_)
                      cases h
                      refine W.widen (k := 7) (n := 21) (Nat.le_of_ble_eq_true rfl) (Nat.le_of_ble_eq_true rfl) ?_
                      exact W.iret hx hb hr (fun t ht _ => ⟨rfl, hS.F ht, _, hsub, hO, by rw [ht]; exact hP⟩) hS.2.2 dX0_explained_84
                    · rw [onx_some] at h
                      refine k_L_needR C hO hP hS hv121 q402 (Nat.le_of_ble_eq_true rfl) hl.1 (Nat.le_of_ble_eq_true rfl) hcs dX0_explained_72 (fun H locs hP hS => ?_)
                      refine lv_iload hx hb dX0_explained_75 (lv_at hl 0 rfl) ?_
                      cases h
                      refine W.widen (k := 7) (n := 21) (Nat.le_of_ble_eq_true rfl) (Nat.le_of_ble_eq_true rfl) ?_
                      exact W.iret hx hb hr (fun t ht _ => ⟨rfl, hS.F ht, _, hsub, hO, by rw [ht]; exact hP⟩) hS.2.2 dX0_explained_77
                  · have h := if_some_t h c120
                    refine lv_iinc (v := 5) (lv' := [(4, .int 5), (3, .ref v81), (0, .ref (ad 60)), (1, .int x1), (2, .int x2)]) hx hb dX0_explained_52 hl (k := 0) rfl (by decide) (by decide) rfl (fun ls hl => ?_)
                    refine lv_goto (tgt := 34) hx hb dX0_explained_55 rfl ?_
                    refine lv_iload hx hb dX0_explained_34 (lv_at hl 0 rfl) ?_
                    refine lv_bipush (v := 6) hx hb dX0_explained_36 (by decide) ?_
                    refine lv_icmp_gt (tgt := 58) hx hb dX0_explained_38 rfl (fun c => absurd c (by decide)) (fun _ => ?_)
                    refine lv_aload_n hx hb dX0_explained_41 rfl (lv_at hl 2 rfl) ?_
                    refine lv_aload_n hx hb dX0_explained_42 rfl (lv_at hl 1 rfl) ?_
                    refine lv_iload_n hx hb dX0_explained_43 rfl (lv_at hl 3 rfl) ?_
                    refine lv_iload hx hb dX0_explained_44 (lv_at hl 0 rfl) ?_
                    obtain ⟨v126, st127, hst127, h⟩ := bd2_some h
                    refine k_L_explains (nx := (nx + 5)) C had hO hP hS hH hlv81 hst127 q1151 (Nat.le_of_ble_eq_true rfl) hl.1 (Nat.le_of_ble_eq_true rfl) ⟨by omega, by omega⟩ dX0_explained_46 (fun H locs hO hP hS hH => ?_)
                    have hcs : 0 + 1 + 1 + 1 + 1 + 1 + 1 ≤ R.cells ∧ 0 + 3 + 3 + 3 + 3 + 3 + 3 ≤ R.slots := ⟨by omega, by omega⟩
                    have hsub := fun k h => List.mem_append_left [1000 + (nx + 5)] (hsub k h)
                    have hlv81 := live_app (l := [1000 + (nx + 5)]) hlv81
                    refine lv_if_ne (tgt := 58) hx hb dX0_explained_49 rfl (fun c128 => ?_) (fun c128 => ?_)
                    · have h := if_some_f h c128
                      refine lv_aload_n hx hb dX0_explained_58 rfl (lv_at hl 2 rfl) ?_
                      refine lv_iload hx hb dX0_explained_59 (lv_at hl 0 rfl) ?_
                      refine lv_bipush (v := 6) hx hb dX0_explained_61 (by decide) ?_
                      refine lv_icmp_gt (tgt := 70) hx hb dX0_explained_63 rfl (fun c => absurd c (by decide)) (fun _ => ?_)
                      refine lv_iconst (v := 1) hx hb dX0_explained_66 (by decide) ?_
                      refine lv_goto (tgt := 71) hx hb dX0_explained_67 rfl ?_
                      refine lv_iconst (v := 2) hx hb dX0_explained_71 (by decide) ?_
                      obtain ⟨o131, st130, hv129, h⟩ := bd2_some h
                      rcases o131 with _ | v129
                      · rw [onx_none] at h
                        refine k_L_needT C hO hP hS hv129 q402 (Nat.le_of_ble_eq_true rfl) hl.1 (Nat.le_of_ble_eq_true rfl) hcs dX0_explained_72 (fun H locs hP hS => ?_)
                        refine cc_catch (pre := []) (a1 := 0) (a2 := 77) (hp := 78) (post := []) C hO hP q129 htab rfl rfl ?_
                        refine lv_astore_n (lv' := [(3, .ref (ad 61)), (4, .int 5), (0, .ref (ad 60)), (1, .int x1), (2, .int x2)]) hx hb dX0_explained_78 rfl hl (by decide) rfl (fun ls hl => ?_)
                        refine lv_aload_n hx hb dX0_explained_79 rfl (lv_at hl 2 rfl) ?_
                        refine lv_aload_n hx hb dX0_explained_80 rfl (lv_at hl 0 rfl) ?_
                        obtain ⟨v132, st133, hv132, h⟩ := bd2_some h
                        refine k_L_finds C hO hP hS hv132 q410 (Nat.le_of_ble_eq_true rfl) hl.1 (Nat.le_of_ble_eq_true rfl) hcs dX0_explained_81 (fun H locs hP hS => ?_)
                        cases h
                        refine W.widen (k := 7) (n := 21) (Nat.le_of_ble_eq_true rfl) (Nat.le_of_ble_eq_true rfl) ?_
                        exact W.iret hx hb hr (fun t ht _ => ⟨rfl, hS.F ht, _, hsub, hO, by rw [ht]; exact hP⟩) hS.2.2 dX0_explained_84
                      · rw [onx_some] at h
                        refine k_L_needR C hO hP hS hv129 q402 (Nat.le_of_ble_eq_true rfl) hl.1 (Nat.le_of_ble_eq_true rfl) hcs dX0_explained_72 (fun H locs hP hS => ?_)
                        refine lv_iload hx hb dX0_explained_75 (lv_at hl 0 rfl) ?_
                        cases h
                        refine W.widen (k := 7) (n := 21) (Nat.le_of_ble_eq_true rfl) (Nat.le_of_ble_eq_true rfl) ?_
                        exact W.iret hx hb hr (fun t ht _ => ⟨rfl, hS.F ht, _, hsub, hO, by rw [ht]; exact hP⟩) hS.2.2 dX0_explained_77
                    · have h := if_some_t h c128
                      refine lv_iinc (v := 6) (lv' := [(4, .int 6), (3, .ref v81), (0, .ref (ad 60)), (1, .int x1), (2, .int x2)]) hx hb dX0_explained_52 hl (k := 0) rfl (by decide) (by decide) rfl (fun ls hl => ?_)
                      refine lv_goto (tgt := 34) hx hb dX0_explained_55 rfl ?_
                      refine lv_iload hx hb dX0_explained_34 (lv_at hl 0 rfl) ?_
                      refine lv_bipush (v := 6) hx hb dX0_explained_36 (by decide) ?_
                      refine lv_icmp_gt (tgt := 58) hx hb dX0_explained_38 rfl (fun c => absurd c (by decide)) (fun _ => ?_)
                      refine lv_aload_n hx hb dX0_explained_41 rfl (lv_at hl 2 rfl) ?_
                      refine lv_aload_n hx hb dX0_explained_42 rfl (lv_at hl 1 rfl) ?_
                      refine lv_iload_n hx hb dX0_explained_43 rfl (lv_at hl 3 rfl) ?_
                      refine lv_iload hx hb dX0_explained_44 (lv_at hl 0 rfl) ?_
                      obtain ⟨v134, st135, hst135, h⟩ := bd2_some h
                      refine k_L_explains (nx := (nx + 6)) C had hO hP hS hH hlv81 hst135 q1151 (Nat.le_of_ble_eq_true rfl) hl.1 (Nat.le_of_ble_eq_true rfl) ⟨by omega, by omega⟩ dX0_explained_46 (fun H locs hO hP hS hH => ?_)
                      have hcs : 0 + 1 + 1 + 1 + 1 + 1 + 1 + 1 ≤ R.cells ∧ 0 + 3 + 3 + 3 + 3 + 3 + 3 + 3 ≤ R.slots := ⟨by omega, by omega⟩
                      have hsub := fun k h => List.mem_append_left [1000 + (nx + 6)] (hsub k h)
                      have hlv81 := live_app (l := [1000 + (nx + 6)]) hlv81
                      refine lv_if_ne (tgt := 58) hx hb dX0_explained_49 rfl (fun c136 => ?_) (fun c136 => ?_)
                      · have h := if_some_f h c136
                        refine lv_aload_n hx hb dX0_explained_58 rfl (lv_at hl 2 rfl) ?_
                        refine lv_iload hx hb dX0_explained_59 (lv_at hl 0 rfl) ?_
                        refine lv_bipush (v := 6) hx hb dX0_explained_61 (by decide) ?_
                        refine lv_icmp_gt (tgt := 70) hx hb dX0_explained_63 rfl (fun c => absurd c (by decide)) (fun _ => ?_)
                        refine lv_iconst (v := 1) hx hb dX0_explained_66 (by decide) ?_
                        refine lv_goto (tgt := 71) hx hb dX0_explained_67 rfl ?_
                        refine lv_iconst (v := 2) hx hb dX0_explained_71 (by decide) ?_
                        obtain ⟨o139, st138, hv137, h⟩ := bd2_some h
                        rcases o139 with _ | v137
                        · rw [onx_none] at h
                          refine k_L_needT C hO hP hS hv137 q402 (Nat.le_of_ble_eq_true rfl) hl.1 (Nat.le_of_ble_eq_true rfl) hcs dX0_explained_72 (fun H locs hP hS => ?_)
                          refine cc_catch (pre := []) (a1 := 0) (a2 := 77) (hp := 78) (post := []) C hO hP q129 htab rfl rfl ?_
                          refine lv_astore_n (lv' := [(3, .ref (ad 61)), (4, .int 6), (0, .ref (ad 60)), (1, .int x1), (2, .int x2)]) hx hb dX0_explained_78 rfl hl (by decide) rfl (fun ls hl => ?_)
                          refine lv_aload_n hx hb dX0_explained_79 rfl (lv_at hl 2 rfl) ?_
                          refine lv_aload_n hx hb dX0_explained_80 rfl (lv_at hl 0 rfl) ?_
                          obtain ⟨v140, st141, hv140, h⟩ := bd2_some h
                          refine k_L_finds C hO hP hS hv140 q410 (Nat.le_of_ble_eq_true rfl) hl.1 (Nat.le_of_ble_eq_true rfl) hcs dX0_explained_81 (fun H locs hP hS => ?_)
                          cases h
                          refine W.widen (k := 7) (n := 21) (Nat.le_of_ble_eq_true rfl) (Nat.le_of_ble_eq_true rfl) ?_
                          exact W.iret hx hb hr (fun t ht _ => ⟨rfl, hS.F ht, _, hsub, hO, by rw [ht]; exact hP⟩) hS.2.2 dX0_explained_84
                        · rw [onx_some] at h
                          refine k_L_needR C hO hP hS hv137 q402 (Nat.le_of_ble_eq_true rfl) hl.1 (Nat.le_of_ble_eq_true rfl) hcs dX0_explained_72 (fun H locs hP hS => ?_)
                          refine lv_iload hx hb dX0_explained_75 (lv_at hl 0 rfl) ?_
                          cases h
                          refine W.widen (k := 7) (n := 21) (Nat.le_of_ble_eq_true rfl) (Nat.le_of_ble_eq_true rfl) ?_
                          exact W.iret hx hb hr (fun t ht _ => ⟨rfl, hS.F ht, _, hsub, hO, by rw [ht]; exact hP⟩) hS.2.2 dX0_explained_77
                      · have h := if_some_t h c136
                        refine lv_iinc (v := 7) (lv' := [(4, .int 7), (3, .ref v81), (0, .ref (ad 60)), (1, .int x1), (2, .int x2)]) hx hb dX0_explained_52 hl (k := 0) rfl (by decide) (by decide) rfl (fun ls hl => ?_)
                        refine lv_goto (tgt := 34) hx hb dX0_explained_55 rfl ?_
                        refine lv_iload hx hb dX0_explained_34 (lv_at hl 0 rfl) ?_
                        refine lv_bipush (v := 6) hx hb dX0_explained_36 (by decide) ?_
                        refine lv_icmp_gt (tgt := 58) hx hb dX0_explained_38 rfl (fun _ => ?_) (fun c => absurd c (by decide))
                        refine lv_aload_n hx hb dX0_explained_58 rfl (lv_at hl 2 rfl) ?_
                        refine lv_iload hx hb dX0_explained_59 (lv_at hl 0 rfl) ?_
                        refine lv_bipush (v := 6) hx hb dX0_explained_61 (by decide) ?_
                        refine lv_icmp_gt (tgt := 70) hx hb dX0_explained_63 rfl (fun _ => ?_) (fun c => absurd c (by decide))
                        refine lv_iconst (v := 0) hx hb dX0_explained_70 (by decide) ?_
                        refine lv_iconst (v := 2) hx hb dX0_explained_71 (by decide) ?_
                        obtain ⟨o144, st143, hv142, h⟩ := bd2_some h
                        rcases o144 with _ | v142
                        · rw [onx_none] at h
                          refine k_L_needT C hO hP hS hv142 q402 (Nat.le_of_ble_eq_true rfl) hl.1 (Nat.le_of_ble_eq_true rfl) hcs dX0_explained_72 (fun H locs hP hS => ?_)
                          refine cc_catch (pre := []) (a1 := 0) (a2 := 77) (hp := 78) (post := []) C hO hP q129 htab rfl rfl ?_
                          refine lv_astore_n (lv' := [(3, .ref (ad 61)), (4, .int 7), (0, .ref (ad 60)), (1, .int x1), (2, .int x2)]) hx hb dX0_explained_78 rfl hl (by decide) rfl (fun ls hl => ?_)
                          refine lv_aload_n hx hb dX0_explained_79 rfl (lv_at hl 2 rfl) ?_
                          refine lv_aload_n hx hb dX0_explained_80 rfl (lv_at hl 0 rfl) ?_
                          obtain ⟨v145, st146, hv145, h⟩ := bd2_some h
                          refine k_L_finds C hO hP hS hv145 q410 (Nat.le_of_ble_eq_true rfl) hl.1 (Nat.le_of_ble_eq_true rfl) hcs dX0_explained_81 (fun H locs hP hS => ?_)
                          cases h
                          refine W.widen (k := 7) (n := 21) (Nat.le_of_ble_eq_true rfl) (Nat.le_of_ble_eq_true rfl) ?_
                          exact W.iret hx hb hr (fun t ht _ => ⟨rfl, hS.F ht, _, hsub, hO, by rw [ht]; exact hP⟩) hS.2.2 dX0_explained_84
                        · rw [onx_some] at h
                          refine k_L_needR C hO hP hS hv142 q402 (Nat.le_of_ble_eq_true rfl) hl.1 (Nat.le_of_ble_eq_true rfl) hcs dX0_explained_72 (fun H locs hP hS => ?_)
                          refine lv_iload hx hb dX0_explained_75 (lv_at hl 0 rfl) ?_
                          cases h
                          refine W.widen (k := 7) (n := 21) (Nat.le_of_ble_eq_true rfl) (Nat.le_of_ble_eq_true rfl) ?_
                          exact W.iret hx hb hr (fun t ht _ => ⟨rfl, hS.F ht, _, hsub, hO, by rw [ht]; exact hP⟩) hS.2.2 dX0_explained_77
    · have h := if_some_f h c75
      refine lv_iconst (v := 1) hx hb dX0_explained_16 (by decide) ?_
      refine lv_goto (tgt := 21) hx hb dX0_explained_17 rfl ?_
      refine lv_iconst (v := 1) hx hb dX0_explained_21 (by decide) ?_
      obtain ⟨o149, st148, hv147, h⟩ := bd2_some h
      rcases o149 with _ | v147
      · rw [onx_none] at h
        refine k_L_needT C hO hP hS hv147 q402 (Nat.le_of_ble_eq_true rfl) hl.1 (Nat.le_of_ble_eq_true rfl) hcs dX0_explained_22 (fun H locs hP hS => ?_)
        refine cc_catch (pre := []) (a1 := 0) (a2 := 77) (hp := 78) (post := []) C hO hP q129 htab rfl rfl ?_
        refine lv_astore_n (lv' := [(3, .ref (ad 61)), (0, .ref (ad 60)), (1, .int x1), (2, .int x2)]) hx hb dX0_explained_78 rfl hl (by decide) rfl (fun ls hl => ?_)
        refine lv_aload_n hx hb dX0_explained_79 rfl (lv_at hl 1 rfl) ?_
        refine lv_aload_n hx hb dX0_explained_80 rfl (lv_at hl 0 rfl) ?_
        obtain ⟨v150, st151, hv150, h⟩ := bd2_some h
        refine k_L_finds C hO hP hS hv150 q410 (Nat.le_of_ble_eq_true rfl) hl.1 (Nat.le_of_ble_eq_true rfl) hcs dX0_explained_81 (fun H locs hP hS => ?_)
        cases h
        refine W.widen (k := 7) (n := 21) (Nat.le_of_ble_eq_true rfl) (Nat.le_of_ble_eq_true rfl) ?_
        exact W.iret hx hb hr (fun t ht _ => ⟨rfl, hS.F ht, _, hsub, hO, by rw [ht]; exact hP⟩) hS.2.2 dX0_explained_84
      · rw [onx_some] at h
        refine k_L_needR C hO hP hS hv147 q402 (Nat.le_of_ble_eq_true rfl) hl.1 (Nat.le_of_ble_eq_true rfl) hcs dX0_explained_22 (fun H locs hP hS => ?_)
        refine lv_aload_n hx hb dX0_explained_25 rfl (lv_at hl 0 rfl) ?_
        refine lv_iload_n hx hb dX0_explained_26 rfl (lv_at hl 2 rfl) ?_
        obtain ⟨o154, st153, hv152, h⟩ := bd2_some h
        rcases o154 with _ | v152
        · rw [onx_none] at h
          refine k_L_sheetAtT C hO hP hS hv152 q1146 (Nat.le_of_ble_eq_true rfl) hl.1 (Nat.le_of_ble_eq_true rfl) hcs dX0_explained_27 (fun H locs hP hS => ?_)
          refine cc_catch (pre := []) (a1 := 0) (a2 := 77) (hp := 78) (post := []) C hO hP q129 htab rfl rfl ?_
          refine lv_astore_n (lv' := [(3, .ref (ad 61)), (0, .ref (ad 60)), (1, .int x1), (2, .int x2)]) hx hb dX0_explained_78 rfl hl (by decide) rfl (fun ls hl => ?_)
          refine lv_aload_n hx hb dX0_explained_79 rfl (lv_at hl 1 rfl) ?_
          refine lv_aload_n hx hb dX0_explained_80 rfl (lv_at hl 0 rfl) ?_
          obtain ⟨v155, st156, hv155, h⟩ := bd2_some h
          refine k_L_finds C hO hP hS hv155 q410 (Nat.le_of_ble_eq_true rfl) hl.1 (Nat.le_of_ble_eq_true rfl) hcs dX0_explained_81 (fun H locs hP hS => ?_)
          cases h
          refine W.widen (k := 7) (n := 21) (Nat.le_of_ble_eq_true rfl) (Nat.le_of_ble_eq_true rfl) ?_
          exact W.iret hx hb hr (fun t ht _ => ⟨rfl, hS.F ht, _, hsub, hO, by rw [ht]; exact hP⟩) hS.2.2 dX0_explained_84
        · rw [onx_some] at h
          refine k_L_sheetAtR C hO hP hS hv152 q1146 (Nat.le_of_ble_eq_true rfl) hl.1 (Nat.le_of_ble_eq_true rfl) hcs dX0_explained_27 (fun H locs hP hS => ?_)
          have hlv152 := (w_live_L_sheetAt hP hv152)
          refine lv_astore_n (lv' := [(3, .ref v152), (0, .ref (ad 60)), (1, .int x1), (2, .int x2)]) hx hb dX0_explained_30 rfl hl (by decide) rfl (fun ls hl => ?_)
          refine lv_iconst (v := 0) hx hb dX0_explained_31 (by decide) ?_
          refine lv_istore (lv' := [(4, .int 0), (3, .ref v152), (0, .ref (ad 60)), (1, .int x1), (2, .int x2)]) hx hb dX0_explained_32 hl (by decide) rfl (fun ls hl => ?_)
          refine lv_iload hx hb dX0_explained_34 (lv_at hl 0 rfl) ?_
          refine lv_bipush (v := 6) hx hb dX0_explained_36 (by decide) ?_
          refine lv_icmp_gt (tgt := 58) hx hb dX0_explained_38 rfl (fun c => absurd c (by decide)) (fun _ => ?_)
          refine lv_aload_n hx hb dX0_explained_41 rfl (lv_at hl 2 rfl) ?_
          refine lv_aload_n hx hb dX0_explained_42 rfl (lv_at hl 1 rfl) ?_
          refine lv_iload_n hx hb dX0_explained_43 rfl (lv_at hl 3 rfl) ?_
          refine lv_iload hx hb dX0_explained_44 (lv_at hl 0 rfl) ?_
          obtain ⟨v157, st158, hst158, h⟩ := bd2_some h
          refine W.size0 (fun hH => ?_)
          rw [hnx] at hH
          refine k_L_explains (nx := (nx + 0)) C had hO hP hS hH hlv152 hst158 q1151 (Nat.le_of_ble_eq_true rfl) hl.1 (Nat.le_of_ble_eq_true rfl) ⟨by omega, by omega⟩ dX0_explained_46 (fun H locs hO hP hS hH => ?_)
          have hcs : 0 + 1 ≤ R.cells ∧ 0 + 3 ≤ R.slots := ⟨by omega, by omega⟩
          have hsub := fun k h => List.mem_append_left [1000 + (nx + 0)] (hsub k h)
          have hlv152 := live_app (l := [1000 + (nx + 0)]) hlv152
          refine lv_if_ne (tgt := 58) hx hb dX0_explained_49 rfl (fun c159 => ?_) (fun c159 => ?_)
          · have h := if_some_f h c159
            refine lv_aload_n hx hb dX0_explained_58 rfl (lv_at hl 2 rfl) ?_
            refine lv_iload hx hb dX0_explained_59 (lv_at hl 0 rfl) ?_
            refine lv_bipush (v := 6) hx hb dX0_explained_61 (by decide) ?_
            refine lv_icmp_gt (tgt := 70) hx hb dX0_explained_63 rfl (fun c => absurd c (by decide)) (fun _ => ?_)
            refine lv_iconst (v := 1) hx hb dX0_explained_66 (by decide) ?_
            refine lv_goto (tgt := 71) hx hb dX0_explained_67 rfl ?_
            refine lv_iconst (v := 2) hx hb dX0_explained_71 (by decide) ?_
            obtain ⟨o162, st161, hv160, h⟩ := bd2_some h
            rcases o162 with _ | v160
            · rw [onx_none] at h
              refine k_L_needT C hO hP hS hv160 q402 (Nat.le_of_ble_eq_true rfl) hl.1 (Nat.le_of_ble_eq_true rfl) hcs dX0_explained_72 (fun H locs hP hS => ?_)
              refine cc_catch (pre := []) (a1 := 0) (a2 := 77) (hp := 78) (post := []) C hO hP q129 htab rfl rfl ?_
              refine lv_astore_n (lv' := [(3, .ref (ad 61)), (4, .int 0), (0, .ref (ad 60)), (1, .int x1), (2, .int x2)]) hx hb dX0_explained_78 rfl hl (by decide) rfl (fun ls hl => ?_)
              refine lv_aload_n hx hb dX0_explained_79 rfl (lv_at hl 2 rfl) ?_
              refine lv_aload_n hx hb dX0_explained_80 rfl (lv_at hl 0 rfl) ?_
              obtain ⟨v163, st164, hv163, h⟩ := bd2_some h
              refine k_L_finds C hO hP hS hv163 q410 (Nat.le_of_ble_eq_true rfl) hl.1 (Nat.le_of_ble_eq_true rfl) hcs dX0_explained_81 (fun H locs hP hS => ?_)
              cases h
              refine W.widen (k := 7) (n := 21) (Nat.le_of_ble_eq_true rfl) (Nat.le_of_ble_eq_true rfl) ?_
              exact W.iret hx hb hr (fun t ht _ => ⟨rfl, hS.F ht, _, hsub, hO, by rw [ht]; exact hP⟩) hS.2.2 dX0_explained_84
            · rw [onx_some] at h
              refine k_L_needR C hO hP hS hv160 q402 (Nat.le_of_ble_eq_true rfl) hl.1 (Nat.le_of_ble_eq_true rfl) hcs dX0_explained_72 (fun H locs hP hS => ?_)
              refine lv_iload hx hb dX0_explained_75 (lv_at hl 0 rfl) ?_
              cases h
              refine W.widen (k := 7) (n := 21) (Nat.le_of_ble_eq_true rfl) (Nat.le_of_ble_eq_true rfl) ?_
              exact W.iret hx hb hr (fun t ht _ => ⟨rfl, hS.F ht, _, hsub, hO, by rw [ht]; exact hP⟩) hS.2.2 dX0_explained_77
          · have h := if_some_t h c159
            refine lv_iinc (v := 1) (lv' := [(4, .int 1), (3, .ref v152), (0, .ref (ad 60)), (1, .int x1), (2, .int x2)]) hx hb dX0_explained_52 hl (k := 0) rfl (by decide) (by decide) rfl (fun ls hl => ?_)
            refine lv_goto (tgt := 34) hx hb dX0_explained_55 rfl ?_
            refine lv_iload hx hb dX0_explained_34 (lv_at hl 0 rfl) ?_
            refine lv_bipush (v := 6) hx hb dX0_explained_36 (by decide) ?_
            refine lv_icmp_gt (tgt := 58) hx hb dX0_explained_38 rfl (fun c => absurd c (by decide)) (fun _ => ?_)
            refine lv_aload_n hx hb dX0_explained_41 rfl (lv_at hl 2 rfl) ?_
            refine lv_aload_n hx hb dX0_explained_42 rfl (lv_at hl 1 rfl) ?_
            refine lv_iload_n hx hb dX0_explained_43 rfl (lv_at hl 3 rfl) ?_
            refine lv_iload hx hb dX0_explained_44 (lv_at hl 0 rfl) ?_
            obtain ⟨v165, st166, hst166, h⟩ := bd2_some h
            refine k_L_explains (nx := (nx + 1)) C had hO hP hS hH hlv152 hst166 q1151 (Nat.le_of_ble_eq_true rfl) hl.1 (Nat.le_of_ble_eq_true rfl) ⟨by omega, by omega⟩ dX0_explained_46 (fun H locs hO hP hS hH => ?_)
            have hcs : 0 + 1 + 1 ≤ R.cells ∧ 0 + 3 + 3 ≤ R.slots := ⟨by omega, by omega⟩
            have hsub := fun k h => List.mem_append_left [1000 + (nx + 1)] (hsub k h)
            have hlv152 := live_app (l := [1000 + (nx + 1)]) hlv152
            refine lv_if_ne (tgt := 58) hx hb dX0_explained_49 rfl (fun c167 => ?_) (fun c167 => ?_)
            · have h := if_some_f h c167
              refine lv_aload_n hx hb dX0_explained_58 rfl (lv_at hl 2 rfl) ?_
              refine lv_iload hx hb dX0_explained_59 (lv_at hl 0 rfl) ?_
              refine lv_bipush (v := 6) hx hb dX0_explained_61 (by decide) ?_
              refine lv_icmp_gt (tgt := 70) hx hb dX0_explained_63 rfl (fun c => absurd c (by decide)) (fun _ => ?_)
              refine lv_iconst (v := 1) hx hb dX0_explained_66 (by decide) ?_
              refine lv_goto (tgt := 71) hx hb dX0_explained_67 rfl ?_
              refine lv_iconst (v := 2) hx hb dX0_explained_71 (by decide) ?_
              obtain ⟨o170, st169, hv168, h⟩ := bd2_some h
              rcases o170 with _ | v168
              · rw [onx_none] at h
                refine k_L_needT C hO hP hS hv168 q402 (Nat.le_of_ble_eq_true rfl) hl.1 (Nat.le_of_ble_eq_true rfl) hcs dX0_explained_72 (fun H locs hP hS => ?_)
                refine cc_catch (pre := []) (a1 := 0) (a2 := 77) (hp := 78) (post := []) C hO hP q129 htab rfl rfl ?_
                refine lv_astore_n (lv' := [(3, .ref (ad 61)), (4, .int 1), (0, .ref (ad 60)), (1, .int x1), (2, .int x2)]) hx hb dX0_explained_78 rfl hl (by decide) rfl (fun ls hl => ?_)
                refine lv_aload_n hx hb dX0_explained_79 rfl (lv_at hl 2 rfl) ?_
                refine lv_aload_n hx hb dX0_explained_80 rfl (lv_at hl 0 rfl) ?_
                obtain ⟨v171, st172, hv171, h⟩ := bd2_some h
                refine k_L_finds C hO hP hS hv171 q410 (Nat.le_of_ble_eq_true rfl) hl.1 (Nat.le_of_ble_eq_true rfl) hcs dX0_explained_81 (fun H locs hP hS => ?_)
                cases h
                refine W.widen (k := 7) (n := 21) (Nat.le_of_ble_eq_true rfl) (Nat.le_of_ble_eq_true rfl) ?_
                exact W.iret hx hb hr (fun t ht _ => ⟨rfl, hS.F ht, _, hsub, hO, by rw [ht]; exact hP⟩) hS.2.2 dX0_explained_84
              · rw [onx_some] at h
                refine k_L_needR C hO hP hS hv168 q402 (Nat.le_of_ble_eq_true rfl) hl.1 (Nat.le_of_ble_eq_true rfl) hcs dX0_explained_72 (fun H locs hP hS => ?_)
                refine lv_iload hx hb dX0_explained_75 (lv_at hl 0 rfl) ?_
                cases h
                refine W.widen (k := 7) (n := 21) (Nat.le_of_ble_eq_true rfl) (Nat.le_of_ble_eq_true rfl) ?_
                exact W.iret hx hb hr (fun t ht _ => ⟨rfl, hS.F ht, _, hsub, hO, by rw [ht]; exact hP⟩) hS.2.2 dX0_explained_77
            · have h := if_some_t h c167
              refine lv_iinc (v := 2) (lv' := [(4, .int 2), (3, .ref v152), (0, .ref (ad 60)), (1, .int x1), (2, .int x2)]) hx hb dX0_explained_52 hl (k := 0) rfl (by decide) (by decide) rfl (fun ls hl => ?_)
              refine lv_goto (tgt := 34) hx hb dX0_explained_55 rfl ?_
              refine lv_iload hx hb dX0_explained_34 (lv_at hl 0 rfl) ?_
              refine lv_bipush (v := 6) hx hb dX0_explained_36 (by decide) ?_
              refine lv_icmp_gt (tgt := 58) hx hb dX0_explained_38 rfl (fun c => absurd c (by decide)) (fun _ => ?_)
              refine lv_aload_n hx hb dX0_explained_41 rfl (lv_at hl 2 rfl) ?_
              refine lv_aload_n hx hb dX0_explained_42 rfl (lv_at hl 1 rfl) ?_
              refine lv_iload_n hx hb dX0_explained_43 rfl (lv_at hl 3 rfl) ?_
              refine lv_iload hx hb dX0_explained_44 (lv_at hl 0 rfl) ?_
              obtain ⟨v173, st174, hst174, h⟩ := bd2_some h
              refine k_L_explains (nx := (nx + 2)) C had hO hP hS hH hlv152 hst174 q1151 (Nat.le_of_ble_eq_true rfl) hl.1 (Nat.le_of_ble_eq_true rfl) ⟨by omega, by omega⟩ dX0_explained_46 (fun H locs hO hP hS hH => ?_)
              have hcs : 0 + 1 + 1 + 1 ≤ R.cells ∧ 0 + 3 + 3 + 3 ≤ R.slots := ⟨by omega, by omega⟩
              have hsub := fun k h => List.mem_append_left [1000 + (nx + 2)] (hsub k h)
              have hlv152 := live_app (l := [1000 + (nx + 2)]) hlv152
              refine lv_if_ne (tgt := 58) hx hb dX0_explained_49 rfl (fun c175 => ?_) (fun c175 => ?_)
              · have h := if_some_f h c175
                refine lv_aload_n hx hb dX0_explained_58 rfl (lv_at hl 2 rfl) ?_
                refine lv_iload hx hb dX0_explained_59 (lv_at hl 0 rfl) ?_
                refine lv_bipush (v := 6) hx hb dX0_explained_61 (by decide) ?_
                refine lv_icmp_gt (tgt := 70) hx hb dX0_explained_63 rfl (fun c => absurd c (by decide)) (fun _ => ?_)
                refine lv_iconst (v := 1) hx hb dX0_explained_66 (by decide) ?_
                refine lv_goto (tgt := 71) hx hb dX0_explained_67 rfl ?_
                refine lv_iconst (v := 2) hx hb dX0_explained_71 (by decide) ?_
                obtain ⟨o178, st177, hv176, h⟩ := bd2_some h
                rcases o178 with _ | v176
                · rw [onx_none] at h
                  refine k_L_needT C hO hP hS hv176 q402 (Nat.le_of_ble_eq_true rfl) hl.1 (Nat.le_of_ble_eq_true rfl) hcs dX0_explained_72 (fun H locs hP hS => ?_)
                  refine cc_catch (pre := []) (a1 := 0) (a2 := 77) (hp := 78) (post := []) C hO hP q129 htab rfl rfl ?_
                  refine lv_astore_n (lv' := [(3, .ref (ad 61)), (4, .int 2), (0, .ref (ad 60)), (1, .int x1), (2, .int x2)]) hx hb dX0_explained_78 rfl hl (by decide) rfl (fun ls hl => ?_)
                  refine lv_aload_n hx hb dX0_explained_79 rfl (lv_at hl 2 rfl) ?_
                  refine lv_aload_n hx hb dX0_explained_80 rfl (lv_at hl 0 rfl) ?_
                  obtain ⟨v179, st180, hv179, h⟩ := bd2_some h
                  refine k_L_finds C hO hP hS hv179 q410 (Nat.le_of_ble_eq_true rfl) hl.1 (Nat.le_of_ble_eq_true rfl) hcs dX0_explained_81 (fun H locs hP hS => ?_)
                  cases h
                  refine W.widen (k := 7) (n := 21) (Nat.le_of_ble_eq_true rfl) (Nat.le_of_ble_eq_true rfl) ?_
                  exact W.iret hx hb hr (fun t ht _ => ⟨rfl, hS.F ht, _, hsub, hO, by rw [ht]; exact hP⟩) hS.2.2 dX0_explained_84
                · rw [onx_some] at h
                  refine k_L_needR C hO hP hS hv176 q402 (Nat.le_of_ble_eq_true rfl) hl.1 (Nat.le_of_ble_eq_true rfl) hcs dX0_explained_72 (fun H locs hP hS => ?_)
                  refine lv_iload hx hb dX0_explained_75 (lv_at hl 0 rfl) ?_
                  cases h
                  refine W.widen (k := 7) (n := 21) (Nat.le_of_ble_eq_true rfl) (Nat.le_of_ble_eq_true rfl) ?_
                  exact W.iret hx hb hr (fun t ht _ => ⟨rfl, hS.F ht, _, hsub, hO, by rw [ht]; exact hP⟩) hS.2.2 dX0_explained_77
              · have h := if_some_t h c175
                refine lv_iinc (v := 3) (lv' := [(4, .int 3), (3, .ref v152), (0, .ref (ad 60)), (1, .int x1), (2, .int x2)]) hx hb dX0_explained_52 hl (k := 0) rfl (by decide) (by decide) rfl (fun ls hl => ?_)
                refine lv_goto (tgt := 34) hx hb dX0_explained_55 rfl ?_
                refine lv_iload hx hb dX0_explained_34 (lv_at hl 0 rfl) ?_
                refine lv_bipush (v := 6) hx hb dX0_explained_36 (by decide) ?_
                refine lv_icmp_gt (tgt := 58) hx hb dX0_explained_38 rfl (fun c => absurd c (by decide)) (fun _ => ?_)
                refine lv_aload_n hx hb dX0_explained_41 rfl (lv_at hl 2 rfl) ?_
                refine lv_aload_n hx hb dX0_explained_42 rfl (lv_at hl 1 rfl) ?_
                refine lv_iload_n hx hb dX0_explained_43 rfl (lv_at hl 3 rfl) ?_
                refine lv_iload hx hb dX0_explained_44 (lv_at hl 0 rfl) ?_
                obtain ⟨v181, st182, hst182, h⟩ := bd2_some h
                refine k_L_explains (nx := (nx + 3)) C had hO hP hS hH hlv152 hst182 q1151 (Nat.le_of_ble_eq_true rfl) hl.1 (Nat.le_of_ble_eq_true rfl) ⟨by omega, by omega⟩ dX0_explained_46 (fun H locs hO hP hS hH => ?_)
                have hcs : 0 + 1 + 1 + 1 + 1 ≤ R.cells ∧ 0 + 3 + 3 + 3 + 3 ≤ R.slots := ⟨by omega, by omega⟩
                have hsub := fun k h => List.mem_append_left [1000 + (nx + 3)] (hsub k h)
                have hlv152 := live_app (l := [1000 + (nx + 3)]) hlv152
                refine lv_if_ne (tgt := 58) hx hb dX0_explained_49 rfl (fun c183 => ?_) (fun c183 => ?_)
                · have h := if_some_f h c183
                  refine lv_aload_n hx hb dX0_explained_58 rfl (lv_at hl 2 rfl) ?_
                  refine lv_iload hx hb dX0_explained_59 (lv_at hl 0 rfl) ?_
                  refine lv_bipush (v := 6) hx hb dX0_explained_61 (by decide) ?_
                  refine lv_icmp_gt (tgt := 70) hx hb dX0_explained_63 rfl (fun c => absurd c (by decide)) (fun _ => ?_)
                  refine lv_iconst (v := 1) hx hb dX0_explained_66 (by decide) ?_
                  refine lv_goto (tgt := 71) hx hb dX0_explained_67 rfl ?_
                  refine lv_iconst (v := 2) hx hb dX0_explained_71 (by decide) ?_
                  obtain ⟨o186, st185, hv184, h⟩ := bd2_some h
                  rcases o186 with _ | v184
                  · rw [onx_none] at h
                    refine k_L_needT C hO hP hS hv184 q402 (Nat.le_of_ble_eq_true rfl) hl.1 (Nat.le_of_ble_eq_true rfl) hcs dX0_explained_72 (fun H locs hP hS => ?_)
                    refine cc_catch (pre := []) (a1 := 0) (a2 := 77) (hp := 78) (post := []) C hO hP q129 htab rfl rfl ?_
                    refine lv_astore_n (lv' := [(3, .ref (ad 61)), (4, .int 3), (0, .ref (ad 60)), (1, .int x1), (2, .int x2)]) hx hb dX0_explained_78 rfl hl (by decide) rfl (fun ls hl => ?_)
                    refine lv_aload_n hx hb dX0_explained_79 rfl (lv_at hl 2 rfl) ?_
                    refine lv_aload_n hx hb dX0_explained_80 rfl (lv_at hl 0 rfl) ?_
                    obtain ⟨v187, st188, hv187, h⟩ := bd2_some h
                    refine k_L_finds C hO hP hS hv187 q410 (Nat.le_of_ble_eq_true rfl) hl.1 (Nat.le_of_ble_eq_true rfl) hcs dX0_explained_81 (fun H locs hP hS => ?_)
                    cases h
                    refine W.widen (k := 7) (n := 21) (Nat.le_of_ble_eq_true rfl) (Nat.le_of_ble_eq_true rfl) ?_
                    exact W.iret hx hb hr (fun t ht _ => ⟨rfl, hS.F ht, _, hsub, hO, by rw [ht]; exact hP⟩) hS.2.2 dX0_explained_84
                  · rw [onx_some] at h
                    refine k_L_needR C hO hP hS hv184 q402 (Nat.le_of_ble_eq_true rfl) hl.1 (Nat.le_of_ble_eq_true rfl) hcs dX0_explained_72 (fun H locs hP hS => ?_)
                    refine lv_iload hx hb dX0_explained_75 (lv_at hl 0 rfl) ?_
                    cases h
                    refine W.widen (k := 7) (n := 21) (Nat.le_of_ble_eq_true rfl) (Nat.le_of_ble_eq_true rfl) ?_
                    exact W.iret hx hb hr (fun t ht _ => ⟨rfl, hS.F ht, _, hsub, hO, by rw [ht]; exact hP⟩) hS.2.2 dX0_explained_77
                · have h := if_some_t h c183
                  refine lv_iinc (v := 4) (lv' := [(4, .int 4), (3, .ref v152), (0, .ref (ad 60)), (1, .int x1), (2, .int x2)]) hx hb dX0_explained_52 hl (k := 0) rfl (by decide) (by decide) rfl (fun ls hl => ?_)
                  refine lv_goto (tgt := 34) hx hb dX0_explained_55 rfl ?_
                  refine lv_iload hx hb dX0_explained_34 (lv_at hl 0 rfl) ?_
                  refine lv_bipush (v := 6) hx hb dX0_explained_36 (by decide) ?_
                  refine lv_icmp_gt (tgt := 58) hx hb dX0_explained_38 rfl (fun c => absurd c (by decide)) (fun _ => ?_)
                  refine lv_aload_n hx hb dX0_explained_41 rfl (lv_at hl 2 rfl) ?_
                  refine lv_aload_n hx hb dX0_explained_42 rfl (lv_at hl 1 rfl) ?_
                  refine lv_iload_n hx hb dX0_explained_43 rfl (lv_at hl 3 rfl) ?_
                  refine lv_iload hx hb dX0_explained_44 (lv_at hl 0 rfl) ?_
                  obtain ⟨v189, st190, hst190, h⟩ := bd2_some h
                  refine k_L_explains (nx := (nx + 4)) C had hO hP hS hH hlv152 hst190 q1151 (Nat.le_of_ble_eq_true rfl) hl.1 (Nat.le_of_ble_eq_true rfl) ⟨by omega, by omega⟩ dX0_explained_46 (fun H locs hO hP hS hH => ?_)
                  have hcs : 0 + 1 + 1 + 1 + 1 + 1 ≤ R.cells ∧ 0 + 3 + 3 + 3 + 3 + 3 ≤ R.slots := ⟨by omega, by omega⟩
                  have hsub := fun k h => List.mem_append_left [1000 + (nx + 4)] (hsub k h)
                  have hlv152 := live_app (l := [1000 + (nx + 4)]) hlv152
                  refine lv_if_ne (tgt := 58) hx hb dX0_explained_49 rfl (fun c191 => ?_) (fun c191 => ?_)
                  · have h := if_some_f h c191
                    refine lv_aload_n hx hb dX0_explained_58 rfl (lv_at hl 2 rfl) ?_
                    refine lv_iload hx hb dX0_explained_59 (lv_at hl 0 rfl) ?_
                    refine lv_bipush (v := 6) hx hb dX0_explained_61 (by decide) ?_
                    refine lv_icmp_gt (tgt := 70) hx hb dX0_explained_63 rfl (fun c => absurd c (by decide)) (fun _ => ?_)
                    refine lv_iconst (v := 1) hx hb dX0_explained_66 (by decide) ?_
                    refine lv_goto (tgt := 71) hx hb dX0_explained_67 rfl ?_
                    refine lv_iconst (v := 2) hx hb dX0_explained_71 (by decide) ?_
                    obtain ⟨o194, st193, hv192, h⟩ := bd2_some h
                    rcases o194 with _ | v192
                    · rw [onx_none] at h
                      refine k_L_needT C hO hP hS hv192 q402 (Nat.le_of_ble_eq_true rfl) hl.1 (Nat.le_of_ble_eq_true rfl) hcs dX0_explained_72 (fun H locs hP hS => ?_)
                      refine cc_catch (pre := []) (a1 := 0) (a2 := 77) (hp := 78) (post := []) C hO hP q129 htab rfl rfl ?_
                      refine lv_astore_n (lv' := [(3, .ref (ad 61)), (4, .int 4), (0, .ref (ad 60)), (1, .int x1), (2, .int x2)]) hx hb dX0_explained_78 rfl hl (by decide) rfl (fun ls hl => ?_)
                      refine lv_aload_n hx hb dX0_explained_79 rfl (lv_at hl 2 rfl) ?_
                      refine lv_aload_n hx hb dX0_explained_80 rfl (lv_at hl 0 rfl) ?_
                      obtain ⟨v195, st196, hv195, h⟩ := bd2_some h
                      refine k_L_finds C hO hP hS hv195 q410 (Nat.le_of_ble_eq_true rfl) hl.1 (Nat.le_of_ble_eq_true rfl) hcs dX0_explained_81 (fun H locs hP hS => ?_)
                      cases h
                      refine W.widen (k := 7) (n := 21) (Nat.le_of_ble_eq_true rfl) (Nat.le_of_ble_eq_true rfl) ?_
                      exact W.iret hx hb hr (fun t ht _ => ⟨rfl, hS.F ht, _, hsub, hO, by rw [ht]; exact hP⟩) hS.2.2 dX0_explained_84
                    · rw [onx_some] at h
                      refine k_L_needR C hO hP hS hv192 q402 (Nat.le_of_ble_eq_true rfl) hl.1 (Nat.le_of_ble_eq_true rfl) hcs dX0_explained_72 (fun H locs hP hS => ?_)
                      refine lv_iload hx hb dX0_explained_75 (lv_at hl 0 rfl) ?_
                      cases h
                      refine W.widen (k := 7) (n := 21) (Nat.le_of_ble_eq_true rfl) (Nat.le_of_ble_eq_true rfl) ?_
                      exact W.iret hx hb hr (fun t ht _ => ⟨rfl, hS.F ht, _, hsub, hO, by rw [ht]; exact hP⟩) hS.2.2 dX0_explained_77
                  · have h := if_some_t h c191
                    refine lv_iinc (v := 5) (lv' := [(4, .int 5), (3, .ref v152), (0, .ref (ad 60)), (1, .int x1), (2, .int x2)]) hx hb dX0_explained_52 hl (k := 0) rfl (by decide) (by decide) rfl (fun ls hl => ?_)
                    refine lv_goto (tgt := 34) hx hb dX0_explained_55 rfl ?_
                    refine lv_iload hx hb dX0_explained_34 (lv_at hl 0 rfl) ?_
                    refine lv_bipush (v := 6) hx hb dX0_explained_36 (by decide) ?_
                    refine lv_icmp_gt (tgt := 58) hx hb dX0_explained_38 rfl (fun c => absurd c (by decide)) (fun _ => ?_)
                    refine lv_aload_n hx hb dX0_explained_41 rfl (lv_at hl 2 rfl) ?_
                    refine lv_aload_n hx hb dX0_explained_42 rfl (lv_at hl 1 rfl) ?_
                    refine lv_iload_n hx hb dX0_explained_43 rfl (lv_at hl 3 rfl) ?_
                    refine lv_iload hx hb dX0_explained_44 (lv_at hl 0 rfl) ?_
                    obtain ⟨v197, st198, hst198, h⟩ := bd2_some h
                    refine k_L_explains (nx := (nx + 5)) C had hO hP hS hH hlv152 hst198 q1151 (Nat.le_of_ble_eq_true rfl) hl.1 (Nat.le_of_ble_eq_true rfl) ⟨by omega, by omega⟩ dX0_explained_46 (fun H locs hO hP hS hH => ?_)
                    have hcs : 0 + 1 + 1 + 1 + 1 + 1 + 1 ≤ R.cells ∧ 0 + 3 + 3 + 3 + 3 + 3 + 3 ≤ R.slots := ⟨by omega, by omega⟩
                    have hsub := fun k h => List.mem_append_left [1000 + (nx + 5)] (hsub k h)
                    have hlv152 := live_app (l := [1000 + (nx + 5)]) hlv152
                    refine lv_if_ne (tgt := 58) hx hb dX0_explained_49 rfl (fun c199 => ?_) (fun c199 => ?_)
                    · have h := if_some_f h c199
                      refine lv_aload_n hx hb dX0_explained_58 rfl (lv_at hl 2 rfl) ?_
                      refine lv_iload hx hb dX0_explained_59 (lv_at hl 0 rfl) ?_
                      refine lv_bipush (v := 6) hx hb dX0_explained_61 (by decide) ?_
                      refine lv_icmp_gt (tgt := 70) hx hb dX0_explained_63 rfl (fun c => absurd c (by decide)) (fun _ => ?_)
                      refine lv_iconst (v := 1) hx hb dX0_explained_66 (by decide) ?_
                      refine lv_goto (tgt := 71) hx hb dX0_explained_67 rfl ?_
                      refine lv_iconst (v := 2) hx hb dX0_explained_71 (by decide) ?_
                      obtain ⟨o202, st201, hv200, h⟩ := bd2_some h
                      rcases o202 with _ | v200
                      · rw [onx_none] at h
                        refine k_L_needT C hO hP hS hv200 q402 (Nat.le_of_ble_eq_true rfl) hl.1 (Nat.le_of_ble_eq_true rfl) hcs dX0_explained_72 (fun H locs hP hS => ?_)
                        refine cc_catch (pre := []) (a1 := 0) (a2 := 77) (hp := 78) (post := []) C hO hP q129 htab rfl rfl ?_
                        refine lv_astore_n (lv' := [(3, .ref (ad 61)), (4, .int 5), (0, .ref (ad 60)), (1, .int x1), (2, .int x2)]) hx hb dX0_explained_78 rfl hl (by decide) rfl (fun ls hl => ?_)
                        refine lv_aload_n hx hb dX0_explained_79 rfl (lv_at hl 2 rfl) ?_
                        refine lv_aload_n hx hb dX0_explained_80 rfl (lv_at hl 0 rfl) ?_
                        obtain ⟨v203, st204, hv203, h⟩ := bd2_some h
                        refine k_L_finds C hO hP hS hv203 q410 (Nat.le_of_ble_eq_true rfl) hl.1 (Nat.le_of_ble_eq_true rfl) hcs dX0_explained_81 (fun H locs hP hS => ?_)
                        cases h
                        refine W.widen (k := 7) (n := 21) (Nat.le_of_ble_eq_true rfl) (Nat.le_of_ble_eq_true rfl) ?_
                        exact W.iret hx hb hr (fun t ht _ => ⟨rfl, hS.F ht, _, hsub, hO, by rw [ht]; exact hP⟩) hS.2.2 dX0_explained_84
                      · rw [onx_some] at h
                        refine k_L_needR C hO hP hS hv200 q402 (Nat.le_of_ble_eq_true rfl) hl.1 (Nat.le_of_ble_eq_true rfl) hcs dX0_explained_72 (fun H locs hP hS => ?_)
                        refine lv_iload hx hb dX0_explained_75 (lv_at hl 0 rfl) ?_
                        cases h
                        refine W.widen (k := 7) (n := 21) (Nat.le_of_ble_eq_true rfl) (Nat.le_of_ble_eq_true rfl) ?_
                        exact W.iret hx hb hr (fun t ht _ => ⟨rfl, hS.F ht, _, hsub, hO, by rw [ht]; exact hP⟩) hS.2.2 dX0_explained_77
                    · have h := if_some_t h c199
                      refine lv_iinc (v := 6) (lv' := [(4, .int 6), (3, .ref v152), (0, .ref (ad 60)), (1, .int x1), (2, .int x2)]) hx hb dX0_explained_52 hl (k := 0) rfl (by decide) (by decide) rfl (fun ls hl => ?_)
                      refine lv_goto (tgt := 34) hx hb dX0_explained_55 rfl ?_
                      refine lv_iload hx hb dX0_explained_34 (lv_at hl 0 rfl) ?_
                      refine lv_bipush (v := 6) hx hb dX0_explained_36 (by decide) ?_
                      refine lv_icmp_gt (tgt := 58) hx hb dX0_explained_38 rfl (fun c => absurd c (by decide)) (fun _ => ?_)
                      refine lv_aload_n hx hb dX0_explained_41 rfl (lv_at hl 2 rfl) ?_
                      refine lv_aload_n hx hb dX0_explained_42 rfl (lv_at hl 1 rfl) ?_
                      refine lv_iload_n hx hb dX0_explained_43 rfl (lv_at hl 3 rfl) ?_
                      refine lv_iload hx hb dX0_explained_44 (lv_at hl 0 rfl) ?_
                      obtain ⟨v205, st206, hst206, h⟩ := bd2_some h
                      refine k_L_explains (nx := (nx + 6)) C had hO hP hS hH hlv152 hst206 q1151 (Nat.le_of_ble_eq_true rfl) hl.1 (Nat.le_of_ble_eq_true rfl) ⟨by omega, by omega⟩ dX0_explained_46 (fun H locs hO hP hS hH => ?_)
                      have hcs : 0 + 1 + 1 + 1 + 1 + 1 + 1 + 1 ≤ R.cells ∧ 0 + 3 + 3 + 3 + 3 + 3 + 3 + 3 ≤ R.slots := ⟨by omega, by omega⟩
                      have hsub := fun k h => List.mem_append_left [1000 + (nx + 6)] (hsub k h)
                      have hlv152 := live_app (l := [1000 + (nx + 6)]) hlv152
                      refine lv_if_ne (tgt := 58) hx hb dX0_explained_49 rfl (fun c207 => ?_) (fun c207 => ?_)
                      · have h := if_some_f h c207
                        refine lv_aload_n hx hb dX0_explained_58 rfl (lv_at hl 2 rfl) ?_
                        refine lv_iload hx hb dX0_explained_59 (lv_at hl 0 rfl) ?_
                        refine lv_bipush (v := 6) hx hb dX0_explained_61 (by decide) ?_
                        refine lv_icmp_gt (tgt := 70) hx hb dX0_explained_63 rfl (fun c => absurd c (by decide)) (fun _ => ?_)
                        refine lv_iconst (v := 1) hx hb dX0_explained_66 (by decide) ?_
                        refine lv_goto (tgt := 71) hx hb dX0_explained_67 rfl ?_
                        refine lv_iconst (v := 2) hx hb dX0_explained_71 (by decide) ?_
                        obtain ⟨o210, st209, hv208, h⟩ := bd2_some h
                        rcases o210 with _ | v208
                        · rw [onx_none] at h
                          refine k_L_needT C hO hP hS hv208 q402 (Nat.le_of_ble_eq_true rfl) hl.1 (Nat.le_of_ble_eq_true rfl) hcs dX0_explained_72 (fun H locs hP hS => ?_)
                          refine cc_catch (pre := []) (a1 := 0) (a2 := 77) (hp := 78) (post := []) C hO hP q129 htab rfl rfl ?_
                          refine lv_astore_n (lv' := [(3, .ref (ad 61)), (4, .int 6), (0, .ref (ad 60)), (1, .int x1), (2, .int x2)]) hx hb dX0_explained_78 rfl hl (by decide) rfl (fun ls hl => ?_)
                          refine lv_aload_n hx hb dX0_explained_79 rfl (lv_at hl 2 rfl) ?_
                          refine lv_aload_n hx hb dX0_explained_80 rfl (lv_at hl 0 rfl) ?_
                          obtain ⟨v211, st212, hv211, h⟩ := bd2_some h
                          refine k_L_finds C hO hP hS hv211 q410 (Nat.le_of_ble_eq_true rfl) hl.1 (Nat.le_of_ble_eq_true rfl) hcs dX0_explained_81 (fun H locs hP hS => ?_)
                          cases h
                          refine W.widen (k := 7) (n := 21) (Nat.le_of_ble_eq_true rfl) (Nat.le_of_ble_eq_true rfl) ?_
                          exact W.iret hx hb hr (fun t ht _ => ⟨rfl, hS.F ht, _, hsub, hO, by rw [ht]; exact hP⟩) hS.2.2 dX0_explained_84
                        · rw [onx_some] at h
                          refine k_L_needR C hO hP hS hv208 q402 (Nat.le_of_ble_eq_true rfl) hl.1 (Nat.le_of_ble_eq_true rfl) hcs dX0_explained_72 (fun H locs hP hS => ?_)
                          refine lv_iload hx hb dX0_explained_75 (lv_at hl 0 rfl) ?_
                          cases h
                          refine W.widen (k := 7) (n := 21) (Nat.le_of_ble_eq_true rfl) (Nat.le_of_ble_eq_true rfl) ?_
                          exact W.iret hx hb hr (fun t ht _ => ⟨rfl, hS.F ht, _, hsub, hO, by rw [ht]; exact hP⟩) hS.2.2 dX0_explained_77
                      · have h := if_some_t h c207
                        refine lv_iinc (v := 7) (lv' := [(4, .int 7), (3, .ref v152), (0, .ref (ad 60)), (1, .int x1), (2, .int x2)]) hx hb dX0_explained_52 hl (k := 0) rfl (by decide) (by decide) rfl (fun ls hl => ?_)
                        refine lv_goto (tgt := 34) hx hb dX0_explained_55 rfl ?_
                        refine lv_iload hx hb dX0_explained_34 (lv_at hl 0 rfl) ?_
                        refine lv_bipush (v := 6) hx hb dX0_explained_36 (by decide) ?_
                        refine lv_icmp_gt (tgt := 58) hx hb dX0_explained_38 rfl (fun _ => ?_) (fun c => absurd c (by decide))
                        refine lv_aload_n hx hb dX0_explained_58 rfl (lv_at hl 2 rfl) ?_
                        refine lv_iload hx hb dX0_explained_59 (lv_at hl 0 rfl) ?_
                        refine lv_bipush (v := 6) hx hb dX0_explained_61 (by decide) ?_
                        refine lv_icmp_gt (tgt := 70) hx hb dX0_explained_63 rfl (fun _ => ?_) (fun c => absurd c (by decide))
                        refine lv_iconst (v := 0) hx hb dX0_explained_70 (by decide) ?_
                        refine lv_iconst (v := 2) hx hb dX0_explained_71 (by decide) ?_
                        obtain ⟨o215, st214, hv213, h⟩ := bd2_some h
                        rcases o215 with _ | v213
                        · rw [onx_none] at h
                          refine k_L_needT C hO hP hS hv213 q402 (Nat.le_of_ble_eq_true rfl) hl.1 (Nat.le_of_ble_eq_true rfl) hcs dX0_explained_72 (fun H locs hP hS => ?_)
                          refine cc_catch (pre := []) (a1 := 0) (a2 := 77) (hp := 78) (post := []) C hO hP q129 htab rfl rfl ?_
                          refine lv_astore_n (lv' := [(3, .ref (ad 61)), (4, .int 7), (0, .ref (ad 60)), (1, .int x1), (2, .int x2)]) hx hb dX0_explained_78 rfl hl (by decide) rfl (fun ls hl => ?_)
                          refine lv_aload_n hx hb dX0_explained_79 rfl (lv_at hl 2 rfl) ?_
                          refine lv_aload_n hx hb dX0_explained_80 rfl (lv_at hl 0 rfl) ?_
                          obtain ⟨v216, st217, hv216, h⟩ := bd2_some h
                          refine k_L_finds C hO hP hS hv216 q410 (Nat.le_of_ble_eq_true rfl) hl.1 (Nat.le_of_ble_eq_true rfl) hcs dX0_explained_81 (fun H locs hP hS => ?_)
                          cases h
                          refine W.widen (k := 7) (n := 21) (Nat.le_of_ble_eq_true rfl) (Nat.le_of_ble_eq_true rfl) ?_
                          exact W.iret hx hb hr (fun t ht _ => ⟨rfl, hS.F ht, _, hsub, hO, by rw [ht]; exact hP⟩) hS.2.2 dX0_explained_84
                        · rw [onx_some] at h
                          refine k_L_needR C hO hP hS hv213 q402 (Nat.le_of_ble_eq_true rfl) hl.1 (Nat.le_of_ble_eq_true rfl) hcs dX0_explained_72 (fun H locs hP hS => ?_)
                          refine lv_iload hx hb dX0_explained_75 (lv_at hl 0 rfl) ?_
                          cases h
                          refine W.widen (k := 7) (n := 21) (Nat.le_of_ble_eq_true rfl) (Nat.le_of_ble_eq_true rfl) ?_
                          exact W.iret hx hb hr (fun t ht _ => ⟨rfl, hS.F ht, _, hsub, hO, by rw [ht]; exact hP⟩) hS.2.2 dX0_explained_77
end
