/-! debtor, become: walks -/
set_option maxRecDepth 100000
section
variable {p : Program} {l : Launch} {e : Env} {R : Room} {s : State} {m : MethodId} {args : Array Value} {below : List Frame} {meth : Method} {c : Code} {H : Heap} {locs : List Loc} {cells slots d : Nat} {Q : State → Prop} {cc : ByteArray} {pc nL : Nat} {ls : Array Slot} {rest : List Value} {D : va_G} {cA : Nat → ClassId} {ks : List Nat} {ad : Nat → Nat} {A : Nat → Prop} {st : CS} {H0 : Heap} {own : String} {index : Nat}
abbrev cX0_debtor : ByteArray := prog_1_method_20_code
def yX0_debtor : MethodName := ⟨RX0, "debtor", "(II)I"⟩
theorem dX0_debtor_0 : decode cX0_debtor 0 = .ok (.aload_n 0, 1) := by decide +kernel
theorem dX0_debtor_1 : decode cX0_debtor 1 = .ok (.iload_n 1, 1) := by decide +kernel
theorem dX0_debtor_2 : decode cX0_debtor 2 = .ok (.invokestatic 139, 3) := by decide +kernel
theorem dX0_debtor_5 : decode cX0_debtor 5 = .ok (.ifCond .eq 18, 3) := by decide +kernel
theorem dX0_debtor_8 : decode cX0_debtor 8 = .ok (.iload_n 2, 1) := by decide +kernel
theorem dX0_debtor_9 : decode cX0_debtor 9 = .ok (.iconst 0, 1) := by decide +kernel
theorem dX0_debtor_10 : decode cX0_debtor 10 = .ok (.sipush 9999, 3) := by decide +kernel
theorem dX0_debtor_13 : decode cX0_debtor 13 = .ok (.invokestatic 91, 3) := by decide +kernel
theorem dX0_debtor_16 : decode cX0_debtor 16 = .ok (.ifCond .eq 7, 3) := by decide +kernel
theorem dX0_debtor_19 : decode cX0_debtor 19 = .ok (.iconst 1, 1) := by decide +kernel
theorem dX0_debtor_20 : decode cX0_debtor 20 = .ok (.goto 4, 3) := by decide +kernel
theorem dX0_debtor_23 : decode cX0_debtor 23 = .ok (.iconst 0, 1) := by decide +kernel
theorem dX0_debtor_24 : decode cX0_debtor 24 = .ok (.iconst 1, 1) := by decide +kernel
theorem dX0_debtor_25 : decode cX0_debtor 25 = .ok (.invokevirtual 102, 3) := by decide +kernel
theorem dX0_debtor_28 : decode cX0_debtor 28 = .ok (.aload_n 0, 1) := by decide +kernel
theorem dX0_debtor_29 : decode cX0_debtor 29 = .ok (.aload_n 0, 1) := by decide +kernel
theorem dX0_debtor_30 : decode cX0_debtor 30 = .ok (.getfield 46, 3) := by decide +kernel
theorem dX0_debtor_33 : decode cX0_debtor 33 = .ok (.getfield 95, 3) := by decide +kernel
theorem dX0_debtor_36 : decode cX0_debtor 36 = .ok (.iconst 4, 1) := by decide +kernel
theorem dX0_debtor_37 : decode cX0_debtor 37 = .ok (.if_icmp .ge 7, 3) := by decide +kernel
theorem dX0_debtor_40 : decode cX0_debtor 40 = .ok (.iconst 1, 1) := by decide +kernel
theorem dX0_debtor_41 : decode cX0_debtor 41 = .ok (.goto 4, 3) := by decide +kernel
theorem dX0_debtor_44 : decode cX0_debtor 44 = .ok (.iconst 0, 1) := by decide +kernel
theorem dX0_debtor_45 : decode cX0_debtor 45 = .ok (.iconst 4, 1) := by decide +kernel
theorem dX0_debtor_46 : decode cX0_debtor 46 = .ok (.invokevirtual 102, 3) := by decide +kernel
theorem dX0_debtor_49 : decode cX0_debtor 49 = .ok (.aload_n 0, 1) := by decide +kernel
theorem dX0_debtor_50 : decode cX0_debtor 50 = .ok (.getfield 46, 3) := by decide +kernel
theorem dX0_debtor_53 : decode cX0_debtor 53 = .ok (.getfield 95, 3) := by decide +kernel
theorem dX0_debtor_56 : decode cX0_debtor 56 = .ok (.istore_n 3, 1) := by decide +kernel
theorem dX0_debtor_57 : decode cX0_debtor 57 = .ok (.aload_n 0, 1) := by decide +kernel
theorem dX0_debtor_58 : decode cX0_debtor 58 = .ok (.getfield 46, 3) := by decide +kernel
theorem dX0_debtor_61 : decode cX0_debtor 61 = .ok (.getfield 142, 3) := by decide +kernel
theorem dX0_debtor_64 : decode cX0_debtor 64 = .ok (.iload_n 3, 1) := by decide +kernel
theorem dX0_debtor_65 : decode cX0_debtor 65 = .ok (.iload_n 1, 1) := by decide +kernel
theorem dX0_debtor_66 : decode cX0_debtor 66 = .ok (.bipush 10, 2) := by decide +kernel
theorem dX0_debtor_68 : decode cX0_debtor 68 = .ok (.idiv, 1) := by decide +kernel
theorem dX0_debtor_69 : decode cX0_debtor 69 = .ok (.aload_n 0, 1) := by decide +kernel
theorem dX0_debtor_70 : decode cX0_debtor 70 = .ok (.getfield 59, 3) := by decide +kernel
theorem dX0_debtor_73 : decode cX0_debtor 73 = .ok (.iload_n 3, 1) := by decide +kernel
theorem dX0_debtor_74 : decode cX0_debtor 74 = .ok (.iload_n 1, 1) := by decide +kernel
theorem dX0_debtor_75 : decode cX0_debtor 75 = .ok (.bipush 10, 2) := by decide +kernel
theorem dX0_debtor_77 : decode cX0_debtor 77 = .ok (.irem, 1) := by decide +kernel
theorem dX0_debtor_78 : decode cX0_debtor 78 = .ok (.invokestatic 146, 3) := by decide +kernel
theorem dX0_debtor_81 : decode cX0_debtor 81 = .ok (.aastore, 1) := by decide +kernel
theorem dX0_debtor_82 : decode cX0_debtor 82 = .ok (.aload_n 0, 1) := by decide +kernel
theorem dX0_debtor_83 : decode cX0_debtor 83 = .ok (.getfield 46, 3) := by decide +kernel
theorem dX0_debtor_86 : decode cX0_debtor 86 = .ok (.getfield 150, 3) := by decide +kernel
theorem dX0_debtor_89 : decode cX0_debtor 89 = .ok (.iload_n 3, 1) := by decide +kernel
theorem dX0_debtor_90 : decode cX0_debtor 90 = .ok (.iload_n 2, 1) := by decide +kernel
theorem dX0_debtor_91 : decode cX0_debtor 91 = .ok (.iastore, 1) := by decide +kernel
theorem dX0_debtor_92 : decode cX0_debtor 92 = .ok (.aload_n 0, 1) := by decide +kernel
theorem dX0_debtor_93 : decode cX0_debtor 93 = .ok (.getfield 46, 3) := by decide +kernel
theorem dX0_debtor_96 : decode cX0_debtor 96 = .ok (.getfield 153, 3) := by decide +kernel
theorem dX0_debtor_99 : decode cX0_debtor 99 = .ok (.iload_n 3, 1) := by decide +kernel
theorem dX0_debtor_100 : decode cX0_debtor 100 = .ok (.iconst 0, 1) := by decide +kernel
theorem dX0_debtor_101 : decode cX0_debtor 101 = .ok (.bastore, 1) := by decide +kernel
theorem dX0_debtor_102 : decode cX0_debtor 102 = .ok (.aload_n 0, 1) := by decide +kernel
theorem dX0_debtor_103 : decode cX0_debtor 103 = .ok (.getfield 46, 3) := by decide +kernel
theorem dX0_debtor_106 : decode cX0_debtor 106 = .ok (.getfield 157, 3) := by decide +kernel
theorem dX0_debtor_109 : decode cX0_debtor 109 = .ok (.iload_n 3, 1) := by decide +kernel
theorem dX0_debtor_110 : decode cX0_debtor 110 = .ok (.iconst 0, 1) := by decide +kernel
theorem dX0_debtor_111 : decode cX0_debtor 111 = .ok (.iastore, 1) := by decide +kernel
theorem dX0_debtor_112 : decode cX0_debtor 112 = .ok (.aload_n 0, 1) := by decide +kernel
theorem dX0_debtor_113 : decode cX0_debtor 113 = .ok (.getfield 46, 3) := by decide +kernel
theorem dX0_debtor_116 : decode cX0_debtor 116 = .ok (.dup, 1) := by decide +kernel
theorem dX0_debtor_117 : decode cX0_debtor 117 = .ok (.getfield 95, 3) := by decide +kernel
theorem dX0_debtor_120 : decode cX0_debtor 120 = .ok (.iconst 1, 1) := by decide +kernel
theorem dX0_debtor_121 : decode cX0_debtor 121 = .ok (.iadd, 1) := by decide +kernel
theorem dX0_debtor_122 : decode cX0_debtor 122 = .ok (.putfield 95, 3) := by decide +kernel
theorem dX0_debtor_125 : decode cX0_debtor 125 = .ok (.iload_n 3, 1) := by decide +kernel
theorem dX0_debtor_126 : decode cX0_debtor 126 = .ok (.ireturn, 1) := by decide +kernel
theorem dX0_debtor_127 : decode cX0_debtor 127 = .ok (.astore_n 3, 1) := by decide +kernel
theorem dX0_debtor_128 : decode cX0_debtor 128 = .ok (.aload_n 0, 1) := by decide +kernel
theorem dX0_debtor_129 : decode cX0_debtor 129 = .ok (.aload_n 3, 1) := by decide +kernel
theorem dX0_debtor_130 : decode cX0_debtor 130 = .ok (.invokevirtual 123, 3) := by decide +kernel
theorem dX0_debtor_133 : decode cX0_debtor 133 = .ok (.ireturn, 1) := by decide +kernel
theorem q446 : (Jvm.Cond.methodLink "ChapterLoan" (139 : Nat) ({ cls := "ChapterLoan", name := "isKind", desc := "(I)Z" } : Jvm.MethodName)) ∈ lw_all := lw_g (lw_at lw_m2 122 rfl) rfl
theorem q449 : (Jvm.Cond.methodLink "ChapterLoan" (146 : Nat) ({ cls := "ChapterLoan", name := "debtorOf", desc := "(ILChapterLoan$Trace;II)LChapterLoan$Debtor;" } : Jvm.MethodName)) ∈ lw_all := lw_g (lw_at lw_m2 125 rfl) rfl
theorem q450 : (Jvm.Cond.static ({ cls := "ChapterLoan", name := "debtorOf", desc := "(ILChapterLoan$Trace;II)LChapterLoan$Debtor;" } : Jvm.MethodName)) ∈ lw_all := lw_g (lw_at lw_m2 126 rfl) rfl
theorem q451 : (Jvm.Cond.code ({ cls := "ChapterLoan", name := "debtorOf", desc := "(ILChapterLoan$Trace;II)LChapterLoan$Debtor;" } : Jvm.MethodName) prog_1_method_4_code (4 : Nat) (Option.some (Jvm.ClassFile.FieldType.object "ChapterLoan$Debtor"))) ∈ lw_all := lw_g (lw_at lw_m2 127 rfl) rfl
theorem w_L_debtor {l : Launch} {D : va_G} {cA : Nat → ClassId} {ks : List Nat} {ad : Nat → Nat} {A : Nat → Prop} (had : adP ad) (hO : klOk A ks ad) {st st' : CS} {nx : Nat} {x1 x2 r0 : Int32} (h : L_debtor (ad 62) nx st x1 x2 = some (r0, st')) : Met l yX0_debtor (wsW_ yX0_debtor cX0_debtor 4 (some .int) [(0, 126, 127, 8)]) (rmA 6 1 3) (nPre nx D cA ks ad A st [.ref (ad 60), .int x1, .int x2]) (aQ (some (.int r0)) D cA ks ad A st') 1 3 A := by
  refine cc_ofHA (own := RX0) (by decide) rfl (Nat.le_of_ble_eq_true rfl) (fun p e s m below meth c R args ls C hr hlk htab hP hS hl hcsA hnx => ?_)
  have hx := C.1
  have hb := C.2.1
  have hown := C.2.2.2.1
  have hNst := C.2.2.2.2.2.2.2.1
  have hcs : 0 ≤ R.cells ∧ 0 ≤ R.slots := ⟨Nat.zero_le _, Nat.zero_le _⟩
  have hsub : ∀ k ∈ ks, k ∈ ks := fun _ h => h
  have hl : lv_has ls 4 [(0, .ref (ad 60)), (1, .int x1), (2, .int x2)] := hl
  rw [L_debtor] at h
  refine lv_aload_n hx hb dX0_debtor_0 rfl (lv_at hl 0 rfl) ?_
  refine lv_iload_n hx hb dX0_debtor_1 rfl (lv_at hl 1 rfl) ?_
  obtain ⟨v1, hv1, h⟩ := bd1_some h
  refine k_L_isKind hx hb C.2.2.1 hown C.2.2.2.2.1 C.2.2.2.2.2.1 q446 hv1 (Nat.le_of_ble_eq_true rfl) hl.1 (Nat.le_of_ble_eq_true rfl) hcs dX0_debtor_2 ?_
  refine lv_if_eq (tgt := 23) hx hb dX0_debtor_5 rfl (fun c2 => ?_) (fun c2 => ?_)
  · have h := if_some_t h c2
    refine lv_iconst (v := 0) hx hb dX0_debtor_23 (by decide) ?_
    refine lv_iconst (v := 1) hx hb dX0_debtor_24 (by decide) ?_
    obtain ⟨o5, st4, hv3, h⟩ := bd2_some h
    rcases o5 with _ | v3
    · rw [onx_none] at h
      refine k_L_needT C hO hP hS hv3 q402 (Nat.le_of_ble_eq_true rfl) hl.1 (Nat.le_of_ble_eq_true rfl) hcs dX0_debtor_25 (fun H locs hP hS => ?_)
      refine cc_catch (pre := []) (a1 := 0) (a2 := 126) (hp := 127) (post := []) C hO hP q129 htab rfl rfl ?_
      refine lv_astore_n (lv' := [(3, .ref (ad 61)), (0, .ref (ad 60)), (1, .int x1), (2, .int x2)]) hx hb dX0_debtor_127 rfl hl (by decide) rfl (fun ls hl => ?_)
      refine lv_aload_n hx hb dX0_debtor_128 rfl (lv_at hl 1 rfl) ?_
      refine lv_aload_n hx hb dX0_debtor_129 rfl (lv_at hl 0 rfl) ?_
      obtain ⟨v6, st7, hv6, h⟩ := bd2_some h
      refine k_L_finds C hO hP hS hv6 q410 (Nat.le_of_ble_eq_true rfl) hl.1 (Nat.le_of_ble_eq_true rfl) hcs dX0_debtor_130 (fun H locs hP hS => ?_)
      cases h
      refine W.widen (k := 1) (n := 3) (Nat.le_of_ble_eq_true rfl) (Nat.le_of_ble_eq_true rfl) ?_
      exact W.iret hx hb hr (fun t ht _ => ⟨rfl, hS.F ht, _, hsub, hO, by rw [ht]; exact hP⟩) hS.2.2 dX0_debtor_133
    · rw [onx_some] at h
      refine k_L_needR C hO hP hS hv3 q402 (Nat.le_of_ble_eq_true rfl) hl.1 (Nat.le_of_ble_eq_true rfl) hcs dX0_debtor_25 (fun H locs hP hS => ?_)
      refine lv_aload_n hx hb dX0_debtor_28 rfl (lv_at hl 0 rfl) ?_
      refine lv_aload_n hx hb dX0_debtor_29 rfl (lv_at hl 0 rfl) ?_
      refine lg_town C hO hP dX0_debtor_30 ?_
      refine tgN_debtors (t := 0) C hO (by decide) hP dX0_debtor_33 ?_
      refine lv_iconst (v := 4) hx hb dX0_debtor_36 (by decide) ?_
      refine lv_icmp_ge (tgt := 44) hx hb dX0_debtor_37 rfl (fun c8 => ?_) (fun c8 => ?_)
      · have h := if_some_t h c8
        refine lv_iconst (v := 0) hx hb dX0_debtor_44 (by decide) ?_
        refine lv_iconst (v := 4) hx hb dX0_debtor_45 (by decide) ?_
        obtain ⟨o11, st10, hv9, h⟩ := bd2_some h
        rcases o11 with _ | v9
        · rw [onx_none] at h
          refine k_L_needT C hO hP hS hv9 q402 (Nat.le_of_ble_eq_true rfl) hl.1 (Nat.le_of_ble_eq_true rfl) hcs dX0_debtor_46 (fun H locs hP hS => ?_)
          refine cc_catch (pre := []) (a1 := 0) (a2 := 126) (hp := 127) (post := []) C hO hP q129 htab rfl rfl ?_
          refine lv_astore_n (lv' := [(3, .ref (ad 61)), (0, .ref (ad 60)), (1, .int x1), (2, .int x2)]) hx hb dX0_debtor_127 rfl hl (by decide) rfl (fun ls hl => ?_)
          refine lv_aload_n hx hb dX0_debtor_128 rfl (lv_at hl 1 rfl) ?_
          refine lv_aload_n hx hb dX0_debtor_129 rfl (lv_at hl 0 rfl) ?_
          obtain ⟨v12, st13, hv12, h⟩ := bd2_some h
          refine k_L_finds C hO hP hS hv12 q410 (Nat.le_of_ble_eq_true rfl) hl.1 (Nat.le_of_ble_eq_true rfl) hcs dX0_debtor_130 (fun H locs hP hS => ?_)
          cases h
          refine W.widen (k := 1) (n := 3) (Nat.le_of_ble_eq_true rfl) (Nat.le_of_ble_eq_true rfl) ?_
          exact W.iret hx hb hr (fun t ht _ => ⟨rfl, hS.F ht, _, hsub, hO, by rw [ht]; exact hP⟩) hS.2.2 dX0_debtor_133
        · rw [onx_some] at h
          refine k_L_needR C hO hP hS hv9 q402 (Nat.le_of_ble_eq_true rfl) hl.1 (Nat.le_of_ble_eq_true rfl) hcs dX0_debtor_46 (fun H locs hP hS => ?_)
          refine lv_aload_n hx hb dX0_debtor_49 rfl (lv_at hl 0 rfl) ?_
          refine lg_town C hO hP dX0_debtor_50 ?_
          refine tgN_debtors (t := 0) C hO (by decide) hP dX0_debtor_53 ?_
          refine lv_istore_n (lv' := [(3, .int (st10.1 (20 * 0) 6)), (0, .ref (ad 60)), (1, .int x1), (2, .int x2)]) hx hb dX0_debtor_56 rfl hl (by decide) rfl (fun ls hl => ?_)
          refine lv_aload_n hx hb dX0_debtor_57 rfl (lv_at hl 1 rfl) ?_
          refine lg_town C hO hP dX0_debtor_58 ?_
          refine tgN_debtor (t := 0) C hO (by decide) hP dX0_debtor_61 ?_
          refine lv_iload_n hx hb dX0_debtor_64 rfl (lv_at hl 0 rfl) ?_
          refine lv_iload_n hx hb dX0_debtor_65 rfl (lv_at hl 2 rfl) ?_
          refine lv_bipush (v := 10) hx hb dX0_debtor_66 (by decide) ?_
          refine lv_idiv hx hb dX0_debtor_68 (by decide) ?_
          refine lv_aload_n hx hb dX0_debtor_69 rfl (lv_at hl 1 rfl) ?_
          refine lg_trace C hO hP dX0_debtor_70 ?_
          refine lv_iload_n hx hb dX0_debtor_73 rfl (lv_at hl 0 rfl) ?_
          refine lv_iload_n hx hb dX0_debtor_74 rfl (lv_at hl 2 rfl) ?_
          refine lv_bipush (v := 10) hx hb dX0_debtor_75 (by decide) ?_
          refine lv_irem hx hb dX0_debtor_77 (by decide) ?_
          obtain ⟨st14, hst14, h⟩ := bd1_some h
          refine k_L_debtorOf C had hO hP hS hnx hst14 q449 q450 q85 q451 (Nat.le_of_ble_eq_true rfl) hl.1 (Nat.le_of_ble_eq_true rfl) hcsA dX0_debtor_78 (fun H locs hO hP hS => ?_)
          have hcs : 0 + 1 ≤ R.cells ∧ 0 + 3 ≤ R.slots := hcsA
          have hsub := fun k h => List.mem_append_left [1000 + nx] (hsub k h)
          by_cases c16 : isDeb st14.2.2.2 nx = true
          · have h := if_some_t h c16
            obtain ⟨b15, hb15, h⟩ := bd1_some h
            refine cc_astM (st2 := csQ st14 (20 * 0 + 17) b15) C hO hP hS 4 (hO.2.2.2 _ (tk_ 17 (by decide) (by decide))) (cg_t 17 (by decide) (by decide)) rfl hb15 (deb_any C hP (live_new had) c16) (cg_Qt 17 (by decide) (by decide)) (by rw [(wrq_some hb15).2]; exact refOk_set hP.2 (tk68 (by decide)) (live_new had)) dX0_debtor_81 (fun H locs hP hS => ?_)
            refine lv_aload_n hx hb dX0_debtor_82 rfl (lv_at hl 1 rfl) ?_
            refine lg_town C hO hP dX0_debtor_83 ?_
            refine tgN_debt (t := 0) C hO (by decide) hP dX0_debtor_86 ?_
            refine lv_iload_n hx hb dX0_debtor_89 rfl (lv_at hl 0 rfl) ?_
            refine lv_iload_n hx hb dX0_debtor_90 rfl (lv_at hl 3 rfl) ?_
            obtain ⟨b17, hb17, h⟩ := bd1_some h
            refine cc_ist C hO hP hS (hO.2.2.2 _ (tk_ 6 (by decide) (by decide))) (cg_t 6 (by decide) (by decide)) hb17 (cg_At 6 (by decide) (by decide)) hP.2 dX0_debtor_91 (fun H locs hP hS => ?_)
            refine lv_aload_n hx hb dX0_debtor_92 rfl (lv_at hl 1 rfl) ?_
            refine lg_town C hO hP dX0_debtor_93 ?_
            refine tgN_isBroken (t := 0) C hO (by decide) hP dX0_debtor_96 ?_
            refine lv_iload_n hx hb dX0_debtor_99 rfl (lv_at hl 0 rfl) ?_
            refine lv_iconst (v := 0) hx hb dX0_debtor_100 (by decide) ?_
            obtain ⟨b18, hb18, h⟩ := bd1_some h
            refine cc_zst C hO hP hS (hO.2.2.2 _ (tk_ 7 (by decide) (by decide))) (cg_t 7 (by decide) (by decide)) rfl hb18 (cg_At 7 (by decide) (by decide)) hP.2 dX0_debtor_101 (fun H locs hP hS => ?_)
            refine lv_aload_n hx hb dX0_debtor_102 rfl (lv_at hl 1 rfl) ?_
            refine lg_town C hO hP dX0_debtor_103 ?_
            refine tgN_many (t := 0) C hO (by decide) hP dX0_debtor_106 ?_
            refine lv_iload_n hx hb dX0_debtor_109 rfl (lv_at hl 0 rfl) ?_
            refine lv_iconst (v := 0) hx hb dX0_debtor_110 (by decide) ?_
            obtain ⟨b19, hb19, h⟩ := bd1_some h
            refine cc_ist C hO hP hS (hO.2.2.2 _ (tk_ 8 (by decide) (by decide))) (cg_t 8 (by decide) (by decide)) hb19 (cg_At 8 (by decide) (by decide)) hP.2 dX0_debtor_111 (fun H locs hP hS => ?_)
            refine lv_aload_n hx hb dX0_debtor_112 rfl (lv_at hl 1 rfl) ?_
            refine lg_town C hO hP dX0_debtor_113 ?_
            refine lv_dup hx hb dX0_debtor_116 rfl ?_
            refine tgN_debtors (t := 0) C hO (by decide) hP dX0_debtor_117 ?_
            refine lv_iconst (v := 1) hx hb dX0_debtor_120 (by decide) ?_
            refine lv_iadd hx hb dX0_debtor_121 ?_
            refine tpN_debtors (t := 0) C hO (by decide) hP hS dX0_debtor_122 (fun H locs hP hS => ?_)
            refine lv_iload_n hx hb dX0_debtor_125 rfl (lv_at hl 0 rfl) ?_
            cases h
            refine W.widen (k := 1) (n := 3) (Nat.le_of_ble_eq_true rfl) (Nat.le_of_ble_eq_true rfl) ?_
            exact W.iret hx hb hr (fun t ht _ => ⟨rfl, hS.F ht, _, hsub, hO, by rw [ht]; exact hP⟩) hS.2.2 dX0_debtor_126
          · exact non_some (if_some_f h c16)
      · have h := if_some_f h c8
        refine lv_iconst (v := 1) hx hb dX0_debtor_40 (by decide) ?_
        refine lv_goto (tgt := 45) hx hb dX0_debtor_41 rfl ?_
        refine lv_iconst (v := 4) hx hb dX0_debtor_45 (by decide) ?_
        obtain ⟨o22, st21, hv20, h⟩ := bd2_some h
        rcases o22 with _ | v20
        · rw [onx_none] at h
          refine k_L_needT C hO hP hS hv20 q402 (Nat.le_of_ble_eq_true rfl) hl.1 (Nat.le_of_ble_eq_true rfl) hcs dX0_debtor_46 (fun H locs hP hS => ?_)
          refine cc_catch (pre := []) (a1 := 0) (a2 := 126) (hp := 127) (post := []) C hO hP q129 htab rfl rfl ?_
          refine lv_astore_n (lv' := [(3, .ref (ad 61)), (0, .ref (ad 60)), (1, .int x1), (2, .int x2)]) hx hb dX0_debtor_127 rfl hl (by decide) rfl (fun ls hl => ?_)
          refine lv_aload_n hx hb dX0_debtor_128 rfl (lv_at hl 1 rfl) ?_
          refine lv_aload_n hx hb dX0_debtor_129 rfl (lv_at hl 0 rfl) ?_
          obtain ⟨v23, st24, hv23, h⟩ := bd2_some h
          refine k_L_finds C hO hP hS hv23 q410 (Nat.le_of_ble_eq_true rfl) hl.1 (Nat.le_of_ble_eq_true rfl) hcs dX0_debtor_130 (fun H locs hP hS => ?_)
          cases h
          refine W.widen (k := 1) (n := 3) (Nat.le_of_ble_eq_true rfl) (Nat.le_of_ble_eq_true rfl) ?_
          exact W.iret hx hb hr (fun t ht _ => ⟨rfl, hS.F ht, _, hsub, hO, by rw [ht]; exact hP⟩) hS.2.2 dX0_debtor_133
        · rw [onx_some] at h
          refine k_L_needR C hO hP hS hv20 q402 (Nat.le_of_ble_eq_true rfl) hl.1 (Nat.le_of_ble_eq_true rfl) hcs dX0_debtor_46 (fun H locs hP hS => ?_)
          refine lv_aload_n hx hb dX0_debtor_49 rfl (lv_at hl 0 rfl) ?_
          refine lg_town C hO hP dX0_debtor_50 ?_
          refine tgN_debtors (t := 0) C hO (by decide) hP dX0_debtor_53 ?_
          refine lv_istore_n (lv' := [(3, .int (st21.1 (20 * 0) 6)), (0, .ref (ad 60)), (1, .int x1), (2, .int x2)]) hx hb dX0_debtor_56 rfl hl (by decide) rfl (fun ls hl => ?_)
          refine lv_aload_n hx hb dX0_debtor_57 rfl (lv_at hl 1 rfl) ?_
          refine lg_town C hO hP dX0_debtor_58 ?_
          refine tgN_debtor (t := 0) C hO (by decide) hP dX0_debtor_61 ?_
          refine lv_iload_n hx hb dX0_debtor_64 rfl (lv_at hl 0 rfl) ?_
          refine lv_iload_n hx hb dX0_debtor_65 rfl (lv_at hl 2 rfl) ?_
          refine lv_bipush (v := 10) hx hb dX0_debtor_66 (by decide) ?_
          refine lv_idiv hx hb dX0_debtor_68 (by decide) ?_
          refine lv_aload_n hx hb dX0_debtor_69 rfl (lv_at hl 1 rfl) ?_
          refine lg_trace C hO hP dX0_debtor_70 ?_
          refine lv_iload_n hx hb dX0_debtor_73 rfl (lv_at hl 0 rfl) ?_
          refine lv_iload_n hx hb dX0_debtor_74 rfl (lv_at hl 2 rfl) ?_
          refine lv_bipush (v := 10) hx hb dX0_debtor_75 (by decide) ?_
          refine lv_irem hx hb dX0_debtor_77 (by decide) ?_
          obtain ⟨st25, hst25, h⟩ := bd1_some h
          refine k_L_debtorOf C had hO hP hS hnx hst25 q449 q450 q85 q451 (Nat.le_of_ble_eq_true rfl) hl.1 (Nat.le_of_ble_eq_true rfl) hcsA dX0_debtor_78 (fun H locs hO hP hS => ?_)
          have hcs : 0 + 1 ≤ R.cells ∧ 0 + 3 ≤ R.slots := hcsA
          have hsub := fun k h => List.mem_append_left [1000 + nx] (hsub k h)
          by_cases c27 : isDeb st25.2.2.2 nx = true
          · have h := if_some_t h c27
            obtain ⟨b26, hb26, h⟩ := bd1_some h
            refine cc_astM (st2 := csQ st25 (20 * 0 + 17) b26) C hO hP hS 4 (hO.2.2.2 _ (tk_ 17 (by decide) (by decide))) (cg_t 17 (by decide) (by decide)) rfl hb26 (deb_any C hP (live_new had) c27) (cg_Qt 17 (by decide) (by decide)) (by rw [(wrq_some hb26).2]; exact refOk_set hP.2 (tk68 (by decide)) (live_new had)) dX0_debtor_81 (fun H locs hP hS => ?_)
            refine lv_aload_n hx hb dX0_debtor_82 rfl (lv_at hl 1 rfl) ?_
            refine lg_town C hO hP dX0_debtor_83 ?_
            refine tgN_debt (t := 0) C hO (by decide) hP dX0_debtor_86 ?_
            refine lv_iload_n hx hb dX0_debtor_89 rfl (lv_at hl 0 rfl) ?_
            refine lv_iload_n hx hb dX0_debtor_90 rfl (lv_at hl 3 rfl) ?_
            obtain ⟨b28, hb28, h⟩ := bd1_some h
            refine cc_ist C hO hP hS (hO.2.2.2 _ (tk_ 6 (by decide) (by decide))) (cg_t 6 (by decide) (by decide)) hb28 (cg_At 6 (by decide) (by decide)) hP.2 dX0_debtor_91 (fun H locs hP hS => ?_)
            refine lv_aload_n hx hb dX0_debtor_92 rfl (lv_at hl 1 rfl) ?_
            refine lg_town C hO hP dX0_debtor_93 ?_
            refine tgN_isBroken (t := 0) C hO (by decide) hP dX0_debtor_96 ?_
            refine lv_iload_n hx hb dX0_debtor_99 rfl (lv_at hl 0 rfl) ?_
            refine lv_iconst (v := 0) hx hb dX0_debtor_100 (by decide) ?_
            obtain ⟨b29, hb29, h⟩ := bd1_some h
            refine cc_zst C hO hP hS (hO.2.2.2 _ (tk_ 7 (by decide) (by decide))) (cg_t 7 (by decide) (by decide)) rfl hb29 (cg_At 7 (by decide) (by decide)) hP.2 dX0_debtor_101 (fun H locs hP hS => ?_)
            refine lv_aload_n hx hb dX0_debtor_102 rfl (lv_at hl 1 rfl) ?_
            refine lg_town C hO hP dX0_debtor_103 ?_
            refine tgN_many (t := 0) C hO (by decide) hP dX0_debtor_106 ?_
            refine lv_iload_n hx hb dX0_debtor_109 rfl (lv_at hl 0 rfl) ?_
            refine lv_iconst (v := 0) hx hb dX0_debtor_110 (by decide) ?_
            obtain ⟨b30, hb30, h⟩ := bd1_some h
            refine cc_ist C hO hP hS (hO.2.2.2 _ (tk_ 8 (by decide) (by decide))) (cg_t 8 (by decide) (by decide)) hb30 (cg_At 8 (by decide) (by decide)) hP.2 dX0_debtor_111 (fun H locs hP hS => ?_)
            refine lv_aload_n hx hb dX0_debtor_112 rfl (lv_at hl 1 rfl) ?_
            refine lg_town C hO hP dX0_debtor_113 ?_
            refine lv_dup hx hb dX0_debtor_116 rfl ?_
            refine tgN_debtors (t := 0) C hO (by decide) hP dX0_debtor_117 ?_
            refine lv_iconst (v := 1) hx hb dX0_debtor_120 (by decide) ?_
            refine lv_iadd hx hb dX0_debtor_121 ?_
            refine tpN_debtors (t := 0) C hO (by decide) hP hS dX0_debtor_122 (fun H locs hP hS => ?_)
            refine lv_iload_n hx hb dX0_debtor_125 rfl (lv_at hl 0 rfl) ?_
            cases h
            refine W.widen (k := 1) (n := 3) (Nat.le_of_ble_eq_true rfl) (Nat.le_of_ble_eq_true rfl) ?_
            exact W.iret hx hb hr (fun t ht _ => ⟨rfl, hS.F ht, _, hsub, hO, by rw [ht]; exact hP⟩) hS.2.2 dX0_debtor_126
          · exact non_some (if_some_f h c27)
  · have h := if_some_f h c2
    refine lv_iload_n hx hb dX0_debtor_8 rfl (lv_at hl 2 rfl) ?_
    refine lv_iconst (v := 0) hx hb dX0_debtor_9 (by decide) ?_
    refine lv_sipush (v := 9999) hx hb dX0_debtor_10 (by decide) ?_
    obtain ⟨v31, hv31, h⟩ := bd1_some h
    refine k_L_in hx hb C.2.2.1 hown C.2.2.2.2.1 C.2.2.2.2.2.1 q399 hv31 (Nat.le_of_ble_eq_true rfl) hl.1 (Nat.le_of_ble_eq_true rfl) hcs dX0_debtor_13 ?_
    refine lv_if_eq (tgt := 23) hx hb dX0_debtor_16 rfl (fun c32 => ?_) (fun c32 => ?_)
    · have h := if_some_t h c32
      refine lv_iconst (v := 0) hx hb dX0_debtor_23 (by decide) ?_
      refine lv_iconst (v := 1) hx hb dX0_debtor_24 (by decide) ?_
      obtain ⟨o35, st34, hv33, h⟩ := bd2_some h
      rcases o35 with _ | v33
      · rw [onx_none] at h
        refine k_L_needT C hO hP hS hv33 q402 (Nat.le_of_ble_eq_true rfl) hl.1 (Nat.le_of_ble_eq_true rfl) hcs dX0_debtor_25 (fun H locs hP hS => ?_)
        refine cc_catch (pre := []) (a1 := 0) (a2 := 126) (hp := 127) (post := []) C hO hP q129 htab rfl rfl ?_
        refine lv_astore_n (lv' := [(3, .ref (ad 61)), (0, .ref (ad 60)), (1, .int x1), (2, .int x2)]) hx hb dX0_debtor_127 rfl hl (by decide) rfl (fun ls hl => ?_)
        refine lv_aload_n hx hb dX0_debtor_128 rfl (lv_at hl 1 rfl) ?_
        refine lv_aload_n hx hb dX0_debtor_129 rfl (lv_at hl 0 rfl) ?_
        obtain ⟨v36, st37, hv36, h⟩ := bd2_some h
        refine k_L_finds C hO hP hS hv36 q410 (Nat.le_of_ble_eq_true rfl) hl.1 (Nat.le_of_ble_eq_true rfl) hcs dX0_debtor_130 (fun H locs hP hS => ?_)
        cases h
        refine W.widen (k := 1) (n := 3) (Nat.le_of_ble_eq_true rfl) (Nat.le_of_ble_eq_true rfl) ?_
        exact W.iret hx hb hr (fun t ht _ => ⟨rfl, hS.F ht, _, hsub, hO, by rw [ht]; exact hP⟩) hS.2.2 dX0_debtor_133
      · rw [onx_some] at h
        refine k_L_needR C hO hP hS hv33 q402 (Nat.le_of_ble_eq_true rfl) hl.1 (Nat.le_of_ble_eq_true rfl) hcs dX0_debtor_25 (fun H locs hP hS => ?_)
        refine lv_aload_n hx hb dX0_debtor_28 rfl (lv_at hl 0 rfl) ?_
        refine lv_aload_n hx hb dX0_debtor_29 rfl (lv_at hl 0 rfl) ?_
        refine lg_town C hO hP dX0_debtor_30 ?_
        refine tgN_debtors (t := 0) C hO (by decide) hP dX0_debtor_33 ?_
        refine lv_iconst (v := 4) hx hb dX0_debtor_36 (by decide) ?_
        refine lv_icmp_ge (tgt := 44) hx hb dX0_debtor_37 rfl (fun c38 => ?_) (fun c38 => ?_)
        · have h := if_some_t h c38
          refine lv_iconst (v := 0) hx hb dX0_debtor_44 (by decide) ?_
          refine lv_iconst (v := 4) hx hb dX0_debtor_45 (by decide) ?_
          obtain ⟨o41, st40, hv39, h⟩ := bd2_some h
          rcases o41 with _ | v39
          · rw [onx_none] at h
            refine k_L_needT C hO hP hS hv39 q402 (Nat.le_of_ble_eq_true rfl) hl.1 (Nat.le_of_ble_eq_true rfl) hcs dX0_debtor_46 (fun H locs hP hS => ?_)
            refine cc_catch (pre := []) (a1 := 0) (a2 := 126) (hp := 127) (post := []) C hO hP q129 htab rfl rfl ?_
            refine lv_astore_n (lv' := [(3, .ref (ad 61)), (0, .ref (ad 60)), (1, .int x1), (2, .int x2)]) hx hb dX0_debtor_127 rfl hl (by decide) rfl (fun ls hl => ?_)
            refine lv_aload_n hx hb dX0_debtor_128 rfl (lv_at hl 1 rfl) ?_
            refine lv_aload_n hx hb dX0_debtor_129 rfl (lv_at hl 0 rfl) ?_
            obtain ⟨v42, st43, hv42, h⟩ := bd2_some h
            refine k_L_finds C hO hP hS hv42 q410 (Nat.le_of_ble_eq_true rfl) hl.1 (Nat.le_of_ble_eq_true rfl) hcs dX0_debtor_130 (fun H locs hP hS => ?_)
            cases h
            refine W.widen (k := 1) (n := 3) (Nat.le_of_ble_eq_true rfl) (Nat.le_of_ble_eq_true rfl) ?_
            exact W.iret hx hb hr (fun t ht _ => ⟨rfl, hS.F ht, _, hsub, hO, by rw [ht]; exact hP⟩) hS.2.2 dX0_debtor_133
          · rw [onx_some] at h
            refine k_L_needR C hO hP hS hv39 q402 (Nat.le_of_ble_eq_true rfl) hl.1 (Nat.le_of_ble_eq_true rfl) hcs dX0_debtor_46 (fun H locs hP hS => ?_)
            refine lv_aload_n hx hb dX0_debtor_49 rfl (lv_at hl 0 rfl) ?_
            refine lg_town C hO hP dX0_debtor_50 ?_
            refine tgN_debtors (t := 0) C hO (by decide) hP dX0_debtor_53 ?_
            refine lv_istore_n (lv' := [(3, .int (st40.1 (20 * 0) 6)), (0, .ref (ad 60)), (1, .int x1), (2, .int x2)]) hx hb dX0_debtor_56 rfl hl (by decide) rfl (fun ls hl => ?_)
            refine lv_aload_n hx hb dX0_debtor_57 rfl (lv_at hl 1 rfl) ?_
            refine lg_town C hO hP dX0_debtor_58 ?_
            refine tgN_debtor (t := 0) C hO (by decide) hP dX0_debtor_61 ?_
            refine lv_iload_n hx hb dX0_debtor_64 rfl (lv_at hl 0 rfl) ?_
            refine lv_iload_n hx hb dX0_debtor_65 rfl (lv_at hl 2 rfl) ?_
            refine lv_bipush (v := 10) hx hb dX0_debtor_66 (by decide) ?_
            refine lv_idiv hx hb dX0_debtor_68 (by decide) ?_
            refine lv_aload_n hx hb dX0_debtor_69 rfl (lv_at hl 1 rfl) ?_
            refine lg_trace C hO hP dX0_debtor_70 ?_
            refine lv_iload_n hx hb dX0_debtor_73 rfl (lv_at hl 0 rfl) ?_
            refine lv_iload_n hx hb dX0_debtor_74 rfl (lv_at hl 2 rfl) ?_
            refine lv_bipush (v := 10) hx hb dX0_debtor_75 (by decide) ?_
            refine lv_irem hx hb dX0_debtor_77 (by decide) ?_
            obtain ⟨st44, hst44, h⟩ := bd1_some h
            refine k_L_debtorOf C had hO hP hS hnx hst44 q449 q450 q85 q451 (Nat.le_of_ble_eq_true rfl) hl.1 (Nat.le_of_ble_eq_true rfl) hcsA dX0_debtor_78 (fun H locs hO hP hS => ?_)
            have hcs : 0 + 1 ≤ R.cells ∧ 0 + 3 ≤ R.slots := hcsA
            have hsub := fun k h => List.mem_append_left [1000 + nx] (hsub k h)
            by_cases c46 : isDeb st44.2.2.2 nx = true
            · have h := if_some_t h c46
              obtain ⟨b45, hb45, h⟩ := bd1_some h
              refine cc_astM (st2 := csQ st44 (20 * 0 + 17) b45) C hO hP hS 4 (hO.2.2.2 _ (tk_ 17 (by decide) (by decide))) (cg_t 17 (by decide) (by decide)) rfl hb45 (deb_any C hP (live_new had) c46) (cg_Qt 17 (by decide) (by decide)) (by rw [(wrq_some hb45).2]; exact refOk_set hP.2 (tk68 (by decide)) (live_new had)) dX0_debtor_81 (fun H locs hP hS => ?_)
              refine lv_aload_n hx hb dX0_debtor_82 rfl (lv_at hl 1 rfl) ?_
              refine lg_town C hO hP dX0_debtor_83 ?_
              refine tgN_debt (t := 0) C hO (by decide) hP dX0_debtor_86 ?_
              refine lv_iload_n hx hb dX0_debtor_89 rfl (lv_at hl 0 rfl) ?_
              refine lv_iload_n hx hb dX0_debtor_90 rfl (lv_at hl 3 rfl) ?_
              obtain ⟨b47, hb47, h⟩ := bd1_some h
              refine cc_ist C hO hP hS (hO.2.2.2 _ (tk_ 6 (by decide) (by decide))) (cg_t 6 (by decide) (by decide)) hb47 (cg_At 6 (by decide) (by decide)) hP.2 dX0_debtor_91 (fun H locs hP hS => ?_)
              refine lv_aload_n hx hb dX0_debtor_92 rfl (lv_at hl 1 rfl) ?_
              refine lg_town C hO hP dX0_debtor_93 ?_
              refine tgN_isBroken (t := 0) C hO (by decide) hP dX0_debtor_96 ?_
              refine lv_iload_n hx hb dX0_debtor_99 rfl (lv_at hl 0 rfl) ?_
              refine lv_iconst (v := 0) hx hb dX0_debtor_100 (by decide) ?_
              obtain ⟨b48, hb48, h⟩ := bd1_some h
              refine cc_zst C hO hP hS (hO.2.2.2 _ (tk_ 7 (by decide) (by decide))) (cg_t 7 (by decide) (by decide)) rfl hb48 (cg_At 7 (by decide) (by decide)) hP.2 dX0_debtor_101 (fun H locs hP hS => ?_)
              refine lv_aload_n hx hb dX0_debtor_102 rfl (lv_at hl 1 rfl) ?_
              refine lg_town C hO hP dX0_debtor_103 ?_
              refine tgN_many (t := 0) C hO (by decide) hP dX0_debtor_106 ?_
              refine lv_iload_n hx hb dX0_debtor_109 rfl (lv_at hl 0 rfl) ?_
              refine lv_iconst (v := 0) hx hb dX0_debtor_110 (by decide) ?_
              obtain ⟨b49, hb49, h⟩ := bd1_some h
              refine cc_ist C hO hP hS (hO.2.2.2 _ (tk_ 8 (by decide) (by decide))) (cg_t 8 (by decide) (by decide)) hb49 (cg_At 8 (by decide) (by decide)) hP.2 dX0_debtor_111 (fun H locs hP hS => ?_)
              refine lv_aload_n hx hb dX0_debtor_112 rfl (lv_at hl 1 rfl) ?_
              refine lg_town C hO hP dX0_debtor_113 ?_
              refine lv_dup hx hb dX0_debtor_116 rfl ?_
              refine tgN_debtors (t := 0) C hO (by decide) hP dX0_debtor_117 ?_
              refine lv_iconst (v := 1) hx hb dX0_debtor_120 (by decide) ?_
              refine lv_iadd hx hb dX0_debtor_121 ?_
              refine tpN_debtors (t := 0) C hO (by decide) hP hS dX0_debtor_122 (fun H locs hP hS => ?_)
              refine lv_iload_n hx hb dX0_debtor_125 rfl (lv_at hl 0 rfl) ?_
              cases h
              refine W.widen (k := 1) (n := 3) (Nat.le_of_ble_eq_true rfl) (Nat.le_of_ble_eq_true rfl) ?_
              exact W.iret hx hb hr (fun t ht _ => ⟨rfl, hS.F ht, _, hsub, hO, by rw [ht]; exact hP⟩) hS.2.2 dX0_debtor_126
            · exact non_some (if_some_f h c46)
        · have h := if_some_f h c38
          refine lv_iconst (v := 1) hx hb dX0_debtor_40 (by decide) ?_
          refine lv_goto (tgt := 45) hx hb dX0_debtor_41 rfl ?_
          refine lv_iconst (v := 4) hx hb dX0_debtor_45 (by decide) ?_
          obtain ⟨o52, st51, hv50, h⟩ := bd2_some h
          rcases o52 with _ | v50
          · rw [onx_none] at h
            refine k_L_needT C hO hP hS hv50 q402 (Nat.le_of_ble_eq_true rfl) hl.1 (Nat.le_of_ble_eq_true rfl) hcs dX0_debtor_46 (fun H locs hP hS => ?_)
            refine cc_catch (pre := []) (a1 := 0) (a2 := 126) (hp := 127) (post := []) C hO hP q129 htab rfl rfl ?_
            refine lv_astore_n (lv' := [(3, .ref (ad 61)), (0, .ref (ad 60)), (1, .int x1), (2, .int x2)]) hx hb dX0_debtor_127 rfl hl (by decide) rfl (fun ls hl => ?_)
            refine lv_aload_n hx hb dX0_debtor_128 rfl (lv_at hl 1 rfl) ?_
            refine lv_aload_n hx hb dX0_debtor_129 rfl (lv_at hl 0 rfl) ?_
            obtain ⟨v53, st54, hv53, h⟩ := bd2_some h
            refine k_L_finds C hO hP hS hv53 q410 (Nat.le_of_ble_eq_true rfl) hl.1 (Nat.le_of_ble_eq_true rfl) hcs dX0_debtor_130 (fun H locs hP hS => ?_)
            cases h
            refine W.widen (k := 1) (n := 3) (Nat.le_of_ble_eq_true rfl) (Nat.le_of_ble_eq_true rfl) ?_
            exact W.iret hx hb hr (fun t ht _ => ⟨rfl, hS.F ht, _, hsub, hO, by rw [ht]; exact hP⟩) hS.2.2 dX0_debtor_133
          · rw [onx_some] at h
            refine k_L_needR C hO hP hS hv50 q402 (Nat.le_of_ble_eq_true rfl) hl.1 (Nat.le_of_ble_eq_true rfl) hcs dX0_debtor_46 (fun H locs hP hS => ?_)
            refine lv_aload_n hx hb dX0_debtor_49 rfl (lv_at hl 0 rfl) ?_
            refine lg_town C hO hP dX0_debtor_50 ?_
            refine tgN_debtors (t := 0) C hO (by decide) hP dX0_debtor_53 ?_
            refine lv_istore_n (lv' := [(3, .int (st51.1 (20 * 0) 6)), (0, .ref (ad 60)), (1, .int x1), (2, .int x2)]) hx hb dX0_debtor_56 rfl hl (by decide) rfl (fun ls hl => ?_)
            refine lv_aload_n hx hb dX0_debtor_57 rfl (lv_at hl 1 rfl) ?_
            refine lg_town C hO hP dX0_debtor_58 ?_
            refine tgN_debtor (t := 0) C hO (by decide) hP dX0_debtor_61 ?_
            refine lv_iload_n hx hb dX0_debtor_64 rfl (lv_at hl 0 rfl) ?_
            refine lv_iload_n hx hb dX0_debtor_65 rfl (lv_at hl 2 rfl) ?_
            refine lv_bipush (v := 10) hx hb dX0_debtor_66 (by decide) ?_
            refine lv_idiv hx hb dX0_debtor_68 (by decide) ?_
            refine lv_aload_n hx hb dX0_debtor_69 rfl (lv_at hl 1 rfl) ?_
            refine lg_trace C hO hP dX0_debtor_70 ?_
            refine lv_iload_n hx hb dX0_debtor_73 rfl (lv_at hl 0 rfl) ?_
            refine lv_iload_n hx hb dX0_debtor_74 rfl (lv_at hl 2 rfl) ?_
            refine lv_bipush (v := 10) hx hb dX0_debtor_75 (by decide) ?_
            refine lv_irem hx hb dX0_debtor_77 (by decide) ?_
            obtain ⟨st55, hst55, h⟩ := bd1_some h
            refine k_L_debtorOf C had hO hP hS hnx hst55 q449 q450 q85 q451 (Nat.le_of_ble_eq_true rfl) hl.1 (Nat.le_of_ble_eq_true rfl) hcsA dX0_debtor_78 (fun H locs hO hP hS => ?_)
            have hcs : 0 + 1 ≤ R.cells ∧ 0 + 3 ≤ R.slots := hcsA
            have hsub := fun k h => List.mem_append_left [1000 + nx] (hsub k h)
            by_cases c57 : isDeb st55.2.2.2 nx = true
            · have h := if_some_t h c57
              obtain ⟨b56, hb56, h⟩ := bd1_some h
              refine cc_astM (st2 := csQ st55 (20 * 0 + 17) b56) C hO hP hS 4 (hO.2.2.2 _ (tk_ 17 (by decide) (by decide))) (cg_t 17 (by decide) (by decide)) rfl hb56 (deb_any C hP (live_new had) c57) (cg_Qt 17 (by decide) (by decide)) (by rw [(wrq_some hb56).2]; exact refOk_set hP.2 (tk68 (by decide)) (live_new had)) dX0_debtor_81 (fun H locs hP hS => ?_)
              refine lv_aload_n hx hb dX0_debtor_82 rfl (lv_at hl 1 rfl) ?_
              refine lg_town C hO hP dX0_debtor_83 ?_
              refine tgN_debt (t := 0) C hO (by decide) hP dX0_debtor_86 ?_
              refine lv_iload_n hx hb dX0_debtor_89 rfl (lv_at hl 0 rfl) ?_
              refine lv_iload_n hx hb dX0_debtor_90 rfl (lv_at hl 3 rfl) ?_
              obtain ⟨b58, hb58, h⟩ := bd1_some h
              refine cc_ist C hO hP hS (hO.2.2.2 _ (tk_ 6 (by decide) (by decide))) (cg_t 6 (by decide) (by decide)) hb58 (cg_At 6 (by decide) (by decide)) hP.2 dX0_debtor_91 (fun H locs hP hS => ?_)
              refine lv_aload_n hx hb dX0_debtor_92 rfl (lv_at hl 1 rfl) ?_
              refine lg_town C hO hP dX0_debtor_93 ?_
              refine tgN_isBroken (t := 0) C hO (by decide) hP dX0_debtor_96 ?_
              refine lv_iload_n hx hb dX0_debtor_99 rfl (lv_at hl 0 rfl) ?_
              refine lv_iconst (v := 0) hx hb dX0_debtor_100 (by decide) ?_
              obtain ⟨b59, hb59, h⟩ := bd1_some h
              refine cc_zst C hO hP hS (hO.2.2.2 _ (tk_ 7 (by decide) (by decide))) (cg_t 7 (by decide) (by decide)) rfl hb59 (cg_At 7 (by decide) (by decide)) hP.2 dX0_debtor_101 (fun H locs hP hS => ?_)
              refine lv_aload_n hx hb dX0_debtor_102 rfl (lv_at hl 1 rfl) ?_
              refine lg_town C hO hP dX0_debtor_103 ?_
              refine tgN_many (t := 0) C hO (by decide) hP dX0_debtor_106 ?_
              refine lv_iload_n hx hb dX0_debtor_109 rfl (lv_at hl 0 rfl) ?_
              refine lv_iconst (v := 0) hx hb dX0_debtor_110 (by decide) ?_
              obtain ⟨b60, hb60, h⟩ := bd1_some h
              refine cc_ist C hO hP hS (hO.2.2.2 _ (tk_ 8 (by decide) (by decide))) (cg_t 8 (by decide) (by decide)) hb60 (cg_At 8 (by decide) (by decide)) hP.2 dX0_debtor_111 (fun H locs hP hS => ?_)
              refine lv_aload_n hx hb dX0_debtor_112 rfl (lv_at hl 1 rfl) ?_
              refine lg_town C hO hP dX0_debtor_113 ?_
              refine lv_dup hx hb dX0_debtor_116 rfl ?_
              refine tgN_debtors (t := 0) C hO (by decide) hP dX0_debtor_117 ?_
              refine lv_iconst (v := 1) hx hb dX0_debtor_120 (by decide) ?_
              refine lv_iadd hx hb dX0_debtor_121 ?_
              refine tpN_debtors (t := 0) C hO (by decide) hP hS dX0_debtor_122 (fun H locs hP hS => ?_)
              refine lv_iload_n hx hb dX0_debtor_125 rfl (lv_at hl 0 rfl) ?_
              cases h
              refine W.widen (k := 1) (n := 3) (Nat.le_of_ble_eq_true rfl) (Nat.le_of_ble_eq_true rfl) ?_
              exact W.iret hx hb hr (fun t ht _ => ⟨rfl, hS.F ht, _, hsub, hO, by rw [ht]; exact hP⟩) hS.2.2 dX0_debtor_126
            · exact non_some (if_some_f h c57)
    · have h := if_some_f h c32
      refine lv_iconst (v := 1) hx hb dX0_debtor_19 (by decide) ?_
      refine lv_goto (tgt := 24) hx hb dX0_debtor_20 rfl ?_
      refine lv_iconst (v := 1) hx hb dX0_debtor_24 (by decide) ?_
      obtain ⟨o63, st62, hv61, h⟩ := bd2_some h
      rcases o63 with _ | v61
      · rw [onx_none] at h
        refine k_L_needT C hO hP hS hv61 q402 (Nat.le_of_ble_eq_true rfl) hl.1 (Nat.le_of_ble_eq_true rfl) hcs dX0_debtor_25 (fun H locs hP hS => ?_)
        refine cc_catch (pre := []) (a1 := 0) (a2 := 126) (hp := 127) (post := []) C hO hP q129 htab rfl rfl ?_
        refine lv_astore_n (lv' := [(3, .ref (ad 61)), (0, .ref (ad 60)), (1, .int x1), (2, .int x2)]) hx hb dX0_debtor_127 rfl hl (by decide) rfl (fun ls hl => ?_)
        refine lv_aload_n hx hb dX0_debtor_128 rfl (lv_at hl 1 rfl) ?_
        refine lv_aload_n hx hb dX0_debtor_129 rfl (lv_at hl 0 rfl) ?_
        obtain ⟨v64, st65, hv64, h⟩ := bd2_some h
        refine k_L_finds C hO hP hS hv64 q410 (Nat.le_of_ble_eq_true rfl) hl.1 (Nat.le_of_ble_eq_true rfl) hcs dX0_debtor_130 (fun H locs hP hS => ?_)
        cases h
        refine W.widen (k := 1) (n := 3) (Nat.le_of_ble_eq_true rfl) (Nat.le_of_ble_eq_true rfl) ?_
        exact W.iret hx hb hr (fun t ht _ => ⟨rfl, hS.F ht, _, hsub, hO, by rw [ht]; exact hP⟩) hS.2.2 dX0_debtor_133
      · rw [onx_some] at h
        refine k_L_needR C hO hP hS hv61 q402 (Nat.le_of_ble_eq_true rfl) hl.1 (Nat.le_of_ble_eq_true rfl) hcs dX0_debtor_25 (fun H locs hP hS => ?_)
        refine lv_aload_n hx hb dX0_debtor_28 rfl (lv_at hl 0 rfl) ?_
        refine lv_aload_n hx hb dX0_debtor_29 rfl (lv_at hl 0 rfl) ?_
        refine lg_town C hO hP dX0_debtor_30 ?_
        refine tgN_debtors (t := 0) C hO (by decide) hP dX0_debtor_33 ?_
        refine lv_iconst (v := 4) hx hb dX0_debtor_36 (by decide) ?_
        refine lv_icmp_ge (tgt := 44) hx hb dX0_debtor_37 rfl (fun c66 => ?_) (fun c66 => ?_)
        · have h := if_some_t h c66
          refine lv_iconst (v := 0) hx hb dX0_debtor_44 (by decide) ?_
          refine lv_iconst (v := 4) hx hb dX0_debtor_45 (by decide) ?_
          obtain ⟨o69, st68, hv67, h⟩ := bd2_some h
          rcases o69 with _ | v67
          · rw [onx_none] at h
            refine k_L_needT C hO hP hS hv67 q402 (Nat.le_of_ble_eq_true rfl) hl.1 (Nat.le_of_ble_eq_true rfl) hcs dX0_debtor_46 (fun H locs hP hS => ?_)
            refine cc_catch (pre := []) (a1 := 0) (a2 := 126) (hp := 127) (post := []) C hO hP q129 htab rfl rfl ?_
            refine lv_astore_n (lv' := [(3, .ref (ad 61)), (0, .ref (ad 60)), (1, .int x1), (2, .int x2)]) hx hb dX0_debtor_127 rfl hl (by decide) rfl (fun ls hl => ?_)
            refine lv_aload_n hx hb dX0_debtor_128 rfl (lv_at hl 1 rfl) ?_
            refine lv_aload_n hx hb dX0_debtor_129 rfl (lv_at hl 0 rfl) ?_
            obtain ⟨v70, st71, hv70, h⟩ := bd2_some h
            refine k_L_finds C hO hP hS hv70 q410 (Nat.le_of_ble_eq_true rfl) hl.1 (Nat.le_of_ble_eq_true rfl) hcs dX0_debtor_130 (fun H locs hP hS => ?_)
            cases h
            refine W.widen (k := 1) (n := 3) (Nat.le_of_ble_eq_true rfl) (Nat.le_of_ble_eq_true rfl) ?_
            exact W.iret hx hb hr (fun t ht _ => ⟨rfl, hS.F ht, _, hsub, hO, by rw [ht]; exact hP⟩) hS.2.2 dX0_debtor_133
          · rw [onx_some] at h
            refine k_L_needR C hO hP hS hv67 q402 (Nat.le_of_ble_eq_true rfl) hl.1 (Nat.le_of_ble_eq_true rfl) hcs dX0_debtor_46 (fun H locs hP hS => ?_)
            refine lv_aload_n hx hb dX0_debtor_49 rfl (lv_at hl 0 rfl) ?_
            refine lg_town C hO hP dX0_debtor_50 ?_
            refine tgN_debtors (t := 0) C hO (by decide) hP dX0_debtor_53 ?_
            refine lv_istore_n (lv' := [(3, .int (st68.1 (20 * 0) 6)), (0, .ref (ad 60)), (1, .int x1), (2, .int x2)]) hx hb dX0_debtor_56 rfl hl (by decide) rfl (fun ls hl => ?_)
            refine lv_aload_n hx hb dX0_debtor_57 rfl (lv_at hl 1 rfl) ?_
            refine lg_town C hO hP dX0_debtor_58 ?_
            refine tgN_debtor (t := 0) C hO (by decide) hP dX0_debtor_61 ?_
            refine lv_iload_n hx hb dX0_debtor_64 rfl (lv_at hl 0 rfl) ?_
            refine lv_iload_n hx hb dX0_debtor_65 rfl (lv_at hl 2 rfl) ?_
            refine lv_bipush (v := 10) hx hb dX0_debtor_66 (by decide) ?_
            refine lv_idiv hx hb dX0_debtor_68 (by decide) ?_
            refine lv_aload_n hx hb dX0_debtor_69 rfl (lv_at hl 1 rfl) ?_
            refine lg_trace C hO hP dX0_debtor_70 ?_
            refine lv_iload_n hx hb dX0_debtor_73 rfl (lv_at hl 0 rfl) ?_
            refine lv_iload_n hx hb dX0_debtor_74 rfl (lv_at hl 2 rfl) ?_
            refine lv_bipush (v := 10) hx hb dX0_debtor_75 (by decide) ?_
            refine lv_irem hx hb dX0_debtor_77 (by decide) ?_
            obtain ⟨st72, hst72, h⟩ := bd1_some h
            refine k_L_debtorOf C had hO hP hS hnx hst72 q449 q450 q85 q451 (Nat.le_of_ble_eq_true rfl) hl.1 (Nat.le_of_ble_eq_true rfl) hcsA dX0_debtor_78 (fun H locs hO hP hS => ?_)
            have hcs : 0 + 1 ≤ R.cells ∧ 0 + 3 ≤ R.slots := hcsA
            have hsub := fun k h => List.mem_append_left [1000 + nx] (hsub k h)
            by_cases c74 : isDeb st72.2.2.2 nx = true
            · have h := if_some_t h c74
              obtain ⟨b73, hb73, h⟩ := bd1_some h
              refine cc_astM (st2 := csQ st72 (20 * 0 + 17) b73) C hO hP hS 4 (hO.2.2.2 _ (tk_ 17 (by decide) (by decide))) (cg_t 17 (by decide) (by decide)) rfl hb73 (deb_any C hP (live_new had) c74) (cg_Qt 17 (by decide) (by decide)) (by rw [(wrq_some hb73).2]; exact refOk_set hP.2 (tk68 (by decide)) (live_new had)) dX0_debtor_81 (fun H locs hP hS => ?_)
              refine lv_aload_n hx hb dX0_debtor_82 rfl (lv_at hl 1 rfl) ?_
              refine lg_town C hO hP dX0_debtor_83 ?_
              refine tgN_debt (t := 0) C hO (by decide) hP dX0_debtor_86 ?_
              refine lv_iload_n hx hb dX0_debtor_89 rfl (lv_at hl 0 rfl) ?_
              refine lv_iload_n hx hb dX0_debtor_90 rfl (lv_at hl 3 rfl) ?_
              obtain ⟨b75, hb75, h⟩ := bd1_some h
              refine cc_ist C hO hP hS (hO.2.2.2 _ (tk_ 6 (by decide) (by decide))) (cg_t 6 (by decide) (by decide)) hb75 (cg_At 6 (by decide) (by decide)) hP.2 dX0_debtor_91 (fun H locs hP hS => ?_)
              refine lv_aload_n hx hb dX0_debtor_92 rfl (lv_at hl 1 rfl) ?_
              refine lg_town C hO hP dX0_debtor_93 ?_
              refine tgN_isBroken (t := 0) C hO (by decide) hP dX0_debtor_96 ?_
              refine lv_iload_n hx hb dX0_debtor_99 rfl (lv_at hl 0 rfl) ?_
              refine lv_iconst (v := 0) hx hb dX0_debtor_100 (by decide) ?_
              obtain ⟨b76, hb76, h⟩ := bd1_some h
              refine cc_zst C hO hP hS (hO.2.2.2 _ (tk_ 7 (by decide) (by decide))) (cg_t 7 (by decide) (by decide)) rfl hb76 (cg_At 7 (by decide) (by decide)) hP.2 dX0_debtor_101 (fun H locs hP hS => ?_)
              refine lv_aload_n hx hb dX0_debtor_102 rfl (lv_at hl 1 rfl) ?_
              refine lg_town C hO hP dX0_debtor_103 ?_
              refine tgN_many (t := 0) C hO (by decide) hP dX0_debtor_106 ?_
              refine lv_iload_n hx hb dX0_debtor_109 rfl (lv_at hl 0 rfl) ?_
              refine lv_iconst (v := 0) hx hb dX0_debtor_110 (by decide) ?_
              obtain ⟨b77, hb77, h⟩ := bd1_some h
              refine cc_ist C hO hP hS (hO.2.2.2 _ (tk_ 8 (by decide) (by decide))) (cg_t 8 (by decide) (by decide)) hb77 (cg_At 8 (by decide) (by decide)) hP.2 dX0_debtor_111 (fun H locs hP hS => ?_)
              refine lv_aload_n hx hb dX0_debtor_112 rfl (lv_at hl 1 rfl) ?_
              refine lg_town C hO hP dX0_debtor_113 ?_
              refine lv_dup hx hb dX0_debtor_116 rfl ?_
              refine tgN_debtors (t := 0) C hO (by decide) hP dX0_debtor_117 ?_
              refine lv_iconst (v := 1) hx hb dX0_debtor_120 (by decide) ?_
              refine lv_iadd hx hb dX0_debtor_121 ?_
              refine tpN_debtors (t := 0) C hO (by decide) hP hS dX0_debtor_122 (fun H locs hP hS => ?_)
              refine lv_iload_n hx hb dX0_debtor_125 rfl (lv_at hl 0 rfl) ?_
              cases h
              refine W.widen (k := 1) (n := 3) (Nat.le_of_ble_eq_true rfl) (Nat.le_of_ble_eq_true rfl) ?_
              exact W.iret hx hb hr (fun t ht _ => ⟨rfl, hS.F ht, _, hsub, hO, by rw [ht]; exact hP⟩) hS.2.2 dX0_debtor_126
            · exact non_some (if_some_f h c74)
        · have h := if_some_f h c66
          refine lv_iconst (v := 1) hx hb dX0_debtor_40 (by decide) ?_
          refine lv_goto (tgt := 45) hx hb dX0_debtor_41 rfl ?_
          refine lv_iconst (v := 4) hx hb dX0_debtor_45 (by decide) ?_
          obtain ⟨o80, st79, hv78, h⟩ := bd2_some h
          rcases o80 with _ | v78
          · rw [onx_none] at h
            refine k_L_needT C hO hP hS hv78 q402 (Nat.le_of_ble_eq_true rfl) hl.1 (Nat.le_of_ble_eq_true rfl) hcs dX0_debtor_46 (fun H locs hP hS => ?_)
            refine cc_catch (pre := []) (a1 := 0) (a2 := 126) (hp := 127) (post := []) C hO hP q129 htab rfl rfl ?_
            refine lv_astore_n (lv' := [(3, .ref (ad 61)), (0, .ref (ad 60)), (1, .int x1), (2, .int x2)]) hx hb dX0_debtor_127 rfl hl (by decide) rfl (fun ls hl => ?_)
            refine lv_aload_n hx hb dX0_debtor_128 rfl (lv_at hl 1 rfl) ?_
            refine lv_aload_n hx hb dX0_debtor_129 rfl (lv_at hl 0 rfl) ?_
            obtain ⟨v81, st82, hv81, h⟩ := bd2_some h
            refine k_L_finds C hO hP hS hv81 q410 (Nat.le_of_ble_eq_true rfl) hl.1 (Nat.le_of_ble_eq_true rfl) hcs dX0_debtor_130 (fun H locs hP hS => ?_)
            cases h
            refine W.widen (k := 1) (n := 3) (Nat.le_of_ble_eq_true rfl) (Nat.le_of_ble_eq_true rfl) ?_
            exact W.iret hx hb hr (fun t ht _ => ⟨rfl, hS.F ht, _, hsub, hO, by rw [ht]; exact hP⟩) hS.2.2 dX0_debtor_133
          · rw [onx_some] at h
            refine k_L_needR C hO hP hS hv78 q402 (Nat.le_of_ble_eq_true rfl) hl.1 (Nat.le_of_ble_eq_true rfl) hcs dX0_debtor_46 (fun H locs hP hS => ?_)
            refine lv_aload_n hx hb dX0_debtor_49 rfl (lv_at hl 0 rfl) ?_
            refine lg_town C hO hP dX0_debtor_50 ?_
            refine tgN_debtors (t := 0) C hO (by decide) hP dX0_debtor_53 ?_
            refine lv_istore_n (lv' := [(3, .int (st79.1 (20 * 0) 6)), (0, .ref (ad 60)), (1, .int x1), (2, .int x2)]) hx hb dX0_debtor_56 rfl hl (by decide) rfl (fun ls hl => ?_)
            refine lv_aload_n hx hb dX0_debtor_57 rfl (lv_at hl 1 rfl) ?_
            refine lg_town C hO hP dX0_debtor_58 ?_
            refine tgN_debtor (t := 0) C hO (by decide) hP dX0_debtor_61 ?_
            refine lv_iload_n hx hb dX0_debtor_64 rfl (lv_at hl 0 rfl) ?_
            refine lv_iload_n hx hb dX0_debtor_65 rfl (lv_at hl 2 rfl) ?_
            refine lv_bipush (v := 10) hx hb dX0_debtor_66 (by decide) ?_
            refine lv_idiv hx hb dX0_debtor_68 (by decide) ?_
            refine lv_aload_n hx hb dX0_debtor_69 rfl (lv_at hl 1 rfl) ?_
            refine lg_trace C hO hP dX0_debtor_70 ?_
            refine lv_iload_n hx hb dX0_debtor_73 rfl (lv_at hl 0 rfl) ?_
            refine lv_iload_n hx hb dX0_debtor_74 rfl (lv_at hl 2 rfl) ?_
            refine lv_bipush (v := 10) hx hb dX0_debtor_75 (by decide) ?_
            refine lv_irem hx hb dX0_debtor_77 (by decide) ?_
            obtain ⟨st83, hst83, h⟩ := bd1_some h
            refine k_L_debtorOf C had hO hP hS hnx hst83 q449 q450 q85 q451 (Nat.le_of_ble_eq_true rfl) hl.1 (Nat.le_of_ble_eq_true rfl) hcsA dX0_debtor_78 (fun H locs hO hP hS => ?_)
            have hcs : 0 + 1 ≤ R.cells ∧ 0 + 3 ≤ R.slots := hcsA
            have hsub := fun k h => List.mem_append_left [1000 + nx] (hsub k h)
            by_cases c85 : isDeb st83.2.2.2 nx = true
            · have h := if_some_t h c85
              obtain ⟨b84, hb84, h⟩ := bd1_some h
              refine cc_astM (st2 := csQ st83 (20 * 0 + 17) b84) C hO hP hS 4 (hO.2.2.2 _ (tk_ 17 (by decide) (by decide))) (cg_t 17 (by decide) (by decide)) rfl hb84 (deb_any C hP (live_new had) c85) (cg_Qt 17 (by decide) (by decide)) (by rw [(wrq_some hb84).2]; exact refOk_set hP.2 (tk68 (by decide)) (live_new had)) dX0_debtor_81 (fun H locs hP hS => ?_)
              refine lv_aload_n hx hb dX0_debtor_82 rfl (lv_at hl 1 rfl) ?_
              refine lg_town C hO hP dX0_debtor_83 ?_
              refine tgN_debt (t := 0) C hO (by decide) hP dX0_debtor_86 ?_
              refine lv_iload_n hx hb dX0_debtor_89 rfl (lv_at hl 0 rfl) ?_
              refine lv_iload_n hx hb dX0_debtor_90 rfl (lv_at hl 3 rfl) ?_
              obtain ⟨b86, hb86, h⟩ := bd1_some h
              refine cc_ist C hO hP hS (hO.2.2.2 _ (tk_ 6 (by decide) (by decide))) (cg_t 6 (by decide) (by decide)) hb86 (cg_At 6 (by decide) (by decide)) hP.2 dX0_debtor_91 (fun H locs hP hS => ?_)
              refine lv_aload_n hx hb dX0_debtor_92 rfl (lv_at hl 1 rfl) ?_
              refine lg_town C hO hP dX0_debtor_93 ?_
              refine tgN_isBroken (t := 0) C hO (by decide) hP dX0_debtor_96 ?_
              refine lv_iload_n hx hb dX0_debtor_99 rfl (lv_at hl 0 rfl) ?_
              refine lv_iconst (v := 0) hx hb dX0_debtor_100 (by decide) ?_
              obtain ⟨b87, hb87, h⟩ := bd1_some h
              refine cc_zst C hO hP hS (hO.2.2.2 _ (tk_ 7 (by decide) (by decide))) (cg_t 7 (by decide) (by decide)) rfl hb87 (cg_At 7 (by decide) (by decide)) hP.2 dX0_debtor_101 (fun H locs hP hS => ?_)
              refine lv_aload_n hx hb dX0_debtor_102 rfl (lv_at hl 1 rfl) ?_
              refine lg_town C hO hP dX0_debtor_103 ?_
              refine tgN_many (t := 0) C hO (by decide) hP dX0_debtor_106 ?_
              refine lv_iload_n hx hb dX0_debtor_109 rfl (lv_at hl 0 rfl) ?_
              refine lv_iconst (v := 0) hx hb dX0_debtor_110 (by decide) ?_
              obtain ⟨b88, hb88, h⟩ := bd1_some h
              refine cc_ist C hO hP hS (hO.2.2.2 _ (tk_ 8 (by decide) (by decide))) (cg_t 8 (by decide) (by decide)) hb88 (cg_At 8 (by decide) (by decide)) hP.2 dX0_debtor_111 (fun H locs hP hS => ?_)
              refine lv_aload_n hx hb dX0_debtor_112 rfl (lv_at hl 1 rfl) ?_
              refine lg_town C hO hP dX0_debtor_113 ?_
              refine lv_dup hx hb dX0_debtor_116 rfl ?_
              refine tgN_debtors (t := 0) C hO (by decide) hP dX0_debtor_117 ?_
              refine lv_iconst (v := 1) hx hb dX0_debtor_120 (by decide) ?_
              refine lv_iadd hx hb dX0_debtor_121 ?_
              refine tpN_debtors (t := 0) C hO (by decide) hP hS dX0_debtor_122 (fun H locs hP hS => ?_)
              refine lv_iload_n hx hb dX0_debtor_125 rfl (lv_at hl 0 rfl) ?_
              cases h
              refine W.widen (k := 1) (n := 3) (Nat.le_of_ble_eq_true rfl) (Nat.le_of_ble_eq_true rfl) ?_
              exact W.iret hx hb hr (fun t ht _ => ⟨rfl, hS.F ht, _, hsub, hO, by rw [ht]; exact hP⟩) hS.2.2 dX0_debtor_126
            · exact non_some (if_some_f h c85)
abbrev cX0_become : ByteArray := prog_1_method_25_code
def yX0_become : MethodName := ⟨RX0, "become", "(II)I"⟩
theorem dX0_become_0 : decode cX0_become 0 = .ok (.aload_n 0, 1) := by decide +kernel
theorem dX0_become_1 : decode cX0_become 1 = .ok (.iload_n 1, 1) := by decide +kernel
theorem dX0_become_2 : decode cX0_become 2 = .ok (.iload_n 2, 1) := by decide +kernel
theorem dX0_become_3 : decode cX0_become 3 = .ok (.invokestatic 139, 3) := by decide +kernel
theorem dX0_become_6 : decode cX0_become 6 = .ok (.invokevirtual 166, 3) := by decide +kernel
theorem dX0_become_9 : decode cX0_become 9 = .ok (.astore_n 3, 1) := by decide +kernel
theorem dX0_become_10 : decode cX0_become 10 = .ok (.aload_n 0, 1) := by decide +kernel
theorem dX0_become_11 : decode cX0_become 11 = .ok (.getfield 46, 3) := by decide +kernel
theorem dX0_become_14 : decode cX0_become 14 = .ok (.getfield 142, 3) := by decide +kernel
theorem dX0_become_17 : decode cX0_become 17 = .ok (.iload_n 1, 1) := by decide +kernel
theorem dX0_become_18 : decode cX0_become 18 = .ok (.iload_n 2, 1) := by decide +kernel
theorem dX0_become_19 : decode cX0_become 19 = .ok (.bipush 10, 2) := by decide +kernel
theorem dX0_become_21 : decode cX0_become 21 = .ok (.idiv, 1) := by decide +kernel
theorem dX0_become_22 : decode cX0_become 22 = .ok (.aload_n 0, 1) := by decide +kernel
theorem dX0_become_23 : decode cX0_become 23 = .ok (.getfield 59, 3) := by decide +kernel
theorem dX0_become_26 : decode cX0_become 26 = .ok (.iload_n 1, 1) := by decide +kernel
theorem dX0_become_27 : decode cX0_become 27 = .ok (.iload_n 2, 1) := by decide +kernel
theorem dX0_become_28 : decode cX0_become 28 = .ok (.bipush 10, 2) := by decide +kernel
theorem dX0_become_30 : decode cX0_become 30 = .ok (.irem, 1) := by decide +kernel
theorem dX0_become_31 : decode cX0_become 31 = .ok (.invokestatic 146, 3) := by decide +kernel
theorem dX0_become_34 : decode cX0_become 34 = .ok (.aastore, 1) := by decide +kernel
theorem dX0_become_35 : decode cX0_become 35 = .ok (.aload_n 3, 1) := by decide +kernel
theorem dX0_become_36 : decode cX0_become 36 = .ok (.invokevirtual 170, 3) := by decide +kernel
theorem dX0_become_39 : decode cX0_become 39 = .ok (.ireturn, 1) := by decide +kernel
theorem dX0_become_40 : decode cX0_become 40 = .ok (.astore_n 3, 1) := by decide +kernel
theorem dX0_become_41 : decode cX0_become 41 = .ok (.aload_n 0, 1) := by decide +kernel
theorem dX0_become_42 : decode cX0_become 42 = .ok (.aload_n 3, 1) := by decide +kernel
theorem dX0_become_43 : decode cX0_become 43 = .ok (.invokevirtual 123, 3) := by decide +kernel
theorem dX0_become_46 : decode cX0_become 46 = .ok (.ireturn, 1) := by decide +kernel
theorem w_L_become {l : Launch} {D : va_G} {cA : Nat → ClassId} {ks : List Nat} {ad : Nat → Nat} {A : Nat → Prop} (had : adP ad) (hO : klOk A ks ad) {st st' : CS} {nx : Nat} {x1 x2 r0 : Int32} (h : L_become (ad 62) nx st x1 x2 = some (r0, st')) : Met l yX0_become (wsW_ yX0_become cX0_become 4 (some .int) [(0, 39, 40, 8)]) (rmA 6 1 3) (nPre nx D cA ks ad A st [.ref (ad 60), .int x1, .int x2]) (aQ (some (.int r0)) D cA ks ad A st') 1 3 A := by
  refine cc_ofHA (own := RX0) (by decide) rfl (Nat.le_of_ble_eq_true rfl) (fun p e s m below meth c R args ls C hr hlk htab hP hS hl hcsA hnx => ?_)
  have hx := C.1
  have hb := C.2.1
  have hown := C.2.2.2.1
  have hNst := C.2.2.2.2.2.2.2.1
  have hcs : 0 ≤ R.cells ∧ 0 ≤ R.slots := ⟨Nat.zero_le _, Nat.zero_le _⟩
  have hsub : ∀ k ∈ ks, k ∈ ks := fun _ h => h
  have hl : lv_has ls 4 [(0, .ref (ad 60)), (1, .int x1), (2, .int x2)] := hl
  rw [L_become] at h
  refine lv_aload_n hx hb dX0_become_0 rfl (lv_at hl 0 rfl) ?_
  refine lv_iload_n hx hb dX0_become_1 rfl (lv_at hl 1 rfl) ?_
  refine lv_iload_n hx hb dX0_become_2 rfl (lv_at hl 2 rfl) ?_
  obtain ⟨v1, hv1, h⟩ := bd1_some h
  refine k_L_isKind hx hb C.2.2.1 hown C.2.2.2.2.1 C.2.2.2.2.2.1 q446 hv1 (Nat.le_of_ble_eq_true rfl) hl.1 (Nat.le_of_ble_eq_true rfl) hcs dX0_become_3 ?_
  obtain ⟨o4, st3, hv2, h⟩ := bd2_some h
  rcases o4 with _ | v2
  · rw [onx_none] at h
    refine k_L_debtorAtT C hO hP hS hv2 q555 (Nat.le_of_ble_eq_true rfl) hl.1 (Nat.le_of_ble_eq_true rfl) hcs dX0_become_6 (fun H locs hP hS => ?_)
    refine cc_catch (pre := []) (a1 := 0) (a2 := 39) (hp := 40) (post := []) C hO hP q129 htab rfl rfl ?_
    refine lv_astore_n (lv' := [(3, .ref (ad 61)), (0, .ref (ad 60)), (1, .int x1), (2, .int x2)]) hx hb dX0_become_40 rfl hl (by decide) rfl (fun ls hl => ?_)
    refine lv_aload_n hx hb dX0_become_41 rfl (lv_at hl 1 rfl) ?_
    refine lv_aload_n hx hb dX0_become_42 rfl (lv_at hl 0 rfl) ?_
    obtain ⟨v5, st6, hv5, h⟩ := bd2_some h
    refine k_L_finds C hO hP hS hv5 q410 (Nat.le_of_ble_eq_true rfl) hl.1 (Nat.le_of_ble_eq_true rfl) hcs dX0_become_43 (fun H locs hP hS => ?_)
    cases h
    refine W.widen (k := 1) (n := 3) (Nat.le_of_ble_eq_true rfl) (Nat.le_of_ble_eq_true rfl) ?_
    exact W.iret hx hb hr (fun t ht _ => ⟨rfl, hS.F ht, _, hsub, hO, by rw [ht]; exact hP⟩) hS.2.2 dX0_become_46
  · rw [onx_some] at h
    refine k_L_debtorAtR C hO hP hS hv2 q555 (Nat.le_of_ble_eq_true rfl) hl.1 (Nat.le_of_ble_eq_true rfl) hcs dX0_become_6 (fun H locs hP hS => ?_)
    have hlv2 := (w_live_L_debtorAt hP hv2)
    refine lv_astore_n (lv' := [(3, .ref v2), (0, .ref (ad 60)), (1, .int x1), (2, .int x2)]) hx hb dX0_become_9 rfl hl (by decide) rfl (fun ls hl => ?_)
    refine lv_aload_n hx hb dX0_become_10 rfl (lv_at hl 1 rfl) ?_
    refine lg_town C hO hP dX0_become_11 ?_
    refine tgN_debtor (t := 0) C hO (by decide) hP dX0_become_14 ?_
    refine lv_iload_n hx hb dX0_become_17 rfl (lv_at hl 2 rfl) ?_
    refine lv_iload_n hx hb dX0_become_18 rfl (lv_at hl 3 rfl) ?_
    refine lv_bipush (v := 10) hx hb dX0_become_19 (by decide) ?_
    refine lv_idiv hx hb dX0_become_21 (by decide) ?_
    refine lv_aload_n hx hb dX0_become_22 rfl (lv_at hl 1 rfl) ?_
    refine lg_trace C hO hP dX0_become_23 ?_
    refine lv_iload_n hx hb dX0_become_26 rfl (lv_at hl 2 rfl) ?_
    refine lv_iload_n hx hb dX0_become_27 rfl (lv_at hl 3 rfl) ?_
    refine lv_bipush (v := 10) hx hb dX0_become_28 (by decide) ?_
    refine lv_irem hx hb dX0_become_30 (by decide) ?_
    obtain ⟨st7, hst7, h⟩ := bd1_some h
    refine k_L_debtorOf C had hO hP hS hnx hst7 q449 q450 q85 q451 (Nat.le_of_ble_eq_true rfl) hl.1 (Nat.le_of_ble_eq_true rfl) hcsA dX0_become_31 (fun H locs hO hP hS => ?_)
    have hcs : 0 + 1 ≤ R.cells ∧ 0 + 3 ≤ R.slots := hcsA
    have hsub := fun k h => List.mem_append_left [1000 + nx] (hsub k h)
    have hlv2 := live_app (l := [1000 + nx]) hlv2
    by_cases c9 : isDeb st7.2.2.2 nx = true
    · have h := if_some_t h c9
      obtain ⟨b8, hb8, h⟩ := bd1_some h
      refine cc_astM (st2 := csQ st7 (20 * 0 + 17) b8) C hO hP hS 4 (hO.2.2.2 _ (tk_ 17 (by decide) (by decide))) (cg_t 17 (by decide) (by decide)) rfl hb8 (deb_any C hP (live_new had) c9) (cg_Qt 17 (by decide) (by decide)) (by rw [(wrq_some hb8).2]; exact refOk_set hP.2 (tk68 (by decide)) (live_new had)) dX0_become_34 (fun H locs hP hS => ?_)
      refine lv_aload_n hx hb dX0_become_35 rfl (lv_at hl 0 rfl) ?_
      obtain ⟨k10, tr11, dn12, dm13, hdk10, h⟩ := bd4_some h
      have hbk10 : dbAt (ks ++ [1000 + nx]) ad (csQ st7 (20 * 0 + 17) b8).2.2.2 v2 k10 tr11 dn12 dm13 := ⟨hlv2, dvOf_some hdk10⟩
      obtain ⟨v14, hv14, h⟩ := bd1_some h
      refine k_D_kind C hP hS.1 hbk10 hv14 q563 (Nat.le_of_ble_eq_true rfl) hl.1 (Nat.le_of_ble_eq_true rfl) hcs dX0_become_36 ?_
      cases h
      refine W.widen (k := 1) (n := 3) (Nat.le_of_ble_eq_true rfl) (Nat.le_of_ble_eq_true rfl) ?_
      exact W.iret hx hb hr (fun t ht _ => ⟨rfl, hS.F ht, _, hsub, hO, by rw [ht]; exact hP⟩) hS.2.2 dX0_become_39
    · exact non_some (if_some_f h c9)
end
