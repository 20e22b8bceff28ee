/-! sheet: walks -/
set_option maxRecDepth 100000
section
variable {p : Program} {l : Launch} {e : Env} {R : Room} {s : State} {m : MethodId} {args : Array Value} {below : List Frame} {meth : Method} {c : Code} {H : Heap} {locs : List Loc} {cells slots d : Nat} {Q : State → Prop} {cc : ByteArray} {pc nL : Nat} {ls : Array Slot} {rest : List Value} {D : va_G} {cA : Nat → ClassId} {ks : List Nat} {ad : Nat → Nat} {A : Nat → Prop} {st : CS} {H0 : Heap} {own : String} {index : Nat}
abbrev cX0_sheet : ByteArray := prog_1_method_60_code
def yX0_sheet : MethodName := ⟨RX0, "sheet", "(III)I"⟩
theorem dX0_sheet_0 : decode cX0_sheet 0 = .ok (.aload_n 0, 1) := by decide +kernel
theorem dX0_sheet_1 : decode cX0_sheet 1 = .ok (.iload_n 1, 1) := by decide +kernel
theorem dX0_sheet_2 : decode cX0_sheet 2 = .ok (.invokestatic 313, 3) := by decide +kernel
theorem dX0_sheet_5 : decode cX0_sheet 5 = .ok (.ifCond .eq 18, 3) := by decide +kernel
theorem dX0_sheet_8 : decode cX0_sheet 8 = .ok (.iload_n 2, 1) := by decide +kernel
theorem dX0_sheet_9 : decode cX0_sheet 9 = .ok (.ifCond .eq 10, 3) := by decide +kernel
theorem dX0_sheet_12 : decode cX0_sheet 12 = .ok (.iload_n 2, 1) := by decide +kernel
theorem dX0_sheet_13 : decode cX0_sheet 13 = .ok (.invokestatic 377, 3) := by decide +kernel
theorem dX0_sheet_16 : decode cX0_sheet 16 = .ok (.ifCond .eq 7, 3) := by decide +kernel
theorem dX0_sheet_19 : decode cX0_sheet 19 = .ok (.iconst 1, 1) := by decide +kernel
theorem dX0_sheet_20 : decode cX0_sheet 20 = .ok (.goto 4, 3) := by decide +kernel
theorem dX0_sheet_23 : decode cX0_sheet 23 = .ok (.iconst 0, 1) := by decide +kernel
theorem dX0_sheet_24 : decode cX0_sheet 24 = .ok (.iconst 1, 1) := by decide +kernel
theorem dX0_sheet_25 : decode cX0_sheet 25 = .ok (.invokevirtual 102, 3) := by decide +kernel
theorem dX0_sheet_28 : decode cX0_sheet 28 = .ok (.iload_n 2, 1) := by decide +kernel
theorem dX0_sheet_29 : decode cX0_sheet 29 = .ok (.ifCond .ne 15, 3) := by decide +kernel
theorem dX0_sheet_32 : decode cX0_sheet 32 = .ok (.aload_n 0, 1) := by decide +kernel
theorem dX0_sheet_33 : decode cX0_sheet 33 = .ok (.getfield 69, 3) := by decide +kernel
theorem dX0_sheet_36 : decode cX0_sheet 36 = .ok (.iload_n 1, 1) := by decide +kernel
theorem dX0_sheet_37 : decode cX0_sheet 37 = .ok (.aaload, 1) := by decide +kernel
theorem dX0_sheet_38 : decode cX0_sheet 38 = .ok (.aconst_null, 1) := by decide +kernel
theorem dX0_sheet_39 : decode cX0_sheet 39 = .ok (.putfield 98, 3) := by decide +kernel
theorem dX0_sheet_42 : decode cX0_sheet 42 = .ok (.iconst 1, 1) := by decide +kernel
theorem dX0_sheet_43 : decode cX0_sheet 43 = .ok (.ireturn, 1) := by decide +kernel
theorem dX0_sheet_44 : decode cX0_sheet 44 = .ok (.aload_n 0, 1) := by decide +kernel
theorem dX0_sheet_45 : decode cX0_sheet 45 = .ok (.iload_n 3, 1) := by decide +kernel
theorem dX0_sheet_46 : decode cX0_sheet 46 = .ok (.ifCond .lt 7, 3) := by decide +kernel
theorem dX0_sheet_49 : decode cX0_sheet 49 = .ok (.iconst 1, 1) := by decide +kernel
theorem dX0_sheet_50 : decode cX0_sheet 50 = .ok (.goto 4, 3) := by decide +kernel
theorem dX0_sheet_53 : decode cX0_sheet 53 = .ok (.iconst 0, 1) := by decide +kernel
theorem dX0_sheet_54 : decode cX0_sheet 54 = .ok (.iconst 3, 1) := by decide +kernel
theorem dX0_sheet_55 : decode cX0_sheet 55 = .ok (.invokevirtual 102, 3) := by decide +kernel
theorem dX0_sheet_58 : decode cX0_sheet 58 = .ok (.aload_n 0, 1) := by decide +kernel
theorem dX0_sheet_59 : decode cX0_sheet 59 = .ok (.iload_n 3, 1) := by decide +kernel
theorem dX0_sheet_60 : decode cX0_sheet 60 = .ok (.bipush 40, 2) := by decide +kernel
theorem dX0_sheet_62 : decode cX0_sheet 62 = .ok (.if_icmp .gt 7, 3) := by decide +kernel
theorem dX0_sheet_65 : decode cX0_sheet 65 = .ok (.iconst 1, 1) := by decide +kernel
theorem dX0_sheet_66 : decode cX0_sheet 66 = .ok (.goto 4, 3) := by decide +kernel
theorem dX0_sheet_69 : decode cX0_sheet 69 = .ok (.iconst 0, 1) := by decide +kernel
theorem dX0_sheet_70 : decode cX0_sheet 70 = .ok (.iconst 1, 1) := by decide +kernel
theorem dX0_sheet_71 : decode cX0_sheet 71 = .ok (.invokevirtual 102, 3) := by decide +kernel
theorem dX0_sheet_74 : decode cX0_sheet 74 = .ok (.aload_n 0, 1) := by decide +kernel
theorem dX0_sheet_75 : decode cX0_sheet 75 = .ok (.getfield 69, 3) := by decide +kernel
theorem dX0_sheet_78 : decode cX0_sheet 78 = .ok (.iload_n 1, 1) := by decide +kernel
theorem dX0_sheet_79 : decode cX0_sheet 79 = .ok (.aaload, 1) := by decide +kernel
theorem dX0_sheet_80 : decode cX0_sheet 80 = .ok (.iload_n 2, 1) := by decide +kernel
theorem dX0_sheet_81 : decode cX0_sheet 81 = .ok (.bipush 8, 2) := by decide +kernel
theorem dX0_sheet_83 : decode cX0_sheet 83 = .ok (.if_icmp .ne 14, 3) := by decide +kernel
theorem dX0_sheet_86 : decode cX0_sheet 86 = .ok (.new 380, 3) := by decide +kernel
theorem dX0_sheet_89 : decode cX0_sheet 89 = .ok (.dup, 1) := by decide +kernel
theorem dX0_sheet_90 : decode cX0_sheet 90 = .ok (.iload_n 3, 1) := by decide +kernel
theorem dX0_sheet_91 : decode cX0_sheet 91 = .ok (.invokespecial 382, 3) := by decide +kernel
theorem dX0_sheet_94 : decode cX0_sheet 94 = .ok (.goto 28, 3) := by decide +kernel
theorem dX0_sheet_97 : decode cX0_sheet 97 = .ok (.iload_n 2, 1) := by decide +kernel
theorem dX0_sheet_98 : decode cX0_sheet 98 = .ok (.bipush 16, 2) := by decide +kernel
theorem dX0_sheet_100 : decode cX0_sheet 100 = .ok (.if_icmp .ne 14, 3) := by decide +kernel
theorem dX0_sheet_103 : decode cX0_sheet 103 = .ok (.new 384, 3) := by decide +kernel
theorem dX0_sheet_106 : decode cX0_sheet 106 = .ok (.dup, 1) := by decide +kernel
theorem dX0_sheet_107 : decode cX0_sheet 107 = .ok (.iload_n 3, 1) := by decide +kernel
theorem dX0_sheet_108 : decode cX0_sheet 108 = .ok (.invokespecial 386, 3) := by decide +kernel
theorem dX0_sheet_111 : decode cX0_sheet 111 = .ok (.goto 11, 3) := by decide +kernel
theorem dX0_sheet_114 : decode cX0_sheet 114 = .ok (.new 387, 3) := by decide +kernel
theorem dX0_sheet_117 : decode cX0_sheet 117 = .ok (.dup, 1) := by decide +kernel
theorem dX0_sheet_118 : decode cX0_sheet 118 = .ok (.iload_n 3, 1) := by decide +kernel
theorem dX0_sheet_119 : decode cX0_sheet 119 = .ok (.invokespecial 389, 3) := by decide +kernel
theorem dX0_sheet_122 : decode cX0_sheet 122 = .ok (.putfield 98, 3) := by decide +kernel
theorem dX0_sheet_125 : decode cX0_sheet 125 = .ok (.iconst 1, 1) := by decide +kernel
theorem dX0_sheet_126 : decode cX0_sheet 126 = .ok (.ireturn, 1) := by decide +kernel
theorem dX0_sheet_127 : decode cX0_sheet 127 = .ok (.astore 4, 2) := by decide +kernel
theorem dX0_sheet_129 : decode cX0_sheet 129 = .ok (.aload_n 0, 1) := by decide +kernel
theorem dX0_sheet_130 : decode cX0_sheet 130 = .ok (.aload 4, 2) := by decide +kernel
theorem dX0_sheet_132 : decode cX0_sheet 132 = .ok (.invokevirtual 123, 3) := by decide +kernel
theorem dX0_sheet_135 : decode cX0_sheet 135 = .ok (.ireturn, 1) := by decide +kernel
theorem q1406 : (Jvm.Cond.methodLink "ChapterLoan" (377 : Nat) ({ cls := "ChapterLoan", name := "isWidth", desc := "(I)Z" } : Jvm.MethodName)) ∈ lw_all := lw_g (lw_at lw_m6 122 rfl) rfl
theorem q1409 : (Jvm.Cond.classLink "ChapterLoan" (380 : Nat) "ChapterLoan$Bytes") ∈ lw_all := lw_g (lw_at lw_m6 125 rfl) rfl
theorem q1410 : (Jvm.Cond.instantiable "ChapterLoan$Bytes" (1 : Nat)) ∈ lw_all := lw_g (lw_at lw_m6 126 rfl) rfl
theorem q1411 : (Jvm.Cond.methodLink "ChapterLoan" (382 : Nat) ({ cls := "ChapterLoan$Bytes", name := "<init>", desc := "(I)V" } : Jvm.MethodName)) ∈ lw_all := lw_g (lw_at lw_m6 127 rfl) rfl
theorem q1422 : (Jvm.Cond.classLink "ChapterLoan" (384 : Nat) "ChapterLoan$Shorts") ∈ lw_all := lw_g (lw_at lw_m6 138 rfl) rfl
theorem q1423 : (Jvm.Cond.instantiable "ChapterLoan$Shorts" (1 : Nat)) ∈ lw_all := lw_g (lw_at lw_m6 139 rfl) rfl
theorem q1424 : (Jvm.Cond.methodLink "ChapterLoan" (386 : Nat) ({ cls := "ChapterLoan$Shorts", name := "<init>", desc := "(I)V" } : Jvm.MethodName)) ∈ lw_all := lw_g (lw_at lw_m6 140 rfl) rfl
theorem q1433 : (Jvm.Cond.classLink "ChapterLoan" (387 : Nat) "ChapterLoan$Ints") ∈ lw_all := lw_g (lw_at lw_m6 149 rfl) rfl
theorem q1434 : (Jvm.Cond.instantiable "ChapterLoan$Ints" (1 : Nat)) ∈ lw_all := lw_g (lw_at lw_m6 150 rfl) rfl
theorem q1435 : (Jvm.Cond.methodLink "ChapterLoan" (389 : Nat) ({ cls := "ChapterLoan$Ints", name := "<init>", desc := "(I)V" } : Jvm.MethodName)) ∈ lw_all := lw_g (lw_at lw_m6 151 rfl) rfl
theorem w_L_sheet {l : Launch} {D : va_G} {cA : Nat → ClassId} {ks : List Nat} {ad : Nat → Nat} {A : Nat → Prop} (had : adP ad) (hO : klOk A ks ad) {st st' : CS} {nx : Nat} {x1 x2 x3 r0 : Int32} (h : L_sheet nx cA st x1 x2 x3 = some (r0, st')) : Met l yX0_sheet (wsW_ yX0_sheet cX0_sheet 5 (some .int) [(0, 43, 127, 8), (44, 126, 127, 8)]) (rmA 4 2 41) (nPre nx D cA ks ad A st [.ref (ad 60), .int x1, .int x2, .int x3]) (aQ (some (.int r0)) D cA ks ad A st') 2 41 A := by
  refine cc_ofHA (own := RX0) (by decide) rfl (Nat.le_of_ble_eq_true rfl) (fun p e s m below meth c R args ls C hr hlk htab hP hS hl hcsA hnx => ?_)
  have hx := C.1
  have hb := C.2.1
  have hown := C.2.2.2.1
  have hNst := C.2.2.2.2.2.2.2.1
  have hcs : 0 ≤ R.cells ∧ 0 ≤ R.slots := ⟨Nat.zero_le _, Nat.zero_le _⟩
  have hsub : ∀ k ∈ ks, k ∈ ks := fun _ h => h
  have hl : lv_has ls 5 [(0, .ref (ad 60)), (1, .int x1), (2, .int x2), (3, .int x3)] := hl
  rw [L_sheet] at h
  refine lv_aload_n hx hb dX0_sheet_0 rfl (lv_at hl 0 rfl) ?_
  refine lv_iload_n hx hb dX0_sheet_1 rfl (lv_at hl 1 rfl) ?_
  obtain ⟨v1, hv1, h⟩ := bd1_some h
  refine k_L_isSheet hx hb C.2.2.1 hown C.2.2.2.2.1 C.2.2.2.2.2.1 q1143 hv1 (Nat.le_of_ble_eq_true rfl) hl.1 (Nat.le_of_ble_eq_true rfl) hcs dX0_sheet_2 ?_
  refine lv_if_eq (tgt := 23) hx hb dX0_sheet_5 rfl (fun c2 => ?_) (fun c2 => ?_)
  · have h := if_some_t h c2
    refine lv_iconst (v := 0) hx hb dX0_sheet_23 (by decide) ?_
    refine lv_iconst (v := 1) hx hb dX0_sheet_24 (by decide) ?_
    obtain ⟨o5, st4, hv3, h⟩ := bd2_some h
    rcases o5 with _ | v3
    · rw [onx_none] at h
      refine k_L_needT C hO hP hS hv3 q402 (Nat.le_of_ble_eq_true rfl) hl.1 (Nat.le_of_ble_eq_true rfl) hcs dX0_sheet_25 (fun H locs hP hS => ?_)
      refine cc_catch (pre := []) (a1 := 0) (a2 := 43) (hp := 127) (post := [(44, 126, 127, 8)]) C hO hP q129 htab rfl rfl ?_
      refine lv_astore (lv' := [(4, .ref (ad 61)), (0, .ref (ad 60)), (1, .int x1), (2, .int x2), (3, .int x3)]) hx hb dX0_sheet_127 hl (by decide) rfl (fun ls hl => ?_)
      refine lv_aload_n hx hb dX0_sheet_129 rfl (lv_at hl 1 rfl) ?_
      refine lv_aload hx hb dX0_sheet_130 (lv_at hl 0 rfl) ?_
      obtain ⟨v6, st7, hv6, h⟩ := bd2_some h
      refine k_L_finds C hO hP hS hv6 q410 (Nat.le_of_ble_eq_true rfl) hl.1 (Nat.le_of_ble_eq_true rfl) hcs dX0_sheet_132 (fun H locs hP hS => ?_)
      cases h
      refine W.widen (k := 2) (n := 41) (Nat.le_of_ble_eq_true rfl) (Nat.le_of_ble_eq_true rfl) ?_
      exact W.iret hx hb hr (fun t ht _ => ⟨rfl, hS.F ht, _, hsub, hO, by rw [ht]; exact hP⟩) hS.2.2 dX0_sheet_135
    · rw [onx_some] at h
      refine k_L_needR C hO hP hS hv3 q402 (Nat.le_of_ble_eq_true rfl) hl.1 (Nat.le_of_ble_eq_true rfl) hcs dX0_sheet_25 (fun H locs hP hS => ?_)
      refine lv_iload_n hx hb dX0_sheet_28 rfl (lv_at hl 2 rfl) ?_
      refine lv_if_ne (tgt := 44) hx hb dX0_sheet_29 rfl (fun c8 => ?_) (fun c8 => ?_)
      · have h := if_some_f h c8
        refine lv_aload_n hx hb dX0_sheet_44 rfl (lv_at hl 0 rfl) ?_
        refine lv_iload_n hx hb dX0_sheet_45 rfl (lv_at hl 3 rfl) ?_
        refine lv_if_lt (tgt := 53) hx hb dX0_sheet_46 rfl (fun c9 => ?_) (fun c9 => ?_)
        · have h := if_some_t h c9
          refine lv_iconst (v := 0) hx hb dX0_sheet_53 (by decide) ?_
          refine lv_iconst (v := 3) hx hb dX0_sheet_54 (by decide) ?_
          obtain ⟨o12, st11, hv10, h⟩ := bd2_some h
          rcases o12 with _ | v10
          · rw [onx_none] at h
            refine k_L_needT C hO hP hS hv10 q402 (Nat.le_of_ble_eq_true rfl) hl.1 (Nat.le_of_ble_eq_true rfl) hcs dX0_sheet_55 (fun H locs hP hS => ?_)
            refine cc_catch (pre := [(0, 43, 127, 8)]) (a1 := 44) (a2 := 126) (hp := 127) (post := []) C hO hP q129 htab rfl rfl ?_
            refine lv_astore (lv' := [(4, .ref (ad 61)), (0, .ref (ad 60)), (1, .int x1), (2, .int x2), (3, .int x3)]) hx hb dX0_sheet_127 hl (by decide) rfl (fun ls hl => ?_)
            refine lv_aload_n hx hb dX0_sheet_129 rfl (lv_at hl 1 rfl) ?_
            refine lv_aload hx hb dX0_sheet_130 (lv_at hl 0 rfl) ?_
            obtain ⟨v13, st14, hv13, h⟩ := bd2_some h
            refine k_L_finds C hO hP hS hv13 q410 (Nat.le_of_ble_eq_true rfl) hl.1 (Nat.le_of_ble_eq_true rfl) hcs dX0_sheet_132 (fun H locs hP hS => ?_)
            cases h
            refine W.widen (k := 2) (n := 41) (Nat.le_of_ble_eq_true rfl) (Nat.le_of_ble_eq_true rfl) ?_
            exact W.iret hx hb hr (fun t ht _ => ⟨rfl, hS.F ht, _, hsub, hO, by rw [ht]; exact hP⟩) hS.2.2 dX0_sheet_135
          · rw [onx_some] at h
            refine k_L_needR C hO hP hS hv10 q402 (Nat.le_of_ble_eq_true rfl) hl.1 (Nat.le_of_ble_eq_true rfl) hcs dX0_sheet_55 (fun H locs hP hS => ?_)
            refine lv_aload_n hx hb dX0_sheet_58 rfl (lv_at hl 0 rfl) ?_
            refine lv_iload_n hx hb dX0_sheet_59 rfl (lv_at hl 3 rfl) ?_
            refine lv_bipush (v := 40) hx hb dX0_sheet_60 (by decide) ?_
            refine lv_icmp_gt (tgt := 69) hx hb dX0_sheet_62 rfl (fun c15 => ?_) (fun c15 => ?_)
            · have h := if_some_t h c15
              refine lv_iconst (v := 0) hx hb dX0_sheet_69 (by decide) ?_
              refine lv_iconst (v := 1) hx hb dX0_sheet_70 (by decide) ?_
              obtain ⟨o18, st17, hv16, h⟩ := bd2_some h
              rcases o18 with _ | v16
              · rw [onx_none] at h
                refine k_L_needT C hO hP hS hv16 q402 (Nat.le_of_ble_eq_true rfl) hl.1 (Nat.le_of_ble_eq_true rfl) hcs dX0_sheet_71 (fun H locs hP hS => ?_)
                refine cc_catch (pre := [(0, 43, 127, 8)]) (a1 := 44) (a2 := 126) (hp := 127) (post := []) C hO hP q129 htab rfl rfl ?_
                refine lv_astore (lv' := [(4, .ref (ad 61)), (0, .ref (ad 60)), (1, .int x1), (2, .int x2), (3, .int x3)]) hx hb dX0_sheet_127 hl (by decide) rfl (fun ls hl => ?_)
                refine lv_aload_n hx hb dX0_sheet_129 rfl (lv_at hl 1 rfl) ?_
                refine lv_aload hx hb dX0_sheet_130 (lv_at hl 0 rfl) ?_
                obtain ⟨v19, st20, hv19, h⟩ := bd2_some h
                refine k_L_finds C hO hP hS hv19 q410 (Nat.le_of_ble_eq_true rfl) hl.1 (Nat.le_of_ble_eq_true rfl) hcs dX0_sheet_132 (fun H locs hP hS => ?_)
                cases h
                refine W.widen (k := 2) (n := 41) (Nat.le_of_ble_eq_true rfl) (Nat.le_of_ble_eq_true rfl) ?_
                exact W.iret hx hb hr (fun t ht _ => ⟨rfl, hS.F ht, _, hsub, hO, by rw [ht]; exact hP⟩) hS.2.2 dX0_sheet_135
              · rw [onx_some] at h
                refine k_L_needR C hO hP hS hv16 q402 (Nat.le_of_ble_eq_true rfl) hl.1 (Nat.le_of_ble_eq_true rfl) hcs dX0_sheet_71 (fun H locs hP hS => ?_)
                refine lv_aload_n hx hb dX0_sheet_74 rfl (lv_at hl 0 rfl) ?_
                refine lg_sheets C hO hP dX0_sheet_75 ?_
                refine lv_iload_n hx hb dX0_sheet_78 rfl (lv_at hl 1 rfl) ?_
                obtain ⟨j21, hj21, h⟩ := bd1_some h
                refine sh_ald C hO hP hj21 dX0_sheet_79 ?_
                refine lv_iload_n hx hb dX0_sheet_80 rfl (lv_at hl 2 rfl) ?_
                refine lv_bipush (v := 8) hx hb dX0_sheet_81 (by decide) ?_
                refine lv_icmp_ne (tgt := 97) hx hb dX0_sheet_83 rfl (fun c22 => ?_) (fun c22 => ?_)
                · have h := if_some_f h c22
                  refine lv_iload_n hx hb dX0_sheet_97 rfl (lv_at hl 2 rfl) ?_
                  refine lv_bipush (v := 16) hx hb dX0_sheet_98 (by decide) ?_
                  refine lv_icmp_ne (tgt := 114) hx hb dX0_sheet_100 rfl (fun c23 => ?_) (fun c23 => ?_)
                  · have h := if_some_f h c23
                    obtain ⟨st24, hst24, h⟩ := bd1_some h
                    have est24 := Option.some.inj hst24
                    refine W.size0 (fun hH => ?_)
                    rw [hnx] at hH
                    refine cc_new (ci := 21) (Cn := RX24) (T := TX24) (N := 1) (ty0 := tyX24) (fs := [.null]) C had hO hP hS rfl in_X24 tyX24_ok q1433 q1434 q120 (fun j hj => by match j, hj with | 0, _ => rfl) (fun b h => by simp at h) (by omega) (by omega) dX0_sheet_114 (fun H hz1 hO hP hS => ?_)
                    rw [hH] at hO hP hz1 ⊢
                    have hsub := fun k h => List.mem_append_left [1000 + nx] (hsub k h)
                    have hest24 : (csP st17 (1000 + nx) (.inr (21, [.null]))).2.2.2 (1000 + nx) = .inr (21, [.null]) := csP_at
                    rw [est24] at hP hest24
                    refine lv_dup hx hb dX0_sheet_117 rfl ?_
                    refine lv_iload_n hx hb dX0_sheet_118 rfl (lv_at hl 3 rfl) ?_
                    obtain ⟨st25, hst25, h⟩ := bd1_some h
                    refine k_SI2 (nx := nx + 1) C had hO hP hS hz1 (live_new had) hest24 hst25 q1435 (Nat.le_of_ble_eq_true rfl) hl.1 (Nat.le_of_ble_eq_true rfl) ⟨by omega, by omega⟩ dX0_sheet_119 (fun H locs hO hP hS hz1 => ?_)
                    have hsub := fun k h => List.mem_append_left [1000 + (nx + 1)] (hsub k h)
                    refine sh_put (j := j21) (r := (some nx)) C hO hP hS (rdi_lt hj21) (fun a h => by cases h; exact live_app (live_new had)) dX0_sheet_122 (fun H locs hP hS => ?_)
                    refine lv_iconst (v := 1) hx hb dX0_sheet_125 (by decide) ?_
                    cases h
                    refine W.widen (k := 2) (n := 41) (Nat.le_of_ble_eq_true rfl) (Nat.le_of_ble_eq_true rfl) ?_
                    exact W.iret hx hb hr (fun t ht _ => ⟨rfl, hS.F ht, _, hsub, hO, by rw [ht]; exact hP⟩) hS.2.2 dX0_sheet_126
                  · have h := if_some_t h c23
                    obtain ⟨st26, hst26, h⟩ := bd1_some h
                    have est26 := Option.some.inj hst26
                    refine W.size0 (fun hH => ?_)
                    rw [hnx] at hH
                    refine cc_new (ci := 20) (Cn := RX23) (T := TX23) (N := 1) (ty0 := tyX23) (fs := [.null]) C had hO hP hS rfl in_X23 tyX23_ok q1422 q1423 q119 (fun j hj => by match j, hj with | 0, _ => rfl) (fun b h => by simp at h) (by omega) (by omega) dX0_sheet_103 (fun H hz1 hO hP hS => ?_)
                    rw [hH] at hO hP hz1 ⊢
                    have hsub := fun k h => List.mem_append_left [1000 + nx] (hsub k h)
                    have hest26 : (csP st17 (1000 + nx) (.inr (20, [.null]))).2.2.2 (1000 + nx) = .inr (20, [.null]) := csP_at
                    rw [est26] at hP hest26
                    refine lv_dup hx hb dX0_sheet_106 rfl ?_
                    refine lv_iload_n hx hb dX0_sheet_107 rfl (lv_at hl 3 rfl) ?_
                    obtain ⟨st27, hst27, h⟩ := bd1_some h
                    refine k_SI1 (nx := nx + 1) C had hO hP hS hz1 (live_new had) hest26 hst27 q1424 (Nat.le_of_ble_eq_true rfl) hl.1 (Nat.le_of_ble_eq_true rfl) ⟨by omega, by omega⟩ dX0_sheet_108 (fun H locs hO hP hS hz1 => ?_)
                    have hsub := fun k h => List.mem_append_left [1000 + (nx + 1)] (hsub k h)
                    refine lv_goto (tgt := 122) hx hb dX0_sheet_111 rfl ?_
                    refine sh_put (j := j21) (r := (some nx)) C hO hP hS (rdi_lt hj21) (fun a h => by cases h; exact live_app (live_new had)) dX0_sheet_122 (fun H locs hP hS => ?_)
                    refine lv_iconst (v := 1) hx hb dX0_sheet_125 (by decide) ?_
                    cases h
                    refine W.widen (k := 2) (n := 41) (Nat.le_of_ble_eq_true rfl) (Nat.le_of_ble_eq_true rfl) ?_
                    exact W.iret hx hb hr (fun t ht _ => ⟨rfl, hS.F ht, _, hsub, hO, by rw [ht]; exact hP⟩) hS.2.2 dX0_sheet_126
                · have h := if_some_t h c22
                  obtain ⟨st28, hst28, h⟩ := bd1_some h
                  have est28 := Option.some.inj hst28
                  refine W.size0 (fun hH => ?_)
                  rw [hnx] at hH
                  refine cc_new (ci := 19) (Cn := RX22) (T := TX22) (N := 1) (ty0 := tyX22) (fs := [.null]) C had hO hP hS rfl in_X22 tyX22_ok q1409 q1410 q118 (fun j hj => by match j, hj with | 0, _ => rfl) (fun b h => by simp at h) (by omega) (by omega) dX0_sheet_86 (fun H hz1 hO hP hS => ?_)
                  rw [hH] at hO hP hz1 ⊢
                  have hsub := fun k h => List.mem_append_left [1000 + nx] (hsub k h)
                  have hest28 : (csP st17 (1000 + nx) (.inr (19, [.null]))).2.2.2 (1000 + nx) = .inr (19, [.null]) := csP_at
                  rw [est28] at hP hest28
                  refine lv_dup hx hb dX0_sheet_89 rfl ?_
                  refine lv_iload_n hx hb dX0_sheet_90 rfl (lv_at hl 3 rfl) ?_
                  obtain ⟨st29, hst29, h⟩ := bd1_some h
                  refine k_SI0 (nx := nx + 1) C had hO hP hS hz1 (live_new had) hest28 hst29 q1411 (Nat.le_of_ble_eq_true rfl) hl.1 (Nat.le_of_ble_eq_true rfl) ⟨by omega, by omega⟩ dX0_sheet_91 (fun H locs hO hP hS hz1 => ?_)
                  have hsub := fun k h => List.mem_append_left [1000 + (nx + 1)] (hsub k h)
                  refine lv_goto (tgt := 122) hx hb dX0_sheet_94 rfl ?_
                  refine sh_put (j := j21) (r := (some nx)) C hO hP hS (rdi_lt hj21) (fun a h => by cases h; exact live_app (live_new had)) dX0_sheet_122 (fun H locs hP hS => ?_)
                  refine lv_iconst (v := 1) hx hb dX0_sheet_125 (by decide) ?_
                  cases h
                  refine W.widen (k := 2) (n := 41) (Nat.le_of_ble_eq_true rfl) (Nat.le_of_ble_eq_true rfl) ?_
                  exact W.iret hx hb hr (fun t ht _ => ⟨rfl, hS.F ht, _, hsub, hO, by rw [ht]; exact hP⟩) hS.2.2 dX0_sheet_126
            · have h := if_some_f h c15
              refine lv_iconst (v := 1) hx hb dX0_sheet_65 (by decide) ?_
              refine lv_goto (tgt := 70) hx hb dX0_sheet_66 rfl ?_
              refine lv_iconst (v := 1) hx hb dX0_sheet_70 (by decide) ?_
              obtain ⟨o32, st31, hv30, h⟩ := bd2_some h
              rcases o32 with _ | v30
              · rw [onx_none] at h
                refine k_L_needT C hO hP hS hv30 q402 (Nat.le_of_ble_eq_true rfl) hl.1 (Nat.le_of_ble_eq_true rfl) hcs dX0_sheet_71 (fun H locs hP hS => ?_)
                refine cc_catch (pre := [(0, 43, 127, 8)]) (a1 := 44) (a2 := 126) (hp := 127) (post := []) C hO hP q129 htab rfl rfl ?_
                refine lv_astore (lv' := [(4, .ref (ad 61)), (0, .ref (ad 60)), (1, .int x1), (2, .int x2), (3, .int x3)]) hx hb dX0_sheet_127 hl (by decide) rfl (fun ls hl => ?_)
                refine lv_aload_n hx hb dX0_sheet_129 rfl (lv_at hl 1 rfl) ?_
                refine lv_aload hx hb dX0_sheet_130 (lv_at hl 0 rfl) ?_
                obtain ⟨v33, st34, hv33, h⟩ := bd2_some h
                refine k_L_finds C hO hP hS hv33 q410 (Nat.le_of_ble_eq_true rfl) hl.1 (Nat.le_of_ble_eq_true rfl) hcs dX0_sheet_132 (fun H locs hP hS => ?_)
                cases h
                refine W.widen (k := 2) (n := 41) (Nat.le_of_ble_eq_true rfl) (Nat.le_of_ble_eq_true rfl) ?_
                exact W.iret hx hb hr (fun t ht _ => ⟨rfl, hS.F ht, _, hsub, hO, by rw [ht]; exact hP⟩) hS.2.2 dX0_sheet_135
              · rw [onx_some] at h
                refine k_L_needR C hO hP hS hv30 q402 (Nat.le_of_ble_eq_true rfl) hl.1 (Nat.le_of_ble_eq_true rfl) hcs dX0_sheet_71 (fun H locs hP hS => ?_)
                refine lv_aload_n hx hb dX0_sheet_74 rfl (lv_at hl 0 rfl) ?_
                refine lg_sheets C hO hP dX0_sheet_75 ?_
                refine lv_iload_n hx hb dX0_sheet_78 rfl (lv_at hl 1 rfl) ?_
                obtain ⟨j35, hj35, h⟩ := bd1_some h
                refine sh_ald C hO hP hj35 dX0_sheet_79 ?_
                refine lv_iload_n hx hb dX0_sheet_80 rfl (lv_at hl 2 rfl) ?_
                refine lv_bipush (v := 8) hx hb dX0_sheet_81 (by decide) ?_
                refine lv_icmp_ne (tgt := 97) hx hb dX0_sheet_83 rfl (fun c36 => ?_) (fun c36 => ?_)
                · have h := if_some_f h c36
                  refine lv_iload_n hx hb dX0_sheet_97 rfl (lv_at hl 2 rfl) ?_
                  refine lv_bipush (v := 16) hx hb dX0_sheet_98 (by decide) ?_
                  refine lv_icmp_ne (tgt := 114) hx hb dX0_sheet_100 rfl (fun c37 => ?_) (fun c37 => ?_)
                  · have h := if_some_f h c37
                    obtain ⟨st38, hst38, h⟩ := bd1_some h
                    have est38 := Option.some.inj hst38
                    refine W.size0 (fun hH => ?_)
                    rw [hnx] at hH
                    refine cc_new (ci := 21) (Cn := RX24) (T := TX24) (N := 1) (ty0 := tyX24) (fs := [.null]) C had hO hP hS rfl in_X24 tyX24_ok q1433 q1434 q120 (fun j hj => by match j, hj with | 0, _ => rfl) (fun b h => by simp at h) (by omega) (by omega) dX0_sheet_114 (fun H hz1 hO hP hS => ?_)
                    rw [hH] at hO hP hz1 ⊢
                    have hsub := fun k h => List.mem_append_left [1000 + nx] (hsub k h)
                    have hest38 : (csP st31 (1000 + nx) (.inr (21, [.null]))).2.2.2 (1000 + nx) = .inr (21, [.null]) := csP_at
                    rw [est38] at hP hest38
                    refine lv_dup hx hb dX0_sheet_117 rfl ?_
                    refine lv_iload_n hx hb dX0_sheet_118 rfl (lv_at hl 3 rfl) ?_
                    obtain ⟨st39, hst39, h⟩ := bd1_some h
                    refine k_SI2 (nx := nx + 1) C had hO hP hS hz1 (live_new had) hest38 hst39 q1435 (Nat.le_of_ble_eq_true rfl) hl.1 (Nat.le_of_ble_eq_true rfl) ⟨by omega, by omega⟩ dX0_sheet_119 (fun H locs hO hP hS hz1 => ?_)
                    have hsub := fun k h => List.mem_append_left [1000 + (nx + 1)] (hsub k h)
                    refine sh_put (j := j35) (r := (some nx)) C hO hP hS (rdi_lt hj35) (fun a h => by cases h; exact live_app (live_new had)) dX0_sheet_122 (fun H locs hP hS => ?_)
                    refine lv_iconst (v := 1) hx hb dX0_sheet_125 (by decide) ?_
                    cases h
                    refine W.widen (k := 2) (n := 41) (Nat.le_of_ble_eq_true rfl) (Nat.le_of_ble_eq_true rfl) ?_
                    exact W.iret hx hb hr (fun t ht _ => ⟨rfl, hS.F ht, _, hsub, hO, by rw [ht]; exact hP⟩) hS.2.2 dX0_sheet_126
                  · have h := if_some_t h c37
                    obtain ⟨st40, hst40, h⟩ := bd1_some h
                    have est40 := Option.some.inj hst40
                    refine W.size0 (fun hH => ?_)
                    rw [hnx] at hH
                    refine cc_new (ci := 20) (Cn := RX23) (T := TX23) (N := 1) (ty0 := tyX23) (fs := [.null]) C had hO hP hS rfl in_X23 tyX23_ok q1422 q1423 q119 (fun j hj => by match j, hj with | 0, _ => rfl) (fun b h => by simp at h) (by omega) (by omega) dX0_sheet_103 (fun H hz1 hO hP hS => ?_)
                    rw [hH] at hO hP hz1 ⊢
                    have hsub := fun k h => List.mem_append_left [1000 + nx] (hsub k h)
                    have hest40 : (csP st31 (1000 + nx) (.inr (20, [.null]))).2.2.2 (1000 + nx) = .inr (20, [.null]) := csP_at
                    rw [est40] at hP hest40
                    refine lv_dup hx hb dX0_sheet_106 rfl ?_
                    refine lv_iload_n hx hb dX0_sheet_107 rfl (lv_at hl 3 rfl) ?_
                    obtain ⟨st41, hst41, h⟩ := bd1_some h
                    refine k_SI1 (nx := nx + 1) C had hO hP hS hz1 (live_new had) hest40 hst41 q1424 (Nat.le_of_ble_eq_true rfl) hl.1 (Nat.le_of_ble_eq_true rfl) ⟨by omega, by omega⟩ dX0_sheet_108 (fun H locs hO hP hS hz1 => ?_)
                    have hsub := fun k h => List.mem_append_left [1000 + (nx + 1)] (hsub k h)
                    refine lv_goto (tgt := 122) hx hb dX0_sheet_111 rfl ?_
                    refine sh_put (j := j35) (r := (some nx)) C hO hP hS (rdi_lt hj35) (fun a h => by cases h; exact live_app (live_new had)) dX0_sheet_122 (fun H locs hP hS => ?_)
                    refine lv_iconst (v := 1) hx hb dX0_sheet_125 (by decide) ?_
                    cases h
                    refine W.widen (k := 2) (n := 41) (Nat.le_of_ble_eq_true rfl) (Nat.le_of_ble_eq_true rfl) ?_
                    exact W.iret hx hb hr (fun t ht _ => ⟨rfl, hS.F ht, _, hsub, hO, by rw [ht]; exact hP⟩) hS.2.2 dX0_sheet_126
                · have h := if_some_t h c36
                  obtain ⟨st42, hst42, h⟩ := bd1_some h
                  have est42 := Option.some.inj hst42
                  refine W.size0 (fun hH => ?_)
                  rw [hnx] at hH
                  refine cc_new (ci := 19) (Cn := RX22) (T := TX22) (N := 1) (ty0 := tyX22) (fs := [.null]) C had hO hP hS rfl in_X22 tyX22_ok q1409 q1410 q118 (fun j hj => by match j, hj with | 0, _ => rfl) (fun b h => by simp at h) (by omega) (by omega) dX0_sheet_86 (fun H hz1 hO hP hS => ?_)
                  rw [hH] at hO hP hz1 ⊢
                  have hsub := fun k h => List.mem_append_left [1000 + nx] (hsub k h)
                  have hest42 : (csP st31 (1000 + nx) (.inr (19, [.null]))).2.2.2 (1000 + nx) = .inr (19, [.null]) := csP_at
                  rw [est42] at hP hest42
                  refine lv_dup hx hb dX0_sheet_89 rfl ?_
                  refine lv_iload_n hx hb dX0_sheet_90 rfl (lv_at hl 3 rfl) ?_
                  obtain ⟨st43, hst43, h⟩ := bd1_some h
                  refine k_SI0 (nx := nx + 1) C had hO hP hS hz1 (live_new had) hest42 hst43 q1411 (Nat.le_of_ble_eq_true rfl) hl.1 (Nat.le_of_ble_eq_true rfl) ⟨by omega, by omega⟩ dX0_sheet_91 (fun H locs hO hP hS hz1 => ?_)
                  have hsub := fun k h => List.mem_append_left [1000 + (nx + 1)] (hsub k h)
                  refine lv_goto (tgt := 122) hx hb dX0_sheet_94 rfl ?_
                  refine sh_put (j := j35) (r := (some nx)) C hO hP hS (rdi_lt hj35) (fun a h => by cases h; exact live_app (live_new had)) dX0_sheet_122 (fun H locs hP hS => ?_)
                  refine lv_iconst (v := 1) hx hb dX0_sheet_125 (by decide) ?_
                  cases h
                  refine W.widen (k := 2) (n := 41) (Nat.le_of_ble_eq_true rfl) (Nat.le_of_ble_eq_true rfl) ?_
                  exact W.iret hx hb hr (fun t ht _ => ⟨rfl, hS.F ht, _, hsub, hO, by rw [ht]; exact hP⟩) hS.2.2 dX0_sheet_126
        · have h := if_some_f h c9
          refine lv_iconst (v := 1) hx hb dX0_sheet_49 (by decide) ?_
          refine lv_goto (tgt := 54) hx hb dX0_sheet_50 rfl ?_
          refine lv_iconst (v := 3) hx hb dX0_sheet_54 (by decide) ?_
          obtain ⟨o46, st45, hv44, h⟩ := bd2_some h
          rcases o46 with _ | v44
          · rw [onx_none] at h
            refine k_L_needT C hO hP hS hv44 q402 (Nat.le_of_ble_eq_true rfl) hl.1 (Nat.le_of_ble_eq_true rfl) hcs dX0_sheet_55 (fun H locs hP hS => ?_)
            refine cc_catch (pre := [(0, 43, 127, 8)]) (a1 := 44) (a2 := 126) (hp := 127) (post := []) C hO hP q129 htab rfl rfl ?_
            refine lv_astore (lv' := [(4, .ref (ad 61)), (0, .ref (ad 60)), (1, .int x1), (2, .int x2), (3, .int x3)]) hx hb dX0_sheet_127 hl (by decide) rfl (fun ls hl => ?_)
            refine lv_aload_n hx hb dX0_sheet_129 rfl (lv_at hl 1 rfl) ?_
            refine lv_aload hx hb dX0_sheet_130 (lv_at hl 0 rfl) ?_
            obtain ⟨v47, st48, hv47, h⟩ := bd2_some h
            refine k_L_finds C hO hP hS hv47 q410 (Nat.le_of_ble_eq_true rfl) hl.1 (Nat.le_of_ble_eq_true rfl) hcs dX0_sheet_132 (fun H locs hP hS => ?_)
            cases h
            refine W.widen (k := 2) (n := 41) (Nat.le_of_ble_eq_true rfl) (Nat.le_of_ble_eq_true rfl) ?_
            exact W.iret hx hb hr (fun t ht _ => ⟨rfl, hS.F ht, _, hsub, hO, by rw [ht]; exact hP⟩) hS.2.2 dX0_sheet_135
          · rw [onx_some] at h
            refine k_L_needR C hO hP hS hv44 q402 (Nat.le_of_ble_eq_true rfl) hl.1 (Nat.le_of_ble_eq_true rfl) hcs dX0_sheet_55 (fun H locs hP hS => ?_)
            refine lv_aload_n hx hb dX0_sheet_58 rfl (lv_at hl 0 rfl) ?_
            refine lv_iload_n hx hb dX0_sheet_59 rfl (lv_at hl 3 rfl) ?_
            refine lv_bipush (v := 40) hx hb dX0_sheet_60 (by decide) ?_
            refine lv_icmp_gt (tgt := 69) hx hb dX0_sheet_62 rfl (fun c49 => ?_) (fun c49 => ?_)
            · have h := if_some_t h c49
              refine lv_iconst (v := 0) hx hb dX0_sheet_69 (by decide) ?_
              refine lv_iconst (v := 1) hx hb dX0_sheet_70 (by decide) ?_
              obtain ⟨o52, st51, hv50, h⟩ := bd2_some h
              rcases o52 with _ | v50
              · rw [onx_none] at h
                refine k_L_needT C hO hP hS hv50 q402 (Nat.le_of_ble_eq_true rfl) hl.1 (Nat.le_of_ble_eq_true rfl) hcs dX0_sheet_71 (fun H locs hP hS => ?_)
                refine cc_catch (pre := [(0, 43, 127, 8)]) (a1 := 44) (a2 := 126) (hp := 127) (post := []) C hO hP q129 htab rfl rfl ?_
                refine lv_astore (lv' := [(4, .ref (ad 61)), (0, .ref (ad 60)), (1, .int x1), (2, .int x2), (3, .int x3)]) hx hb dX0_sheet_127 hl (by decide) rfl (fun ls hl => ?_)
                refine lv_aload_n hx hb dX0_sheet_129 rfl (lv_at hl 1 rfl) ?_
                refine lv_aload hx hb dX0_sheet_130 (lv_at hl 0 rfl) ?_
                obtain ⟨v53, st54, hv53, h⟩ := bd2_some h
                refine k_L_finds C hO hP hS hv53 q410 (Nat.le_of_ble_eq_true rfl) hl.1 (Nat.le_of_ble_eq_true rfl) hcs dX0_sheet_132 (fun H locs hP hS => ?_)
                cases h
                refine W.widen (k := 2) (n := 41) (Nat.le_of_ble_eq_true rfl) (Nat.le_of_ble_eq_true rfl) ?_
                exact W.iret hx hb hr (fun t ht _ => ⟨rfl, hS.F ht, _, hsub, hO, by rw [ht]; exact hP⟩) hS.2.2 dX0_sheet_135
              · rw [onx_some] at h
                refine k_L_needR C hO hP hS hv50 q402 (Nat.le_of_ble_eq_true rfl) hl.1 (Nat.le_of_ble_eq_true rfl) hcs dX0_sheet_71 (fun H locs hP hS => ?_)
                refine lv_aload_n hx hb dX0_sheet_74 rfl (lv_at hl 0 rfl) ?_
                refine lg_sheets C hO hP dX0_sheet_75 ?_
                refine lv_iload_n hx hb dX0_sheet_78 rfl (lv_at hl 1 rfl) ?_
                obtain ⟨j55, hj55, h⟩ := bd1_some h
                refine sh_ald C hO hP hj55 dX0_sheet_79 ?_
                refine lv_iload_n hx hb dX0_sheet_80 rfl (lv_at hl 2 rfl) ?_
                refine lv_bipush (v := 8) hx hb dX0_sheet_81 (by decide) ?_
                refine lv_icmp_ne (tgt := 97) hx hb dX0_sheet_83 rfl (fun c56 => ?_) (fun c56 => ?_)
                · have h := if_some_f h c56
                  refine lv_iload_n hx hb dX0_sheet_97 rfl (lv_at hl 2 rfl) ?_
                  refine lv_bipush (v := 16) hx hb dX0_sheet_98 (by decide) ?_
                  refine lv_icmp_ne (tgt := 114) hx hb dX0_sheet_100 rfl (fun c57 => ?_) (fun c57 => ?_)
                  · have h := if_some_f h c57
                    obtain ⟨st58, hst58, h⟩ := bd1_some h
                    have est58 := Option.some.inj hst58
                    refine W.size0 (fun hH => ?_)
                    rw [hnx] at hH
                    refine cc_new (ci := 21) (Cn := RX24) (T := TX24) (N := 1) (ty0 := tyX24) (fs := [.null]) C had hO hP hS rfl in_X24 tyX24_ok q1433 q1434 q120 (fun j hj => by match j, hj with | 0, _ => rfl) (fun b h => by simp at h) (by omega) (by omega) dX0_sheet_114 (fun H hz1 hO hP hS => ?_)
                    rw [hH] at hO hP hz1 ⊢
                    have hsub := fun k h => List.mem_append_left [1000 + nx] (hsub k h)
                    have hest58 : (csP st51 (1000 + nx) (.inr (21, [.null]))).2.2.2 (1000 + nx) = .inr (21, [.null]) := csP_at
                    rw [est58] at hP hest58
                    refine lv_dup hx hb dX0_sheet_117 rfl ?_
                    refine lv_iload_n hx hb dX0_sheet_118 rfl (lv_at hl 3 rfl) ?_
                    obtain ⟨st59, hst59, h⟩ := bd1_some h
                    refine k_SI2 (nx := nx + 1) C had hO hP hS hz1 (live_new had) hest58 hst59 q1435 (Nat.le_of_ble_eq_true rfl) hl.1 (Nat.le_of_ble_eq_true rfl) ⟨by omega, by omega⟩ dX0_sheet_119 (fun H locs hO hP hS hz1 => ?_)
                    have hsub := fun k h => List.mem_append_left [1000 + (nx + 1)] (hsub k h)
                    refine sh_put (j := j55) (r := (some nx)) C hO hP hS (rdi_lt hj55) (fun a h => by cases h; exact live_app (live_new had)) dX0_sheet_122 (fun H locs hP hS => ?_)
                    refine lv_iconst (v := 1) hx hb dX0_sheet_125 (by decide) ?_
                    cases h
                    refine W.widen (k := 2) (n := 41) (Nat.le_of_ble_eq_true rfl) (Nat.le_of_ble_eq_true rfl) ?_
                    exact W.iret hx hb hr (fun t ht _ => ⟨rfl, hS.F ht, _, hsub, hO, by rw [ht]; exact hP⟩) hS.2.2 dX0_sheet_126
                  · have h := if_some_t h c57
                    obtain ⟨st60, hst60, h⟩ := bd1_some h
                    have est60 := Option.some.inj hst60
                    refine W.size0 (fun hH => ?_)
                    rw [hnx] at hH
                    refine cc_new (ci := 20) (Cn := RX23) (T := TX23) (N := 1) (ty0 := tyX23) (fs := [.null]) C had hO hP hS rfl in_X23 tyX23_ok q1422 q1423 q119 (fun j hj => by match j, hj with | 0, _ => rfl) (fun b h => by simp at h) (by omega) (by omega) dX0_sheet_103 (fun H hz1 hO hP hS => ?_)
                    rw [hH] at hO hP hz1 ⊢
                    have hsub := fun k h => List.mem_append_left [1000 + nx] (hsub k h)
                    have hest60 : (csP st51 (1000 + nx) (.inr (20, [.null]))).2.2.2 (1000 + nx) = .inr (20, [.null]) := csP_at
                    rw [est60] at hP hest60
                    refine lv_dup hx hb dX0_sheet_106 rfl ?_
                    refine lv_iload_n hx hb dX0_sheet_107 rfl (lv_at hl 3 rfl) ?_
                    obtain ⟨st61, hst61, h⟩ := bd1_some h
                    refine k_SI1 (nx := nx + 1) C had hO hP hS hz1 (live_new had) hest60 hst61 q1424 (Nat.le_of_ble_eq_true rfl) hl.1 (Nat.le_of_ble_eq_true rfl) ⟨by omega, by omega⟩ dX0_sheet_108 (fun H locs hO hP hS hz1 => ?_)
                    have hsub := fun k h => List.mem_append_left [1000 + (nx + 1)] (hsub k h)
                    refine lv_goto (tgt := 122) hx hb dX0_sheet_111 rfl ?_
                    refine sh_put (j := j55) (r := (some nx)) C hO hP hS (rdi_lt hj55) (fun a h => by cases h; exact live_app (live_new had)) dX0_sheet_122 (fun H locs hP hS => ?_)
                    refine lv_iconst (v := 1) hx hb dX0_sheet_125 (by decide) ?_
                    cases h
                    refine W.widen (k := 2) (n := 41) (Nat.le_of_ble_eq_true rfl) (Nat.le_of_ble_eq_true rfl) ?_
                    exact W.iret hx hb hr (fun t ht _ => ⟨rfl, hS.F ht, _, hsub, hO, by rw [ht]; exact hP⟩) hS.2.2 dX0_sheet_126
                · have h := if_some_t h c56
                  obtain ⟨st62, hst62, h⟩ := bd1_some h
                  have est62 := Option.some.inj hst62
                  refine W.size0 (fun hH => ?_)
                  rw [hnx] at hH
                  refine cc_new (ci := 19) (Cn := RX22) (T := TX22) (N := 1) (ty0 := tyX22) (fs := [.null]) C had hO hP hS rfl in_X22 tyX22_ok q1409 q1410 q118 (fun j hj => by match j, hj with | 0, _ => rfl) (fun b h => by simp at h) (by omega) (by omega) dX0_sheet_86 (fun H hz1 hO hP hS => ?_)
                  rw [hH] at hO hP hz1 ⊢
                  have hsub := fun k h => List.mem_append_left [1000 + nx] (hsub k h)
                  have hest62 : (csP st51 (1000 + nx) (.inr (19, [.null]))).2.2.2 (1000 + nx) = .inr (19, [.null]) := csP_at
                  rw [est62] at hP hest62
                  refine lv_dup hx hb dX0_sheet_89 rfl ?_
                  refine lv_iload_n hx hb dX0_sheet_90 rfl (lv_at hl 3 rfl) ?_
                  obtain ⟨st63, hst63, h⟩ := bd1_some h
                  refine k_SI0 (nx := nx + 1) C had hO hP hS hz1 (live_new had) hest62 hst63 q1411 (Nat.le_of_ble_eq_true rfl) hl.1 (Nat.le_of_ble_eq_true rfl) ⟨by omega, by omega⟩ dX0_sheet_91 (fun H locs hO hP hS hz1 => ?_)
                  have hsub := fun k h => List.mem_append_left [1000 + (nx + 1)] (hsub k h)
                  refine lv_goto (tgt := 122) hx hb dX0_sheet_94 rfl ?_
                  refine sh_put (j := j55) (r := (some nx)) C hO hP hS (rdi_lt hj55) (fun a h => by cases h; exact live_app (live_new had)) dX0_sheet_122 (fun H locs hP hS => ?_)
                  refine lv_iconst (v := 1) hx hb dX0_sheet_125 (by decide) ?_
                  cases h
                  refine W.widen (k := 2) (n := 41) (Nat.le_of_ble_eq_true rfl) (Nat.le_of_ble_eq_true rfl) ?_
                  exact W.iret hx hb hr (fun t ht _ => ⟨rfl, hS.F ht, _, hsub, hO, by rw [ht]; exact hP⟩) hS.2.2 dX0_sheet_126
            · have h := if_some_f h c49
              refine lv_iconst (v := 1) hx hb dX0_sheet_65 (by decide) ?_
              refine lv_goto (tgt := 70) hx hb dX0_sheet_66 rfl ?_
              refine lv_iconst (v := 1) hx hb dX0_sheet_70 (by decide) ?_
              obtain ⟨o66, st65, hv64, h⟩ := bd2_some h
              rcases o66 with _ | v64
              · rw [onx_none] at h
                refine k_L_needT C hO hP hS hv64 q402 (Nat.le_of_ble_eq_true rfl) hl.1 (Nat.le_of_ble_eq_true rfl) hcs dX0_sheet_71 (fun H locs hP hS => ?_)
                refine cc_catch (pre := [(0, 43, 127, 8)]) (a1 := 44) (a2 := 126) (hp := 127) (post := []) C hO hP q129 htab rfl rfl ?_
                refine lv_astore (lv' := [(4, .ref (ad 61)), (0, .ref (ad 60)), (1, .int x1), (2, .int x2), (3, .int x3)]) hx hb dX0_sheet_127 hl (by decide) rfl (fun ls hl => ?_)
                refine lv_aload_n hx hb dX0_sheet_129 rfl (lv_at hl 1 rfl) ?_
                refine lv_aload hx hb dX0_sheet_130 (lv_at hl 0 rfl) ?_
                obtain ⟨v67, st68, hv67, h⟩ := bd2_some h
                refine k_L_finds C hO hP hS hv67 q410 (Nat.le_of_ble_eq_true rfl) hl.1 (Nat.le_of_ble_eq_true rfl) hcs dX0_sheet_132 (fun H locs hP hS => ?_)
                cases h
                refine W.widen (k := 2) (n := 41) (Nat.le_of_ble_eq_true rfl) (Nat.le_of_ble_eq_true rfl) ?_
                exact W.iret hx hb hr (fun t ht _ => ⟨rfl, hS.F ht, _, hsub, hO, by rw [ht]; exact hP⟩) hS.2.2 dX0_sheet_135
              · rw [onx_some] at h
                refine k_L_needR C hO hP hS hv64 q402 (Nat.le_of_ble_eq_true rfl) hl.1 (Nat.le_of_ble_eq_true rfl) hcs dX0_sheet_71 (fun H locs hP hS => ?_)
                refine lv_aload_n hx hb dX0_sheet_74 rfl (lv_at hl 0 rfl) ?_
                refine lg_sheets C hO hP dX0_sheet_75 ?_
                refine lv_iload_n hx hb dX0_sheet_78 rfl (lv_at hl 1 rfl) ?_
                obtain ⟨j69, hj69, h⟩ := bd1_some h
                refine sh_ald C hO hP hj69 dX0_sheet_79 ?_
                refine lv_iload_n hx hb dX0_sheet_80 rfl (lv_at hl 2 rfl) ?_
                refine lv_bipush (v := 8) hx hb dX0_sheet_81 (by decide) ?_
                refine lv_icmp_ne (tgt := 97) hx hb dX0_sheet_83 rfl (fun c70 => ?_) (fun c70 => ?_)
                · have h := if_some_f h c70
                  refine lv_iload_n hx hb dX0_sheet_97 rfl (lv_at hl 2 rfl) ?_
                  refine lv_bipush (v := 16) hx hb dX0_sheet_98 (by decide) ?_
                  refine lv_icmp_ne (tgt := 114) hx hb dX0_sheet_100 rfl (fun c71 => ?_) (fun c71 => ?_)
                  · have h := if_some_f h c71
                    obtain ⟨st72, hst72, h⟩ := bd1_some h
                    have est72 := Option.some.inj hst72
                    refine W.size0 (fun hH => ?_)
                    rw [hnx] at hH
                    refine cc_new (ci := 21) (Cn := RX24) (T := TX24) (N := 1) (ty0 := tyX24) (fs := [.null]) C had hO hP hS rfl in_X24 tyX24_ok q1433 q1434 q120 (fun j hj => by match j, hj with | 0, _ => rfl) (fun b h => by simp at h) (by omega) (by omega) dX0_sheet_114 (fun H hz1 hO hP hS => ?_)
                    rw [hH] at hO hP hz1 ⊢
                    have hsub := fun k h => List.mem_append_left [1000 + nx] (hsub k h)
                    have hest72 : (csP st65 (1000 + nx) (.inr (21, [.null]))).2.2.2 (1000 + nx) = .inr (21, [.null]) := csP_at
                    rw [est72] at hP hest72
                    refine lv_dup hx hb dX0_sheet_117 rfl ?_
                    refine lv_iload_n hx hb dX0_sheet_118 rfl (lv_at hl 3 rfl) ?_
                    obtain ⟨st73, hst73, h⟩ := bd1_some h
                    refine k_SI2 (nx := nx + 1) C had hO hP hS hz1 (live_new had) hest72 hst73 q1435 (Nat.le_of_ble_eq_true rfl) hl.1 (Nat.le_of_ble_eq_true rfl) ⟨by omega, by omega⟩ dX0_sheet_119 (fun H locs hO hP hS hz1 => ?_)
                    have hsub := fun k h => List.mem_append_left [1000 + (nx + 1)] (hsub k h)
                    refine sh_put (j := j69) (r := (some nx)) C hO hP hS (rdi_lt hj69) (fun a h => by cases h; exact live_app (live_new had)) dX0_sheet_122 (fun H locs hP hS => ?_)
                    refine lv_iconst (v := 1) hx hb dX0_sheet_125 (by decide) ?_
                    cases h
                    refine W.widen (k := 2) (n := 41) (Nat.le_of_ble_eq_true rfl) (Nat.le_of_ble_eq_true rfl) ?_
                    exact W.iret hx hb hr (fun t ht _ => ⟨rfl, hS.F ht, _, hsub, hO, by rw [ht]; exact hP⟩) hS.2.2 dX0_sheet_126
                  · have h := if_some_t h c71
                    obtain ⟨st74, hst74, h⟩ := bd1_some h
                    have est74 := Option.some.inj hst74
                    refine W.size0 (fun hH => ?_)
                    rw [hnx] at hH
                    refine cc_new (ci := 20) (Cn := RX23) (T := TX23) (N := 1) (ty0 := tyX23) (fs := [.null]) C had hO hP hS rfl in_X23 tyX23_ok q1422 q1423 q119 (fun j hj => by match j, hj with | 0, _ => rfl) (fun b h => by simp at h) (by omega) (by omega) dX0_sheet_103 (fun H hz1 hO hP hS => ?_)
                    rw [hH] at hO hP hz1 ⊢
                    have hsub := fun k h => List.mem_append_left [1000 + nx] (hsub k h)
                    have hest74 : (csP st65 (1000 + nx) (.inr (20, [.null]))).2.2.2 (1000 + nx) = .inr (20, [.null]) := csP_at
                    rw [est74] at hP hest74
                    refine lv_dup hx hb dX0_sheet_106 rfl ?_
                    refine lv_iload_n hx hb dX0_sheet_107 rfl (lv_at hl 3 rfl) ?_
                    obtain ⟨st75, hst75, h⟩ := bd1_some h
                    refine k_SI1 (nx := nx + 1) C had hO hP hS hz1 (live_new had) hest74 hst75 q1424 (Nat.le_of_ble_eq_true rfl) hl.1 (Nat.le_of_ble_eq_true rfl) ⟨by omega, by omega⟩ dX0_sheet_108 (fun H locs hO hP hS hz1 => ?_)
                    have hsub := fun k h => List.mem_append_left [1000 + (nx + 1)] (hsub k h)
                    refine lv_goto (tgt := 122) hx hb dX0_sheet_111 rfl ?_
                    refine sh_put (j := j69) (r := (some nx)) C hO hP hS (rdi_lt hj69) (fun a h => by cases h; exact live_app (live_new had)) dX0_sheet_122 (fun H locs hP hS => ?_)
                    refine lv_iconst (v := 1) hx hb dX0_sheet_125 (by decide) ?_
                    cases h
                    refine W.widen (k := 2) (n := 41) (Nat.le_of_ble_eq_true rfl) (Nat.le_of_ble_eq_true rfl) ?_
                    exact W.iret hx hb hr (fun t ht _ => ⟨rfl, hS.F ht, _, hsub, hO, by rw [ht]; exact hP⟩) hS.2.2 dX0_sheet_126
                · have h := if_some_t h c70
                  obtain ⟨st76, hst76, h⟩ := bd1_some h
                  have est76 := Option.some.inj hst76
                  refine W.size0 (fun hH => ?_)
                  rw [hnx] at hH
                  refine cc_new (ci := 19) (Cn := RX22) (T := TX22) (N := 1) (ty0 := tyX22) (fs := [.null]) C had hO hP hS rfl in_X22 tyX22_ok q1409 q1410 q118 (fun j hj => by match j, hj with | 0, _ => rfl) (fun b h => by simp at h) (by omega) (by omega) dX0_sheet_86 (fun H hz1 hO hP hS => ?_)
                  rw [hH] at hO hP hz1 ⊢
                  have hsub := fun k h => List.mem_append_left [1000 + nx] (hsub k h)
                  have hest76 : (csP st65 (1000 + nx) (.inr (19, [.null]))).2.2.2 (1000 + nx) = .inr (19, [.null]) := csP_at
                  rw [est76] at hP hest76
                  refine lv_dup hx hb dX0_sheet_89 rfl ?_
                  refine lv_iload_n hx hb dX0_sheet_90 rfl (lv_at hl 3 rfl) ?_
                  obtain ⟨st77, hst77, h⟩ := bd1_some h
                  refine k_SI0 (nx := nx + 1) C had hO hP hS hz1 (live_new had) hest76 hst77 q1411 (Nat.le_of_ble_eq_true rfl) hl.1 (Nat.le_of_ble_eq_true rfl) ⟨by omega, by omega⟩ dX0_sheet_91 (fun H locs hO hP hS hz1 => ?_)
                  have hsub := fun k h => List.mem_append_left [1000 + (nx + 1)] (hsub k h)
                  refine lv_goto (tgt := 122) hx hb dX0_sheet_94 rfl ?_
                  refine sh_put (j := j69) (r := (some nx)) C hO hP hS (rdi_lt hj69) (fun a h => by cases h; exact live_app (live_new had)) dX0_sheet_122 (fun H locs hP hS => ?_)
                  refine lv_iconst (v := 1) hx hb dX0_sheet_125 (by decide) ?_
                  cases h
                  refine W.widen (k := 2) (n := 41) (Nat.le_of_ble_eq_true rfl) (Nat.le_of_ble_eq_true rfl) ?_
                  exact W.iret hx hb hr (fun t ht _ => ⟨rfl, hS.F ht, _, hsub, hO, by rw [ht]; exact hP⟩) hS.2.2 dX0_sheet_126
      · have h := if_some_t h c8
        refine lv_aload_n hx hb dX0_sheet_32 rfl (lv_at hl 0 rfl) ?_
        refine lg_sheets C hO hP dX0_sheet_33 ?_
        refine lv_iload_n hx hb dX0_sheet_36 rfl (lv_at hl 1 rfl) ?_
        obtain ⟨j78, hj78, h⟩ := bd1_some h
        refine sh_ald C hO hP hj78 dX0_sheet_37 ?_
        refine lv_null hx hb dX0_sheet_38 ?_
        refine sh_put (j := j78) (r := none) C hO hP hS (rdi_lt hj78) (fun _ h => by cases h) dX0_sheet_39 (fun H locs hP hS => ?_)
        refine lv_iconst (v := 1) hx hb dX0_sheet_42 (by decide) ?_
        cases h
        refine W.widen (k := 2) (n := 41) (Nat.le_of_ble_eq_true rfl) (Nat.le_of_ble_eq_true rfl) ?_
        exact W.iret hx hb hr (fun t ht _ => ⟨rfl, hS.F ht, _, hsub, hO, by rw [ht]; exact hP⟩) hS.2.2 dX0_sheet_43
  · have h := if_some_f h c2
    refine lv_iload_n hx hb dX0_sheet_8 rfl (lv_at hl 2 rfl) ?_
    refine lv_if_eq (tgt := 19) hx hb dX0_sheet_9 rfl (fun c79 => ?_) (fun c79 => ?_)
    · have h := if_some_t h c79
      refine lv_iconst (v := 1) hx hb dX0_sheet_19 (by decide) ?_
      refine lv_goto (tgt := 24) hx hb dX0_sheet_20 rfl ?_
      refine lv_iconst (v := 1) hx hb dX0_sheet_24 (by decide) ?_
      obtain ⟨o82, st81, hv80, h⟩ := bd2_some h
      rcases o82 with _ | v80
      · rw [onx_none] at h
        refine k_L_needT C hO hP hS hv80 q402 (Nat.le_of_ble_eq_true rfl) hl.1 (Nat.le_of_ble_eq_true rfl) hcs dX0_sheet_25 (fun H locs hP hS => ?_)
        refine cc_catch (pre := []) (a1 := 0) (a2 := 43) (hp := 127) (post := [(44, 126, 127, 8)]) C hO hP q129 htab rfl rfl ?_
        refine lv_astore (lv' := [(4, .ref (ad 61)), (0, .ref (ad 60)), (1, .int x1), (2, .int x2), (3, .int x3)]) hx hb dX0_sheet_127 hl (by decide) rfl (fun ls hl => ?_)
        refine lv_aload_n hx hb dX0_sheet_129 rfl (lv_at hl 1 rfl) ?_
        refine lv_aload hx hb dX0_sheet_130 (lv_at hl 0 rfl) ?_
        obtain ⟨v83, st84, hv83, h⟩ := bd2_some h
        refine k_L_finds C hO hP hS hv83 q410 (Nat.le_of_ble_eq_true rfl) hl.1 (Nat.le_of_ble_eq_true rfl) hcs dX0_sheet_132 (fun H locs hP hS => ?_)
        cases h
        refine W.widen (k := 2) (n := 41) (Nat.le_of_ble_eq_true rfl) (Nat.le_of_ble_eq_true rfl) ?_
        exact W.iret hx hb hr (fun t ht _ => ⟨rfl, hS.F ht, _, hsub, hO, by rw [ht]; exact hP⟩) hS.2.2 dX0_sheet_135
      · rw [onx_some] at h
        refine k_L_needR C hO hP hS hv80 q402 (Nat.le_of_ble_eq_true rfl) hl.1 (Nat.le_of_ble_eq_true rfl) hcs dX0_sheet_25 (fun H locs hP hS => ?_)
        refine lv_iload_n hx hb dX0_sheet_28 rfl (lv_at hl 2 rfl) ?_
        refine lv_if_ne (tgt := 44) hx hb dX0_sheet_29 rfl (fun c85 => ?_) (fun c85 => ?_)
        · have h := if_some_f h c85
          refine lv_aload_n hx hb dX0_sheet_44 rfl (lv_at hl 0 rfl) ?_
          refine lv_iload_n hx hb dX0_sheet_45 rfl (lv_at hl 3 rfl) ?_
          refine lv_if_lt (tgt := 53) hx hb dX0_sheet_46 rfl (fun c86 => ?_) (fun c86 => ?_)
          · have h := if_some_t h c86
            refine lv_iconst (v := 0) hx hb dX0_sheet_53 (by decide) ?_
            refine lv_iconst (v := 3) hx hb dX0_sheet_54 (by decide) ?_
            obtain ⟨o89, st88, hv87, h⟩ := bd2_some h
            rcases o89 with _ | v87
            · rw [onx_none] at h
              refine k_L_needT C hO hP hS hv87 q402 (Nat.le_of_ble_eq_true rfl) hl.1 (Nat.le_of_ble_eq_true rfl) hcs dX0_sheet_55 (fun H locs hP hS => ?_)
              refine cc_catch (pre := [(0, 43, 127, 8)]) (a1 := 44) (a2 := 126) (hp := 127) (post := []) C hO hP q129 htab rfl rfl ?_
              refine lv_astore (lv' := [(4, .ref (ad 61)), (0, .ref (ad 60)), (1, .int x1), (2, .int x2), (3, .int x3)]) hx hb dX0_sheet_127 hl (by decide) rfl (fun ls hl => ?_)
              refine lv_aload_n hx hb dX0_sheet_129 rfl (lv_at hl 1 rfl) ?_
              refine lv_aload hx hb dX0_sheet_130 (lv_at hl 0 rfl) ?_
              obtain ⟨v90, st91, hv90, h⟩ := bd2_some h
              refine k_L_finds C hO hP hS hv90 q410 (Nat.le_of_ble_eq_true rfl) hl.1 (Nat.le_of_ble_eq_true rfl) hcs dX0_sheet_132 (fun H locs hP hS => ?_)
              cases h
              refine W.widen (k := 2) (n := 41) (Nat.le_of_ble_eq_true rfl) (Nat.le_of_ble_eq_true rfl) ?_
              exact W.iret hx hb hr (fun t ht _ => ⟨rfl, hS.F ht, _, hsub, hO, by rw [ht]; exact hP⟩) hS.2.2 dX0_sheet_135
            · rw [onx_some] at h
              refine k_L_needR C hO hP hS hv87 q402 (Nat.le_of_ble_eq_true rfl) hl.1 (Nat.le_of_ble_eq_true rfl) hcs dX0_sheet_55 (fun H locs hP hS => ?_)
              refine lv_aload_n hx hb dX0_sheet_58 rfl (lv_at hl 0 rfl) ?_
              refine lv_iload_n hx hb dX0_sheet_59 rfl (lv_at hl 3 rfl) ?_
              refine lv_bipush (v := 40) hx hb dX0_sheet_60 (by decide) ?_
              refine lv_icmp_gt (tgt := 69) hx hb dX0_sheet_62 rfl (fun c92 => ?_) (fun c92 => ?_)
              · have h := if_some_t h c92
                refine lv_iconst (v := 0) hx hb dX0_sheet_69 (by decide) ?_
                refine lv_iconst (v := 1) hx hb dX0_sheet_70 (by decide) ?_
                obtain ⟨o95, st94, hv93, h⟩ := bd2_some h
                rcases o95 with _ | v93
                · rw [onx_none] at h
                  refine k_L_needT C hO hP hS hv93 q402 (Nat.le_of_ble_eq_true rfl) hl.1 (Nat.le_of_ble_eq_true rfl) hcs dX0_sheet_71 (fun H locs hP hS => ?_)
                  refine cc_catch (pre := [(0, 43, 127, 8)]) (a1 := 44) (a2 := 126) (hp := 127) (post := []) C hO hP q129 htab rfl rfl ?_
                  refine lv_astore (lv' := [(4, .ref (ad 61)), (0, .ref (ad 60)), (1, .int x1), (2, .int x2), (3, .int x3)]) hx hb dX0_sheet_127 hl (by decide) rfl (fun ls hl => ?_)
                  refine lv_aload_n hx hb dX0_sheet_129 rfl (lv_at hl 1 rfl) ?_
                  refine lv_aload hx hb dX0_sheet_130 (lv_at hl 0 rfl) ?_
                  obtain ⟨v96, st97, hv96, h⟩ := bd2_some h
                  refine k_L_finds C hO hP hS hv96 q410 (Nat.le_of_ble_eq_true rfl) hl.1 (Nat.le_of_ble_eq_true rfl) hcs dX0_sheet_132 (fun H locs hP hS => ?_)
                  cases h
                  refine W.widen (k := 2) (n := 41) (Nat.le_of_ble_eq_true rfl) (Nat.le_of_ble_eq_true rfl) ?_
                  exact W.iret hx hb hr (fun t ht _ => ⟨rfl, hS.F ht, _, hsub, hO, by rw [ht]; exact hP⟩) hS.2.2 dX0_sheet_135
                · rw [onx_some] at h
                  refine k_L_needR C hO hP hS hv93 q402 (Nat.le_of_ble_eq_true rfl) hl.1 (Nat.le_of_ble_eq_true rfl) hcs dX0_sheet_71 (fun H locs hP hS => ?_)
                  refine lv_aload_n hx hb dX0_sheet_74 rfl (lv_at hl 0 rfl) ?_
                  refine lg_sheets C hO hP dX0_sheet_75 ?_
                  refine lv_iload_n hx hb dX0_sheet_78 rfl (lv_at hl 1 rfl) ?_
                  obtain ⟨j98, hj98, h⟩ := bd1_some h
                  refine sh_ald C hO hP hj98 dX0_sheet_79 ?_
                  refine lv_iload_n hx hb dX0_sheet_80 rfl (lv_at hl 2 rfl) ?_
                  refine lv_bipush (v := 8) hx hb dX0_sheet_81 (by decide) ?_
                  refine lv_icmp_ne (tgt := 97) hx hb dX0_sheet_83 rfl (fun c99 => ?_) (fun c99 => ?_)
                  · have h := if_some_f h c99
                    refine lv_iload_n hx hb dX0_sheet_97 rfl (lv_at hl 2 rfl) ?_
                    refine lv_bipush (v := 16) hx hb dX0_sheet_98 (by decide) ?_
                    refine lv_icmp_ne (tgt := 114) hx hb dX0_sheet_100 rfl (fun c100 => ?_) (fun c100 => ?_)
                    · have h := if_some_f h c100
                      obtain ⟨st101, hst101, h⟩ := bd1_some h
                      have est101 := Option.some.inj hst101
                      refine W.size0 (fun hH => ?_)
                      rw [hnx] at hH
                      refine cc_new (ci := 21) (Cn := RX24) (T := TX24) (N := 1) (ty0 := tyX24) (fs := [.null]) C had hO hP hS rfl in_X24 tyX24_ok q1433 q1434 q120 (fun j hj => by match j, hj with | 0, _ => rfl) (fun b h => by simp at h) (by omega) (by omega) dX0_sheet_114 (fun H hz1 hO hP hS => ?_)
                      rw [hH] at hO hP hz1 ⊢
                      have hsub := fun k h => List.mem_append_left [1000 + nx] (hsub k h)
                      have hest101 : (csP st94 (1000 + nx) (.inr (21, [.null]))).2.2.2 (1000 + nx) = .inr (21, [.null]) := csP_at
                      rw [est101] at hP hest101
                      refine lv_dup hx hb dX0_sheet_117 rfl ?_
                      refine lv_iload_n hx hb dX0_sheet_118 rfl (lv_at hl 3 rfl) ?_
                      obtain ⟨st102, hst102, h⟩ := bd1_some h
                      refine k_SI2 (nx := nx + 1) C had hO hP hS hz1 (live_new had) hest101 hst102 q1435 (Nat.le_of_ble_eq_true rfl) hl.1 (Nat.le_of_ble_eq_true rfl) ⟨by omega, by omega⟩ dX0_sheet_119 (fun H locs hO hP hS hz1 => ?_)
                      have hsub := fun k h => List.mem_append_left [1000 + (nx + 1)] (hsub k h)
                      refine sh_put (j := j98) (r := (some nx)) C hO hP hS (rdi_lt hj98) (fun a h => by cases h; exact live_app (live_new had)) dX0_sheet_122 (fun H locs hP hS => ?_)
                      refine lv_iconst (v := 1) hx hb dX0_sheet_125 (by decide) ?_
                      cases h
                      refine W.widen (k := 2) (n := 41) (Nat.le_of_ble_eq_true rfl) (Nat.le_of_ble_eq_true rfl) ?_
                      exact W.iret hx hb hr (fun t ht _ => ⟨rfl, hS.F ht, _, hsub, hO, by rw [ht]; exact hP⟩) hS.2.2 dX0_sheet_126
                    · have h := if_some_t h c100
                      obtain ⟨st103, hst103, h⟩ := bd1_some h
                      have est103 := Option.some.inj hst103
                      refine W.size0 (fun hH => ?_)
                      rw [hnx] at hH
                      refine cc_new (ci := 20) (Cn := RX23) (T := TX23) (N := 1) (ty0 := tyX23) (fs := [.null]) C had hO hP hS rfl in_X23 tyX23_ok q1422 q1423 q119 (fun j hj => by match j, hj with | 0, _ => rfl) (fun b h => by simp at h) (by omega) (by omega) dX0_sheet_103 (fun H hz1 hO hP hS => ?_)
                      rw [hH] at hO hP hz1 ⊢
                      have hsub := fun k h => List.mem_append_left [1000 + nx] (hsub k h)
                      have hest103 : (csP st94 (1000 + nx) (.inr (20, [.null]))).2.2.2 (1000 + nx) = .inr (20, [.null]) := csP_at
                      rw [est103] at hP hest103
                      refine lv_dup hx hb dX0_sheet_106 rfl ?_
                      refine lv_iload_n hx hb dX0_sheet_107 rfl (lv_at hl 3 rfl) ?_
                      obtain ⟨st104, hst104, h⟩ := bd1_some h
                      refine k_SI1 (nx := nx + 1) C had hO hP hS hz1 (live_new had) hest103 hst104 q1424 (Nat.le_of_ble_eq_true rfl) hl.1 (Nat.le_of_ble_eq_true rfl) ⟨by omega, by omega⟩ dX0_sheet_108 (fun H locs hO hP hS hz1 => ?_)
                      have hsub := fun k h => List.mem_append_left [1000 + (nx + 1)] (hsub k h)
                      refine lv_goto (tgt := 122) hx hb dX0_sheet_111 rfl ?_
                      refine sh_put (j := j98) (r := (some nx)) C hO hP hS (rdi_lt hj98) (fun a h => by cases h; exact live_app (live_new had)) dX0_sheet_122 (fun H locs hP hS => ?_)
                      refine lv_iconst (v := 1) hx hb dX0_sheet_125 (by decide) ?_
                      cases h
                      refine W.widen (k := 2) (n := 41) (Nat.le_of_ble_eq_true rfl) (Nat.le_of_ble_eq_true rfl) ?_
                      exact W.iret hx hb hr (fun t ht _ => ⟨rfl, hS.F ht, _, hsub, hO, by rw [ht]; exact hP⟩) hS.2.2 dX0_sheet_126
                  · have h := if_some_t h c99
                    obtain ⟨st105, hst105, h⟩ := bd1_some h
                    have est105 := Option.some.inj hst105
                    refine W.size0 (fun hH => ?_)
                    rw [hnx] at hH
                    refine cc_new (ci := 19) (Cn := RX22) (T := TX22) (N := 1) (ty0 := tyX22) (fs := [.null]) C had hO hP hS rfl in_X22 tyX22_ok q1409 q1410 q118 (fun j hj => by match j, hj with | 0, _ => rfl) (fun b h => by simp at h) (by omega) (by omega) dX0_sheet_86 (fun H hz1 hO hP hS => ?_)
                    rw [hH] at hO hP hz1 ⊢
                    have hsub := fun k h => List.mem_append_left [1000 + nx] (hsub k h)
                    have hest105 : (csP st94 (1000 + nx) (.inr (19, [.null]))).2.2.2 (1000 + nx) = .inr (19, [.null]) := csP_at
                    rw [est105] at hP hest105
                    refine lv_dup hx hb dX0_sheet_89 rfl ?_
                    refine lv_iload_n hx hb dX0_sheet_90 rfl (lv_at hl 3 rfl) ?_
                    obtain ⟨st106, hst106, h⟩ := bd1_some h
                    refine k_SI0 (nx := nx + 1) C had hO hP hS hz1 (live_new had) hest105 hst106 q1411 (Nat.le_of_ble_eq_true rfl) hl.1 (Nat.le_of_ble_eq_true rfl) ⟨by omega, by omega⟩ dX0_sheet_91 (fun H locs hO hP hS hz1 => ?_)
                    have hsub := fun k h => List.mem_append_left [1000 + (nx + 1)] (hsub k h)
                    refine lv_goto (tgt := 122) hx hb dX0_sheet_94 rfl ?_
                    refine sh_put (j := j98) (r := (some nx)) C hO hP hS (rdi_lt hj98) (fun a h => by cases h; exact live_app (live_new had)) dX0_sheet_122 (fun H locs hP hS => ?_)
                    refine lv_iconst (v := 1) hx hb dX0_sheet_125 (by decide) ?_
                    cases h
                    refine W.widen (k := 2) (n := 41) (Nat.le_of_ble_eq_true rfl) (Nat.le_of_ble_eq_true rfl) ?_
                    exact W.iret hx hb hr (fun t ht _ => ⟨rfl, hS.F ht, _, hsub, hO, by rw [ht]; exact hP⟩) hS.2.2 dX0_sheet_126
              · have h := if_some_f h c92
                refine lv_iconst (v := 1) hx hb dX0_sheet_65 (by decide) ?_
                refine lv_goto (tgt := 70) hx hb dX0_sheet_66 rfl ?_
                refine lv_iconst (v := 1) hx hb dX0_sheet_70 (by decide) ?_
                obtain ⟨o109, st108, hv107, h⟩ := bd2_some h
                rcases o109 with _ | v107
                · rw [onx_none] at h
                  refine k_L_needT C hO hP hS hv107 q402 (Nat.le_of_ble_eq_true rfl) hl.1 (Nat.le_of_ble_eq_true rfl) hcs dX0_sheet_71 (fun H locs hP hS => ?_)
                  refine cc_catch (pre := [(0, 43, 127, 8)]) (a1 := 44) (a2 := 126) (hp := 127) (post := []) C hO hP q129 htab rfl rfl ?_
                  refine lv_astore (lv' := [(4, .ref (ad 61)), (0, .ref (ad 60)), (1, .int x1), (2, .int x2), (3, .int x3)]) hx hb dX0_sheet_127 hl (by decide) rfl (fun ls hl => ?_)
                  refine lv_aload_n hx hb dX0_sheet_129 rfl (lv_at hl 1 rfl) ?_
                  refine lv_aload hx hb dX0_sheet_130 (lv_at hl 0 rfl) ?_
                  obtain ⟨v110, st111, hv110, h⟩ := bd2_some h
                  refine k_L_finds C hO hP hS hv110 q410 (Nat.le_of_ble_eq_true rfl) hl.1 (Nat.le_of_ble_eq_true rfl) hcs dX0_sheet_132 (fun H locs hP hS => ?_)
                  cases h
                  refine W.widen (k := 2) (n := 41) (Nat.le_of_ble_eq_true rfl) (Nat.le_of_ble_eq_true rfl) ?_
                  exact W.iret hx hb hr (fun t ht _ => ⟨rfl, hS.F ht, _, hsub, hO, by rw [ht]; exact hP⟩) hS.2.2 dX0_sheet_135
                · rw [onx_some] at h
                  refine k_L_needR C hO hP hS hv107 q402 (Nat.le_of_ble_eq_true rfl) hl.1 (Nat.le_of_ble_eq_true rfl) hcs dX0_sheet_71 (fun H locs hP hS => ?_)
                  refine lv_aload_n hx hb dX0_sheet_74 rfl (lv_at hl 0 rfl) ?_
                  refine lg_sheets C hO hP dX0_sheet_75 ?_
                  refine lv_iload_n hx hb dX0_sheet_78 rfl (lv_at hl 1 rfl) ?_
                  obtain ⟨j112, hj112, h⟩ := bd1_some h
                  refine sh_ald C hO hP hj112 dX0_sheet_79 ?_
                  refine lv_iload_n hx hb dX0_sheet_80 rfl (lv_at hl 2 rfl) ?_
                  refine lv_bipush (v := 8) hx hb dX0_sheet_81 (by decide) ?_
                  refine lv_icmp_ne (tgt := 97) hx hb dX0_sheet_83 rfl (fun c113 => ?_) (fun c113 => ?_)
                  · have h := if_some_f h c113
                    refine lv_iload_n hx hb dX0_sheet_97 rfl (lv_at hl 2 rfl) ?_
                    refine lv_bipush (v := 16) hx hb dX0_sheet_98 (by decide) ?_
                    refine lv_icmp_ne (tgt := 114) hx hb dX0_sheet_100 rfl (fun c114 => ?_) (fun c114 => ?_)
                    · have h := if_some_f h c114
                      obtain ⟨st115, hst115, h⟩ := bd1_some h
                      have est115 := Option.some.inj hst115
                      refine W.size0 (fun hH => ?_)
                      rw [hnx] at hH
                      refine cc_new (ci := 21) (Cn := RX24) (T := TX24) (N := 1) (ty0 := tyX24) (fs := [.null]) C had hO hP hS rfl in_X24 tyX24_ok q1433 q1434 q120 (fun j hj => by match j, hj with | 0, _ => rfl) (fun b h => by simp at h) (by omega) (by omega) dX0_sheet_114 (fun H hz1 hO hP hS => ?_)
                      rw [hH] at hO hP hz1 ⊢
                      have hsub := fun k h => List.mem_append_left [1000 + nx] (hsub k h)
                      have hest115 : (csP st108 (1000 + nx) (.inr (21, [.null]))).2.2.2 (1000 + nx) = .inr (21, [.null]) := csP_at
                      rw [est115] at hP hest115
                      refine lv_dup hx hb dX0_sheet_117 rfl ?_
                      refine lv_iload_n hx hb dX0_sheet_118 rfl (lv_at hl 3 rfl) ?_
                      obtain ⟨st116, hst116, h⟩ := bd1_some h
                      refine k_SI2 (nx := nx + 1) C had hO hP hS hz1 (live_new had) hest115 hst116 q1435 (Nat.le_of_ble_eq_true rfl) hl.1 (Nat.le_of_ble_eq_true rfl) ⟨by omega, by omega⟩ dX0_sheet_119 (fun H locs hO hP hS hz1 => ?_)
                      have hsub := fun k h => List.mem_append_left [1000 + (nx + 1)] (hsub k h)
                      refine sh_put (j := j112) (r := (some nx)) C hO hP hS (rdi_lt hj112) (fun a h => by cases h; exact live_app (live_new had)) dX0_sheet_122 (fun H locs hP hS => ?_)
                      refine lv_iconst (v := 1) hx hb dX0_sheet_125 (by decide) ?_
                      cases h
                      refine W.widen (k := 2) (n := 41) (Nat.le_of_ble_eq_true rfl) (Nat.le_of_ble_eq_true rfl) ?_
                      exact W.iret hx hb hr (fun t ht _ => ⟨rfl, hS.F ht, _, hsub, hO, by rw [ht]; exact hP⟩) hS.2.2 dX0_sheet_126
                    · have h := if_some_t h c114
                      obtain ⟨st117, hst117, h⟩ := bd1_some h
                      have est117 := Option.some.inj hst117
                      refine W.size0 (fun hH => ?_)
                      rw [hnx] at hH
                      refine cc_new (ci := 20) (Cn := RX23) (T := TX23) (N := 1) (ty0 := tyX23) (fs := [.null]) C had hO hP hS rfl in_X23 tyX23_ok q1422 q1423 q119 (fun j hj => by match j, hj with | 0, _ => rfl) (fun b h => by simp at h) (by omega) (by omega) dX0_sheet_103 (fun H hz1 hO hP hS => ?_)
                      rw [hH] at hO hP hz1 ⊢
                      have hsub := fun k h => List.mem_append_left [1000 + nx] (hsub k h)
                      have hest117 : (csP st108 (1000 + nx) (.inr (20, [.null]))).2.2.2 (1000 + nx) = .inr (20, [.null]) := csP_at
                      rw [est117] at hP hest117
                      refine lv_dup hx hb dX0_sheet_106 rfl ?_
                      refine lv_iload_n hx hb dX0_sheet_107 rfl (lv_at hl 3 rfl) ?_
                      obtain ⟨st118, hst118, h⟩ := bd1_some h
                      refine k_SI1 (nx := nx + 1) C had hO hP hS hz1 (live_new had) hest117 hst118 q1424 (Nat.le_of_ble_eq_true rfl) hl.1 (Nat.le_of_ble_eq_true rfl) ⟨by omega, by omega⟩ dX0_sheet_108 (fun H locs hO hP hS hz1 => ?_)
                      have hsub := fun k h => List.mem_append_left [1000 + (nx + 1)] (hsub k h)
                      refine lv_goto (tgt := 122) hx hb dX0_sheet_111 rfl ?_
                      refine sh_put (j := j112) (r := (some nx)) C hO hP hS (rdi_lt hj112) (fun a h => by cases h; exact live_app (live_new had)) dX0_sheet_122 (fun H locs hP hS => ?_)
                      refine lv_iconst (v := 1) hx hb dX0_sheet_125 (by decide) ?_
                      cases h
                      refine W.widen (k := 2) (n := 41) (Nat.le_of_ble_eq_true rfl) (Nat.le_of_ble_eq_true rfl) ?_
                      exact W.iret hx hb hr (fun t ht _ => ⟨rfl, hS.F ht, _, hsub, hO, by rw [ht]; exact hP⟩) hS.2.2 dX0_sheet_126
                  · have h := if_some_t h c113
                    obtain ⟨st119, hst119, h⟩ := bd1_some h
                    have est119 := Option.some.inj hst119
                    refine W.size0 (fun hH => ?_)
                    rw [hnx] at hH
                    refine cc_new (ci := 19) (Cn := RX22) (T := TX22) (N := 1) (ty0 := tyX22) (fs := [.null]) C had hO hP hS rfl in_X22 tyX22_ok q1409 q1410 q118 (fun j hj => by match j, hj with | 0, _ => rfl) (fun b h => by simp at h) (by omega) (by omega) dX0_sheet_86 (fun H hz1 hO hP hS => ?_)
                    rw [hH] at hO hP hz1 ⊢
                    have hsub := fun k h => List.mem_append_left [1000 + nx] (hsub k h)
                    have hest119 : (csP st108 (1000 + nx) (.inr (19, [.null]))).2.2.2 (1000 + nx) = .inr (19, [.null]) := csP_at
                    rw [est119] at hP hest119
                    refine lv_dup hx hb dX0_sheet_89 rfl ?_
                    refine lv_iload_n hx hb dX0_sheet_90 rfl (lv_at hl 3 rfl) ?_
                    obtain ⟨st120, hst120, h⟩ := bd1_some h
                    refine k_SI0 (nx := nx + 1) C had hO hP hS hz1 (live_new had) hest119 hst120 q1411 (Nat.le_of_ble_eq_true rfl) hl.1 (Nat.le_of_ble_eq_true rfl) ⟨by omega, by omega⟩ dX0_sheet_91 (fun H locs hO hP hS hz1 => ?_)
                    have hsub := fun k h => List.mem_append_left [1000 + (nx + 1)] (hsub k h)
                    refine lv_goto (tgt := 122) hx hb dX0_sheet_94 rfl ?_
                    refine sh_put (j := j112) (r := (some nx)) C hO hP hS (rdi_lt hj112) (fun a h => by cases h; exact live_app (live_new had)) dX0_sheet_122 (fun H locs hP hS => ?_)
                    refine lv_iconst (v := 1) hx hb dX0_sheet_125 (by decide) ?_
                    cases h
                    refine W.widen (k := 2) (n := 41) (Nat.le_of_ble_eq_true rfl) (Nat.le_of_ble_eq_true rfl) ?_
                    exact W.iret hx hb hr (fun t ht _ => ⟨rfl, hS.F ht, _, hsub, hO, by rw [ht]; exact hP⟩) hS.2.2 dX0_sheet_126
          · have h := if_some_f h c86
            refine lv_iconst (v := 1) hx hb dX0_sheet_49 (by decide) ?_
            refine lv_goto (tgt := 54) hx hb dX0_sheet_50 rfl ?_
            refine lv_iconst (v := 3) hx hb dX0_sheet_54 (by decide) ?_
            obtain ⟨o123, st122, hv121, h⟩ := bd2_some h
            rcases o123 with _ | v121
            · rw [onx_none] at h
              refine k_L_needT C hO hP hS hv121 q402 (Nat.le_of_ble_eq_true rfl) hl.1 (Nat.le_of_ble_eq_true rfl) hcs dX0_sheet_55 (fun H locs hP hS => ?_)
              refine cc_catch (pre := [(0, 43, 127, 8)]) (a1 := 44) (a2 := 126) (hp := 127) (post := []) C hO hP q129 htab rfl rfl ?_
              refine lv_astore (lv' := [(4, .ref (ad 61)), (0, .ref (ad 60)), (1, .int x1), (2, .int x2), (3, .int x3)]) hx hb dX0_sheet_127 hl (by decide) rfl (fun ls hl => ?_)
              refine lv_aload_n hx hb dX0_sheet_129 rfl (lv_at hl 1 rfl) ?_
              refine lv_aload hx hb dX0_sheet_130 (lv_at hl 0 rfl) ?_
              obtain ⟨v124, st125, hv124, h⟩ := bd2_some h
              refine k_L_finds C hO hP hS hv124 q410 (Nat.le_of_ble_eq_true rfl) hl.1 (Nat.le_of_ble_eq_true rfl) hcs dX0_sheet_132 (fun H locs hP hS => ?_)
              cases h
              refine W.widen (k := 2) (n := 41) (Nat.le_of_ble_eq_true rfl) (Nat.le_of_ble_eq_true rfl) ?_
              exact W.iret hx hb hr (fun t ht _ => ⟨rfl, hS.F ht, _, hsub, hO, by rw [ht]; exact hP⟩) hS.2.2 dX0_sheet_135
            · rw [onx_some] at h
              refine k_L_needR C hO hP hS hv121 q402 (Nat.le_of_ble_eq_true rfl) hl.1 (Nat.le_of_ble_eq_true rfl) hcs dX0_sheet_55 (fun H locs hP hS => ?_)
              refine lv_aload_n hx hb dX0_sheet_58 rfl (lv_at hl 0 rfl) ?_
              refine lv_iload_n hx hb dX0_sheet_59 rfl (lv_at hl 3 rfl) ?_
              refine lv_bipush (v := 40) hx hb dX0_sheet_60 (by decide) ?_
              refine lv_icmp_gt (tgt := 69) hx hb dX0_sheet_62 rfl (fun c126 => ?_) (fun c126 => ?_)
              · have h := if_some_t h c126
                refine lv_iconst (v := 0) hx hb dX0_sheet_69 (by decide) ?_
                refine lv_iconst (v := 1) hx hb dX0_sheet_70 (by decide) ?_
                obtain ⟨o129, st128, hv127, h⟩ := bd2_some h
                rcases o129 with _ | v127
                · rw [onx_none] at h
                  refine k_L_needT C hO hP hS hv127 q402 (Nat.le_of_ble_eq_true rfl) hl.1 (Nat.le_of_ble_eq_true rfl) hcs dX0_sheet_71 (fun H locs hP hS => ?_)
                  refine cc_catch (pre := [(0, 43, 127, 8)]) (a1 := 44) (a2 := 126) (hp := 127) (post := []) C hO hP q129 htab rfl rfl ?_
                  refine lv_astore (lv' := [(4, .ref (ad 61)), (0, .ref (ad 60)), (1, .int x1), (2, .int x2), (3, .int x3)]) hx hb dX0_sheet_127 hl (by decide) rfl (fun ls hl => ?_)
                  refine lv_aload_n hx hb dX0_sheet_129 rfl (lv_at hl 1 rfl) ?_
                  refine lv_aload hx hb dX0_sheet_130 (lv_at hl 0 rfl) ?_
                  obtain ⟨v130, st131, hv130, h⟩ := bd2_some h
                  refine k_L_finds C hO hP hS hv130 q410 (Nat.le_of_ble_eq_true rfl) hl.1 (Nat.le_of_ble_eq_true rfl) hcs dX0_sheet_132 (fun H locs hP hS => ?_)
                  cases h
                  refine W.widen (k := 2) (n := 41) (Nat.le_of_ble_eq_true rfl) (Nat.le_of_ble_eq_true rfl) ?_
                  exact W.iret hx hb hr (fun t ht _ => ⟨rfl, hS.F ht, _, hsub, hO, by rw [ht]; exact hP⟩) hS.2.2 dX0_sheet_135
                · rw [onx_some] at h
                  refine k_L_needR C hO hP hS hv127 q402 (Nat.le_of_ble_eq_true rfl) hl.1 (Nat.le_of_ble_eq_true rfl) hcs dX0_sheet_71 (fun H locs hP hS => ?_)
                  refine lv_aload_n hx hb dX0_sheet_74 rfl (lv_at hl 0 rfl) ?_
                  refine lg_sheets C hO hP dX0_sheet_75 ?_
                  refine lv_iload_n hx hb dX0_sheet_78 rfl (lv_at hl 1 rfl) ?_
                  obtain ⟨j132, hj132, h⟩ := bd1_some h
                  refine sh_ald C hO hP hj132 dX0_sheet_79 ?_
                  refine lv_iload_n hx hb dX0_sheet_80 rfl (lv_at hl 2 rfl) ?_
                  refine lv_bipush (v := 8) hx hb dX0_sheet_81 (by decide) ?_
                  refine lv_icmp_ne (tgt := 97) hx hb dX0_sheet_83 rfl (fun c133 => ?_) (fun c133 => ?_)
                  · have h := if_some_f h c133
                    refine lv_iload_n hx hb dX0_sheet_97 rfl (lv_at hl 2 rfl) ?_
                    refine lv_bipush (v := 16) hx hb dX0_sheet_98 (by decide) ?_
                    refine lv_icmp_ne (tgt := 114) hx hb dX0_sheet_100 rfl (fun c134 => ?_) (fun c134 => ?_)
                    · have h := if_some_f h c134
                      obtain ⟨st135, hst135, h⟩ := bd1_some h
                      have est135 := Option.some.inj hst135
                      refine W.size0 (fun hH => ?_)
                      rw [hnx] at hH
                      refine cc_new (ci := 21) (Cn := RX24) (T := TX24) (N := 1) (ty0 := tyX24) (fs := [.null]) C had hO hP hS rfl in_X24 tyX24_ok q1433 q1434 q120 (fun j hj => by match j, hj with | 0, _ => rfl) (fun b h => by simp at h) (by omega) (by omega) dX0_sheet_114 (fun H hz1 hO hP hS => ?_)
                      rw [hH] at hO hP hz1 ⊢
                      have hsub := fun k h => List.mem_append_left [1000 + nx] (hsub k h)
                      have hest135 : (csP st128 (1000 + nx) (.inr (21, [.null]))).2.2.2 (1000 + nx) = .inr (21, [.null]) := csP_at
                      rw [est135] at hP hest135
                      refine lv_dup hx hb dX0_sheet_117 rfl ?_
                      refine lv_iload_n hx hb dX0_sheet_118 rfl (lv_at hl 3 rfl) ?_
                      obtain ⟨st136, hst136, h⟩ := bd1_some h
                      refine k_SI2 (nx := nx + 1) C had hO hP hS hz1 (live_new had) hest135 hst136 q1435 (Nat.le_of_ble_eq_true rfl) hl.1 (Nat.le_of_ble_eq_true rfl) ⟨by omega, by omega⟩ dX0_sheet_119 (fun H locs hO hP hS hz1 => ?_)
                      have hsub := fun k h => List.mem_append_left [1000 + (nx + 1)] (hsub k h)
                      refine sh_put (j := j132) (r := (some nx)) C hO hP hS (rdi_lt hj132) (fun a h => by cases h; exact live_app (live_new had)) dX0_sheet_122 (fun H locs hP hS => ?_)
                      refine lv_iconst (v := 1) hx hb dX0_sheet_125 (by decide) ?_
                      cases h
                      refine W.widen (k := 2) (n := 41) (Nat.le_of_ble_eq_true rfl) (Nat.le_of_ble_eq_true rfl) ?_
                      exact W.iret hx hb hr (fun t ht _ => ⟨rfl, hS.F ht, _, hsub, hO, by rw [ht]; exact hP⟩) hS.2.2 dX0_sheet_126
                    · have h := if_some_t h c134
                      obtain ⟨st137, hst137, h⟩ := bd1_some h
                      have est137 := Option.some.inj hst137
                      refine W.size0 (fun hH => ?_)
                      rw [hnx] at hH
                      refine cc_new (ci := 20) (Cn := RX23) (T := TX23) (N := 1) (ty0 := tyX23) (fs := [.null]) C had hO hP hS rfl in_X23 tyX23_ok q1422 q1423 q119 (fun j hj => by match j, hj with | 0, _ => rfl) (fun b h => by simp at h) (by omega) (by omega) dX0_sheet_103 (fun H hz1 hO hP hS => ?_)
                      rw [hH] at hO hP hz1 ⊢
                      have hsub := fun k h => List.mem_append_left [1000 + nx] (hsub k h)
                      have hest137 : (csP st128 (1000 + nx) (.inr (20, [.null]))).2.2.2 (1000 + nx) = .inr (20, [.null]) := csP_at
                      rw [est137] at hP hest137
                      refine lv_dup hx hb dX0_sheet_106 rfl ?_
                      refine lv_iload_n hx hb dX0_sheet_107 rfl (lv_at hl 3 rfl) ?_
                      obtain ⟨st138, hst138, h⟩ := bd1_some h
                      refine k_SI1 (nx := nx + 1) C had hO hP hS hz1 (live_new had) hest137 hst138 q1424 (Nat.le_of_ble_eq_true rfl) hl.1 (Nat.le_of_ble_eq_true rfl) ⟨by omega, by omega⟩ dX0_sheet_108 (fun H locs hO hP hS hz1 => ?_)
                      have hsub := fun k h => List.mem_append_left [1000 + (nx + 1)] (hsub k h)
                      refine lv_goto (tgt := 122) hx hb dX0_sheet_111 rfl ?_
                      refine sh_put (j := j132) (r := (some nx)) C hO hP hS (rdi_lt hj132) (fun a h => by cases h; exact live_app (live_new had)) dX0_sheet_122 (fun H locs hP hS => ?_)
                      refine lv_iconst (v := 1) hx hb dX0_sheet_125 (by decide) ?_
                      cases h
                      refine W.widen (k := 2) (n := 41) (Nat.le_of_ble_eq_true rfl) (Nat.le_of_ble_eq_true rfl) ?_
                      exact W.iret hx hb hr (fun t ht _ => ⟨rfl, hS.F ht, _, hsub, hO, by rw [ht]; exact hP⟩) hS.2.2 dX0_sheet_126
                  · have h := if_some_t h c133
                    obtain ⟨st139, hst139, h⟩ := bd1_some h
                    have est139 := Option.some.inj hst139
                    refine W.size0 (fun hH => ?_)
                    rw [hnx] at hH
                    refine cc_new (ci := 19) (Cn := RX22) (T := TX22) (N := 1) (ty0 := tyX22) (fs := [.null]) C had hO hP hS rfl in_X22 tyX22_ok q1409 q1410 q118 (fun j hj => by match j, hj with | 0, _ => rfl) (fun b h => by simp at h) (by omega) (by omega) dX0_sheet_86 (fun H hz1 hO hP hS => ?_)
                    rw [hH] at hO hP hz1 ⊢
                    have hsub := fun k h => List.mem_append_left [1000 + nx] (hsub k h)
                    have hest139 : (csP st128 (1000 + nx) (.inr (19, [.null]))).2.2.2 (1000 + nx) = .inr (19, [.null]) := csP_at
                    rw [est139] at hP hest139
                    refine lv_dup hx hb dX0_sheet_89 rfl ?_
                    refine lv_iload_n hx hb dX0_sheet_90 rfl (lv_at hl 3 rfl) ?_
                    obtain ⟨st140, hst140, h⟩ := bd1_some h
                    refine k_SI0 (nx := nx + 1) C had hO hP hS hz1 (live_new had) hest139 hst140 q1411 (Nat.le_of_ble_eq_true rfl) hl.1 (Nat.le_of_ble_eq_true rfl) ⟨by omega, by omega⟩ dX0_sheet_91 (fun H locs hO hP hS hz1 => ?_)
                    have hsub := fun k h => List.mem_append_left [1000 + (nx + 1)] (hsub k h)
                    refine lv_goto (tgt := 122) hx hb dX0_sheet_94 rfl ?_
                    refine sh_put (j := j132) (r := (some nx)) C hO hP hS (rdi_lt hj132) (fun a h => by cases h; exact live_app (live_new had)) dX0_sheet_122 (fun H locs hP hS => ?_)
                    refine lv_iconst (v := 1) hx hb dX0_sheet_125 (by decide) ?_
                    cases h
                    refine W.widen (k := 2) (n := 41) (Nat.le_of_ble_eq_true rfl) (Nat.le_of_ble_eq_true rfl) ?_
                    exact W.iret hx hb hr (fun t ht _ => ⟨rfl, hS.F ht, _, hsub, hO, by rw [ht]; exact hP⟩) hS.2.2 dX0_sheet_126
              · have h := if_some_f h c126
                refine lv_iconst (v := 1) hx hb dX0_sheet_65 (by decide) ?_
                refine lv_goto (tgt := 70) hx hb dX0_sheet_66 rfl ?_
                refine lv_iconst (v := 1) hx hb dX0_sheet_70 (by decide) ?_
                obtain ⟨o143, st142, hv141, h⟩ := bd2_some h
                rcases o143 with _ | v141
                · rw [onx_none] at h
                  refine k_L_needT C hO hP hS hv141 q402 (Nat.le_of_ble_eq_true rfl) hl.1 (Nat.le_of_ble_eq_true rfl) hcs dX0_sheet_71 (fun H locs hP hS => ?_)
                  refine cc_catch (pre := [(0, 43, 127, 8)]) (a1 := 44) (a2 := 126) (hp := 127) (post := []) C hO hP q129 htab rfl rfl ?_
                  refine lv_astore (lv' := [(4, .ref (ad 61)), (0, .ref (ad 60)), (1, .int x1), (2, .int x2), (3, .int x3)]) hx hb dX0_sheet_127 hl (by decide) rfl (fun ls hl => ?_)
                  refine lv_aload_n hx hb dX0_sheet_129 rfl (lv_at hl 1 rfl) ?_
                  refine lv_aload hx hb dX0_sheet_130 (lv_at hl 0 rfl) ?_
                  obtain ⟨v144, st145, hv144, h⟩ := bd2_some h
                  refine k_L_finds C hO hP hS hv144 q410 (Nat.le_of_ble_eq_true rfl) hl.1 (Nat.le_of_ble_eq_true rfl) hcs dX0_sheet_132 (fun H locs hP hS => ?_)
                  cases h
                  refine W.widen (k := 2) (n := 41) (Nat.le_of_ble_eq_true rfl) (Nat.le_of_ble_eq_true rfl) ?_
                  exact W.iret hx hb hr (fun t ht _ => ⟨rfl, hS.F ht, _, hsub, hO, by rw [ht]; exact hP⟩) hS.2.2 dX0_sheet_135
                · rw [onx_some] at h
                  refine k_L_needR C hO hP hS hv141 q402 (Nat.le_of_ble_eq_true rfl) hl.1 (Nat.le_of_ble_eq_true rfl) hcs dX0_sheet_71 (fun H locs hP hS => ?_)
                  refine lv_aload_n hx hb dX0_sheet_74 rfl (lv_at hl 0 rfl) ?_
                  refine lg_sheets C hO hP dX0_sheet_75 ?_
                  refine lv_iload_n hx hb dX0_sheet_78 rfl (lv_at hl 1 rfl) ?_
                  obtain ⟨j146, hj146, h⟩ := bd1_some h
                  refine sh_ald C hO hP hj146 dX0_sheet_79 ?_
                  refine lv_iload_n hx hb dX0_sheet_80 rfl (lv_at hl 2 rfl) ?_
                  refine lv_bipush (v := 8) hx hb dX0_sheet_81 (by decide) ?_
                  refine lv_icmp_ne (tgt := 97) hx hb dX0_sheet_83 rfl (fun c147 => ?_) (fun c147 => ?_)
                  · have h := if_some_f h c147
                    refine lv_iload_n hx hb dX0_sheet_97 rfl (lv_at hl 2 rfl) ?_
                    refine lv_bipush (v := 16) hx hb dX0_sheet_98 (by decide) ?_
                    refine lv_icmp_ne (tgt := 114) hx hb dX0_sheet_100 rfl (fun c148 => ?_) (fun c148 => ?_)
                    · have h := if_some_f h c148
                      obtain ⟨st149, hst149, h⟩ := bd1_some h
                      have est149 := Option.some.inj hst149
                      refine W.size0 (fun hH => ?_)
                      rw [hnx] at hH
                      refine cc_new (ci := 21) (Cn := RX24) (T := TX24) (N := 1) (ty0 := tyX24) (fs := [.null]) C had hO hP hS rfl in_X24 tyX24_ok q1433 q1434 q120 (fun j hj => by match j, hj with | 0, _ => rfl) (fun b h => by simp at h) (by omega) (by omega) dX0_sheet_114 (fun H hz1 hO hP hS => ?_)
                      rw [hH] at hO hP hz1 ⊢
                      have hsub := fun k h => List.mem_append_left [1000 + nx] (hsub k h)
                      have hest149 : (csP st142 (1000 + nx) (.inr (21, [.null]))).2.2.2 (1000 + nx) = .inr (21, [.null]) := csP_at
                      rw [est149] at hP hest149
                      refine lv_dup hx hb dX0_sheet_117 rfl ?_
                      refine lv_iload_n hx hb dX0_sheet_118 rfl (lv_at hl 3 rfl) ?_
                      obtain ⟨st150, hst150, h⟩ := bd1_some h
                      refine k_SI2 (nx := nx + 1) C had hO hP hS hz1 (live_new had) hest149 hst150 q1435 (Nat.le_of_ble_eq_true rfl) hl.1 (Nat.le_of_ble_eq_true rfl) ⟨by omega, by omega⟩ dX0_sheet_119 (fun H locs hO hP hS hz1 => ?_)
                      have hsub := fun k h => List.mem_append_left [1000 + (nx + 1)] (hsub k h)
                      refine sh_put (j := j146) (r := (some nx)) C hO hP hS (rdi_lt hj146) (fun a h => by cases h; exact live_app (live_new had)) dX0_sheet_122 (fun H locs hP hS => ?_)
                      refine lv_iconst (v := 1) hx hb dX0_sheet_125 (by decide) ?_
                      cases h
                      refine W.widen (k := 2) (n := 41) (Nat.le_of_ble_eq_true rfl) (Nat.le_of_ble_eq_true rfl) ?_
                      exact W.iret hx hb hr (fun t ht _ => ⟨rfl, hS.F ht, _, hsub, hO, by rw [ht]; exact hP⟩) hS.2.2 dX0_sheet_126
                    · have h := if_some_t h c148
                      obtain ⟨st151, hst151, h⟩ := bd1_some h
                      have est151 := Option.some.inj hst151
                      refine W.size0 (fun hH => ?_)
                      rw [hnx] at hH
                      refine cc_new (ci := 20) (Cn := RX23) (T := TX23) (N := 1) (ty0 := tyX23) (fs := [.null]) C had hO hP hS rfl in_X23 tyX23_ok q1422 q1423 q119 (fun j hj => by match j, hj with | 0, _ => rfl) (fun b h => by simp at h) (by omega) (by omega) dX0_sheet_103 (fun H hz1 hO hP hS => ?_)
                      rw [hH] at hO hP hz1 ⊢
                      have hsub := fun k h => List.mem_append_left [1000 + nx] (hsub k h)
                      have hest151 : (csP st142 (1000 + nx) (.inr (20, [.null]))).2.2.2 (1000 + nx) = .inr (20, [.null]) := csP_at
                      rw [est151] at hP hest151
                      refine lv_dup hx hb dX0_sheet_106 rfl ?_
                      refine lv_iload_n hx hb dX0_sheet_107 rfl (lv_at hl 3 rfl) ?_
                      obtain ⟨st152, hst152, h⟩ := bd1_some h
                      refine k_SI1 (nx := nx + 1) C had hO hP hS hz1 (live_new had) hest151 hst152 q1424 (Nat.le_of_ble_eq_true rfl) hl.1 (Nat.le_of_ble_eq_true rfl) ⟨by omega, by omega⟩ dX0_sheet_108 (fun H locs hO hP hS hz1 => ?_)
                      have hsub := fun k h => List.mem_append_left [1000 + (nx + 1)] (hsub k h)
                      refine lv_goto (tgt := 122) hx hb dX0_sheet_111 rfl ?_
                      refine sh_put (j := j146) (r := (some nx)) C hO hP hS (rdi_lt hj146) (fun a h => by cases h; exact live_app (live_new had)) dX0_sheet_122 (fun H locs hP hS => ?_)
                      refine lv_iconst (v := 1) hx hb dX0_sheet_125 (by decide) ?_
                      cases h
                      refine W.widen (k := 2) (n := 41) (Nat.le_of_ble_eq_true rfl) (Nat.le_of_ble_eq_true rfl) ?_
                      exact W.iret hx hb hr (fun t ht _ => ⟨rfl, hS.F ht, _, hsub, hO, by rw [ht]; exact hP⟩) hS.2.2 dX0_sheet_126
                  · have h := if_some_t h c147
                    obtain ⟨st153, hst153, h⟩ := bd1_some h
                    have est153 := Option.some.inj hst153
                    refine W.size0 (fun hH => ?_)
                    rw [hnx] at hH
                    refine cc_new (ci := 19) (Cn := RX22) (T := TX22) (N := 1) (ty0 := tyX22) (fs := [.null]) C had hO hP hS rfl in_X22 tyX22_ok q1409 q1410 q118 (fun j hj => by match j, hj with | 0, _ => rfl) (fun b h => by simp at h) (by omega) (by omega) dX0_sheet_86 (fun H hz1 hO hP hS => ?_)
                    rw [hH] at hO hP hz1 ⊢
                    have hsub := fun k h => List.mem_append_left [1000 + nx] (hsub k h)
                    have hest153 : (csP st142 (1000 + nx) (.inr (19, [.null]))).2.2.2 (1000 + nx) = .inr (19, [.null]) := csP_at
                    rw [est153] at hP hest153
                    refine lv_dup hx hb dX0_sheet_89 rfl ?_
                    refine lv_iload_n hx hb dX0_sheet_90 rfl (lv_at hl 3 rfl) ?_
                    obtain ⟨st154, hst154, h⟩ := bd1_some h
                    refine k_SI0 (nx := nx + 1) C had hO hP hS hz1 (live_new had) hest153 hst154 q1411 (Nat.le_of_ble_eq_true rfl) hl.1 (Nat.le_of_ble_eq_true rfl) ⟨by omega, by omega⟩ dX0_sheet_91 (fun H locs hO hP hS hz1 => ?_)
                    have hsub := fun k h => List.mem_append_left [1000 + (nx + 1)] (hsub k h)
                    refine lv_goto (tgt := 122) hx hb dX0_sheet_94 rfl ?_
                    refine sh_put (j := j146) (r := (some nx)) C hO hP hS (rdi_lt hj146) (fun a h => by cases h; exact live_app (live_new had)) dX0_sheet_122 (fun H locs hP hS => ?_)
                    refine lv_iconst (v := 1) hx hb dX0_sheet_125 (by decide) ?_
                    cases h
                    refine W.widen (k := 2) (n := 41) (Nat.le_of_ble_eq_true rfl) (Nat.le_of_ble_eq_true rfl) ?_
                    exact W.iret hx hb hr (fun t ht _ => ⟨rfl, hS.F ht, _, hsub, hO, by rw [ht]; exact hP⟩) hS.2.2 dX0_sheet_126
        · have h := if_some_t h c85
          refine lv_aload_n hx hb dX0_sheet_32 rfl (lv_at hl 0 rfl) ?_
          refine lg_sheets C hO hP dX0_sheet_33 ?_
          refine lv_iload_n hx hb dX0_sheet_36 rfl (lv_at hl 1 rfl) ?_
          obtain ⟨j155, hj155, h⟩ := bd1_some h
          refine sh_ald C hO hP hj155 dX0_sheet_37 ?_
          refine lv_null hx hb dX0_sheet_38 ?_
          refine sh_put (j := j155) (r := none) C hO hP hS (rdi_lt hj155) (fun _ h => by cases h) dX0_sheet_39 (fun H locs hP hS => ?_)
          refine lv_iconst (v := 1) hx hb dX0_sheet_42 (by decide) ?_
          cases h
          refine W.widen (k := 2) (n := 41) (Nat.le_of_ble_eq_true rfl) (Nat.le_of_ble_eq_true rfl) ?_
          exact W.iret hx hb hr (fun t ht _ => ⟨rfl, hS.F ht, _, hsub, hO, by rw [ht]; exact hP⟩) hS.2.2 dX0_sheet_43
    · have h := if_some_f h c79
      refine lv_iload_n hx hb dX0_sheet_12 rfl (lv_at hl 2 rfl) ?_
      obtain ⟨v156, hv156, h⟩ := bd1_some h
      refine k_L_isWidth hx hb C.2.2.1 hown C.2.2.2.2.1 C.2.2.2.2.2.1 q1406 hv156 (Nat.le_of_ble_eq_true rfl) hl.1 (Nat.le_of_ble_eq_true rfl) hcs dX0_sheet_13 ?_
      refine lv_if_eq (tgt := 23) hx hb dX0_sheet_16 rfl (fun c157 => ?_) (fun c157 => ?_)
      · have h := if_some_t h c157
        refine lv_iconst (v := 0) hx hb dX0_sheet_23 (by decide) ?_
        refine lv_iconst (v := 1) hx hb dX0_sheet_24 (by decide) ?_
        obtain ⟨o160, st159, hv158, h⟩ := bd2_some h
        rcases o160 with _ | v158
        · rw [onx_none] at h
          refine k_L_needT C hO hP hS hv158 q402 (Nat.le_of_ble_eq_true rfl) hl.1 (Nat.le_of_ble_eq_true rfl) hcs dX0_sheet_25 (fun H locs hP hS => ?_)
          refine cc_catch (pre := []) (a1 := 0) (a2 := 43) (hp := 127) (post := [(44, 126, 127, 8)]) C hO hP q129 htab rfl rfl ?_
          refine lv_astore (lv' := [(4, .ref (ad 61)), (0, .ref (ad 60)), (1, .int x1), (2, .int x2), (3, .int x3)]) hx hb dX0_sheet_127 hl (by decide) rfl (fun ls hl => ?_)
          refine lv_aload_n hx hb dX0_sheet_129 rfl (lv_at hl 1 rfl) ?_
          refine lv_aload hx hb dX0_sheet_130 (lv_at hl 0 rfl) ?_
          obtain ⟨v161, st162, hv161, h⟩ := bd2_some h
          refine k_L_finds C hO hP hS hv161 q410 (Nat.le_of_ble_eq_true rfl) hl.1 (Nat.le_of_ble_eq_true rfl) hcs dX0_sheet_132 (fun H locs hP hS => ?_)
          cases h
          refine W.widen (k := 2) (n := 41) (Nat.le_of_ble_eq_true rfl) (Nat.le_of_ble_eq_true rfl) ?_
          exact W.iret hx hb hr (fun t ht _ => ⟨rfl, hS.F ht, _, hsub, hO, by rw [ht]; exact hP⟩) hS.2.2 dX0_sheet_135
        · rw [onx_some] at h
          refine k_L_needR C hO hP hS hv158 q402 (Nat.le_of_ble_eq_true rfl) hl.1 (Nat.le_of_ble_eq_true rfl) hcs dX0_sheet_25 (fun H locs hP hS => ?_)
          refine lv_iload_n hx hb dX0_sheet_28 rfl (lv_at hl 2 rfl) ?_
          refine lv_if_ne (tgt := 44) hx hb dX0_sheet_29 rfl (fun c163 => ?_) (fun c163 => ?_)
          · have h := if_some_f h c163
            refine lv_aload_n hx hb dX0_sheet_44 rfl (lv_at hl 0 rfl) ?_
            refine lv_iload_n hx hb dX0_sheet_45 rfl (lv_at hl 3 rfl) ?_
            refine lv_if_lt (tgt := 53) hx hb dX0_sheet_46 rfl (fun c164 => ?_) (fun c164 => ?_)
            · have h := if_some_t h c164
              refine lv_iconst (v := 0) hx hb dX0_sheet_53 (by decide) ?_
              refine lv_iconst (v := 3) hx hb dX0_sheet_54 (by decide) ?_
              obtain ⟨o167, st166, hv165, h⟩ := bd2_some h
              rcases o167 with _ | v165
              · rw [onx_none] at h
                refine k_L_needT C hO hP hS hv165 q402 (Nat.le_of_ble_eq_true rfl) hl.1 (Nat.le_of_ble_eq_true rfl) hcs dX0_sheet_55 (fun H locs hP hS => ?_)
                refine cc_catch (pre := [(0, 43, 127, 8)]) (a1 := 44) (a2 := 126) (hp := 127) (post := []) C hO hP q129 htab rfl rfl ?_
                refine lv_astore (lv' := [(4, .ref (ad 61)), (0, .ref (ad 60)), (1, .int x1), (2, .int x2), (3, .int x3)]) hx hb dX0_sheet_127 hl (by decide) rfl (fun ls hl => ?_)
                refine lv_aload_n hx hb dX0_sheet_129 rfl (lv_at hl 1 rfl) ?_
                refine lv_aload hx hb dX0_sheet_130 (lv_at hl 0 rfl) ?_
                obtain ⟨v168, st169, hv168, h⟩ := bd2_some h
                refine k_L_finds C hO hP hS hv168 q410 (Nat.le_of_ble_eq_true rfl) hl.1 (Nat.le_of_ble_eq_true rfl) hcs dX0_sheet_132 (fun H locs hP hS => ?_)
                cases h
                refine W.widen (k := 2) (n := 41) (Nat.le_of_ble_eq_true rfl) (Nat.le_of_ble_eq_true rfl) ?_
                exact W.iret hx hb hr (fun t ht _ => ⟨rfl, hS.F ht, _, hsub, hO, by rw [ht]; exact hP⟩) hS.2.2 dX0_sheet_135
              · rw [onx_some] at h
                refine k_L_needR C hO hP hS hv165 q402 (Nat.le_of_ble_eq_true rfl) hl.1 (Nat.le_of_ble_eq_true rfl) hcs dX0_sheet_55 (fun H locs hP hS => ?_)
                refine lv_aload_n hx hb dX0_sheet_58 rfl (lv_at hl 0 rfl) ?_
                refine lv_iload_n hx hb dX0_sheet_59 rfl (lv_at hl 3 rfl) ?_
                refine lv_bipush (v := 40) hx hb dX0_sheet_60 (by decide) ?_
                refine lv_icmp_gt (tgt := 69) hx hb dX0_sheet_62 rfl (fun c170 => ?_) (fun c170 => ?_)
                · have h := if_some_t h c170
                  refine lv_iconst (v := 0) hx hb dX0_sheet_69 (by decide) ?_
                  refine lv_iconst (v := 1) hx hb dX0_sheet_70 (by decide) ?_
                  obtain ⟨o173, st172, hv171, h⟩ := bd2_some h
                  rcases o173 with _ | v171
                  · rw [onx_none] at h
                    refine k_L_needT C hO hP hS hv171 q402 (Nat.le_of_ble_eq_true rfl) hl.1 (Nat.le_of_ble_eq_true rfl) hcs dX0_sheet_71 (fun H locs hP hS => ?_)
                    refine cc_catch (pre := [(0, 43, 127, 8)]) (a1 := 44) (a2 := 126) (hp := 127) (post := []) C hO hP q129 htab rfl rfl ?_
                    refine lv_astore (lv' := [(4, .ref (ad 61)), (0, .ref (ad 60)), (1, .int x1), (2, .int x2), (3, .int x3)]) hx hb dX0_sheet_127 hl (by decide) rfl (fun ls hl => ?_)
                    refine lv_aload_n hx hb dX0_sheet_129 rfl (lv_at hl 1 rfl) ?_
                    refine lv_aload hx hb dX0_sheet_130 (lv_at hl 0 rfl) ?_
                    obtain ⟨v174, st175, hv174, h⟩ := bd2_some h
                    refine k_L_finds C hO hP hS hv174 q410 (Nat.le_of_ble_eq_true rfl) hl.1 (Nat.le_of_ble_eq_true rfl) hcs dX0_sheet_132 (fun H locs hP hS => ?_)
                    cases h
                    refine W.widen (k := 2) (n := 41) (Nat.le_of_ble_eq_true rfl) (Nat.le_of_ble_eq_true rfl) ?_
                    exact W.iret hx hb hr (fun t ht _ => ⟨rfl, hS.F ht, _, hsub, hO, by rw [ht]; exact hP⟩) hS.2.2 dX0_sheet_135
                  · rw [onx_some] at h
                    refine k_L_needR C hO hP hS hv171 q402 (Nat.le_of_ble_eq_true rfl) hl.1 (Nat.le_of_ble_eq_true rfl) hcs dX0_sheet_71 (fun H locs hP hS => ?_)
                    refine lv_aload_n hx hb dX0_sheet_74 rfl (lv_at hl 0 rfl) ?_
                    refine lg_sheets C hO hP dX0_sheet_75 ?_
                    refine lv_iload_n hx hb dX0_sheet_78 rfl (lv_at hl 1 rfl) ?_
                    obtain ⟨j176, hj176, h⟩ := bd1_some h
                    refine sh_ald C hO hP hj176 dX0_sheet_79 ?_
                    refine lv_iload_n hx hb dX0_sheet_80 rfl (lv_at hl 2 rfl) ?_
                    refine lv_bipush (v := 8) hx hb dX0_sheet_81 (by decide) ?_
                    refine lv_icmp_ne (tgt := 97) hx hb dX0_sheet_83 rfl (fun c177 => ?_) (fun c177 => ?_)
                    · have h := if_some_f h c177
                      refine lv_iload_n hx hb dX0_sheet_97 rfl (lv_at hl 2 rfl) ?_
                      refine lv_bipush (v := 16) hx hb dX0_sheet_98 (by decide) ?_
                      refine lv_icmp_ne (tgt := 114) hx hb dX0_sheet_100 rfl (fun c178 => ?_) (fun c178 => ?_)
                      · have h := if_some_f h c178
                        obtain ⟨st179, hst179, h⟩ := bd1_some h
                        have est179 := Option.some.inj hst179
                        refine W.size0 (fun hH => ?_)
                        rw [hnx] at hH
                        refine cc_new (ci := 21) (Cn := RX24) (T := TX24) (N := 1) (ty0 := tyX24) (fs := [.null]) C had hO hP hS rfl in_X24 tyX24_ok q1433 q1434 q120 (fun j hj => by match j, hj with | 0, _ => rfl) (fun b h => by simp at h) (by omega) (by omega) dX0_sheet_114 (fun H hz1 hO hP hS => ?_)
                        rw [hH] at hO hP hz1 ⊢
                        have hsub := fun k h => List.mem_append_left [1000 + nx] (hsub k h)
                        have hest179 : (csP st172 (1000 + nx) (.inr (21, [.null]))).2.2.2 (1000 + nx) = .inr (21, [.null]) := csP_at
                        rw [est179] at hP hest179
                        refine lv_dup hx hb dX0_sheet_117 rfl ?_
                        refine lv_iload_n hx hb dX0_sheet_118 rfl (lv_at hl 3 rfl) ?_
                        obtain ⟨st180, hst180, h⟩ := bd1_some h
                        refine k_SI2 (nx := nx + 1) C had hO hP hS hz1 (live_new had) hest179 hst180 q1435 (Nat.le_of_ble_eq_true rfl) hl.1 (Nat.le_of_ble_eq_true rfl) ⟨by omega, by omega⟩ dX0_sheet_119 (fun H locs hO hP hS hz1 => ?_)
                        have hsub := fun k h => List.mem_append_left [1000 + (nx + 1)] (hsub k h)
                        refine sh_put (j := j176) (r := (some nx)) C hO hP hS (rdi_lt hj176) (fun a h => by cases h; exact live_app (live_new had)) dX0_sheet_122 (fun H locs hP hS => ?_)
                        refine lv_iconst (v := 1) hx hb dX0_sheet_125 (by decide) ?_
                        cases h
                        refine W.widen (k := 2) (n := 41) (Nat.le_of_ble_eq_true rfl) (Nat.le_of_ble_eq_true rfl) ?_
                        exact W.iret hx hb hr (fun t ht _ => ⟨rfl, hS.F ht, _, hsub, hO, by rw [ht]; exact hP⟩) hS.2.2 dX0_sheet_126
                      · have h := if_some_t h c178
                        obtain ⟨st181, hst181, h⟩ := bd1_some h
                        have est181 := Option.some.inj hst181
                        refine W.size0 (fun hH => ?_)
                        rw [hnx] at hH
                        refine cc_new (ci := 20) (Cn := RX23) (T := TX23) (N := 1) (ty0 := tyX23) (fs := [.null]) C had hO hP hS rfl in_X23 tyX23_ok q1422 q1423 q119 (fun j hj => by match j, hj with | 0, _ => rfl) (fun b h => by simp at h) (by omega) (by omega) dX0_sheet_103 (fun H hz1 hO hP hS => ?_)
                        rw [hH] at hO hP hz1 ⊢
                        have hsub := fun k h => List.mem_append_left [1000 + nx] (hsub k h)
                        have hest181 : (csP st172 (1000 + nx) (.inr (20, [.null]))).2.2.2 (1000 + nx) = .inr (20, [.null]) := csP_at
                        rw [est181] at hP hest181
                        refine lv_dup hx hb dX0_sheet_106 rfl ?_
                        refine lv_iload_n hx hb dX0_sheet_107 rfl (lv_at hl 3 rfl) ?_
                        obtain ⟨st182, hst182, h⟩ := bd1_some h
                        refine k_SI1 (nx := nx + 1) C had hO hP hS hz1 (live_new had) hest181 hst182 q1424 (Nat.le_of_ble_eq_true rfl) hl.1 (Nat.le_of_ble_eq_true rfl) ⟨by omega, by omega⟩ dX0_sheet_108 (fun H locs hO hP hS hz1 => ?_)
                        have hsub := fun k h => List.mem_append_left [1000 + (nx + 1)] (hsub k h)
                        refine lv_goto (tgt := 122) hx hb dX0_sheet_111 rfl ?_
                        refine sh_put (j := j176) (r := (some nx)) C hO hP hS (rdi_lt hj176) (fun a h => by cases h; exact live_app (live_new had)) dX0_sheet_122 (fun H locs hP hS => ?_)
                        refine lv_iconst (v := 1) hx hb dX0_sheet_125 (by decide) ?_
                        cases h
                        refine W.widen (k := 2) (n := 41) (Nat.le_of_ble_eq_true rfl) (Nat.le_of_ble_eq_true rfl) ?_
                        exact W.iret hx hb hr (fun t ht _ => ⟨rfl, hS.F ht, _, hsub, hO, by rw [ht]; exact hP⟩) hS.2.2 dX0_sheet_126
                    · have h := if_some_t h c177
                      obtain ⟨st183, hst183, h⟩ := bd1_some h
                      have est183 := Option.some.inj hst183
                      refine W.size0 (fun hH => ?_)
                      rw [hnx] at hH
                      refine cc_new (ci := 19) (Cn := RX22) (T := TX22) (N := 1) (ty0 := tyX22) (fs := [.null]) C had hO hP hS rfl in_X22 tyX22_ok q1409 q1410 q118 (fun j hj => by match j, hj with | 0, _ => rfl) (fun b h => by simp at h) (by omega) (by omega) dX0_sheet_86 (fun H hz1 hO hP hS => ?_)
                      rw [hH] at hO hP hz1 ⊢
                      have hsub := fun k h => List.mem_append_left [1000 + nx] (hsub k h)
                      have hest183 : (csP st172 (1000 + nx) (.inr (19, [.null]))).2.2.2 (1000 + nx) = .inr (19, [.null]) := csP_at
                      rw [est183] at hP hest183
                      refine lv_dup hx hb dX0_sheet_89 rfl ?_
                      refine lv_iload_n hx hb dX0_sheet_90 rfl (lv_at hl 3 rfl) ?_
                      obtain ⟨st184, hst184, h⟩ := bd1_some h
                      refine k_SI0 (nx := nx + 1) C had hO hP hS hz1 (live_new had) hest183 hst184 q1411 (Nat.le_of_ble_eq_true rfl) hl.1 (Nat.le_of_ble_eq_true rfl) ⟨by omega, by omega⟩ dX0_sheet_91 (fun H locs hO hP hS hz1 => ?_)
                      have hsub := fun k h => List.mem_append_left [1000 + (nx + 1)] (hsub k h)
                      refine lv_goto (tgt := 122) hx hb dX0_sheet_94 rfl ?_
                      refine sh_put (j := j176) (r := (some nx)) C hO hP hS (rdi_lt hj176) (fun a h => by cases h; exact live_app (live_new had)) dX0_sheet_122 (fun H locs hP hS => ?_)
                      refine lv_iconst (v := 1) hx hb dX0_sheet_125 (by decide) ?_
                      cases h
                      refine W.widen (k := 2) (n := 41) (Nat.le_of_ble_eq_true rfl) (Nat.le_of_ble_eq_true rfl) ?_
                      exact W.iret hx hb hr (fun t ht _ => ⟨rfl, hS.F ht, _, hsub, hO, by rw [ht]; exact hP⟩) hS.2.2 dX0_sheet_126
                · have h := if_some_f h c170
                  refine lv_iconst (v := 1) hx hb dX0_sheet_65 (by decide) ?_
                  refine lv_goto (tgt := 70) hx hb dX0_sheet_66 rfl ?_
                  refine lv_iconst (v := 1) hx hb dX0_sheet_70 (by decide) ?_
                  obtain ⟨o187, st186, hv185, h⟩ := bd2_some h
                  rcases o187 with _ | v185
                  · rw [onx_none] at h
                    refine k_L_needT C hO hP hS hv185 q402 (Nat.le_of_ble_eq_true rfl) hl.1 (Nat.le_of_ble_eq_true rfl) hcs dX0_sheet_71 (fun H locs hP hS => ?_)
                    refine cc_catch (pre := [(0, 43, 127, 8)]) (a1 := 44) (a2 := 126) (hp := 127) (post := []) C hO hP q129 htab rfl rfl ?_
                    refine lv_astore (lv' := [(4, .ref (ad 61)), (0, .ref (ad 60)), (1, .int x1), (2, .int x2), (3, .int x3)]) hx hb dX0_sheet_127 hl (by decide) rfl (fun ls hl => ?_)
                    refine lv_aload_n hx hb dX0_sheet_129 rfl (lv_at hl 1 rfl) ?_
                    refine lv_aload hx hb dX0_sheet_130 (lv_at hl 0 rfl) ?_
                    obtain ⟨v188, st189, hv188, h⟩ := bd2_some h
                    refine k_L_finds C hO hP hS hv188 q410 (Nat.le_of_ble_eq_true rfl) hl.1 (Nat.le_of_ble_eq_true rfl) hcs dX0_sheet_132 (fun H locs hP hS => ?_)
                    cases h
                    refine W.widen (k := 2) (n := 41) (Nat.le_of_ble_eq_true rfl) (Nat.le_of_ble_eq_true rfl) ?_
                    exact W.iret hx hb hr (fun t ht _ => ⟨rfl, hS.F ht, _, hsub, hO, by rw [ht]; exact hP⟩) hS.2.2 dX0_sheet_135
                  · rw [onx_some] at h
                    refine k_L_needR C hO hP hS hv185 q402 (Nat.le_of_ble_eq_true rfl) hl.1 (Nat.le_of_ble_eq_true rfl) hcs dX0_sheet_71 (fun H locs hP hS => ?_)
                    refine lv_aload_n hx hb dX0_sheet_74 rfl (lv_at hl 0 rfl) ?_
                    refine lg_sheets C hO hP dX0_sheet_75 ?_
                    refine lv_iload_n hx hb dX0_sheet_78 rfl (lv_at hl 1 rfl) ?_
                    obtain ⟨j190, hj190, h⟩ := bd1_some h
                    refine sh_ald C hO hP hj190 dX0_sheet_79 ?_
                    refine lv_iload_n hx hb dX0_sheet_80 rfl (lv_at hl 2 rfl) ?_
                    refine lv_bipush (v := 8) hx hb dX0_sheet_81 (by decide) ?_
                    refine lv_icmp_ne (tgt := 97) hx hb dX0_sheet_83 rfl (fun c191 => ?_) (fun c191 => ?_)
                    · have h := if_some_f h c191
                      refine lv_iload_n hx hb dX0_sheet_97 rfl (lv_at hl 2 rfl) ?_
                      refine lv_bipush (v := 16) hx hb dX0_sheet_98 (by decide) ?_
                      refine lv_icmp_ne (tgt := 114) hx hb dX0_sheet_100 rfl (fun c192 => ?_) (fun c192 => ?_)
                      · have h := if_some_f h c192
                        obtain ⟨st193, hst193, h⟩ := bd1_some h
                        have est193 := Option.some.inj hst193
                        refine W.size0 (fun hH => ?_)
                        rw [hnx] at hH
                        refine cc_new (ci := 21) (Cn := RX24) (T := TX24) (N := 1) (ty0 := tyX24) (fs := [.null]) C had hO hP hS rfl in_X24 tyX24_ok q1433 q1434 q120 (fun j hj => by match j, hj with | 0, _ => rfl) (fun b h => by simp at h) (by omega) (by omega) dX0_sheet_114 (fun H hz1 hO hP hS => ?_)
                        rw [hH] at hO hP hz1 ⊢
                        have hsub := fun k h => List.mem_append_left [1000 + nx] (hsub k h)
                        have hest193 : (csP st186 (1000 + nx) (.inr (21, [.null]))).2.2.2 (1000 + nx) = .inr (21, [.null]) := csP_at
                        rw [est193] at hP hest193
                        refine lv_dup hx hb dX0_sheet_117 rfl ?_
                        refine lv_iload_n hx hb dX0_sheet_118 rfl (lv_at hl 3 rfl) ?_
                        obtain ⟨st194, hst194, h⟩ := bd1_some h
                        refine k_SI2 (nx := nx + 1) C had hO hP hS hz1 (live_new had) hest193 hst194 q1435 (Nat.le_of_ble_eq_true rfl) hl.1 (Nat.le_of_ble_eq_true rfl) ⟨by omega, by omega⟩ dX0_sheet_119 (fun H locs hO hP hS hz1 => ?_)
                        have hsub := fun k h => List.mem_append_left [1000 + (nx + 1)] (hsub k h)
                        refine sh_put (j := j190) (r := (some nx)) C hO hP hS (rdi_lt hj190) (fun a h => by cases h; exact live_app (live_new had)) dX0_sheet_122 (fun H locs hP hS => ?_)
                        refine lv_iconst (v := 1) hx hb dX0_sheet_125 (by decide) ?_
                        cases h
                        refine W.widen (k := 2) (n := 41) (Nat.le_of_ble_eq_true rfl) (Nat.le_of_ble_eq_true rfl) ?_
                        exact W.iret hx hb hr (fun t ht _ => ⟨rfl, hS.F ht, _, hsub, hO, by rw [ht]; exact hP⟩) hS.2.2 dX0_sheet_126
                      · have h := if_some_t h c192
                        obtain ⟨st195, hst195, h⟩ := bd1_some h
                        have est195 := Option.some.inj hst195
                        refine W.size0 (fun hH => ?_)
                        rw [hnx] at hH
                        refine cc_new (ci := 20) (Cn := RX23) (T := TX23) (N := 1) (ty0 := tyX23) (fs := [.null]) C had hO hP hS rfl in_X23 tyX23_ok q1422 q1423 q119 (fun j hj => by match j, hj with | 0, _ => rfl) (fun b h => by simp at h) (by omega) (by omega) dX0_sheet_103 (fun H hz1 hO hP hS => ?_)
                        rw [hH] at hO hP hz1 ⊢
                        have hsub := fun k h => List.mem_append_left [1000 + nx] (hsub k h)
                        have hest195 : (csP st186 (1000 + nx) (.inr (20, [.null]))).2.2.2 (1000 + nx) = .inr (20, [.null]) := csP_at
                        rw [est195] at hP hest195
                        refine lv_dup hx hb dX0_sheet_106 rfl ?_
                        refine lv_iload_n hx hb dX0_sheet_107 rfl (lv_at hl 3 rfl) ?_
                        obtain ⟨st196, hst196, h⟩ := bd1_some h
                        refine k_SI1 (nx := nx + 1) C had hO hP hS hz1 (live_new had) hest195 hst196 q1424 (Nat.le_of_ble_eq_true rfl) hl.1 (Nat.le_of_ble_eq_true rfl) ⟨by omega, by omega⟩ dX0_sheet_108 (fun H locs hO hP hS hz1 => ?_)
                        have hsub := fun k h => List.mem_append_left [1000 + (nx + 1)] (hsub k h)
                        refine lv_goto (tgt := 122) hx hb dX0_sheet_111 rfl ?_
                        refine sh_put (j := j190) (r := (some nx)) C hO hP hS (rdi_lt hj190) (fun a h => by cases h; exact live_app (live_new had)) dX0_sheet_122 (fun H locs hP hS => ?_)
                        refine lv_iconst (v := 1) hx hb dX0_sheet_125 (by decide) ?_
                        cases h
                        refine W.widen (k := 2) (n := 41) (Nat.le_of_ble_eq_true rfl) (Nat.le_of_ble_eq_true rfl) ?_
                        exact W.iret hx hb hr (fun t ht _ => ⟨rfl, hS.F ht, _, hsub, hO, by rw [ht]; exact hP⟩) hS.2.2 dX0_sheet_126
                    · have h := if_some_t h c191
                      obtain ⟨st197, hst197, h⟩ := bd1_some h
                      have est197 := Option.some.inj hst197
                      refine W.size0 (fun hH => ?_)
                      rw [hnx] at hH
                      refine cc_new (ci := 19) (Cn := RX22) (T := TX22) (N := 1) (ty0 := tyX22) (fs := [.null]) C had hO hP hS rfl in_X22 tyX22_ok q1409 q1410 q118 (fun j hj => by match j, hj with | 0, _ => rfl) (fun b h => by simp at h) (by omega) (by omega) dX0_sheet_86 (fun H hz1 hO hP hS => ?_)
                      rw [hH] at hO hP hz1 ⊢
                      have hsub := fun k h => List.mem_append_left [1000 + nx] (hsub k h)
                      have hest197 : (csP st186 (1000 + nx) (.inr (19, [.null]))).2.2.2 (1000 + nx) = .inr (19, [.null]) := csP_at
                      rw [est197] at hP hest197
                      refine lv_dup hx hb dX0_sheet_89 rfl ?_
                      refine lv_iload_n hx hb dX0_sheet_90 rfl (lv_at hl 3 rfl) ?_
                      obtain ⟨st198, hst198, h⟩ := bd1_some h
                      refine k_SI0 (nx := nx + 1) C had hO hP hS hz1 (live_new had) hest197 hst198 q1411 (Nat.le_of_ble_eq_true rfl) hl.1 (Nat.le_of_ble_eq_true rfl) ⟨by omega, by omega⟩ dX0_sheet_91 (fun H locs hO hP hS hz1 => ?_)
                      have hsub := fun k h => List.mem_append_left [1000 + (nx + 1)] (hsub k h)
                      refine lv_goto (tgt := 122) hx hb dX0_sheet_94 rfl ?_
                      refine sh_put (j := j190) (r := (some nx)) C hO hP hS (rdi_lt hj190) (fun a h => by cases h; exact live_app (live_new had)) dX0_sheet_122 (fun H locs hP hS => ?_)
                      refine lv_iconst (v := 1) hx hb dX0_sheet_125 (by decide) ?_
                      cases h
                      refine W.widen (k := 2) (n := 41) (Nat.le_of_ble_eq_true rfl) (Nat.le_of_ble_eq_true rfl) ?_
                      exact W.iret hx hb hr (fun t ht _ => ⟨rfl, hS.F ht, _, hsub, hO, by rw [ht]; exact hP⟩) hS.2.2 dX0_sheet_126
            · have h := if_some_f h c164
              refine lv_iconst (v := 1) hx hb dX0_sheet_49 (by decide) ?_
              refine lv_goto (tgt := 54) hx hb dX0_sheet_50 rfl ?_
              refine lv_iconst (v := 3) hx hb dX0_sheet_54 (by decide) ?_
              obtain ⟨o201, st200, hv199, h⟩ := bd2_some h
              rcases o201 with _ | v199
              · rw [onx_none] at h
                refine k_L_needT C hO hP hS hv199 q402 (Nat.le_of_ble_eq_true rfl) hl.1 (Nat.le_of_ble_eq_true rfl) hcs dX0_sheet_55 (fun H locs hP hS => ?_)
                refine cc_catch (pre := [(0, 43, 127, 8)]) (a1 := 44) (a2 := 126) (hp := 127) (post := []) C hO hP q129 htab rfl rfl ?_
                refine lv_astore (lv' := [(4, .ref (ad 61)), (0, .ref (ad 60)), (1, .int x1), (2, .int x2), (3, .int x3)]) hx hb dX0_sheet_127 hl (by decide) rfl (fun ls hl => ?_)
                refine lv_aload_n hx hb dX0_sheet_129 rfl (lv_at hl 1 rfl) ?_
                refine lv_aload hx hb dX0_sheet_130 (lv_at hl 0 rfl) ?_
                obtain ⟨v202, st203, hv202, h⟩ := bd2_some h
                refine k_L_finds C hO hP hS hv202 q410 (Nat.le_of_ble_eq_true rfl) hl.1 (Nat.le_of_ble_eq_true rfl) hcs dX0_sheet_132 (fun H locs hP hS => ?_)
                cases h
                refine W.widen (k := 2) (n := 41) (Nat.le_of_ble_eq_true rfl) (Nat.le_of_ble_eq_true rfl) ?_
                exact W.iret hx hb hr (fun t ht _ => ⟨rfl, hS.F ht, _, hsub, hO, by rw [ht]; exact hP⟩) hS.2.2 dX0_sheet_135
              · rw [onx_some] at h
                refine k_L_needR C hO hP hS hv199 q402 (Nat.le_of_ble_eq_true rfl) hl.1 (Nat.le_of_ble_eq_true rfl) hcs dX0_sheet_55 (fun H locs hP hS => ?_)
                refine lv_aload_n hx hb dX0_sheet_58 rfl (lv_at hl 0 rfl) ?_
                refine lv_iload_n hx hb dX0_sheet_59 rfl (lv_at hl 3 rfl) ?_
                refine lv_bipush (v := 40) hx hb dX0_sheet_60 (by decide) ?_
                refine lv_icmp_gt (tgt := 69) hx hb dX0_sheet_62 rfl (fun c204 => ?_) (fun c204 => ?_)
                · have h := if_some_t h c204
                  refine lv_iconst (v := 0) hx hb dX0_sheet_69 (by decide) ?_
                  refine lv_iconst (v := 1) hx hb dX0_sheet_70 (by decide) ?_
                  obtain ⟨o207, st206, hv205, h⟩ := bd2_some h
                  rcases o207 with _ | v205
                  · rw [onx_none] at h
                    refine k_L_needT C hO hP hS hv205 q402 (Nat.le_of_ble_eq_true rfl) hl.1 (Nat.le_of_ble_eq_true rfl) hcs dX0_sheet_71 (fun H locs hP hS => ?_)
                    refine cc_catch (pre := [(0, 43, 127, 8)]) (a1 := 44) (a2 := 126) (hp := 127) (post := []) C hO hP q129 htab rfl rfl ?_
                    refine lv_astore (lv' := [(4, .ref (ad 61)), (0, .ref (ad 60)), (1, .int x1), (2, .int x2), (3, .int x3)]) hx hb dX0_sheet_127 hl (by decide) rfl (fun ls hl => ?_)
                    refine lv_aload_n hx hb dX0_sheet_129 rfl (lv_at hl 1 rfl) ?_
                    refine lv_aload hx hb dX0_sheet_130 (lv_at hl 0 rfl) ?_
                    obtain ⟨v208, st209, hv208, h⟩ := bd2_some h
                    refine k_L_finds C hO hP hS hv208 q410 (Nat.le_of_ble_eq_true rfl) hl.1 (Nat.le_of_ble_eq_true rfl) hcs dX0_sheet_132 (fun H locs hP hS => ?_)
                    cases h
                    refine W.widen (k := 2) (n := 41) (Nat.le_of_ble_eq_true rfl) (Nat.le_of_ble_eq_true rfl) ?_
                    exact W.iret hx hb hr (fun t ht _ => ⟨rfl, hS.F ht, _, hsub, hO, by rw [ht]; exact hP⟩) hS.2.2 dX0_sheet_135
                  · rw [onx_some] at h
                    refine k_L_needR C hO hP hS hv205 q402 (Nat.le_of_ble_eq_true rfl) hl.1 (Nat.le_of_ble_eq_true rfl) hcs dX0_sheet_71 (fun H locs hP hS => ?_)
                    refine lv_aload_n hx hb dX0_sheet_74 rfl (lv_at hl 0 rfl) ?_
                    refine lg_sheets C hO hP dX0_sheet_75 ?_
                    refine lv_iload_n hx hb dX0_sheet_78 rfl (lv_at hl 1 rfl) ?_
                    obtain ⟨j210, hj210, h⟩ := bd1_some h
                    refine sh_ald C hO hP hj210 dX0_sheet_79 ?_
                    refine lv_iload_n hx hb dX0_sheet_80 rfl (lv_at hl 2 rfl) ?_
                    refine lv_bipush (v := 8) hx hb dX0_sheet_81 (by decide) ?_
                    refine lv_icmp_ne (tgt := 97) hx hb dX0_sheet_83 rfl (fun c211 => ?_) (fun c211 => ?_)
                    · have h := if_some_f h c211
                      refine lv_iload_n hx hb dX0_sheet_97 rfl (lv_at hl 2 rfl) ?_
                      refine lv_bipush (v := 16) hx hb dX0_sheet_98 (by decide) ?_
                      refine lv_icmp_ne (tgt := 114) hx hb dX0_sheet_100 rfl (fun c212 => ?_) (fun c212 => ?_)
                      · have h := if_some_f h c212
                        obtain ⟨st213, hst213, h⟩ := bd1_some h
                        have est213 := Option.some.inj hst213
                        refine W.size0 (fun hH => ?_)
                        rw [hnx] at hH
                        refine cc_new (ci := 21) (Cn := RX24) (T := TX24) (N := 1) (ty0 := tyX24) (fs := [.null]) C had hO hP hS rfl in_X24 tyX24_ok q1433 q1434 q120 (fun j hj => by match j, hj with | 0, _ => rfl) (fun b h => by simp at h) (by omega) (by omega) dX0_sheet_114 (fun H hz1 hO hP hS => ?_)
                        rw [hH] at hO hP hz1 ⊢
                        have hsub := fun k h => List.mem_append_left [1000 + nx] (hsub k h)
                        have hest213 : (csP st206 (1000 + nx) (.inr (21, [.null]))).2.2.2 (1000 + nx) = .inr (21, [.null]) := csP_at
                        rw [est213] at hP hest213
                        refine lv_dup hx hb dX0_sheet_117 rfl ?_
                        refine lv_iload_n hx hb dX0_sheet_118 rfl (lv_at hl 3 rfl) ?_
                        obtain ⟨st214, hst214, h⟩ := bd1_some h
                        refine k_SI2 (nx := nx + 1) C had hO hP hS hz1 (live_new had) hest213 hst214 q1435 (Nat.le_of_ble_eq_true rfl) hl.1 (Nat.le_of_ble_eq_true rfl) ⟨by omega, by omega⟩ dX0_sheet_119 (fun H locs hO hP hS hz1 => ?_)
                        have hsub := fun k h => List.mem_append_left [1000 + (nx + 1)] (hsub k h)
                        refine sh_put (j := j210) (r := (some nx)) C hO hP hS (rdi_lt hj210) (fun a h => by cases h; exact live_app (live_new had)) dX0_sheet_122 (fun H locs hP hS => ?_)
                        refine lv_iconst (v := 1) hx hb dX0_sheet_125 (by decide) ?_
                        cases h
                        refine W.widen (k := 2) (n := 41) (Nat.le_of_ble_eq_true rfl) (Nat.le_of_ble_eq_true rfl) ?_
                        exact W.iret hx hb hr (fun t ht _ => ⟨rfl, hS.F ht, _, hsub, hO, by rw [ht]; exact hP⟩) hS.2.2 dX0_sheet_126
                      · have h := if_some_t h c212
                        obtain ⟨st215, hst215, h⟩ := bd1_some h
                        have est215 := Option.some.inj hst215
                        refine W.size0 (fun hH => ?_)
                        rw [hnx] at hH
                        refine cc_new (ci := 20) (Cn := RX23) (T := TX23) (N := 1) (ty0 := tyX23) (fs := [.null]) C had hO hP hS rfl in_X23 tyX23_ok q1422 q1423 q119 (fun j hj => by match j, hj with | 0, _ => rfl) (fun b h => by simp at h) (by omega) (by omega) dX0_sheet_103 (fun H hz1 hO hP hS => ?_)
                        rw [hH] at hO hP hz1 ⊢
                        have hsub := fun k h => List.mem_append_left [1000 + nx] (hsub k h)
                        have hest215 : (csP st206 (1000 + nx) (.inr (20, [.null]))).2.2.2 (1000 + nx) = .inr (20, [.null]) := csP_at
                        rw [est215] at hP hest215
                        refine lv_dup hx hb dX0_sheet_106 rfl ?_
                        refine lv_iload_n hx hb dX0_sheet_107 rfl (lv_at hl 3 rfl) ?_
                        obtain ⟨st216, hst216, h⟩ := bd1_some h
                        refine k_SI1 (nx := nx + 1) C had hO hP hS hz1 (live_new had) hest215 hst216 q1424 (Nat.le_of_ble_eq_true rfl) hl.1 (Nat.le_of_ble_eq_true rfl) ⟨by omega, by omega⟩ dX0_sheet_108 (fun H locs hO hP hS hz1 => ?_)
                        have hsub := fun k h => List.mem_append_left [1000 + (nx + 1)] (hsub k h)
                        refine lv_goto (tgt := 122) hx hb dX0_sheet_111 rfl ?_
                        refine sh_put (j := j210) (r := (some nx)) C hO hP hS (rdi_lt hj210) (fun a h => by cases h; exact live_app (live_new had)) dX0_sheet_122 (fun H locs hP hS => ?_)
                        refine lv_iconst (v := 1) hx hb dX0_sheet_125 (by decide) ?_
                        cases h
                        refine W.widen (k := 2) (n := 41) (Nat.le_of_ble_eq_true rfl) (Nat.le_of_ble_eq_true rfl) ?_
                        exact W.iret hx hb hr (fun t ht _ => ⟨rfl, hS.F ht, _, hsub, hO, by rw [ht]; exact hP⟩) hS.2.2 dX0_sheet_126
                    · have h := if_some_t h c211
                      obtain ⟨st217, hst217, h⟩ := bd1_some h
                      have est217 := Option.some.inj hst217
                      refine W.size0 (fun hH => ?_)
                      rw [hnx] at hH
                      refine cc_new (ci := 19) (Cn := RX22) (T := TX22) (N := 1) (ty0 := tyX22) (fs := [.null]) C had hO hP hS rfl in_X22 tyX22_ok q1409 q1410 q118 (fun j hj => by match j, hj with | 0, _ => rfl) (fun b h => by simp at h) (by omega) (by omega) dX0_sheet_86 (fun H hz1 hO hP hS => ?_)
                      rw [hH] at hO hP hz1 ⊢
                      have hsub := fun k h => List.mem_append_left [1000 + nx] (hsub k h)
                      have hest217 : (csP st206 (1000 + nx) (.inr (19, [.null]))).2.2.2 (1000 + nx) = .inr (19, [.null]) := csP_at
                      rw [est217] at hP hest217
                      refine lv_dup hx hb dX0_sheet_89 rfl ?_
                      refine lv_iload_n hx hb dX0_sheet_90 rfl (lv_at hl 3 rfl) ?_
                      obtain ⟨st218, hst218, h⟩ := bd1_some h
                      refine k_SI0 (nx := nx + 1) C had hO hP hS hz1 (live_new had) hest217 hst218 q1411 (Nat.le_of_ble_eq_true rfl) hl.1 (Nat.le_of_ble_eq_true rfl) ⟨by omega, by omega⟩ dX0_sheet_91 (fun H locs hO hP hS hz1 => ?_)
                      have hsub := fun k h => List.mem_append_left [1000 + (nx + 1)] (hsub k h)
                      refine lv_goto (tgt := 122) hx hb dX0_sheet_94 rfl ?_
                      refine sh_put (j := j210) (r := (some nx)) C hO hP hS (rdi_lt hj210) (fun a h => by cases h; exact live_app (live_new had)) dX0_sheet_122 (fun H locs hP hS => ?_)
                      refine lv_iconst (v := 1) hx hb dX0_sheet_125 (by decide) ?_
                      cases h
                      refine W.widen (k := 2) (n := 41) (Nat.le_of_ble_eq_true rfl) (Nat.le_of_ble_eq_true rfl) ?_
                      exact W.iret hx hb hr (fun t ht _ => ⟨rfl, hS.F ht, _, hsub, hO, by rw [ht]; exact hP⟩) hS.2.2 dX0_sheet_126
                · have h := if_some_f h c204
                  refine lv_iconst (v := 1) hx hb dX0_sheet_65 (by decide) ?_
                  refine lv_goto (tgt := 70) hx hb dX0_sheet_66 rfl ?_
                  refine lv_iconst (v := 1) hx hb dX0_sheet_70 (by decide) ?_
                  obtain ⟨o221, st220, hv219, h⟩ := bd2_some h
                  rcases o221 with _ | v219
                  · rw [onx_none] at h
                    refine k_L_needT C hO hP hS hv219 q402 (Nat.le_of_ble_eq_true rfl) hl.1 (Nat.le_of_ble_eq_true rfl) hcs dX0_sheet_71 (fun H locs hP hS => ?_)
                    refine cc_catch (pre := [(0, 43, 127, 8)]) (a1 := 44) (a2 := 126) (hp := 127) (post := []) C hO hP q129 htab rfl rfl ?_
                    refine lv_astore (lv' := [(4, .ref (ad 61)), (0, .ref (ad 60)), (1, .int x1), (2, .int x2), (3, .int x3)]) hx hb dX0_sheet_127 hl (by decide) rfl (fun ls hl => ?_)
                    refine lv_aload_n hx hb dX0_sheet_129 rfl (lv_at hl 1 rfl) ?_
                    refine lv_aload hx hb dX0_sheet_130 (lv_at hl 0 rfl) ?_
                    obtain ⟨v222, st223, hv222, h⟩ := bd2_some h
                    refine k_L_finds C hO hP hS hv222 q410 (Nat.le_of_ble_eq_true rfl) hl.1 (Nat.le_of_ble_eq_true rfl) hcs dX0_sheet_132 (fun H locs hP hS => ?_)
                    cases h
                    refine W.widen (k := 2) (n := 41) (Nat.le_of_ble_eq_true rfl) (Nat.le_of_ble_eq_true rfl) ?_
                    exact W.iret hx hb hr (fun t ht _ => ⟨rfl, hS.F ht, _, hsub, hO, by rw [ht]; exact hP⟩) hS.2.2 dX0_sheet_135
                  · rw [onx_some] at h
                    refine k_L_needR C hO hP hS hv219 q402 (Nat.le_of_ble_eq_true rfl) hl.1 (Nat.le_of_ble_eq_true rfl) hcs dX0_sheet_71 (fun H locs hP hS => ?_)
                    refine lv_aload_n hx hb dX0_sheet_74 rfl (lv_at hl 0 rfl) ?_
                    refine lg_sheets C hO hP dX0_sheet_75 ?_
                    refine lv_iload_n hx hb dX0_sheet_78 rfl (lv_at hl 1 rfl) ?_
                    obtain ⟨j224, hj224, h⟩ := bd1_some h
                    refine sh_ald C hO hP hj224 dX0_sheet_79 ?_
                    refine lv_iload_n hx hb dX0_sheet_80 rfl (lv_at hl 2 rfl) ?_
                    refine lv_bipush (v := 8) hx hb dX0_sheet_81 (by decide) ?_
                    refine lv_icmp_ne (tgt := 97) hx hb dX0_sheet_83 rfl (fun c225 => ?_) (fun c225 => ?_)
                    · have h := if_some_f h c225
                      refine lv_iload_n hx hb dX0_sheet_97 rfl (lv_at hl 2 rfl) ?_
                      refine lv_bipush (v := 16) hx hb dX0_sheet_98 (by decide) ?_
                      refine lv_icmp_ne (tgt := 114) hx hb dX0_sheet_100 rfl (fun c226 => ?_) (fun c226 => ?_)
                      · have h := if_some_f h c226
                        obtain ⟨st227, hst227, h⟩ := bd1_some h
                        have est227 := Option.some.inj hst227
                        refine W.size0 (fun hH => ?_)
                        rw [hnx] at hH
                        refine cc_new (ci := 21) (Cn := RX24) (T := TX24) (N := 1) (ty0 := tyX24) (fs := [.null]) C had hO hP hS rfl in_X24 tyX24_ok q1433 q1434 q120 (fun j hj => by match j, hj with | 0, _ => rfl) (fun b h => by simp at h) (by omega) (by omega) dX0_sheet_114 (fun H hz1 hO hP hS => ?_)
                        rw [hH] at hO hP hz1 ⊢
                        have hsub := fun k h => List.mem_append_left [1000 + nx] (hsub k h)
                        have hest227 : (csP st220 (1000 + nx) (.inr (21, [.null]))).2.2.2 (1000 + nx) = .inr (21, [.null]) := csP_at
                        rw [est227] at hP hest227
                        refine lv_dup hx hb dX0_sheet_117 rfl ?_
                        refine lv_iload_n hx hb dX0_sheet_118 rfl (lv_at hl 3 rfl) ?_
                        obtain ⟨st228, hst228, h⟩ := bd1_some h
                        refine k_SI2 (nx := nx + 1) C had hO hP hS hz1 (live_new had) hest227 hst228 q1435 (Nat.le_of_ble_eq_true rfl) hl.1 (Nat.le_of_ble_eq_true rfl) ⟨by omega, by omega⟩ dX0_sheet_119 (fun H locs hO hP hS hz1 => ?_)
                        have hsub := fun k h => List.mem_append_left [1000 + (nx + 1)] (hsub k h)
                        refine sh_put (j := j224) (r := (some nx)) C hO hP hS (rdi_lt hj224) (fun a h => by cases h; exact live_app (live_new had)) dX0_sheet_122 (fun H locs hP hS => ?_)
                        refine lv_iconst (v := 1) hx hb dX0_sheet_125 (by decide) ?_
                        cases h
                        refine W.widen (k := 2) (n := 41) (Nat.le_of_ble_eq_true rfl) (Nat.le_of_ble_eq_true rfl) ?_
                        exact W.iret hx hb hr (fun t ht _ => ⟨rfl, hS.F ht, _, hsub, hO, by rw [ht]; exact hP⟩) hS.2.2 dX0_sheet_126
                      · have h := if_some_t h c226
                        obtain ⟨st229, hst229, h⟩ := bd1_some h
                        have est229 := Option.some.inj hst229
                        refine W.size0 (fun hH => ?_)
                        rw [hnx] at hH
                        refine cc_new (ci := 20) (Cn := RX23) (T := TX23) (N := 1) (ty0 := tyX23) (fs := [.null]) C had hO hP hS rfl in_X23 tyX23_ok q1422 q1423 q119 (fun j hj => by match j, hj with | 0, _ => rfl) (fun b h => by simp at h) (by omega) (by omega) dX0_sheet_103 (fun H hz1 hO hP hS => ?_)
                        rw [hH] at hO hP hz1 ⊢
                        have hsub := fun k h => List.mem_append_left [1000 + nx] (hsub k h)
                        have hest229 : (csP st220 (1000 + nx) (.inr (20, [.null]))).2.2.2 (1000 + nx) = .inr (20, [.null]) := csP_at
                        rw [est229] at hP hest229
                        refine lv_dup hx hb dX0_sheet_106 rfl ?_
                        refine lv_iload_n hx hb dX0_sheet_107 rfl (lv_at hl 3 rfl) ?_
                        obtain ⟨st230, hst230, h⟩ := bd1_some h
                        refine k_SI1 (nx := nx + 1) C had hO hP hS hz1 (live_new had) hest229 hst230 q1424 (Nat.le_of_ble_eq_true rfl) hl.1 (Nat.le_of_ble_eq_true rfl) ⟨by omega, by omega⟩ dX0_sheet_108 (fun H locs hO hP hS hz1 => ?_)
                        have hsub := fun k h => List.mem_append_left [1000 + (nx + 1)] (hsub k h)
                        refine lv_goto (tgt := 122) hx hb dX0_sheet_111 rfl ?_
                        refine sh_put (j := j224) (r := (some nx)) C hO hP hS (rdi_lt hj224) (fun a h => by cases h; exact live_app (live_new had)) dX0_sheet_122 (fun H locs hP hS => ?_)
                        refine lv_iconst (v := 1) hx hb dX0_sheet_125 (by decide) ?_
                        cases h
                        refine W.widen (k := 2) (n := 41) (Nat.le_of_ble_eq_true rfl) (Nat.le_of_ble_eq_true rfl) ?_
                        exact W.iret hx hb hr (fun t ht _ => ⟨rfl, hS.F ht, _, hsub, hO, by rw [ht]; exact hP⟩) hS.2.2 dX0_sheet_126
                    · have h := if_some_t h c225
                      obtain ⟨st231, hst231, h⟩ := bd1_some h
                      have est231 := Option.some.inj hst231
                      refine W.size0 (fun hH => ?_)
                      rw [hnx] at hH
                      refine cc_new (ci := 19) (Cn := RX22) (T := TX22) (N := 1) (ty0 := tyX22) (fs := [.null]) C had hO hP hS rfl in_X22 tyX22_ok q1409 q1410 q118 (fun j hj => by match j, hj with | 0, _ => rfl) (fun b h => by simp at h) (by omega) (by omega) dX0_sheet_86 (fun H hz1 hO hP hS => ?_)
                      rw [hH] at hO hP hz1 ⊢
                      have hsub := fun k h => List.mem_append_left [1000 + nx] (hsub k h)
                      have hest231 : (csP st220 (1000 + nx) (.inr (19, [.null]))).2.2.2 (1000 + nx) = .inr (19, [.null]) := csP_at
                      rw [est231] at hP hest231
                      refine lv_dup hx hb dX0_sheet_89 rfl ?_
                      refine lv_iload_n hx hb dX0_sheet_90 rfl (lv_at hl 3 rfl) ?_
                      obtain ⟨st232, hst232, h⟩ := bd1_some h
                      refine k_SI0 (nx := nx + 1) C had hO hP hS hz1 (live_new had) hest231 hst232 q1411 (Nat.le_of_ble_eq_true rfl) hl.1 (Nat.le_of_ble_eq_true rfl) ⟨by omega, by omega⟩ dX0_sheet_91 (fun H locs hO hP hS hz1 => ?_)
                      have hsub := fun k h => List.mem_append_left [1000 + (nx + 1)] (hsub k h)
                      refine lv_goto (tgt := 122) hx hb dX0_sheet_94 rfl ?_
                      refine sh_put (j := j224) (r := (some nx)) C hO hP hS (rdi_lt hj224) (fun a h => by cases h; exact live_app (live_new had)) dX0_sheet_122 (fun H locs hP hS => ?_)
                      refine lv_iconst (v := 1) hx hb dX0_sheet_125 (by decide) ?_
                      cases h
                      refine W.widen (k := 2) (n := 41) (Nat.le_of_ble_eq_true rfl) (Nat.le_of_ble_eq_true rfl) ?_
                      exact W.iret hx hb hr (fun t ht _ => ⟨rfl, hS.F ht, _, hsub, hO, by rw [ht]; exact hP⟩) hS.2.2 dX0_sheet_126
          · have h := if_some_t h c163
            refine lv_aload_n hx hb dX0_sheet_32 rfl (lv_at hl 0 rfl) ?_
            refine lg_sheets C hO hP dX0_sheet_33 ?_
            refine lv_iload_n hx hb dX0_sheet_36 rfl (lv_at hl 1 rfl) ?_
            obtain ⟨j233, hj233, h⟩ := bd1_some h
            refine sh_ald C hO hP hj233 dX0_sheet_37 ?_
            refine lv_null hx hb dX0_sheet_38 ?_
            refine sh_put (j := j233) (r := none) C hO hP hS (rdi_lt hj233) (fun _ h => by cases h) dX0_sheet_39 (fun H locs hP hS => ?_)
            refine lv_iconst (v := 1) hx hb dX0_sheet_42 (by decide) ?_
            cases h
            refine W.widen (k := 2) (n := 41) (Nat.le_of_ble_eq_true rfl) (Nat.le_of_ble_eq_true rfl) ?_
            exact W.iret hx hb hr (fun t ht _ => ⟨rfl, hS.F ht, _, hsub, hO, by rw [ht]; exact hP⟩) hS.2.2 dX0_sheet_43
      · have h := if_some_f h c157
        refine lv_iconst (v := 1) hx hb dX0_sheet_19 (by decide) ?_
        refine lv_goto (tgt := 24) hx hb dX0_sheet_20 rfl ?_
        refine lv_iconst (v := 1) hx hb dX0_sheet_24 (by decide) ?_
        obtain ⟨o236, st235, hv234, h⟩ := bd2_some h
        rcases o236 with _ | v234
        · rw [onx_none] at h
          refine k_L_needT C hO hP hS hv234 q402 (Nat.le_of_ble_eq_true rfl) hl.1 (Nat.le_of_ble_eq_true rfl) hcs dX0_sheet_25 (fun H locs hP hS => ?_)
          refine cc_catch (pre := []) (a1 := 0) (a2 := 43) (hp := 127) (post := [(44, 126, 127, 8)]) C hO hP q129 htab rfl rfl ?_
          refine lv_astore (lv' := [(4, .ref (ad 61)), (0, .ref (ad 60)), (1, .int x1), (2, .int x2), (3, .int x3)]) hx hb dX0_sheet_127 hl (by decide) rfl (fun ls hl => ?_)
          refine lv_aload_n hx hb dX0_sheet_129 rfl (lv_at hl 1 rfl) ?_
          refine lv_aload hx hb dX0_sheet_130 (lv_at hl 0 rfl) ?_
          obtain ⟨v237, st238, hv237, h⟩ := bd2_some h
          refine k_L_finds C hO hP hS hv237 q410 (Nat.le_of_ble_eq_true rfl) hl.1 (Nat.le_of_ble_eq_true rfl) hcs dX0_sheet_132 (fun H locs hP hS => ?_)
          cases h
          refine W.widen (k := 2) (n := 41) (Nat.le_of_ble_eq_true rfl) (Nat.le_of_ble_eq_true rfl) ?_
          exact W.iret hx hb hr (fun t ht _ => ⟨rfl, hS.F ht, _, hsub, hO, by rw [ht]; exact hP⟩) hS.2.2 dX0_sheet_135
        · rw [onx_some] at h
          refine k_L_needR C hO hP hS hv234 q402 (Nat.le_of_ble_eq_true rfl) hl.1 (Nat.le_of_ble_eq_true rfl) hcs dX0_sheet_25 (fun H locs hP hS => ?_)
          refine lv_iload_n hx hb dX0_sheet_28 rfl (lv_at hl 2 rfl) ?_
          refine lv_if_ne (tgt := 44) hx hb dX0_sheet_29 rfl (fun c239 => ?_) (fun c239 => ?_)
          · have h := if_some_f h c239
            refine lv_aload_n hx hb dX0_sheet_44 rfl (lv_at hl 0 rfl) ?_
            refine lv_iload_n hx hb dX0_sheet_45 rfl (lv_at hl 3 rfl) ?_
            refine lv_if_lt (tgt := 53) hx hb dX0_sheet_46 rfl (fun c240 => ?_) (fun c240 => ?_)
            · have h := if_some_t h c240
              refine lv_iconst (v := 0) hx hb dX0_sheet_53 (by decide) ?_
              refine lv_iconst (v := 3) hx hb dX0_sheet_54 (by decide) ?_
              obtain ⟨o243, st242, hv241, h⟩ := bd2_some h
              rcases o243 with _ | v241
              · rw [onx_none] at h
                refine k_L_needT C hO hP hS hv241 q402 (Nat.le_of_ble_eq_true rfl) hl.1 (Nat.le_of_ble_eq_true rfl) hcs dX0_sheet_55 (fun H locs hP hS => ?_)
                refine cc_catch (pre := [(0, 43, 127, 8)]) (a1 := 44) (a2 := 126) (hp := 127) (post := []) C hO hP q129 htab rfl rfl ?_
                refine lv_astore (lv' := [(4, .ref (ad 61)), (0, .ref (ad 60)), (1, .int x1), (2, .int x2), (3, .int x3)]) hx hb dX0_sheet_127 hl (by decide) rfl (fun ls hl => ?_)
                refine lv_aload_n hx hb dX0_sheet_129 rfl (lv_at hl 1 rfl) ?_
                refine lv_aload hx hb dX0_sheet_130 (lv_at hl 0 rfl) ?_
                obtain ⟨v244, st245, hv244, h⟩ := bd2_some h
                refine k_L_finds C hO hP hS hv244 q410 (Nat.le_of_ble_eq_true rfl) hl.1 (Nat.le_of_ble_eq_true rfl) hcs dX0_sheet_132 (fun H locs hP hS => ?_)
                cases h
                refine W.widen (k := 2) (n := 41) (Nat.le_of_ble_eq_true rfl) (Nat.le_of_ble_eq_true rfl) ?_
                exact W.iret hx hb hr (fun t ht _ => ⟨rfl, hS.F ht, _, hsub, hO, by rw [ht]; exact hP⟩) hS.2.2 dX0_sheet_135
              · rw [onx_some] at h
                refine k_L_needR C hO hP hS hv241 q402 (Nat.le_of_ble_eq_true rfl) hl.1 (Nat.le_of_ble_eq_true rfl) hcs dX0_sheet_55 (fun H locs hP hS => ?_)
                refine lv_aload_n hx hb dX0_sheet_58 rfl (lv_at hl 0 rfl) ?_
                refine lv_iload_n hx hb dX0_sheet_59 rfl (lv_at hl 3 rfl) ?_
                refine lv_bipush (v := 40) hx hb dX0_sheet_60 (by decide) ?_
                refine lv_icmp_gt (tgt := 69) hx hb dX0_sheet_62 rfl (fun c246 => ?_) (fun c246 => ?_)
                · have h := if_some_t h c246
                  refine lv_iconst (v := 0) hx hb dX0_sheet_69 (by decide) ?_
                  refine lv_iconst (v := 1) hx hb dX0_sheet_70 (by decide) ?_
                  obtain ⟨o249, st248, hv247, h⟩ := bd2_some h
                  rcases o249 with _ | v247
                  · rw [onx_none] at h
                    refine k_L_needT C hO hP hS hv247 q402 (Nat.le_of_ble_eq_true rfl) hl.1 (Nat.le_of_ble_eq_true rfl) hcs dX0_sheet_71 (fun H locs hP hS => ?_)
                    refine cc_catch (pre := [(0, 43, 127, 8)]) (a1 := 44) (a2 := 126) (hp := 127) (post := []) C hO hP q129 htab rfl rfl ?_
                    refine lv_astore (lv' := [(4, .ref (ad 61)), (0, .ref (ad 60)), (1, .int x1), (2, .int x2), (3, .int x3)]) hx hb dX0_sheet_127 hl (by decide) rfl (fun ls hl => ?_)
                    refine lv_aload_n hx hb dX0_sheet_129 rfl (lv_at hl 1 rfl) ?_
                    refine lv_aload hx hb dX0_sheet_130 (lv_at hl 0 rfl) ?_
                    obtain ⟨v250, st251, hv250, h⟩ := bd2_some h
                    refine k_L_finds C hO hP hS hv250 q410 (Nat.le_of_ble_eq_true rfl) hl.1 (Nat.le_of_ble_eq_true rfl) hcs dX0_sheet_132 (fun H locs hP hS => ?_)
                    cases h
                    refine W.widen (k := 2) (n := 41) (Nat.le_of_ble_eq_true rfl) (Nat.le_of_ble_eq_true rfl) ?_
                    exact W.iret hx hb hr (fun t ht _ => ⟨rfl, hS.F ht, _, hsub, hO, by rw [ht]; exact hP⟩) hS.2.2 dX0_sheet_135
                  · rw [onx_some] at h
                    refine k_L_needR C hO hP hS hv247 q402 (Nat.le_of_ble_eq_true rfl) hl.1 (Nat.le_of_ble_eq_true rfl) hcs dX0_sheet_71 (fun H locs hP hS => ?_)
                    refine lv_aload_n hx hb dX0_sheet_74 rfl (lv_at hl 0 rfl) ?_
                    refine lg_sheets C hO hP dX0_sheet_75 ?_
                    refine lv_iload_n hx hb dX0_sheet_78 rfl (lv_at hl 1 rfl) ?_
                    obtain ⟨j252, hj252, h⟩ := bd1_some h
                    refine sh_ald C hO hP hj252 dX0_sheet_79 ?_
                    refine lv_iload_n hx hb dX0_sheet_80 rfl (lv_at hl 2 rfl) ?_
                    refine lv_bipush (v := 8) hx hb dX0_sheet_81 (by decide) ?_
                    refine lv_icmp_ne (tgt := 97) hx hb dX0_sheet_83 rfl (fun c253 => ?_) (fun c253 => ?_)
                    · have h := if_some_f h c253
                      refine lv_iload_n hx hb dX0_sheet_97 rfl (lv_at hl 2 rfl) ?_
                      refine lv_bipush (v := 16) hx hb dX0_sheet_98 (by decide) ?_
                      refine lv_icmp_ne (tgt := 114) hx hb dX0_sheet_100 rfl (fun c254 => ?_) (fun c254 => ?_)
                      · have h := if_some_f h c254
                        obtain ⟨st255, hst255, h⟩ := bd1_some h
                        have est255 := Option.some.inj hst255
                        refine W.size0 (fun hH => ?_)
                        rw [hnx] at hH
                        refine cc_new (ci := 21) (Cn := RX24) (T := TX24) (N := 1) (ty0 := tyX24) (fs := [.null]) C had hO hP hS rfl in_X24 tyX24_ok q1433 q1434 q120 (fun j hj => by match j, hj with | 0, _ => rfl) (fun b h => by simp at h) (by omega) (by omega) dX0_sheet_114 (fun H hz1 hO hP hS => ?_)
                        rw [hH] at hO hP hz1 ⊢
                        have hsub := fun k h => List.mem_append_left [1000 + nx] (hsub k h)
                        have hest255 : (csP st248 (1000 + nx) (.inr (21, [.null]))).2.2.2 (1000 + nx) = .inr (21, [.null]) := csP_at
                        rw [est255] at hP hest255
                        refine lv_dup hx hb dX0_sheet_117 rfl ?_
                        refine lv_iload_n hx hb dX0_sheet_118 rfl (lv_at hl 3 rfl) ?_
                        obtain ⟨st256, hst256, h⟩ := bd1_some h
                        refine k_SI2 (nx := nx + 1) C had hO hP hS hz1 (live_new had) hest255 hst256 q1435 (Nat.le_of_ble_eq_true rfl) hl.1 (Nat.le_of_ble_eq_true rfl) ⟨by omega, by omega⟩ dX0_sheet_119 (fun H locs hO hP hS hz1 => ?_)
                        have hsub := fun k h => List.mem_append_left [1000 + (nx + 1)] (hsub k h)
                        refine sh_put (j := j252) (r := (some nx)) C hO hP hS (rdi_lt hj252) (fun a h => by cases h; exact live_app (live_new had)) dX0_sheet_122 (fun H locs hP hS => ?_)
                        refine lv_iconst (v := 1) hx hb dX0_sheet_125 (by decide) ?_
                        cases h
                        refine W.widen (k := 2) (n := 41) (Nat.le_of_ble_eq_true rfl) (Nat.le_of_ble_eq_true rfl) ?_
                        exact W.iret hx hb hr (fun t ht _ => ⟨rfl, hS.F ht, _, hsub, hO, by rw [ht]; exact hP⟩) hS.2.2 dX0_sheet_126
                      · have h := if_some_t h c254
                        obtain ⟨st257, hst257, h⟩ := bd1_some h
                        have est257 := Option.some.inj hst257
                        refine W.size0 (fun hH => ?_)
                        rw [hnx] at hH
                        refine cc_new (ci := 20) (Cn := RX23) (T := TX23) (N := 1) (ty0 := tyX23) (fs := [.null]) C had hO hP hS rfl in_X23 tyX23_ok q1422 q1423 q119 (fun j hj => by match j, hj with | 0, _ => rfl) (fun b h => by simp at h) (by omega) (by omega) dX0_sheet_103 (fun H hz1 hO hP hS => ?_)
                        rw [hH] at hO hP hz1 ⊢
                        have hsub := fun k h => List.mem_append_left [1000 + nx] (hsub k h)
                        have hest257 : (csP st248 (1000 + nx) (.inr (20, [.null]))).2.2.2 (1000 + nx) = .inr (20, [.null]) := csP_at
                        rw [est257] at hP hest257
                        refine lv_dup hx hb dX0_sheet_106 rfl ?_
                        refine lv_iload_n hx hb dX0_sheet_107 rfl (lv_at hl 3 rfl) ?_
                        obtain ⟨st258, hst258, h⟩ := bd1_some h
                        refine k_SI1 (nx := nx + 1) C had hO hP hS hz1 (live_new had) hest257 hst258 q1424 (Nat.le_of_ble_eq_true rfl) hl.1 (Nat.le_of_ble_eq_true rfl) ⟨by omega, by omega⟩ dX0_sheet_108 (fun H locs hO hP hS hz1 => ?_)
                        have hsub := fun k h => List.mem_append_left [1000 + (nx + 1)] (hsub k h)
                        refine lv_goto (tgt := 122) hx hb dX0_sheet_111 rfl ?_
                        refine sh_put (j := j252) (r := (some nx)) C hO hP hS (rdi_lt hj252) (fun a h => by cases h; exact live_app (live_new had)) dX0_sheet_122 (fun H locs hP hS => ?_)
                        refine lv_iconst (v := 1) hx hb dX0_sheet_125 (by decide) ?_
                        cases h
                        refine W.widen (k := 2) (n := 41) (Nat.le_of_ble_eq_true rfl) (Nat.le_of_ble_eq_true rfl) ?_
                        exact W.iret hx hb hr (fun t ht _ => ⟨rfl, hS.F ht, _, hsub, hO, by rw [ht]; exact hP⟩) hS.2.2 dX0_sheet_126
                    · have h := if_some_t h c253
                      obtain ⟨st259, hst259, h⟩ := bd1_some h
                      have est259 := Option.some.inj hst259
                      refine W.size0 (fun hH => ?_)
                      rw [hnx] at hH
                      refine cc_new (ci := 19) (Cn := RX22) (T := TX22) (N := 1) (ty0 := tyX22) (fs := [.null]) C had hO hP hS rfl in_X22 tyX22_ok q1409 q1410 q118 (fun j hj => by match j, hj with | 0, _ => rfl) (fun b h => by simp at h) (by omega) (by omega) dX0_sheet_86 (fun H hz1 hO hP hS => ?_)
                      rw [hH] at hO hP hz1 ⊢
                      have hsub := fun k h => List.mem_append_left [1000 + nx] (hsub k h)
                      have hest259 : (csP st248 (1000 + nx) (.inr (19, [.null]))).2.2.2 (1000 + nx) = .inr (19, [.null]) := csP_at
                      rw [est259] at hP hest259
                      refine lv_dup hx hb dX0_sheet_89 rfl ?_
                      refine lv_iload_n hx hb dX0_sheet_90 rfl (lv_at hl 3 rfl) ?_
                      obtain ⟨st260, hst260, h⟩ := bd1_some h
                      refine k_SI0 (nx := nx + 1) C had hO hP hS hz1 (live_new had) hest259 hst260 q1411 (Nat.le_of_ble_eq_true rfl) hl.1 (Nat.le_of_ble_eq_true rfl) ⟨by omega, by omega⟩ dX0_sheet_91 (fun H locs hO hP hS hz1 => ?_)
                      have hsub := fun k h => List.mem_append_left [1000 + (nx + 1)] (hsub k h)
                      refine lv_goto (tgt := 122) hx hb dX0_sheet_94 rfl ?_
                      refine sh_put (j := j252) (r := (some nx)) C hO hP hS (rdi_lt hj252) (fun a h => by cases h; exact live_app (live_new had)) dX0_sheet_122 (fun H locs hP hS => ?_)
                      refine lv_iconst (v := 1) hx hb dX0_sheet_125 (by decide) ?_
                      cases h
                      refine W.widen (k := 2) (n := 41) (Nat.le_of_ble_eq_true rfl) (Nat.le_of_ble_eq_true rfl) ?_
                      exact W.iret hx hb hr (fun t ht _ => ⟨rfl, hS.F ht, _, hsub, hO, by rw [ht]; exact hP⟩) hS.2.2 dX0_sheet_126
                · have h := if_some_f h c246
                  refine lv_iconst (v := 1) hx hb dX0_sheet_65 (by decide) ?_
                  refine lv_goto (tgt := 70) hx hb dX0_sheet_66 rfl ?_
                  refine lv_iconst (v := 1) hx hb dX0_sheet_70 (by decide) ?_
                  obtain ⟨o263, st262, hv261, h⟩ := bd2_some h
                  rcases o263 with _ | v261
                  · rw [onx_none] at h
                    refine k_L_needT C hO hP hS hv261 q402 (Nat.le_of_ble_eq_true rfl) hl.1 (Nat.le_of_ble_eq_true rfl) hcs dX0_sheet_71 (fun H locs hP hS => ?_)
                    refine cc_catch (pre := [(0, 43, 127, 8)]) (a1 := 44) (a2 := 126) (hp := 127) (post := []) C hO hP q129 htab rfl rfl ?_
                    refine lv_astore (lv' := [(4, .ref (ad 61)), (0, .ref (ad 60)), (1, .int x1), (2, .int x2), (3, .int x3)]) hx hb dX0_sheet_127 hl (by decide) rfl (fun ls hl => ?_)
                    refine lv_aload_n hx hb dX0_sheet_129 rfl (lv_at hl 1 rfl) ?_
                    refine lv_aload hx hb dX0_sheet_130 (lv_at hl 0 rfl) ?_
                    obtain ⟨v264, st265, hv264, h⟩ := bd2_some h
                    refine k_L_finds C hO hP hS hv264 q410 (Nat.le_of_ble_eq_true rfl) hl.1 (Nat.le_of_ble_eq_true rfl) hcs dX0_sheet_132 (fun H locs hP hS => ?_)
                    cases h
                    refine W.widen (k := 2) (n := 41) (Nat.le_of_ble_eq_true rfl) (Nat.le_of_ble_eq_true rfl) ?_
                    exact W.iret hx hb hr (fun t ht _ => ⟨rfl, hS.F ht, _, hsub, hO, by rw [ht]; exact hP⟩) hS.2.2 dX0_sheet_135
                  · rw [onx_some] at h
                    refine k_L_needR C hO hP hS hv261 q402 (Nat.le_of_ble_eq_true rfl) hl.1 (Nat.le_of_ble_eq_true rfl) hcs dX0_sheet_71 (fun H locs hP hS => ?_)
                    refine lv_aload_n hx hb dX0_sheet_74 rfl (lv_at hl 0 rfl) ?_
                    refine lg_sheets C hO hP dX0_sheet_75 ?_
                    refine lv_iload_n hx hb dX0_sheet_78 rfl (lv_at hl 1 rfl) ?_
                    obtain ⟨j266, hj266, h⟩ := bd1_some h
                    refine sh_ald C hO hP hj266 dX0_sheet_79 ?_
                    refine lv_iload_n hx hb dX0_sheet_80 rfl (lv_at hl 2 rfl) ?_
                    refine lv_bipush (v := 8) hx hb dX0_sheet_81 (by decide) ?_
                    refine lv_icmp_ne (tgt := 97) hx hb dX0_sheet_83 rfl (fun c267 => ?_) (fun c267 => ?_)
                    · have h := if_some_f h c267
                      refine lv_iload_n hx hb dX0_sheet_97 rfl (lv_at hl 2 rfl) ?_
                      refine lv_bipush (v := 16) hx hb dX0_sheet_98 (by decide) ?_
                      refine lv_icmp_ne (tgt := 114) hx hb dX0_sheet_100 rfl (fun c268 => ?_) (fun c268 => ?_)
                      · have h := if_some_f h c268
                        obtain ⟨st269, hst269, h⟩ := bd1_some h
                        have est269 := Option.some.inj hst269
                        refine W.size0 (fun hH => ?_)
                        rw [hnx] at hH
                        refine cc_new (ci := 21) (Cn := RX24) (T := TX24) (N := 1) (ty0 := tyX24) (fs := [.null]) C had hO hP hS rfl in_X24 tyX24_ok q1433 q1434 q120 (fun j hj => by match j, hj with | 0, _ => rfl) (fun b h => by simp at h) (by omega) (by omega) dX0_sheet_114 (fun H hz1 hO hP hS => ?_)
                        rw [hH] at hO hP hz1 ⊢
                        have hsub := fun k h => List.mem_append_left [1000 + nx] (hsub k h)
                        have hest269 : (csP st262 (1000 + nx) (.inr (21, [.null]))).2.2.2 (1000 + nx) = .inr (21, [.null]) := csP_at
                        rw [est269] at hP hest269
                        refine lv_dup hx hb dX0_sheet_117 rfl ?_
                        refine lv_iload_n hx hb dX0_sheet_118 rfl (lv_at hl 3 rfl) ?_
                        obtain ⟨st270, hst270, h⟩ := bd1_some h
                        refine k_SI2 (nx := nx + 1) C had hO hP hS hz1 (live_new had) hest269 hst270 q1435 (Nat.le_of_ble_eq_true rfl) hl.1 (Nat.le_of_ble_eq_true rfl) ⟨by omega, by omega⟩ dX0_sheet_119 (fun H locs hO hP hS hz1 => ?_)
                        have hsub := fun k h => List.mem_append_left [1000 + (nx + 1)] (hsub k h)
                        refine sh_put (j := j266) (r := (some nx)) C hO hP hS (rdi_lt hj266) (fun a h => by cases h; exact live_app (live_new had)) dX0_sheet_122 (fun H locs hP hS => ?_)
                        refine lv_iconst (v := 1) hx hb dX0_sheet_125 (by decide) ?_
                        cases h
                        refine W.widen (k := 2) (n := 41) (Nat.le_of_ble_eq_true rfl) (Nat.le_of_ble_eq_true rfl) ?_
                        exact W.iret hx hb hr (fun t ht _ => ⟨rfl, hS.F ht, _, hsub, hO, by rw [ht]; exact hP⟩) hS.2.2 dX0_sheet_126
                      · have h := if_some_t h c268
                        obtain ⟨st271, hst271, h⟩ := bd1_some h
                        have est271 := Option.some.inj hst271
                        refine W.size0 (fun hH => ?_)
                        rw [hnx] at hH
                        refine cc_new (ci := 20) (Cn := RX23) (T := TX23) (N := 1) (ty0 := tyX23) (fs := [.null]) C had hO hP hS rfl in_X23 tyX23_ok q1422 q1423 q119 (fun j hj => by match j, hj with | 0, _ => rfl) (fun b h => by simp at h) (by omega) (by omega) dX0_sheet_103 (fun H hz1 hO hP hS => ?_)
                        rw [hH] at hO hP hz1 ⊢
                        have hsub := fun k h => List.mem_append_left [1000 + nx] (hsub k h)
                        have hest271 : (csP st262 (1000 + nx) (.inr (20, [.null]))).2.2.2 (1000 + nx) = .inr (20, [.null]) := csP_at
                        rw [est271] at hP hest271
                        refine lv_dup hx hb dX0_sheet_106 rfl ?_
                        refine lv_iload_n hx hb dX0_sheet_107 rfl (lv_at hl 3 rfl) ?_
                        obtain ⟨st272, hst272, h⟩ := bd1_some h
                        refine k_SI1 (nx := nx + 1) C had hO hP hS hz1 (live_new had) hest271 hst272 q1424 (Nat.le_of_ble_eq_true rfl) hl.1 (Nat.le_of_ble_eq_true rfl) ⟨by omega, by omega⟩ dX0_sheet_108 (fun H locs hO hP hS hz1 => ?_)
                        have hsub := fun k h => List.mem_append_left [1000 + (nx + 1)] (hsub k h)
                        refine lv_goto (tgt := 122) hx hb dX0_sheet_111 rfl ?_
                        refine sh_put (j := j266) (r := (some nx)) C hO hP hS (rdi_lt hj266) (fun a h => by cases h; exact live_app (live_new had)) dX0_sheet_122 (fun H locs hP hS => ?_)
                        refine lv_iconst (v := 1) hx hb dX0_sheet_125 (by decide) ?_
                        cases h
                        refine W.widen (k := 2) (n := 41) (Nat.le_of_ble_eq_true rfl) (Nat.le_of_ble_eq_true rfl) ?_
                        exact W.iret hx hb hr (fun t ht _ => ⟨rfl, hS.F ht, _, hsub, hO, by rw [ht]; exact hP⟩) hS.2.2 dX0_sheet_126
                    · have h := if_some_t h c267
                      obtain ⟨st273, hst273, h⟩ := bd1_some h
                      have est273 := Option.some.inj hst273
                      refine W.size0 (fun hH => ?_)
                      rw [hnx] at hH
                      refine cc_new (ci := 19) (Cn := RX22) (T := TX22) (N := 1) (ty0 := tyX22) (fs := [.null]) C had hO hP hS rfl in_X22 tyX22_ok q1409 q1410 q118 (fun j hj => by match j, hj with | 0, _ => rfl) (fun b h => by simp at h) (by omega) (by omega) dX0_sheet_86 (fun H hz1 hO hP hS => ?_)
                      rw [hH] at hO hP hz1 ⊢
                      have hsub := fun k h => List.mem_append_left [1000 + nx] (hsub k h)
                      have hest273 : (csP st262 (1000 + nx) (.inr (19, [.null]))).2.2.2 (1000 + nx) = .inr (19, [.null]) := csP_at
                      rw [est273] at hP hest273
                      refine lv_dup hx hb dX0_sheet_89 rfl ?_
                      refine lv_iload_n hx hb dX0_sheet_90 rfl (lv_at hl 3 rfl) ?_
                      obtain ⟨st274, hst274, h⟩ := bd1_some h
                      refine k_SI0 (nx := nx + 1) C had hO hP hS hz1 (live_new had) hest273 hst274 q1411 (Nat.le_of_ble_eq_true rfl) hl.1 (Nat.le_of_ble_eq_true rfl) ⟨by omega, by omega⟩ dX0_sheet_91 (fun H locs hO hP hS hz1 => ?_)
                      have hsub := fun k h => List.mem_append_left [1000 + (nx + 1)] (hsub k h)
                      refine lv_goto (tgt := 122) hx hb dX0_sheet_94 rfl ?_
                      refine sh_put (j := j266) (r := (some nx)) C hO hP hS (rdi_lt hj266) (fun a h => by cases h; exact live_app (live_new had)) dX0_sheet_122 (fun H locs hP hS => ?_)
                      refine lv_iconst (v := 1) hx hb dX0_sheet_125 (by decide) ?_
                      cases h
                      refine W.widen (k := 2) (n := 41) (Nat.le_of_ble_eq_true rfl) (Nat.le_of_ble_eq_true rfl) ?_
                      exact W.iret hx hb hr (fun t ht _ => ⟨rfl, hS.F ht, _, hsub, hO, by rw [ht]; exact hP⟩) hS.2.2 dX0_sheet_126
            · have h := if_some_f h c240
              refine lv_iconst (v := 1) hx hb dX0_sheet_49 (by decide) ?_
              refine lv_goto (tgt := 54) hx hb dX0_sheet_50 rfl ?_
              refine lv_iconst (v := 3) hx hb dX0_sheet_54 (by decide) ?_
              obtain ⟨o277, st276, hv275, h⟩ := bd2_some h
              rcases o277 with _ | v275
              · rw [onx_none] at h
                refine k_L_needT C hO hP hS hv275 q402 (Nat.le_of_ble_eq_true rfl) hl.1 (Nat.le_of_ble_eq_true rfl) hcs dX0_sheet_55 (fun H locs hP hS => ?_)
                refine cc_catch (pre := [(0, 43, 127, 8)]) (a1 := 44) (a2 := 126) (hp := 127) (post := []) C hO hP q129 htab rfl rfl ?_
                refine lv_astore (lv' := [(4, .ref (ad 61)), (0, .ref (ad 60)), (1, .int x1), (2, .int x2), (3, .int x3)]) hx hb dX0_sheet_127 hl (by decide) rfl (fun ls hl => ?_)
                refine lv_aload_n hx hb dX0_sheet_129 rfl (lv_at hl 1 rfl) ?_
                refine lv_aload hx hb dX0_sheet_130 (lv_at hl 0 rfl) ?_
                obtain ⟨v278, st279, hv278, h⟩ := bd2_some h
                refine k_L_finds C hO hP hS hv278 q410 (Nat.le_of_ble_eq_true rfl) hl.1 (Nat.le_of_ble_eq_true rfl) hcs dX0_sheet_132 (fun H locs hP hS => ?_)
                cases h
                refine W.widen (k := 2) (n := 41) (Nat.le_of_ble_eq_true rfl) (Nat.le_of_ble_eq_true rfl) ?_
                exact W.iret hx hb hr (fun t ht _ => ⟨rfl, hS.F ht, _, hsub, hO, by rw [ht]; exact hP⟩) hS.2.2 dX0_sheet_135
              · rw [onx_some] at h
                refine k_L_needR C hO hP hS hv275 q402 (Nat.le_of_ble_eq_true rfl) hl.1 (Nat.le_of_ble_eq_true rfl) hcs dX0_sheet_55 (fun H locs hP hS => ?_)
                refine lv_aload_n hx hb dX0_sheet_58 rfl (lv_at hl 0 rfl) ?_
                refine lv_iload_n hx hb dX0_sheet_59 rfl (lv_at hl 3 rfl) ?_
                refine lv_bipush (v := 40) hx hb dX0_sheet_60 (by decide) ?_
                refine lv_icmp_gt (tgt := 69) hx hb dX0_sheet_62 rfl (fun c280 => ?_) (fun c280 => ?_)
                · have h := if_some_t h c280
                  refine lv_iconst (v := 0) hx hb dX0_sheet_69 (by decide) ?_
                  refine lv_iconst (v := 1) hx hb dX0_sheet_70 (by decide) ?_
                  obtain ⟨o283, st282, hv281, h⟩ := bd2_some h
                  rcases o283 with _ | v281
                  · rw [onx_none] at h
                    refine k_L_needT C hO hP hS hv281 q402 (Nat.le_of_ble_eq_true rfl) hl.1 (Nat.le_of_ble_eq_true rfl) hcs dX0_sheet_71 (fun H locs hP hS => ?_)
                    refine cc_catch (pre := [(0, 43, 127, 8)]) (a1 := 44) (a2 := 126) (hp := 127) (post := []) C hO hP q129 htab rfl rfl ?_
                    refine lv_astore (lv' := [(4, .ref (ad 61)), (0, .ref (ad 60)), (1, .int x1), (2, .int x2), (3, .int x3)]) hx hb dX0_sheet_127 hl (by decide) rfl (fun ls hl => ?_)
                    refine lv_aload_n hx hb dX0_sheet_129 rfl (lv_at hl 1 rfl) ?_
                    refine lv_aload hx hb dX0_sheet_130 (lv_at hl 0 rfl) ?_
                    obtain ⟨v284, st285, hv284, h⟩ := bd2_some h
                    refine k_L_finds C hO hP hS hv284 q410 (Nat.le_of_ble_eq_true rfl) hl.1 (Nat.le_of_ble_eq_true rfl) hcs dX0_sheet_132 (fun H locs hP hS => ?_)
                    cases h
                    refine W.widen (k := 2) (n := 41) (Nat.le_of_ble_eq_true rfl) (Nat.le_of_ble_eq_true rfl) ?_
                    exact W.iret hx hb hr (fun t ht _ => ⟨rfl, hS.F ht, _, hsub, hO, by rw [ht]; exact hP⟩) hS.2.2 dX0_sheet_135
                  · rw [onx_some] at h
                    refine k_L_needR C hO hP hS hv281 q402 (Nat.le_of_ble_eq_true rfl) hl.1 (Nat.le_of_ble_eq_true rfl) hcs dX0_sheet_71 (fun H locs hP hS => ?_)
                    refine lv_aload_n hx hb dX0_sheet_74 rfl (lv_at hl 0 rfl) ?_
                    refine lg_sheets C hO hP dX0_sheet_75 ?_
                    refine lv_iload_n hx hb dX0_sheet_78 rfl (lv_at hl 1 rfl) ?_
                    obtain ⟨j286, hj286, h⟩ := bd1_some h
                    refine sh_ald C hO hP hj286 dX0_sheet_79 ?_
                    refine lv_iload_n hx hb dX0_sheet_80 rfl (lv_at hl 2 rfl) ?_
                    refine lv_bipush (v := 8) hx hb dX0_sheet_81 (by decide) ?_
                    refine lv_icmp_ne (tgt := 97) hx hb dX0_sheet_83 rfl (fun c287 => ?_) (fun c287 => ?_)
                    · have h := if_some_f h c287
                      refine lv_iload_n hx hb dX0_sheet_97 rfl (lv_at hl 2 rfl) ?_
                      refine lv_bipush (v := 16) hx hb dX0_sheet_98 (by decide) ?_
                      refine lv_icmp_ne (tgt := 114) hx hb dX0_sheet_100 rfl (fun c288 => ?_) (fun c288 => ?_)
                      · have h := if_some_f h c288
                        obtain ⟨st289, hst289, h⟩ := bd1_some h
                        have est289 := Option.some.inj hst289
                        refine W.size0 (fun hH => ?_)
                        rw [hnx] at hH
                        refine cc_new (ci := 21) (Cn := RX24) (T := TX24) (N := 1) (ty0 := tyX24) (fs := [.null]) C had hO hP hS rfl in_X24 tyX24_ok q1433 q1434 q120 (fun j hj => by match j, hj with | 0, _ => rfl) (fun b h => by simp at h) (by omega) (by omega) dX0_sheet_114 (fun H hz1 hO hP hS => ?_)
                        rw [hH] at hO hP hz1 ⊢
                        have hsub := fun k h => List.mem_append_left [1000 + nx] (hsub k h)
                        have hest289 : (csP st282 (1000 + nx) (.inr (21, [.null]))).2.2.2 (1000 + nx) = .inr (21, [.null]) := csP_at
                        rw [est289] at hP hest289
                        refine lv_dup hx hb dX0_sheet_117 rfl ?_
                        refine lv_iload_n hx hb dX0_sheet_118 rfl (lv_at hl 3 rfl) ?_
                        obtain ⟨st290, hst290, h⟩ := bd1_some h
                        refine k_SI2 (nx := nx + 1) C had hO hP hS hz1 (live_new had) hest289 hst290 q1435 (Nat.le_of_ble_eq_true rfl) hl.1 (Nat.le_of_ble_eq_true rfl) ⟨by omega, by omega⟩ dX0_sheet_119 (fun H locs hO hP hS hz1 => ?_)
                        have hsub := fun k h => List.mem_append_left [1000 + (nx + 1)] (hsub k h)
                        refine sh_put (j := j286) (r := (some nx)) C hO hP hS (rdi_lt hj286) (fun a h => by cases h; exact live_app (live_new had)) dX0_sheet_122 (fun H locs hP hS => ?_)
                        refine lv_iconst (v := 1) hx hb dX0_sheet_125 (by decide) ?_
                        cases h
                        refine W.widen (k := 2) (n := 41) (Nat.le_of_ble_eq_true rfl) (Nat.le_of_ble_eq_true rfl) ?_
                        exact W.iret hx hb hr (fun t ht _ => ⟨rfl, hS.F ht, _, hsub, hO, by rw [ht]; exact hP⟩) hS.2.2 dX0_sheet_126
                      · have h := if_some_t h c288
                        obtain ⟨st291, hst291, h⟩ := bd1_some h
                        have est291 := Option.some.inj hst291
                        refine W.size0 (fun hH => ?_)
                        rw [hnx] at hH
                        refine cc_new (ci := 20) (Cn := RX23) (T := TX23) (N := 1) (ty0 := tyX23) (fs := [.null]) C had hO hP hS rfl in_X23 tyX23_ok q1422 q1423 q119 (fun j hj => by match j, hj with | 0, _ => rfl) (fun b h => by simp at h) (by omega) (by omega) dX0_sheet_103 (fun H hz1 hO hP hS => ?_)
                        rw [hH] at hO hP hz1 ⊢
                        have hsub := fun k h => List.mem_append_left [1000 + nx] (hsub k h)
                        have hest291 : (csP st282 (1000 + nx) (.inr (20, [.null]))).2.2.2 (1000 + nx) = .inr (20, [.null]) := csP_at
                        rw [est291] at hP hest291
                        refine lv_dup hx hb dX0_sheet_106 rfl ?_
                        refine lv_iload_n hx hb dX0_sheet_107 rfl (lv_at hl 3 rfl) ?_
                        obtain ⟨st292, hst292, h⟩ := bd1_some h
                        refine k_SI1 (nx := nx + 1) C had hO hP hS hz1 (live_new had) hest291 hst292 q1424 (Nat.le_of_ble_eq_true rfl) hl.1 (Nat.le_of_ble_eq_true rfl) ⟨by omega, by omega⟩ dX0_sheet_108 (fun H locs hO hP hS hz1 => ?_)
                        have hsub := fun k h => List.mem_append_left [1000 + (nx + 1)] (hsub k h)
                        refine lv_goto (tgt := 122) hx hb dX0_sheet_111 rfl ?_
                        refine sh_put (j := j286) (r := (some nx)) C hO hP hS (rdi_lt hj286) (fun a h => by cases h; exact live_app (live_new had)) dX0_sheet_122 (fun H locs hP hS => ?_)
                        refine lv_iconst (v := 1) hx hb dX0_sheet_125 (by decide) ?_
                        cases h
                        refine W.widen (k := 2) (n := 41) (Nat.le_of_ble_eq_true rfl) (Nat.le_of_ble_eq_true rfl) ?_
                        exact W.iret hx hb hr (fun t ht _ => ⟨rfl, hS.F ht, _, hsub, hO, by rw [ht]; exact hP⟩) hS.2.2 dX0_sheet_126
                    · have h := if_some_t h c287
                      obtain ⟨st293, hst293, h⟩ := bd1_some h
                      have est293 := Option.some.inj hst293
                      refine W.size0 (fun hH => ?_)
                      rw [hnx] at hH
                      refine cc_new (ci := 19) (Cn := RX22) (T := TX22) (N := 1) (ty0 := tyX22) (fs := [.null]) C had hO hP hS rfl in_X22 tyX22_ok q1409 q1410 q118 (fun j hj => by match j, hj with | 0, _ => rfl) (fun b h => by simp at h) (by omega) (by omega) dX0_sheet_86 (fun H hz1 hO hP hS => ?_)
                      rw [hH] at hO hP hz1 ⊢
                      have hsub := fun k h => List.mem_append_left [1000 + nx] (hsub k h)
                      have hest293 : (csP st282 (1000 + nx) (.inr (19, [.null]))).2.2.2 (1000 + nx) = .inr (19, [.null]) := csP_at
                      rw [est293] at hP hest293
                      refine lv_dup hx hb dX0_sheet_89 rfl ?_
                      refine lv_iload_n hx hb dX0_sheet_90 rfl (lv_at hl 3 rfl) ?_
                      obtain ⟨st294, hst294, h⟩ := bd1_some h
                      refine k_SI0 (nx := nx + 1) C had hO hP hS hz1 (live_new had) hest293 hst294 q1411 (Nat.le_of_ble_eq_true rfl) hl.1 (Nat.le_of_ble_eq_true rfl) ⟨by omega, by omega⟩ dX0_sheet_91 (fun H locs hO hP hS hz1 => ?_)
                      have hsub := fun k h => List.mem_append_left [1000 + (nx + 1)] (hsub k h)
                      refine lv_goto (tgt := 122) hx hb dX0_sheet_94 rfl ?_
                      refine sh_put (j := j286) (r := (some nx)) C hO hP hS (rdi_lt hj286) (fun a h => by cases h; exact live_app (live_new had)) dX0_sheet_122 (fun H locs hP hS => ?_)
                      refine lv_iconst (v := 1) hx hb dX0_sheet_125 (by decide) ?_
                      cases h
                      refine W.widen (k := 2) (n := 41) (Nat.le_of_ble_eq_true rfl) (Nat.le_of_ble_eq_true rfl) ?_
                      exact W.iret hx hb hr (fun t ht _ => ⟨rfl, hS.F ht, _, hsub, hO, by rw [ht]; exact hP⟩) hS.2.2 dX0_sheet_126
                · have h := if_some_f h c280
                  refine lv_iconst (v := 1) hx hb dX0_sheet_65 (by decide) ?_
                  refine lv_goto (tgt := 70) hx hb dX0_sheet_66 rfl ?_
                  refine lv_iconst (v := 1) hx hb dX0_sheet_70 (by decide) ?_
                  obtain ⟨o297, st296, hv295, h⟩ := bd2_some h
                  rcases o297 with _ | v295
                  · rw [onx_none] at h
                    refine k_L_needT C hO hP hS hv295 q402 (Nat.le_of_ble_eq_true rfl) hl.1 (Nat.le_of_ble_eq_true rfl) hcs dX0_sheet_71 (fun H locs hP hS => ?_)
                    refine cc_catch (pre := [(0, 43, 127, 8)]) (a1 := 44) (a2 := 126) (hp := 127) (post := []) C hO hP q129 htab rfl rfl ?_
                    refine lv_astore (lv' := [(4, .ref (ad 61)), (0, .ref (ad 60)), (1, .int x1), (2, .int x2), (3, .int x3)]) hx hb dX0_sheet_127 hl (by decide) rfl (fun ls hl => ?_)
                    refine lv_aload_n hx hb dX0_sheet_129 rfl (lv_at hl 1 rfl) ?_
                    refine lv_aload hx hb dX0_sheet_130 (lv_at hl 0 rfl) ?_
                    obtain ⟨v298, st299, hv298, h⟩ := bd2_some h
                    refine k_L_finds C hO hP hS hv298 q410 (Nat.le_of_ble_eq_true rfl) hl.1 (Nat.le_of_ble_eq_true rfl) hcs dX0_sheet_132 (fun H locs hP hS => ?_)
                    cases h
                    refine W.widen (k := 2) (n := 41) (Nat.le_of_ble_eq_true rfl) (Nat.le_of_ble_eq_true rfl) ?_
                    exact W.iret hx hb hr (fun t ht _ => ⟨rfl, hS.F ht, _, hsub, hO, by rw [ht]; exact hP⟩) hS.2.2 dX0_sheet_135
                  · rw [onx_some] at h
                    refine k_L_needR C hO hP hS hv295 q402 (Nat.le_of_ble_eq_true rfl) hl.1 (Nat.le_of_ble_eq_true rfl) hcs dX0_sheet_71 (fun H locs hP hS => ?_)
                    refine lv_aload_n hx hb dX0_sheet_74 rfl (lv_at hl 0 rfl) ?_
                    refine lg_sheets C hO hP dX0_sheet_75 ?_
                    refine lv_iload_n hx hb dX0_sheet_78 rfl (lv_at hl 1 rfl) ?_
                    obtain ⟨j300, hj300, h⟩ := bd1_some h
                    refine sh_ald C hO hP hj300 dX0_sheet_79 ?_
                    refine lv_iload_n hx hb dX0_sheet_80 rfl (lv_at hl 2 rfl) ?_
                    refine lv_bipush (v := 8) hx hb dX0_sheet_81 (by decide) ?_
                    refine lv_icmp_ne (tgt := 97) hx hb dX0_sheet_83 rfl (fun c301 => ?_) (fun c301 => ?_)
                    · have h := if_some_f h c301
                      refine lv_iload_n hx hb dX0_sheet_97 rfl (lv_at hl 2 rfl) ?_
                      refine lv_bipush (v := 16) hx hb dX0_sheet_98 (by decide) ?_
                      refine lv_icmp_ne (tgt := 114) hx hb dX0_sheet_100 rfl (fun c302 => ?_) (fun c302 => ?_)
                      · have h := if_some_f h c302
                        obtain ⟨st303, hst303, h⟩ := bd1_some h
                        have est303 := Option.some.inj hst303
                        refine W.size0 (fun hH => ?_)
                        rw [hnx] at hH
                        refine cc_new (ci := 21) (Cn := RX24) (T := TX24) (N := 1) (ty0 := tyX24) (fs := [.null]) C had hO hP hS rfl in_X24 tyX24_ok q1433 q1434 q120 (fun j hj => by match j, hj with | 0, _ => rfl) (fun b h => by simp at h) (by omega) (by omega) dX0_sheet_114 (fun H hz1 hO hP hS => ?_)
                        rw [hH] at hO hP hz1 ⊢
                        have hsub := fun k h => List.mem_append_left [1000 + nx] (hsub k h)
                        have hest303 : (csP st296 (1000 + nx) (.inr (21, [.null]))).2.2.2 (1000 + nx) = .inr (21, [.null]) := csP_at
                        rw [est303] at hP hest303
                        refine lv_dup hx hb dX0_sheet_117 rfl ?_
                        refine lv_iload_n hx hb dX0_sheet_118 rfl (lv_at hl 3 rfl) ?_
                        obtain ⟨st304, hst304, h⟩ := bd1_some h
                        refine k_SI2 (nx := nx + 1) C had hO hP hS hz1 (live_new had) hest303 hst304 q1435 (Nat.le_of_ble_eq_true rfl) hl.1 (Nat.le_of_ble_eq_true rfl) ⟨by omega, by omega⟩ dX0_sheet_119 (fun H locs hO hP hS hz1 => ?_)
                        have hsub := fun k h => List.mem_append_left [1000 + (nx + 1)] (hsub k h)
                        refine sh_put (j := j300) (r := (some nx)) C hO hP hS (rdi_lt hj300) (fun a h => by cases h; exact live_app (live_new had)) dX0_sheet_122 (fun H locs hP hS => ?_)
                        refine lv_iconst (v := 1) hx hb dX0_sheet_125 (by decide) ?_
                        cases h
                        refine W.widen (k := 2) (n := 41) (Nat.le_of_ble_eq_true rfl) (Nat.le_of_ble_eq_true rfl) ?_
                        exact W.iret hx hb hr (fun t ht _ => ⟨rfl, hS.F ht, _, hsub, hO, by rw [ht]; exact hP⟩) hS.2.2 dX0_sheet_126
                      · have h := if_some_t h c302
                        obtain ⟨st305, hst305, h⟩ := bd1_some h
                        have est305 := Option.some.inj hst305
                        refine W.size0 (fun hH => ?_)
                        rw [hnx] at hH
                        refine cc_new (ci := 20) (Cn := RX23) (T := TX23) (N := 1) (ty0 := tyX23) (fs := [.null]) C had hO hP hS rfl in_X23 tyX23_ok q1422 q1423 q119 (fun j hj => by match j, hj with | 0, _ => rfl) (fun b h => by simp at h) (by omega) (by omega) dX0_sheet_103 (fun H hz1 hO hP hS => ?_)
                        rw [hH] at hO hP hz1 ⊢
                        have hsub := fun k h => List.mem_append_left [1000 + nx] (hsub k h)
                        have hest305 : (csP st296 (1000 + nx) (.inr (20, [.null]))).2.2.2 (1000 + nx) = .inr (20, [.null]) := csP_at
                        rw [est305] at hP hest305
                        refine lv_dup hx hb dX0_sheet_106 rfl ?_
                        refine lv_iload_n hx hb dX0_sheet_107 rfl (lv_at hl 3 rfl) ?_
                        obtain ⟨st306, hst306, h⟩ := bd1_some h
                        refine k_SI1 (nx := nx + 1) C had hO hP hS hz1 (live_new had) hest305 hst306 q1424 (Nat.le_of_ble_eq_true rfl) hl.1 (Nat.le_of_ble_eq_true rfl) ⟨by omega, by omega⟩ dX0_sheet_108 (fun H locs hO hP hS hz1 => ?_)
                        have hsub := fun k h => List.mem_append_left [1000 + (nx + 1)] (hsub k h)
                        refine lv_goto (tgt := 122) hx hb dX0_sheet_111 rfl ?_
                        refine sh_put (j := j300) (r := (some nx)) C hO hP hS (rdi_lt hj300) (fun a h => by cases h; exact live_app (live_new had)) dX0_sheet_122 (fun H locs hP hS => ?_)
                        refine lv_iconst (v := 1) hx hb dX0_sheet_125 (by decide) ?_
                        cases h
                        refine W.widen (k := 2) (n := 41) (Nat.le_of_ble_eq_true rfl) (Nat.le_of_ble_eq_true rfl) ?_
                        exact W.iret hx hb hr (fun t ht _ => ⟨rfl, hS.F ht, _, hsub, hO, by rw [ht]; exact hP⟩) hS.2.2 dX0_sheet_126
                    · have h := if_some_t h c301
                      obtain ⟨st307, hst307, h⟩ := bd1_some h
                      have est307 := Option.some.inj hst307
                      refine W.size0 (fun hH => ?_)
                      rw [hnx] at hH
                      refine cc_new (ci := 19) (Cn := RX22) (T := TX22) (N := 1) (ty0 := tyX22) (fs := [.null]) C had hO hP hS rfl in_X22 tyX22_ok q1409 q1410 q118 (fun j hj => by match j, hj with | 0, _ => rfl) (fun b h => by simp at h) (by omega) (by omega) dX0_sheet_86 (fun H hz1 hO hP hS => ?_)
                      rw [hH] at hO hP hz1 ⊢
                      have hsub := fun k h => List.mem_append_left [1000 + nx] (hsub k h)
                      have hest307 : (csP st296 (1000 + nx) (.inr (19, [.null]))).2.2.2 (1000 + nx) = .inr (19, [.null]) := csP_at
                      rw [est307] at hP hest307
                      refine lv_dup hx hb dX0_sheet_89 rfl ?_
                      refine lv_iload_n hx hb dX0_sheet_90 rfl (lv_at hl 3 rfl) ?_
                      obtain ⟨st308, hst308, h⟩ := bd1_some h
                      refine k_SI0 (nx := nx + 1) C had hO hP hS hz1 (live_new had) hest307 hst308 q1411 (Nat.le_of_ble_eq_true rfl) hl.1 (Nat.le_of_ble_eq_true rfl) ⟨by omega, by omega⟩ dX0_sheet_91 (fun H locs hO hP hS hz1 => ?_)
                      have hsub := fun k h => List.mem_append_left [1000 + (nx + 1)] (hsub k h)
                      refine lv_goto (tgt := 122) hx hb dX0_sheet_94 rfl ?_
                      refine sh_put (j := j300) (r := (some nx)) C hO hP hS (rdi_lt hj300) (fun a h => by cases h; exact live_app (live_new had)) dX0_sheet_122 (fun H locs hP hS => ?_)
                      refine lv_iconst (v := 1) hx hb dX0_sheet_125 (by decide) ?_
                      cases h
                      refine W.widen (k := 2) (n := 41) (Nat.le_of_ble_eq_true rfl) (Nat.le_of_ble_eq_true rfl) ?_
                      exact W.iret hx hb hr (fun t ht _ => ⟨rfl, hS.F ht, _, hsub, hO, by rw [ht]; exact hP⟩) hS.2.2 dX0_sheet_126
          · have h := if_some_t h c239
            refine lv_aload_n hx hb dX0_sheet_32 rfl (lv_at hl 0 rfl) ?_
            refine lg_sheets C hO hP dX0_sheet_33 ?_
            refine lv_iload_n hx hb dX0_sheet_36 rfl (lv_at hl 1 rfl) ?_
            obtain ⟨j309, hj309, h⟩ := bd1_some h
            refine sh_ald C hO hP hj309 dX0_sheet_37 ?_
            refine lv_null hx hb dX0_sheet_38 ?_
            refine sh_put (j := j309) (r := none) C hO hP hS (rdi_lt hj309) (fun _ h => by cases h) dX0_sheet_39 (fun H locs hP hS => ?_)
            refine lv_iconst (v := 1) hx hb dX0_sheet_42 (by decide) ?_
            cases h
            refine W.widen (k := 2) (n := 41) (Nat.le_of_ble_eq_true rfl) (Nat.le_of_ble_eq_true rfl) ?_
            exact W.iret hx hb hr (fun t ht _ => ⟨rfl, hS.F ht, _, hsub, hO, by rw [ht]; exact hP⟩) hS.2.2 dX0_sheet_43
end
