/-! move: walks -/
set_option maxRecDepth 100000
section
variable {p : Program} {l : Launch} {e : Env} {R : Room} {s : State} {m : MethodId} {args : Array Value} {below : List Frame} {meth : Method} {c : Code} {H : Heap} {locs : List Loc} {cells slots d : Nat} {Q : State → Prop} {cc : ByteArray} {pc nL : Nat} {ls : Array Slot} {rest : List Value} {D : va_G} {cA : Nat → ClassId} {ks : List Nat} {ad : Nat → Nat} {A : Nat → Prop} {st : CS} {H0 : Heap} {own : String} {index : Nat}
abbrev cX0_move : ByteArray := prog_1_method_62_code
def yX0_move : MethodName := ⟨RX0, "move", "(IIIII)I"⟩
theorem dX0_move_0 : decode cX0_move 0 = .ok (.aload_n 0, 1) := by decide +kernel
theorem dX0_move_1 : decode cX0_move 1 = .ok (.iload_n 1, 1) := by decide +kernel
theorem dX0_move_2 : decode cX0_move 2 = .ok (.invokestatic 313, 3) := by decide +kernel
theorem dX0_move_5 : decode cX0_move 5 = .ok (.ifCond .eq 14, 3) := by decide +kernel
theorem dX0_move_8 : decode cX0_move 8 = .ok (.iload_n 3, 1) := by decide +kernel
theorem dX0_move_9 : decode cX0_move 9 = .ok (.invokestatic 313, 3) := by decide +kernel
theorem dX0_move_12 : decode cX0_move 12 = .ok (.ifCond .eq 7, 3) := by decide +kernel
theorem dX0_move_15 : decode cX0_move 15 = .ok (.iconst 1, 1) := by decide +kernel
theorem dX0_move_16 : decode cX0_move 16 = .ok (.goto 4, 3) := by decide +kernel
theorem dX0_move_19 : decode cX0_move 19 = .ok (.iconst 0, 1) := by decide +kernel
theorem dX0_move_20 : decode cX0_move 20 = .ok (.iconst 1, 1) := by decide +kernel
theorem dX0_move_21 : decode cX0_move 21 = .ok (.invokevirtual 102, 3) := by decide +kernel
theorem dX0_move_24 : decode cX0_move 24 = .ok (.aload_n 0, 1) := by decide +kernel
theorem dX0_move_25 : decode cX0_move 25 = .ok (.iload_n 1, 1) := by decide +kernel
theorem dX0_move_26 : decode cX0_move 26 = .ok (.invokevirtual 316, 3) := by decide +kernel
theorem dX0_move_29 : decode cX0_move 29 = .ok (.astore 6, 2) := by decide +kernel
theorem dX0_move_31 : decode cX0_move 31 = .ok (.aload_n 0, 1) := by decide +kernel
theorem dX0_move_32 : decode cX0_move 32 = .ok (.iload_n 3, 1) := by decide +kernel
theorem dX0_move_33 : decode cX0_move 33 = .ok (.invokevirtual 316, 3) := by decide +kernel
theorem dX0_move_36 : decode cX0_move 36 = .ok (.astore 7, 2) := by decide +kernel
theorem dX0_move_38 : decode cX0_move 38 = .ok (.aload_n 0, 1) := by decide +kernel
theorem dX0_move_39 : decode cX0_move 39 = .ok (.aload 6, 2) := by decide +kernel
theorem dX0_move_41 : decode cX0_move 41 = .ok (.invokevirtual 393, 3) := by decide +kernel
theorem dX0_move_44 : decode cX0_move 44 = .ok (.aload 7, 2) := by decide +kernel
theorem dX0_move_46 : decode cX0_move 46 = .ok (.invokevirtual 393, 3) := by decide +kernel
theorem dX0_move_49 : decode cX0_move 49 = .ok (.if_icmp .ne 7, 3) := by decide +kernel
theorem dX0_move_52 : decode cX0_move 52 = .ok (.iconst 1, 1) := by decide +kernel
theorem dX0_move_53 : decode cX0_move 53 = .ok (.goto 4, 3) := by decide +kernel
theorem dX0_move_56 : decode cX0_move 56 = .ok (.iconst 0, 1) := by decide +kernel
theorem dX0_move_57 : decode cX0_move 57 = .ok (.iconst 5, 1) := by decide +kernel
theorem dX0_move_58 : decode cX0_move 58 = .ok (.invokevirtual 102, 3) := by decide +kernel
theorem dX0_move_61 : decode cX0_move 61 = .ok (.aload_n 0, 1) := by decide +kernel
theorem dX0_move_62 : decode cX0_move 62 = .ok (.iload 5, 2) := by decide +kernel
theorem dX0_move_64 : decode cX0_move 64 = .ok (.ifCond .lt 41, 3) := by decide +kernel
theorem dX0_move_67 : decode cX0_move 67 = .ok (.iload_n 2, 1) := by decide +kernel
theorem dX0_move_68 : decode cX0_move 68 = .ok (.ifCond .lt 37, 3) := by decide +kernel
theorem dX0_move_71 : decode cX0_move 71 = .ok (.iload 4, 2) := by decide +kernel
theorem dX0_move_73 : decode cX0_move 73 = .ok (.ifCond .lt 32, 3) := by decide +kernel
theorem dX0_move_76 : decode cX0_move 76 = .ok (.iload_n 2, 1) := by decide +kernel
theorem dX0_move_77 : decode cX0_move 77 = .ok (.aload 6, 2) := by decide +kernel
theorem dX0_move_79 : decode cX0_move 79 = .ok (.invokevirtual 307, 3) := by decide +kernel
theorem dX0_move_82 : decode cX0_move 82 = .ok (.iload 5, 2) := by decide +kernel
theorem dX0_move_84 : decode cX0_move 84 = .ok (.isub, 1) := by decide +kernel
theorem dX0_move_85 : decode cX0_move 85 = .ok (.if_icmp .gt 20, 3) := by decide +kernel
theorem dX0_move_88 : decode cX0_move 88 = .ok (.iload 4, 2) := by decide +kernel
theorem dX0_move_90 : decode cX0_move 90 = .ok (.aload 7, 2) := by decide +kernel
theorem dX0_move_92 : decode cX0_move 92 = .ok (.invokevirtual 307, 3) := by decide +kernel
theorem dX0_move_95 : decode cX0_move 95 = .ok (.iload 5, 2) := by decide +kernel
theorem dX0_move_97 : decode cX0_move 97 = .ok (.isub, 1) := by decide +kernel
theorem dX0_move_98 : decode cX0_move 98 = .ok (.if_icmp .gt 7, 3) := by decide +kernel
theorem dX0_move_101 : decode cX0_move 101 = .ok (.iconst 1, 1) := by decide +kernel
theorem dX0_move_102 : decode cX0_move 102 = .ok (.goto 4, 3) := by decide +kernel
theorem dX0_move_105 : decode cX0_move 105 = .ok (.iconst 0, 1) := by decide +kernel
theorem dX0_move_106 : decode cX0_move 106 = .ok (.iconst 1, 1) := by decide +kernel
theorem dX0_move_107 : decode cX0_move 107 = .ok (.invokevirtual 102, 3) := by decide +kernel
theorem dX0_move_110 : decode cX0_move 110 = .ok (.aload 6, 2) := by decide +kernel
theorem dX0_move_112 : decode cX0_move 112 = .ok (.invokevirtual 396, 3) := by decide +kernel
theorem dX0_move_115 : decode cX0_move 115 = .ok (.astore 8, 2) := by decide +kernel
theorem dX0_move_117 : decode cX0_move 117 = .ok (.iconst 0, 1) := by decide +kernel
theorem dX0_move_118 : decode cX0_move 118 = .ok (.istore 9, 2) := by decide +kernel
theorem dX0_move_120 : decode cX0_move 120 = .ok (.iload 9, 2) := by decide +kernel
theorem dX0_move_122 : decode cX0_move 122 = .ok (.iload 5, 2) := by decide +kernel
theorem dX0_move_124 : decode cX0_move 124 = .ok (.if_icmp .ge 26, 3) := by decide +kernel
theorem dX0_move_127 : decode cX0_move 127 = .ok (.aload 7, 2) := by decide +kernel
theorem dX0_move_129 : decode cX0_move 129 = .ok (.iload 4, 2) := by decide +kernel
theorem dX0_move_131 : decode cX0_move 131 = .ok (.iload 9, 2) := by decide +kernel
theorem dX0_move_133 : decode cX0_move 133 = .ok (.iadd, 1) := by decide +kernel
theorem dX0_move_134 : decode cX0_move 134 = .ok (.aload 8, 2) := by decide +kernel
theorem dX0_move_136 : decode cX0_move 136 = .ok (.iload_n 2, 1) := by decide +kernel
theorem dX0_move_137 : decode cX0_move 137 = .ok (.iload 9, 2) := by decide +kernel
theorem dX0_move_139 : decode cX0_move 139 = .ok (.iadd, 1) := by decide +kernel
theorem dX0_move_140 : decode cX0_move 140 = .ok (.iaload, 1) := by decide +kernel
theorem dX0_move_141 : decode cX0_move 141 = .ok (.invokevirtual 390, 3) := by decide +kernel
theorem dX0_move_144 : decode cX0_move 144 = .ok (.iinc 9 1, 3) := by decide +kernel
theorem dX0_move_147 : decode cX0_move 147 = .ok (.goto (-27), 3) := by decide +kernel
theorem dX0_move_150 : decode cX0_move 150 = .ok (.iload 5, 2) := by decide +kernel
theorem dX0_move_152 : decode cX0_move 152 = .ok (.ireturn, 1) := by decide +kernel
theorem dX0_move_153 : decode cX0_move 153 = .ok (.astore 6, 2) := by decide +kernel
theorem dX0_move_155 : decode cX0_move 155 = .ok (.aload_n 0, 1) := by decide +kernel
theorem dX0_move_156 : decode cX0_move 156 = .ok (.aload 6, 2) := by decide +kernel
theorem dX0_move_158 : decode cX0_move 158 = .ok (.invokevirtual 123, 3) := by decide +kernel
theorem dX0_move_161 : decode cX0_move 161 = .ok (.ireturn, 1) := by decide +kernel
theorem q1463 : (Jvm.Cond.methodLink "ChapterLoan" (393 : Nat) ({ cls := "ChapterLoan$Sheet", name := "width", desc := "()I" } : Jvm.MethodName)) ∈ lw_all := lw_g (lw_at lw_m6 179 rfl) rfl
theorem q1475 : (Jvm.Cond.methodLink "ChapterLoan" (396 : Nat) ({ cls := "ChapterLoan$Sheet", name := "row", desc := "()[I" } : Jvm.MethodName)) ∈ lw_all := lw_g (lw_at lw_m6 191 rfl) rfl
theorem w_L_move {l : Launch} {D : va_G} {cA : Nat → ClassId} {ks : List Nat} {ad : Nat → Nat} {A : Nat → Prop} (had : adP ad) (hO : klOk A ks ad) {N : Nat} {st st' : CS} {nx : Nat} {x1 x2 x3 x4 x5 r0 : Int32} (h : L_move nx N cA st x1 x2 x3 x4 x5 = some (r0, st')) : Met l yX0_move (wsW_ yX0_move cX0_move 10 (some .int) [(0, 152, 153, 8)]) (rmA 3 1 40) (nPre nx D cA ks ad A st [.ref (ad 60), .int x1, .int x2, .int x3, .int x4, .int x5]) (aQ (some (.int r0)) D cA ks ad A st') 1 40 A := by
  refine cc_ofHA (own := RX0) (by decide) rfl (Nat.le_of_ble_eq_true rfl) (fun p e s m below meth c R args ls C hr hlk htab hP hS hl hcsA hnx => ?_)
  have hx := C.1
  have hb := C.2.1
  have hown := C.2.2.2.1
  have hNst := C.2.2.2.2.2.2.2.1
  have hO1 : klOk A (ks ++ [1000 + nx]) ad := by
    have h1 := klOk_new had hO hP (C.2.2.2.2.2.2.2.2 _ (Nat.le_refl _))
    rw [hnx] at h1
    exact h1
  have hsub1 : ∀ k ∈ ks, k ∈ (ks ++ [1000 + nx]) := fun k h => List.mem_append_left _ h
  have hO0 := hO
  have hO := hO1
  have hsub := hsub1
  have hcs : 0 + 1 ≤ R.cells ∧ 0 + 40 ≤ R.slots := ⟨by omega, by omega⟩
  have hl : lv_has ls 10 [(0, .ref (ad 60)), (1, .int x1), (2, .int x2), (3, .int x3), (4, .int x4), (5, .int x5)] := hl
  have L120 : ∀ (x2 : Int32), ∀ (x4 : Int32), ∀ (x5 : Int32), ∀ (x7 : Nat), ∀ (hlx7 : live (ks ++ [1000 + nx]) ad x7), ∀ (n : Nat) (st : CS) (x9 : Int32) (st2 : CS), L_move_L120 N nx cA x2 x4 x5 x7 n st x9 = some st2 → ∀ (H : Heap) (locs : List Loc), cW D cA (ks ++ [1000 + nx]) ad st H → va_S A s.heap H locs → ∀ ls : Array Slot, lv_has ls 10 [(2, .int x2), (4, .int x4), (5, .int x5), (7, .ref x7), (8, .ref nx), (9, .int x9)] → (∀ (H : Heap) (locs : List Loc), cW D cA (ks ++ [1000 + nx]) ad st2 H → va_S A s.heap H locs → ∀ ls : Array Slot, lv_has ls 10 [(5, .int x5)] → W p l e R s m args below meth c H locs (0 + 1) (0 + 40) (MQ below (aQ (some (.int r0)) D cA ks ad A st') args s 1 40 A) (F0 m 150 ls [])) → W p l e R s m args below meth c H locs (0 + 1) (0 + 40) (MQ below (aQ (some (.int r0)) D cA ks ad A st') args s 1 40 A) (F0 m 120 ls []) := by
    intro x2 x4 x5 x7 hlx7 n
    induction n with
    | zero =>
      intro st x9 st2 h
      exact non_some h
    | succ n ih =>
      intro st x9 st2 h H locs hP hS ls hl kx
      rw [L_move_L120] at h
      refine lv_iload hx hb dX0_move_120 (lv_at hl 5 rfl) ?_
      refine lv_iload hx hb dX0_move_122 (lv_at hl 2 rfl) ?_
      refine lv_icmp_ge (tgt := 150) hx hb dX0_move_124 rfl (fun c37 => ?_) (fun c37 => ?_)
      · have h := if_some_t h c37
        cases h
        exact kx _ _ hP hS ls (lv_sub hl [2] rfl)
      · have h := if_some_f h c37
        refine lv_aload hx hb dX0_move_127 (lv_at hl 3 rfl) ?_
        refine lv_iload hx hb dX0_move_129 (lv_at hl 1 rfl) ?_
        refine lv_iload hx hb dX0_move_131 (lv_at hl 5 rfl) ?_
        refine lv_iadd hx hb dX0_move_133 ?_
        refine lv_aload hx hb dX0_move_134 (lv_at hl 4 rfl) ?_
        refine lv_iload_n hx hb dX0_move_136 rfl (lv_at hl 0 rfl) ?_
        refine lv_iload hx hb dX0_move_137 (lv_at hl 5 rfl) ?_
        refine lv_iadd hx hb dX0_move_139 ?_
        obtain ⟨n38, f39, hf39, h⟩ := bd2_some h
        have hf39 := arOf_some hf39
        obtain ⟨v40, hv40, h⟩ := bd1_some h
        refine pl_ild C hP (live_new had) hf39 hv40 dX0_move_140 ?_
        obtain ⟨st41, hst41, h⟩ := bd1_some h
        refine k_S_put C hO hP hS hlx7 hst41 q1447 (Nat.le_of_ble_eq_true rfl) hl.1 (Nat.le_of_ble_eq_true rfl) hcs dX0_move_141 (fun H locs hP hS => ?_)
        refine lv_iinc (v := x9 + 1) (lv' := [(9, .int (x9 + 1)), (2, .int x2), (4, .int x4), (5, .int x5), (7, .ref x7), (8, .ref nx)]) hx hb dX0_move_144 hl (k := 5) rfl rfl (by decide) rfl (fun ls hl => ?_)
        refine lv_goto (tgt := 120) hx hb dX0_move_147 rfl ?_
        exact ih st41 (x9 + 1) _ h _ _ hP hS ls (lv_sub hl [1, 2, 3, 4, 5, 0] rfl) kx
  have hO := hO0
  have hsub : ∀ k ∈ ks, k ∈ ks := fun _ h => h
  have hcs : 0 ≤ R.cells ∧ 0 ≤ R.slots := ⟨Nat.zero_le _, Nat.zero_le _⟩
  rw [L_move] at h
  refine lv_aload_n hx hb dX0_move_0 rfl (lv_at hl 0 rfl) ?_
  refine lv_iload_n hx hb dX0_move_1 rfl (lv_at hl 1 rfl) ?_
  obtain ⟨v1, hv1, h⟩ := bd1_some h
  refine k_L_isSheet hx hb C.2.2.1 hown C.2.2.2.2.1 C.2.2.2.2.2.1 q1143 hv1 (Nat.le_of_ble_eq_true rfl) hl.1 (Nat.le_of_ble_eq_true rfl) hcs dX0_move_2 ?_
  refine lv_if_eq (tgt := 19) hx hb dX0_move_5 rfl (fun c2 => ?_) (fun c2 => ?_)
  · have h := if_some_t h c2
    refine lv_iconst (v := 0) hx hb dX0_move_19 (by decide) ?_
    refine lv_iconst (v := 1) hx hb dX0_move_20 (by decide) ?_
    obtain ⟨o5, st4, hv3, h⟩ := bd2_some h
    rcases o5 with _ | v3
    · rw [onx_none] at h
      refine k_L_needT C hO hP hS hv3 q402 (Nat.le_of_ble_eq_true rfl) hl.1 (Nat.le_of_ble_eq_true rfl) hcs dX0_move_21 (fun H locs hP hS => ?_)
      refine cc_catch (pre := []) (a1 := 0) (a2 := 152) (hp := 153) (post := []) C hO hP q129 htab rfl rfl ?_
      refine lv_astore (lv' := [(6, .ref (ad 61)), (0, .ref (ad 60)), (1, .int x1), (2, .int x2), (3, .int x3), (4, .int x4), (5, .int x5)]) hx hb dX0_move_153 hl (by decide) rfl (fun ls hl => ?_)
      refine lv_aload_n hx hb dX0_move_155 rfl (lv_at hl 1 rfl) ?_
      refine lv_aload hx hb dX0_move_156 (lv_at hl 0 rfl) ?_
      obtain ⟨v6, st7, hv6, h⟩ := bd2_some h
      refine k_L_finds C hO hP hS hv6 q410 (Nat.le_of_ble_eq_true rfl) hl.1 (Nat.le_of_ble_eq_true rfl) hcs dX0_move_158 (fun H locs hP hS => ?_)
      cases h
      refine W.widen (k := 1) (n := 40) (Nat.le_of_ble_eq_true rfl) (Nat.le_of_ble_eq_true rfl) ?_
      exact W.iret hx hb hr (fun t ht _ => ⟨rfl, hS.F ht, _, hsub, hO, by rw [ht]; exact hP⟩) hS.2.2 dX0_move_161
    · rw [onx_some] at h
      refine k_L_needR C hO hP hS hv3 q402 (Nat.le_of_ble_eq_true rfl) hl.1 (Nat.le_of_ble_eq_true rfl) hcs dX0_move_21 (fun H locs hP hS => ?_)
      refine lv_aload_n hx hb dX0_move_24 rfl (lv_at hl 0 rfl) ?_
      refine lv_iload_n hx hb dX0_move_25 rfl (lv_at hl 1 rfl) ?_
      obtain ⟨o10, st9, hv8, h⟩ := bd2_some h
      rcases o10 with _ | v8
      · rw [onx_none] at h
        refine k_L_sheetAtT C hO hP hS hv8 q1146 (Nat.le_of_ble_eq_true rfl) hl.1 (Nat.le_of_ble_eq_true rfl) hcs dX0_move_26 (fun H locs hP hS => ?_)
        refine cc_catch (pre := []) (a1 := 0) (a2 := 152) (hp := 153) (post := []) C hO hP q129 htab rfl rfl ?_
        refine lv_astore (lv' := [(6, .ref (ad 61)), (0, .ref (ad 60)), (1, .int x1), (2, .int x2), (3, .int x3), (4, .int x4), (5, .int x5)]) hx hb dX0_move_153 hl (by decide) rfl (fun ls hl => ?_)
        refine lv_aload_n hx hb dX0_move_155 rfl (lv_at hl 1 rfl) ?_
        refine lv_aload hx hb dX0_move_156 (lv_at hl 0 rfl) ?_
        obtain ⟨v11, st12, hv11, h⟩ := bd2_some h
        refine k_L_finds C hO hP hS hv11 q410 (Nat.le_of_ble_eq_true rfl) hl.1 (Nat.le_of_ble_eq_true rfl) hcs dX0_move_158 (fun H locs hP hS => ?_)
        cases h
        refine W.widen (k := 1) (n := 40) (Nat.le_of_ble_eq_true rfl) (Nat.le_of_ble_eq_true rfl) ?_
        exact W.iret hx hb hr (fun t ht _ => ⟨rfl, hS.F ht, _, hsub, hO, by rw [ht]; exact hP⟩) hS.2.2 dX0_move_161
      · rw [onx_some] at h
        refine k_L_sheetAtR C hO hP hS hv8 q1146 (Nat.le_of_ble_eq_true rfl) hl.1 (Nat.le_of_ble_eq_true rfl) hcs dX0_move_26 (fun H locs hP hS => ?_)
        have hlv8 := (w_live_L_sheetAt hP hv8)
        refine lv_astore (lv' := [(6, .ref v8), (0, .ref (ad 60)), (1, .int x1), (2, .int x2), (3, .int x3), (4, .int x4), (5, .int x5)]) hx hb dX0_move_29 hl (by decide) rfl (fun ls hl => ?_)
        refine lv_aload_n hx hb dX0_move_31 rfl (lv_at hl 1 rfl) ?_
        refine lv_iload_n hx hb dX0_move_32 rfl (lv_at hl 4 rfl) ?_
        obtain ⟨o15, st14, hv13, h⟩ := bd2_some h
        rcases o15 with _ | v13
        · rw [onx_none] at h
          refine k_L_sheetAtT C hO hP hS hv13 q1146 (Nat.le_of_ble_eq_true rfl) hl.1 (Nat.le_of_ble_eq_true rfl) hcs dX0_move_33 (fun H locs hP hS => ?_)
          refine cc_catch (pre := []) (a1 := 0) (a2 := 152) (hp := 153) (post := []) C hO hP q129 htab rfl rfl ?_
          refine lv_astore (lv' := [(6, .ref (ad 61)), (0, .ref (ad 60)), (1, .int x1), (2, .int x2), (3, .int x3), (4, .int x4), (5, .int x5)]) hx hb dX0_move_153 hl (by decide) rfl (fun ls hl => ?_)
          refine lv_aload_n hx hb dX0_move_155 rfl (lv_at hl 1 rfl) ?_
          refine lv_aload hx hb dX0_move_156 (lv_at hl 0 rfl) ?_
          obtain ⟨v16, st17, hv16, h⟩ := bd2_some h
          refine k_L_finds C hO hP hS hv16 q410 (Nat.le_of_ble_eq_true rfl) hl.1 (Nat.le_of_ble_eq_true rfl) hcs dX0_move_158 (fun H locs hP hS => ?_)
          cases h
          refine W.widen (k := 1) (n := 40) (Nat.le_of_ble_eq_true rfl) (Nat.le_of_ble_eq_true rfl) ?_
          exact W.iret hx hb hr (fun t ht _ => ⟨rfl, hS.F ht, _, hsub, hO, by rw [ht]; exact hP⟩) hS.2.2 dX0_move_161
        · rw [onx_some] at h
          refine k_L_sheetAtR C hO hP hS hv13 q1146 (Nat.le_of_ble_eq_true rfl) hl.1 (Nat.le_of_ble_eq_true rfl) hcs dX0_move_33 (fun H locs hP hS => ?_)
          have hlv13 := (w_live_L_sheetAt hP hv13)
          refine lv_astore (lv' := [(7, .ref v13), (6, .ref v8), (0, .ref (ad 60)), (1, .int x1), (2, .int x2), (3, .int x3), (4, .int x4), (5, .int x5)]) hx hb dX0_move_36 hl (by decide) rfl (fun ls hl => ?_)
          refine lv_aload_n hx hb dX0_move_38 rfl (lv_at hl 2 rfl) ?_
          refine lv_aload hx hb dX0_move_39 (lv_at hl 1 rfl) ?_
          obtain ⟨v18, hv18, h⟩ := bd1_some h
          refine k_S_width C hO hP hS.1 hlv8 hv18 q1463 (Nat.le_of_ble_eq_true rfl) hl.1 (Nat.le_of_ble_eq_true rfl) hcs dX0_move_41 ?_
          refine lv_aload hx hb dX0_move_44 (lv_at hl 0 rfl) ?_
          obtain ⟨v19, hv19, h⟩ := bd1_some h
          refine k_S_width C hO hP hS.1 hlv13 hv19 q1463 (Nat.le_of_ble_eq_true rfl) hl.1 (Nat.le_of_ble_eq_true rfl) hcs dX0_move_46 ?_
          refine lv_icmp_ne (tgt := 56) hx hb dX0_move_49 rfl (fun c20 => ?_) (fun c20 => ?_)
          · have h := if_some_f h c20
            refine lv_iconst (v := 0) hx hb dX0_move_56 (by decide) ?_
            refine lv_iconst (v := 5) hx hb dX0_move_57 (by decide) ?_
            obtain ⟨o23, st22, hv21, h⟩ := bd2_some h
            rcases o23 with _ | v21
            · rw [onx_none] at h
              refine k_L_needT C hO hP hS hv21 q402 (Nat.le_of_ble_eq_true rfl) hl.1 (Nat.le_of_ble_eq_true rfl) hcs dX0_move_58 (fun H locs hP hS => ?_)
              refine cc_catch (pre := []) (a1 := 0) (a2 := 152) (hp := 153) (post := []) C hO hP q129 htab rfl rfl ?_
              refine lv_astore (lv' := [(6, .ref (ad 61)), (7, .ref v13), (0, .ref (ad 60)), (1, .int x1), (2, .int x2), (3, .int x3), (4, .int x4), (5, .int x5)]) hx hb dX0_move_153 hl (by decide) rfl (fun ls hl => ?_)
              refine lv_aload_n hx hb dX0_move_155 rfl (lv_at hl 2 rfl) ?_
              refine lv_aload hx hb dX0_move_156 (lv_at hl 0 rfl) ?_
              obtain ⟨v24, st25, hv24, h⟩ := bd2_some h
              refine k_L_finds C hO hP hS hv24 q410 (Nat.le_of_ble_eq_true rfl) hl.1 (Nat.le_of_ble_eq_true rfl) hcs dX0_move_158 (fun H locs hP hS => ?_)
              cases h
              refine W.widen (k := 1) (n := 40) (Nat.le_of_ble_eq_true rfl) (Nat.le_of_ble_eq_true rfl) ?_
              exact W.iret hx hb hr (fun t ht _ => ⟨rfl, hS.F ht, _, hsub, hO, by rw [ht]; exact hP⟩) hS.2.2 dX0_move_161
            · rw [onx_some] at h
              refine k_L_needR C hO hP hS hv21 q402 (Nat.le_of_ble_eq_true rfl) hl.1 (Nat.le_of_ble_eq_true rfl) hcs dX0_move_58 (fun H locs hP hS => ?_)
              refine lv_aload_n hx hb dX0_move_61 rfl (lv_at hl 2 rfl) ?_
              refine lv_iload hx hb dX0_move_62 (lv_at hl 7 rfl) ?_
              refine lv_if_lt (tgt := 105) hx hb dX0_move_64 rfl (fun c26 => ?_) (fun c26 => ?_)
              · have h := if_some_t h c26
                refine lv_iconst (v := 0) hx hb dX0_move_105 (by decide) ?_
                refine lv_iconst (v := 1) hx hb dX0_move_106 (by decide) ?_
                obtain ⟨o29, st28, hv27, h⟩ := bd2_some h
                rcases o29 with _ | v27
                · rw [onx_none] at h
                  refine k_L_needT C hO hP hS hv27 q402 (Nat.le_of_ble_eq_true rfl) hl.1 (Nat.le_of_ble_eq_true rfl) hcs dX0_move_107 (fun H locs hP hS => ?_)
                  refine cc_catch (pre := []) (a1 := 0) (a2 := 152) (hp := 153) (post := []) C hO hP q129 htab rfl rfl ?_
                  refine lv_astore (lv' := [(6, .ref (ad 61)), (7, .ref v13), (0, .ref (ad 60)), (1, .int x1), (2, .int x2), (3, .int x3), (4, .int x4), (5, .int x5)]) hx hb dX0_move_153 hl (by decide) rfl (fun ls hl => ?_)
                  refine lv_aload_n hx hb dX0_move_155 rfl (lv_at hl 2 rfl) ?_
                  refine lv_aload hx hb dX0_move_156 (lv_at hl 0 rfl) ?_
                  obtain ⟨v30, st31, hv30, h⟩ := bd2_some h
                  refine k_L_finds C hO hP hS hv30 q410 (Nat.le_of_ble_eq_true rfl) hl.1 (Nat.le_of_ble_eq_true rfl) hcs dX0_move_158 (fun H locs hP hS => ?_)
                  cases h
                  refine W.widen (k := 1) (n := 40) (Nat.le_of_ble_eq_true rfl) (Nat.le_of_ble_eq_true rfl) ?_
                  exact W.iret hx hb hr (fun t ht _ => ⟨rfl, hS.F ht, _, hsub, hO, by rw [ht]; exact hP⟩) hS.2.2 dX0_move_161
                · rw [onx_some] at h
                  refine k_L_needR C hO hP hS hv27 q402 (Nat.le_of_ble_eq_true rfl) hl.1 (Nat.le_of_ble_eq_true rfl) hcs dX0_move_107 (fun H locs hP hS => ?_)
                  refine lv_aload hx hb dX0_move_110 (lv_at hl 1 rfl) ?_
                  obtain ⟨w33, b34, n35, f36, hsw33, h⟩ := bd4_some h
                  obtain ⟨st32, hst32, h⟩ := bd1_some h
                  refine W.size0 (fun hH => ?_)
                  have hH := hH.trans hnx
                  refine k_S_row C had hO hP hS hH hlv8 hsw33 hst32 q1475 (Nat.le_of_ble_eq_true rfl) hl.1 (Nat.le_of_ble_eq_true rfl) ⟨by omega, by omega⟩ dX0_move_112 (fun H locs hO hP hS hz1 => ?_)
                  have hcs : 0 + 1 ≤ R.cells ∧ 0 + 40 ≤ R.slots := ⟨by omega, by omega⟩
                  have hsub := hsub1
                  have hlv13 := live_app (l := [1000 + nx]) hlv13
                  have hlv8 := live_app (l := [1000 + nx]) hlv8
                  refine lv_astore (lv' := [(8, .ref nx), (7, .ref v13), (6, .ref v8), (0, .ref (ad 60)), (1, .int x1), (2, .int x2), (3, .int x3), (4, .int x4), (5, .int x5)]) hx hb dX0_move_115 hl (by decide) rfl (fun ls hl => ?_)
                  refine lv_iconst (v := 0) hx hb dX0_move_117 (by decide) ?_
                  refine lv_istore (lv' := [(9, .int 0), (8, .ref nx), (7, .ref v13), (6, .ref v8), (0, .ref (ad 60)), (1, .int x1), (2, .int x2), (3, .int x3), (4, .int x4), (5, .int x5)]) hx hb dX0_move_118 hl (by decide) rfl (fun ls hl => ?_)
                  obtain ⟨st42, hz43, h⟩ := bd1_some h
                  refine L120 x2 x4 x5 v13 hlv13 N _ 0 _ hz43 _ _ hP hS ls (lv_sub hl [6, 8, 9, 2, 1, 0] rfl) (fun H locs hP hS ls hl => ?_)
                  refine lv_iload hx hb dX0_move_150 (lv_at hl 0 rfl) ?_
                  cases h
                  refine W.widen (k := 1) (n := 40) (Nat.le_of_ble_eq_true rfl) (Nat.le_of_ble_eq_true rfl) ?_
                  exact W.iret hx hb hr (fun t ht _ => ⟨rfl, hS.F ht, _, hsub, hO, by rw [ht]; exact hP⟩) hS.2.2 dX0_move_152
              · have h := if_some_f h c26
                refine lv_iload_n hx hb dX0_move_67 rfl (lv_at hl 4 rfl) ?_
                refine lv_if_lt (tgt := 105) hx hb dX0_move_68 rfl (fun c44 => ?_) (fun c44 => ?_)
                · have h := if_some_t h c44
                  refine lv_iconst (v := 0) hx hb dX0_move_105 (by decide) ?_
                  refine lv_iconst (v := 1) hx hb dX0_move_106 (by decide) ?_
                  obtain ⟨o47, st46, hv45, h⟩ := bd2_some h
                  rcases o47 with _ | v45
                  · rw [onx_none] at h
                    refine k_L_needT C hO hP hS hv45 q402 (Nat.le_of_ble_eq_true rfl) hl.1 (Nat.le_of_ble_eq_true rfl) hcs dX0_move_107 (fun H locs hP hS => ?_)
                    refine cc_catch (pre := []) (a1 := 0) (a2 := 152) (hp := 153) (post := []) C hO hP q129 htab rfl rfl ?_
                    refine lv_astore (lv' := [(6, .ref (ad 61)), (7, .ref v13), (0, .ref (ad 60)), (1, .int x1), (2, .int x2), (3, .int x3), (4, .int x4), (5, .int x5)]) hx hb dX0_move_153 hl (by decide) rfl (fun ls hl => ?_)
                    refine lv_aload_n hx hb dX0_move_155 rfl (lv_at hl 2 rfl) ?_
                    refine lv_aload hx hb dX0_move_156 (lv_at hl 0 rfl) ?_
                    obtain ⟨v48, st49, hv48, h⟩ := bd2_some h
                    refine k_L_finds C hO hP hS hv48 q410 (Nat.le_of_ble_eq_true rfl) hl.1 (Nat.le_of_ble_eq_true rfl) hcs dX0_move_158 (fun H locs hP hS => ?_)
                    cases h
                    refine W.widen (k := 1) (n := 40) (Nat.le_of_ble_eq_true rfl) (Nat.le_of_ble_eq_true rfl) ?_
                    exact W.iret hx hb hr (fun t ht _ => ⟨rfl, hS.F ht, _, hsub, hO, by rw [ht]; exact hP⟩) hS.2.2 dX0_move_161
                  · rw [onx_some] at h
                    refine k_L_needR C hO hP hS hv45 q402 (Nat.le_of_ble_eq_true rfl) hl.1 (Nat.le_of_ble_eq_true rfl) hcs dX0_move_107 (fun H locs hP hS => ?_)
                    refine lv_aload hx hb dX0_move_110 (lv_at hl 1 rfl) ?_
                    obtain ⟨w51, b52, n53, f54, hsw51, h⟩ := bd4_some h
                    obtain ⟨st50, hst50, h⟩ := bd1_some h
                    refine W.size0 (fun hH => ?_)
                    have hH := hH.trans hnx
                    refine k_S_row C had hO hP hS hH hlv8 hsw51 hst50 q1475 (Nat.le_of_ble_eq_true rfl) hl.1 (Nat.le_of_ble_eq_true rfl) ⟨by omega, by omega⟩ dX0_move_112 (fun H locs hO hP hS hz1 => ?_)
                    have hcs : 0 + 1 ≤ R.cells ∧ 0 + 40 ≤ R.slots := ⟨by omega, by omega⟩
                    have hsub := hsub1
                    have hlv13 := live_app (l := [1000 + nx]) hlv13
                    have hlv8 := live_app (l := [1000 + nx]) hlv8
                    refine lv_astore (lv' := [(8, .ref nx), (7, .ref v13), (6, .ref v8), (0, .ref (ad 60)), (1, .int x1), (2, .int x2), (3, .int x3), (4, .int x4), (5, .int x5)]) hx hb dX0_move_115 hl (by decide) rfl (fun ls hl => ?_)
                    refine lv_iconst (v := 0) hx hb dX0_move_117 (by decide) ?_
                    refine lv_istore (lv' := [(9, .int 0), (8, .ref nx), (7, .ref v13), (6, .ref v8), (0, .ref (ad 60)), (1, .int x1), (2, .int x2), (3, .int x3), (4, .int x4), (5, .int x5)]) hx hb dX0_move_118 hl (by decide) rfl (fun ls hl => ?_)
                    obtain ⟨st55, hz56, h⟩ := bd1_some h
                    refine L120 x2 x4 x5 v13 hlv13 N _ 0 _ hz56 _ _ hP hS ls (lv_sub hl [6, 8, 9, 2, 1, 0] rfl) (fun H locs hP hS ls hl => ?_)
                    refine lv_iload hx hb dX0_move_150 (lv_at hl 0 rfl) ?_
                    cases h
                    refine W.widen (k := 1) (n := 40) (Nat.le_of_ble_eq_true rfl) (Nat.le_of_ble_eq_true rfl) ?_
                    exact W.iret hx hb hr (fun t ht _ => ⟨rfl, hS.F ht, _, hsub, hO, by rw [ht]; exact hP⟩) hS.2.2 dX0_move_152
                · have h := if_some_f h c44
                  refine lv_iload hx hb dX0_move_71 (lv_at hl 6 rfl) ?_
                  refine lv_if_lt (tgt := 105) hx hb dX0_move_73 rfl (fun c57 => ?_) (fun c57 => ?_)
                  · have h := if_some_t h c57
                    refine lv_iconst (v := 0) hx hb dX0_move_105 (by decide) ?_
                    refine lv_iconst (v := 1) hx hb dX0_move_106 (by decide) ?_
                    obtain ⟨o60, st59, hv58, h⟩ := bd2_some h
                    rcases o60 with _ | v58
                    · rw [onx_none] at h
                      refine k_L_needT C hO hP hS hv58 q402 (Nat.le_of_ble_eq_true rfl) hl.1 (Nat.le_of_ble_eq_true rfl) hcs dX0_move_107 (fun H locs hP hS => ?_)
                      refine cc_catch (pre := []) (a1 := 0) (a2 := 152) (hp := 153) (post := []) C hO hP q129 htab rfl rfl ?_
                      refine lv_astore (lv' := [(6, .ref (ad 61)), (7, .ref v13), (0, .ref (ad 60)), (1, .int x1), (2, .int x2), (3, .int x3), (4, .int x4), (5, .int x5)]) hx hb dX0_move_153 hl (by decide) rfl (fun ls hl => ?_)
                      refine lv_aload_n hx hb dX0_move_155 rfl (lv_at hl 2 rfl) ?_
                      refine lv_aload hx hb dX0_move_156 (lv_at hl 0 rfl) ?_
                      obtain ⟨v61, st62, hv61, h⟩ := bd2_some h
                      refine k_L_finds C hO hP hS hv61 q410 (Nat.le_of_ble_eq_true rfl) hl.1 (Nat.le_of_ble_eq_true rfl) hcs dX0_move_158 (fun H locs hP hS => ?_)
                      cases h
                      refine W.widen (k := 1) (n := 40) (Nat.le_of_ble_eq_true rfl) (Nat.le_of_ble_eq_true rfl) ?_
                      exact W.iret hx hb hr (fun t ht _ => ⟨rfl, hS.F ht, _, hsub, hO, by rw [ht]; exact hP⟩) hS.2.2 dX0_move_161
                    · rw [onx_some] at h
                      refine k_L_needR C hO hP hS hv58 q402 (Nat.le_of_ble_eq_true rfl) hl.1 (Nat.le_of_ble_eq_true rfl) hcs dX0_move_107 (fun H locs hP hS => ?_)
                      refine lv_aload hx hb dX0_move_110 (lv_at hl 1 rfl) ?_
                      obtain ⟨w64, b65, n66, f67, hsw64, h⟩ := bd4_some h
                      obtain ⟨st63, hst63, h⟩ := bd1_some h
                      refine W.size0 (fun hH => ?_)
                      have hH := hH.trans hnx
                      refine k_S_row C had hO hP hS hH hlv8 hsw64 hst63 q1475 (Nat.le_of_ble_eq_true rfl) hl.1 (Nat.le_of_ble_eq_true rfl) ⟨by omega, by omega⟩ dX0_move_112 (fun H locs hO hP hS hz1 => ?_)
                      have hcs : 0 + 1 ≤ R.cells ∧ 0 + 40 ≤ R.slots := ⟨by omega, by omega⟩
                      have hsub := hsub1
                      have hlv13 := live_app (l := [1000 + nx]) hlv13
                      have hlv8 := live_app (l := [1000 + nx]) hlv8
                      refine lv_astore (lv' := [(8, .ref nx), (7, .ref v13), (6, .ref v8), (0, .ref (ad 60)), (1, .int x1), (2, .int x2), (3, .int x3), (4, .int x4), (5, .int x5)]) hx hb dX0_move_115 hl (by decide) rfl (fun ls hl => ?_)
                      refine lv_iconst (v := 0) hx hb dX0_move_117 (by decide) ?_
                      refine lv_istore (lv' := [(9, .int 0), (8, .ref nx), (7, .ref v13), (6, .ref v8), (0, .ref (ad 60)), (1, .int x1), (2, .int x2), (3, .int x3), (4, .int x4), (5, .int x5)]) hx hb dX0_move_118 hl (by decide) rfl (fun ls hl => ?_)
                      obtain ⟨st68, hz69, h⟩ := bd1_some h
                      refine L120 x2 x4 x5 v13 hlv13 N _ 0 _ hz69 _ _ hP hS ls (lv_sub hl [6, 8, 9, 2, 1, 0] rfl) (fun H locs hP hS ls hl => ?_)
                      refine lv_iload hx hb dX0_move_150 (lv_at hl 0 rfl) ?_
                      cases h
                      refine W.widen (k := 1) (n := 40) (Nat.le_of_ble_eq_true rfl) (Nat.le_of_ble_eq_true rfl) ?_
                      exact W.iret hx hb hr (fun t ht _ => ⟨rfl, hS.F ht, _, hsub, hO, by rw [ht]; exact hP⟩) hS.2.2 dX0_move_152
                  · have h := if_some_f h c57
                    refine lv_iload_n hx hb dX0_move_76 rfl (lv_at hl 4 rfl) ?_
                    refine lv_aload hx hb dX0_move_77 (lv_at hl 1 rfl) ?_
                    obtain ⟨v70, hv70, h⟩ := bd1_some h
                    refine k_S_size C hO hP hS.1 hlv8 hv70 q1155 (Nat.le_of_ble_eq_true rfl) hl.1 (Nat.le_of_ble_eq_true rfl) hcs dX0_move_79 ?_
                    refine lv_iload hx hb dX0_move_82 (lv_at hl 7 rfl) ?_
                    refine lv_isub hx hb dX0_move_84 ?_
                    refine lv_icmp_gt (tgt := 105) hx hb dX0_move_85 rfl (fun c71 => ?_) (fun c71 => ?_)
                    · have h := if_some_t h c71
                      refine lv_iconst (v := 0) hx hb dX0_move_105 (by decide) ?_
                      refine lv_iconst (v := 1) hx hb dX0_move_106 (by decide) ?_
                      obtain ⟨o74, st73, hv72, h⟩ := bd2_some h
                      rcases o74 with _ | v72
                      · rw [onx_none] at h
                        refine k_L_needT C hO hP hS hv72 q402 (Nat.le_of_ble_eq_true rfl) hl.1 (Nat.le_of_ble_eq_true rfl) hcs dX0_move_107 (fun H locs hP hS => ?_)
                        refine cc_catch (pre := []) (a1 := 0) (a2 := 152) (hp := 153) (post := []) C hO hP q129 htab rfl rfl ?_
                        refine lv_astore (lv' := [(6, .ref (ad 61)), (7, .ref v13), (0, .ref (ad 60)), (1, .int x1), (2, .int x2), (3, .int x3), (4, .int x4), (5, .int x5)]) hx hb dX0_move_153 hl (by decide) rfl (fun ls hl => ?_)
                        refine lv_aload_n hx hb dX0_move_155 rfl (lv_at hl 2 rfl) ?_
                        refine lv_aload hx hb dX0_move_156 (lv_at hl 0 rfl) ?_
                        obtain ⟨v75, st76, hv75, h⟩ := bd2_some h
                        refine k_L_finds C hO hP hS hv75 q410 (Nat.le_of_ble_eq_true rfl) hl.1 (Nat.le_of_ble_eq_true rfl) hcs dX0_move_158 (fun H locs hP hS => ?_)
                        cases h
                        refine W.widen (k := 1) (n := 40) (Nat.le_of_ble_eq_true rfl) (Nat.le_of_ble_eq_true rfl) ?_
                        exact W.iret hx hb hr (fun t ht _ => ⟨rfl, hS.F ht, _, hsub, hO, by rw [ht]; exact hP⟩) hS.2.2 dX0_move_161
                      · rw [onx_some] at h
                        refine k_L_needR C hO hP hS hv72 q402 (Nat.le_of_ble_eq_true rfl) hl.1 (Nat.le_of_ble_eq_true rfl) hcs dX0_move_107 (fun H locs hP hS => ?_)
                        refine lv_aload hx hb dX0_move_110 (lv_at hl 1 rfl) ?_
                        obtain ⟨w78, b79, n80, f81, hsw78, h⟩ := bd4_some h
                        obtain ⟨st77, hst77, h⟩ := bd1_some h
                        refine W.size0 (fun hH => ?_)
                        have hH := hH.trans hnx
                        refine k_S_row C had hO hP hS hH hlv8 hsw78 hst77 q1475 (Nat.le_of_ble_eq_true rfl) hl.1 (Nat.le_of_ble_eq_true rfl) ⟨by omega, by omega⟩ dX0_move_112 (fun H locs hO hP hS hz1 => ?_)
                        have hcs : 0 + 1 ≤ R.cells ∧ 0 + 40 ≤ R.slots := ⟨by omega, by omega⟩
                        have hsub := hsub1
                        have hlv13 := live_app (l := [1000 + nx]) hlv13
                        have hlv8 := live_app (l := [1000 + nx]) hlv8
                        refine lv_astore (lv' := [(8, .ref nx), (7, .ref v13), (6, .ref v8), (0, .ref (ad 60)), (1, .int x1), (2, .int x2), (3, .int x3), (4, .int x4), (5, .int x5)]) hx hb dX0_move_115 hl (by decide) rfl (fun ls hl => ?_)
                        refine lv_iconst (v := 0) hx hb dX0_move_117 (by decide) ?_
                        refine lv_istore (lv' := [(9, .int 0), (8, .ref nx), (7, .ref v13), (6, .ref v8), (0, .ref (ad 60)), (1, .int x1), (2, .int x2), (3, .int x3), (4, .int x4), (5, .int x5)]) hx hb dX0_move_118 hl (by decide) rfl (fun ls hl => ?_)
                        obtain ⟨st82, hz83, h⟩ := bd1_some h
                        refine L120 x2 x4 x5 v13 hlv13 N _ 0 _ hz83 _ _ hP hS ls (lv_sub hl [6, 8, 9, 2, 1, 0] rfl) (fun H locs hP hS ls hl => ?_)
                        refine lv_iload hx hb dX0_move_150 (lv_at hl 0 rfl) ?_
                        cases h
                        refine W.widen (k := 1) (n := 40) (Nat.le_of_ble_eq_true rfl) (Nat.le_of_ble_eq_true rfl) ?_
                        exact W.iret hx hb hr (fun t ht _ => ⟨rfl, hS.F ht, _, hsub, hO, by rw [ht]; exact hP⟩) hS.2.2 dX0_move_152
                    · have h := if_some_f h c71
                      refine lv_iload hx hb dX0_move_88 (lv_at hl 6 rfl) ?_
                      refine lv_aload hx hb dX0_move_90 (lv_at hl 0 rfl) ?_
                      obtain ⟨v84, hv84, h⟩ := bd1_some h
                      refine k_S_size C hO hP hS.1 hlv13 hv84 q1155 (Nat.le_of_ble_eq_true rfl) hl.1 (Nat.le_of_ble_eq_true rfl) hcs dX0_move_92 ?_
                      refine lv_iload hx hb dX0_move_95 (lv_at hl 7 rfl) ?_
                      refine lv_isub hx hb dX0_move_97 ?_
                      refine lv_icmp_gt (tgt := 105) hx hb dX0_move_98 rfl (fun c85 => ?_) (fun c85 => ?_)
                      · have h := if_some_t h c85
                        refine lv_iconst (v := 0) hx hb dX0_move_105 (by decide) ?_
                        refine lv_iconst (v := 1) hx hb dX0_move_106 (by decide) ?_
                        obtain ⟨o88, st87, hv86, h⟩ := bd2_some h
                        rcases o88 with _ | v86
                        · rw [onx_none] at h
                          refine k_L_needT C hO hP hS hv86 q402 (Nat.le_of_ble_eq_true rfl) hl.1 (Nat.le_of_ble_eq_true rfl) hcs dX0_move_107 (fun H locs hP hS => ?_)
                          refine cc_catch (pre := []) (a1 := 0) (a2 := 152) (hp := 153) (post := []) C hO hP q129 htab rfl rfl ?_
                          refine lv_astore (lv' := [(6, .ref (ad 61)), (7, .ref v13), (0, .ref (ad 60)), (1, .int x1), (2, .int x2), (3, .int x3), (4, .int x4), (5, .int x5)]) hx hb dX0_move_153 hl (by decide) rfl (fun ls hl => ?_)
                          refine lv_aload_n hx hb dX0_move_155 rfl (lv_at hl 2 rfl) ?_
                          refine lv_aload hx hb dX0_move_156 (lv_at hl 0 rfl) ?_
                          obtain ⟨v89, st90, hv89, h⟩ := bd2_some h
                          refine k_L_finds C hO hP hS hv89 q410 (Nat.le_of_ble_eq_true rfl) hl.1 (Nat.le_of_ble_eq_true rfl) hcs dX0_move_158 (fun H locs hP hS => ?_)
                          cases h
                          refine W.widen (k := 1) (n := 40) (Nat.le_of_ble_eq_true rfl) (Nat.le_of_ble_eq_true rfl) ?_
                          exact W.iret hx hb hr (fun t ht _ => ⟨rfl, hS.F ht, _, hsub, hO, by rw [ht]; exact hP⟩) hS.2.2 dX0_move_161
                        · rw [onx_some] at h
                          refine k_L_needR C hO hP hS hv86 q402 (Nat.le_of_ble_eq_true rfl) hl.1 (Nat.le_of_ble_eq_true rfl) hcs dX0_move_107 (fun H locs hP hS => ?_)
                          refine lv_aload hx hb dX0_move_110 (lv_at hl 1 rfl) ?_
                          obtain ⟨w92, b93, n94, f95, hsw92, h⟩ := bd4_some h
                          obtain ⟨st91, hst91, h⟩ := bd1_some h
                          refine W.size0 (fun hH => ?_)
                          have hH := hH.trans hnx
                          refine k_S_row C had hO hP hS hH hlv8 hsw92 hst91 q1475 (Nat.le_of_ble_eq_true rfl) hl.1 (Nat.le_of_ble_eq_true rfl) ⟨by omega, by omega⟩ dX0_move_112 (fun H locs hO hP hS hz1 => ?_)
                          have hcs : 0 + 1 ≤ R.cells ∧ 0 + 40 ≤ R.slots := ⟨by omega, by omega⟩
                          have hsub := hsub1
                          have hlv13 := live_app (l := [1000 + nx]) hlv13
                          have hlv8 := live_app (l := [1000 + nx]) hlv8
                          refine lv_astore (lv' := [(8, .ref nx), (7, .ref v13), (6, .ref v8), (0, .ref (ad 60)), (1, .int x1), (2, .int x2), (3, .int x3), (4, .int x4), (5, .int x5)]) hx hb dX0_move_115 hl (by decide) rfl (fun ls hl => ?_)
                          refine lv_iconst (v := 0) hx hb dX0_move_117 (by decide) ?_
                          refine lv_istore (lv' := [(9, .int 0), (8, .ref nx), (7, .ref v13), (6, .ref v8), (0, .ref (ad 60)), (1, .int x1), (2, .int x2), (3, .int x3), (4, .int x4), (5, .int x5)]) hx hb dX0_move_118 hl (by decide) rfl (fun ls hl => ?_)
                          obtain ⟨st96, hz97, h⟩ := bd1_some h
                          refine L120 x2 x4 x5 v13 hlv13 N _ 0 _ hz97 _ _ hP hS ls (lv_sub hl [6, 8, 9, 2, 1, 0] rfl) (fun H locs hP hS ls hl => ?_)
                          refine lv_iload hx hb dX0_move_150 (lv_at hl 0 rfl) ?_
                          cases h
                          refine W.widen (k := 1) (n := 40) (Nat.le_of_ble_eq_true rfl) (Nat.le_of_ble_eq_true rfl) ?_
                          exact W.iret hx hb hr (fun t ht _ => ⟨rfl, hS.F ht, _, hsub, hO, by rw [ht]; exact hP⟩) hS.2.2 dX0_move_152
                      · have h := if_some_f h c85
                        refine lv_iconst (v := 1) hx hb dX0_move_101 (by decide) ?_
                        refine lv_goto (tgt := 106) hx hb dX0_move_102 rfl ?_
                        refine lv_iconst (v := 1) hx hb dX0_move_106 (by decide) ?_
                        obtain ⟨o100, st99, hv98, h⟩ := bd2_some h
                        rcases o100 with _ | v98
                        · rw [onx_none] at h
                          refine k_L_needT C hO hP hS hv98 q402 (Nat.le_of_ble_eq_true rfl) hl.1 (Nat.le_of_ble_eq_true rfl) hcs dX0_move_107 (fun H locs hP hS => ?_)
                          refine cc_catch (pre := []) (a1 := 0) (a2 := 152) (hp := 153) (post := []) C hO hP q129 htab rfl rfl ?_
                          refine lv_astore (lv' := [(6, .ref (ad 61)), (7, .ref v13), (0, .ref (ad 60)), (1, .int x1), (2, .int x2), (3, .int x3), (4, .int x4), (5, .int x5)]) hx hb dX0_move_153 hl (by decide) rfl (fun ls hl => ?_)
                          refine lv_aload_n hx hb dX0_move_155 rfl (lv_at hl 2 rfl) ?_
                          refine lv_aload hx hb dX0_move_156 (lv_at hl 0 rfl) ?_
                          obtain ⟨v101, st102, hv101, h⟩ := bd2_some h
                          refine k_L_finds C hO hP hS hv101 q410 (Nat.le_of_ble_eq_true rfl) hl.1 (Nat.le_of_ble_eq_true rfl) hcs dX0_move_158 (fun H locs hP hS => ?_)
                          cases h
                          refine W.widen (k := 1) (n := 40) (Nat.le_of_ble_eq_true rfl) (Nat.le_of_ble_eq_true rfl) ?_
                          exact W.iret hx hb hr (fun t ht _ => ⟨rfl, hS.F ht, _, hsub, hO, by rw [ht]; exact hP⟩) hS.2.2 dX0_move_161
                        · rw [onx_some] at h
                          refine k_L_needR C hO hP hS hv98 q402 (Nat.le_of_ble_eq_true rfl) hl.1 (Nat.le_of_ble_eq_true rfl) hcs dX0_move_107 (fun H locs hP hS => ?_)
                          refine lv_aload hx hb dX0_move_110 (lv_at hl 1 rfl) ?_
                          obtain ⟨w104, b105, n106, f107, hsw104, h⟩ := bd4_some h
                          obtain ⟨st103, hst103, h⟩ := bd1_some h
                          refine W.size0 (fun hH => ?_)
                          have hH := hH.trans hnx
                          refine k_S_row C had hO hP hS hH hlv8 hsw104 hst103 q1475 (Nat.le_of_ble_eq_true rfl) hl.1 (Nat.le_of_ble_eq_true rfl) ⟨by omega, by omega⟩ dX0_move_112 (fun H locs hO hP hS hz1 => ?_)
                          have hcs : 0 + 1 ≤ R.cells ∧ 0 + 40 ≤ R.slots := ⟨by omega, by omega⟩
                          have hsub := hsub1
                          have hlv13 := live_app (l := [1000 + nx]) hlv13
                          have hlv8 := live_app (l := [1000 + nx]) hlv8
                          refine lv_astore (lv' := [(8, .ref nx), (7, .ref v13), (6, .ref v8), (0, .ref (ad 60)), (1, .int x1), (2, .int x2), (3, .int x3), (4, .int x4), (5, .int x5)]) hx hb dX0_move_115 hl (by decide) rfl (fun ls hl => ?_)
                          refine lv_iconst (v := 0) hx hb dX0_move_117 (by decide) ?_
                          refine lv_istore (lv' := [(9, .int 0), (8, .ref nx), (7, .ref v13), (6, .ref v8), (0, .ref (ad 60)), (1, .int x1), (2, .int x2), (3, .int x3), (4, .int x4), (5, .int x5)]) hx hb dX0_move_118 hl (by decide) rfl (fun ls hl => ?_)
                          obtain ⟨st108, hz109, h⟩ := bd1_some h
                          refine L120 x2 x4 x5 v13 hlv13 N _ 0 _ hz109 _ _ hP hS ls (lv_sub hl [6, 8, 9, 2, 1, 0] rfl) (fun H locs hP hS ls hl => ?_)
                          refine lv_iload hx hb dX0_move_150 (lv_at hl 0 rfl) ?_
                          cases h
                          refine W.widen (k := 1) (n := 40) (Nat.le_of_ble_eq_true rfl) (Nat.le_of_ble_eq_true rfl) ?_
                          exact W.iret hx hb hr (fun t ht _ => ⟨rfl, hS.F ht, _, hsub, hO, by rw [ht]; exact hP⟩) hS.2.2 dX0_move_152
          · have h := if_some_t h c20
            refine lv_iconst (v := 1) hx hb dX0_move_52 (by decide) ?_
            refine lv_goto (tgt := 57) hx hb dX0_move_53 rfl ?_
            refine lv_iconst (v := 5) hx hb dX0_move_57 (by decide) ?_
            obtain ⟨o112, st111, hv110, h⟩ := bd2_some h
            rcases o112 with _ | v110
            · rw [onx_none] at h
              refine k_L_needT C hO hP hS hv110 q402 (Nat.le_of_ble_eq_true rfl) hl.1 (Nat.le_of_ble_eq_true rfl) hcs dX0_move_58 (fun H locs hP hS => ?_)
              refine cc_catch (pre := []) (a1 := 0) (a2 := 152) (hp := 153) (post := []) C hO hP q129 htab rfl rfl ?_
              refine lv_astore (lv' := [(6, .ref (ad 61)), (7, .ref v13), (0, .ref (ad 60)), (1, .int x1), (2, .int x2), (3, .int x3), (4, .int x4), (5, .int x5)]) hx hb dX0_move_153 hl (by decide) rfl (fun ls hl => ?_)
              refine lv_aload_n hx hb dX0_move_155 rfl (lv_at hl 2 rfl) ?_
              refine lv_aload hx hb dX0_move_156 (lv_at hl 0 rfl) ?_
              obtain ⟨v113, st114, hv113, h⟩ := bd2_some h
              refine k_L_finds C hO hP hS hv113 q410 (Nat.le_of_ble_eq_true rfl) hl.1 (Nat.le_of_ble_eq_true rfl) hcs dX0_move_158 (fun H locs hP hS => ?_)
              cases h
              refine W.widen (k := 1) (n := 40) (Nat.le_of_ble_eq_true rfl) (Nat.le_of_ble_eq_true rfl) ?_
              exact W.iret hx hb hr (fun t ht _ => ⟨rfl, hS.F ht, _, hsub, hO, by rw [ht]; exact hP⟩) hS.2.2 dX0_move_161
            · rw [onx_some] at h
              refine k_L_needR C hO hP hS hv110 q402 (Nat.le_of_ble_eq_true rfl) hl.1 (Nat.le_of_ble_eq_true rfl) hcs dX0_move_58 (fun H locs hP hS => ?_)
              refine lv_aload_n hx hb dX0_move_61 rfl (lv_at hl 2 rfl) ?_
              refine lv_iload hx hb dX0_move_62 (lv_at hl 7 rfl) ?_
              refine lv_if_lt (tgt := 105) hx hb dX0_move_64 rfl (fun c115 => ?_) (fun c115 => ?_)
              · have h := if_some_t h c115
                refine lv_iconst (v := 0) hx hb dX0_move_105 (by decide) ?_
                refine lv_iconst (v := 1) hx hb dX0_move_106 (by decide) ?_
                obtain ⟨o118, st117, hv116, h⟩ := bd2_some h
                rcases o118 with _ | v116
                · rw [onx_none] at h
                  refine k_L_needT C hO hP hS hv116 q402 (Nat.le_of_ble_eq_true rfl) hl.1 (Nat.le_of_ble_eq_true rfl) hcs dX0_move_107 (fun H locs hP hS => ?_)
                  refine cc_catch (pre := []) (a1 := 0) (a2 := 152) (hp := 153) (post := []) C hO hP q129 htab rfl rfl ?_
                  refine lv_astore (lv' := [(6, .ref (ad 61)), (7, .ref v13), (0, .ref (ad 60)), (1, .int x1), (2, .int x2), (3, .int x3), (4, .int x4), (5, .int x5)]) hx hb dX0_move_153 hl (by decide) rfl (fun ls hl => ?_)
                  refine lv_aload_n hx hb dX0_move_155 rfl (lv_at hl 2 rfl) ?_
                  refine lv_aload hx hb dX0_move_156 (lv_at hl 0 rfl) ?_
                  obtain ⟨v119, st120, hv119, h⟩ := bd2_some h
                  refine k_L_finds C hO hP hS hv119 q410 (Nat.le_of_ble_eq_true rfl) hl.1 (Nat.le_of_ble_eq_true rfl) hcs dX0_move_158 (fun H locs hP hS => ?_)
                  cases h
                  refine W.widen (k := 1) (n := 40) (Nat.le_of_ble_eq_true rfl) (Nat.le_of_ble_eq_true rfl) ?_
                  exact W.iret hx hb hr (fun t ht _ => ⟨rfl, hS.F ht, _, hsub, hO, by rw [ht]; exact hP⟩) hS.2.2 dX0_move_161
                · rw [onx_some] at h
                  refine k_L_needR C hO hP hS hv116 q402 (Nat.le_of_ble_eq_true rfl) hl.1 (Nat.le_of_ble_eq_true rfl) hcs dX0_move_107 (fun H locs hP hS => ?_)
                  refine lv_aload hx hb dX0_move_110 (lv_at hl 1 rfl) ?_
                  obtain ⟨w122, b123, n124, f125, hsw122, h⟩ := bd4_some h
                  obtain ⟨st121, hst121, h⟩ := bd1_some h
                  refine W.size0 (fun hH => ?_)
                  have hH := hH.trans hnx
                  refine k_S_row C had hO hP hS hH hlv8 hsw122 hst121 q1475 (Nat.le_of_ble_eq_true rfl) hl.1 (Nat.le_of_ble_eq_true rfl) ⟨by omega, by omega⟩ dX0_move_112 (fun H locs hO hP hS hz1 => ?_)
                  have hcs : 0 + 1 ≤ R.cells ∧ 0 + 40 ≤ R.slots := ⟨by omega, by omega⟩
                  have hsub := hsub1
                  have hlv13 := live_app (l := [1000 + nx]) hlv13
                  have hlv8 := live_app (l := [1000 + nx]) hlv8
                  refine lv_astore (lv' := [(8, .ref nx), (7, .ref v13), (6, .ref v8), (0, .ref (ad 60)), (1, .int x1), (2, .int x2), (3, .int x3), (4, .int x4), (5, .int x5)]) hx hb dX0_move_115 hl (by decide) rfl (fun ls hl => ?_)
                  refine lv_iconst (v := 0) hx hb dX0_move_117 (by decide) ?_
                  refine lv_istore (lv' := [(9, .int 0), (8, .ref nx), (7, .ref v13), (6, .ref v8), (0, .ref (ad 60)), (1, .int x1), (2, .int x2), (3, .int x3), (4, .int x4), (5, .int x5)]) hx hb dX0_move_118 hl (by decide) rfl (fun ls hl => ?_)
                  obtain ⟨st126, hz127, h⟩ := bd1_some h
                  refine L120 x2 x4 x5 v13 hlv13 N _ 0 _ hz127 _ _ hP hS ls (lv_sub hl [6, 8, 9, 2, 1, 0] rfl) (fun H locs hP hS ls hl => ?_)
                  refine lv_iload hx hb dX0_move_150 (lv_at hl 0 rfl) ?_
                  cases h
                  refine W.widen (k := 1) (n := 40) (Nat.le_of_ble_eq_true rfl) (Nat.le_of_ble_eq_true rfl) ?_
                  exact W.iret hx hb hr (fun t ht _ => ⟨rfl, hS.F ht, _, hsub, hO, by rw [ht]; exact hP⟩) hS.2.2 dX0_move_152
              · have h := if_some_f h c115
                refine lv_iload_n hx hb dX0_move_67 rfl (lv_at hl 4 rfl) ?_
                refine lv_if_lt (tgt := 105) hx hb dX0_move_68 rfl (fun c128 => ?_) (fun c128 => ?_)
                · have h := if_some_t h c128
                  refine lv_iconst (v := 0) hx hb dX0_move_105 (by decide) ?_
                  refine lv_iconst (v := 1) hx hb dX0_move_106 (by decide) ?_
                  obtain ⟨o131, st130, hv129, h⟩ := bd2_some h
                  rcases o131 with _ | v129
                  · rw [onx_none] at h
                    refine k_L_needT C hO hP hS hv129 q402 (Nat.le_of_ble_eq_true rfl) hl.1 (Nat.le_of_ble_eq_true rfl) hcs dX0_move_107 (fun H locs hP hS => ?_)
                    refine cc_catch (pre := []) (a1 := 0) (a2 := 152) (hp := 153) (post := []) C hO hP q129 htab rfl rfl ?_
                    refine lv_astore (lv' := [(6, .ref (ad 61)), (7, .ref v13), (0, .ref (ad 60)), (1, .int x1), (2, .int x2), (3, .int x3), (4, .int x4), (5, .int x5)]) hx hb dX0_move_153 hl (by decide) rfl (fun ls hl => ?_)
                    refine lv_aload_n hx hb dX0_move_155 rfl (lv_at hl 2 rfl) ?_
                    refine lv_aload hx hb dX0_move_156 (lv_at hl 0 rfl) ?_
                    obtain ⟨v132, st133, hv132, h⟩ := bd2_some h
                    refine k_L_finds C hO hP hS hv132 q410 (Nat.le_of_ble_eq_true rfl) hl.1 (Nat.le_of_ble_eq_true rfl) hcs dX0_move_158 (fun H locs hP hS => ?_)
                    cases h
                    refine W.widen (k := 1) (n := 40) (Nat.le_of_ble_eq_true rfl) (Nat.le_of_ble_eq_true rfl) ?_
                    exact W.iret hx hb hr (fun t ht _ => ⟨rfl, hS.F ht, _, hsub, hO, by rw [ht]; exact hP⟩) hS.2.2 dX0_move_161
                  · rw [onx_some] at h
                    refine k_L_needR C hO hP hS hv129 q402 (Nat.le_of_ble_eq_true rfl) hl.1 (Nat.le_of_ble_eq_true rfl) hcs dX0_move_107 (fun H locs hP hS => ?_)
                    refine lv_aload hx hb dX0_move_110 (lv_at hl 1 rfl) ?_
                    obtain ⟨w135, b136, n137, f138, hsw135, h⟩ := bd4_some h
                    obtain ⟨st134, hst134, h⟩ := bd1_some h
                    refine W.size0 (fun hH => ?_)
                    have hH := hH.trans hnx
                    refine k_S_row C had hO hP hS hH hlv8 hsw135 hst134 q1475 (Nat.le_of_ble_eq_true rfl) hl.1 (Nat.le_of_ble_eq_true rfl) ⟨by omega, by omega⟩ dX0_move_112 (fun H locs hO hP hS hz1 => ?_)
                    have hcs : 0 + 1 ≤ R.cells ∧ 0 + 40 ≤ R.slots := ⟨by omega, by omega⟩
                    have hsub := hsub1
                    have hlv13 := live_app (l := [1000 + nx]) hlv13
                    have hlv8 := live_app (l := [1000 + nx]) hlv8
                    refine lv_astore (lv' := [(8, .ref nx), (7, .ref v13), (6, .ref v8), (0, .ref (ad 60)), (1, .int x1), (2, .int x2), (3, .int x3), (4, .int x4), (5, .int x5)]) hx hb dX0_move_115 hl (by decide) rfl (fun ls hl => ?_)
                    refine lv_iconst (v := 0) hx hb dX0_move_117 (by decide) ?_
                    refine lv_istore (lv' := [(9, .int 0), (8, .ref nx), (7, .ref v13), (6, .ref v8), (0, .ref (ad 60)), (1, .int x1), (2, .int x2), (3, .int x3), (4, .int x4), (5, .int x5)]) hx hb dX0_move_118 hl (by decide) rfl (fun ls hl => ?_)
                    obtain ⟨st139, hz140, h⟩ := bd1_some h
                    refine L120 x2 x4 x5 v13 hlv13 N _ 0 _ hz140 _ _ hP hS ls (lv_sub hl [6, 8, 9, 2, 1, 0] rfl) (fun H locs hP hS ls hl => ?_)
                    refine lv_iload hx hb dX0_move_150 (lv_at hl 0 rfl) ?_
                    cases h
                    refine W.widen (k := 1) (n := 40) (Nat.le_of_ble_eq_true rfl) (Nat.le_of_ble_eq_true rfl) ?_
                    exact W.iret hx hb hr (fun t ht _ => ⟨rfl, hS.F ht, _, hsub, hO, by rw [ht]; exact hP⟩) hS.2.2 dX0_move_152
                · have h := if_some_f h c128
                  refine lv_iload hx hb dX0_move_71 (lv_at hl 6 rfl) ?_
                  refine lv_if_lt (tgt := 105) hx hb dX0_move_73 rfl (fun c141 => ?_) (fun c141 => ?_)
                  · have h := if_some_t h c141
                    refine lv_iconst (v := 0) hx hb dX0_move_105 (by decide) ?_
                    refine lv_iconst (v := 1) hx hb dX0_move_106 (by decide) ?_
                    obtain ⟨o144, st143, hv142, h⟩ := bd2_some h
                    rcases o144 with _ | v142
                    · rw [onx_none] at h
                      refine k_L_needT C hO hP hS hv142 q402 (Nat.le_of_ble_eq_true rfl) hl.1 (Nat.le_of_ble_eq_true rfl) hcs dX0_move_107 (fun H locs hP hS => ?_)
                      refine cc_catch (pre := []) (a1 := 0) (a2 := 152) (hp := 153) (post := []) C hO hP q129 htab rfl rfl ?_
                      refine lv_astore (lv' := [(6, .ref (ad 61)), (7, .ref v13), (0, .ref (ad 60)), (1, .int x1), (2, .int x2), (3, .int x3), (4, .int x4), (5, .int x5)]) hx hb dX0_move_153 hl (by decide) rfl (fun ls hl => ?_)
                      refine lv_aload_n hx hb dX0_move_155 rfl (lv_at hl 2 rfl) ?_
                      refine lv_aload hx hb dX0_move_156 (lv_at hl 0 rfl) ?_
                      obtain ⟨v145, st146, hv145, h⟩ := bd2_some h
                      refine k_L_finds C hO hP hS hv145 q410 (Nat.le_of_ble_eq_true rfl) hl.1 (Nat.le_of_ble_eq_true rfl) hcs dX0_move_158 (fun H locs hP hS => ?_)
                      cases h
                      refine W.widen (k := 1) (n := 40) (Nat.le_of_ble_eq_true rfl) (Nat.le_of_ble_eq_true rfl) ?_
                      exact W.iret hx hb hr (fun t ht _ => ⟨rfl, hS.F ht, _, hsub, hO, by rw [ht]; exact hP⟩) hS.2.2 dX0_move_161
                    · rw [onx_some] at h
                      refine k_L_needR C hO hP hS hv142 q402 (Nat.le_of_ble_eq_true rfl) hl.1 (Nat.le_of_ble_eq_true rfl) hcs dX0_move_107 (fun H locs hP hS => ?_)
                      refine lv_aload hx hb dX0_move_110 (lv_at hl 1 rfl) ?_
                      obtain ⟨w148, b149, n150, f151, hsw148, h⟩ := bd4_some h
                      obtain ⟨st147, hst147, h⟩ := bd1_some h
                      refine W.size0 (fun hH => ?_)
                      have hH := hH.trans hnx
                      refine k_S_row C had hO hP hS hH hlv8 hsw148 hst147 q1475 (Nat.le_of_ble_eq_true rfl) hl.1 (Nat.le_of_ble_eq_true rfl) ⟨by omega, by omega⟩ dX0_move_112 (fun H locs hO hP hS hz1 => ?_)
                      have hcs : 0 + 1 ≤ R.cells ∧ 0 + 40 ≤ R.slots := ⟨by omega, by omega⟩
                      have hsub := hsub1
                      have hlv13 := live_app (l := [1000 + nx]) hlv13
                      have hlv8 := live_app (l := [1000 + nx]) hlv8
                      refine lv_astore (lv' := [(8, .ref nx), (7, .ref v13), (6, .ref v8), (0, .ref (ad 60)), (1, .int x1), (2, .int x2), (3, .int x3), (4, .int x4), (5, .int x5)]) hx hb dX0_move_115 hl (by decide) rfl (fun ls hl => ?_)
                      refine lv_iconst (v := 0) hx hb dX0_move_117 (by decide) ?_
                      refine lv_istore (lv' := [(9, .int 0), (8, .ref nx), (7, .ref v13), (6, .ref v8), (0, .ref (ad 60)), (1, .int x1), (2, .int x2), (3, .int x3), (4, .int x4), (5, .int x5)]) hx hb dX0_move_118 hl (by decide) rfl (fun ls hl => ?_)
                      obtain ⟨st152, hz153, h⟩ := bd1_some h
                      refine L120 x2 x4 x5 v13 hlv13 N _ 0 _ hz153 _ _ hP hS ls (lv_sub hl [6, 8, 9, 2, 1, 0] rfl) (fun H locs hP hS ls hl => ?_)
                      refine lv_iload hx hb dX0_move_150 (lv_at hl 0 rfl) ?_
                      cases h
                      refine W.widen (k := 1) (n := 40) (Nat.le_of_ble_eq_true rfl) (Nat.le_of_ble_eq_true rfl) ?_
                      exact W.iret hx hb hr (fun t ht _ => ⟨rfl, hS.F ht, _, hsub, hO, by rw [ht]; exact hP⟩) hS.2.2 dX0_move_152
                  · have h := if_some_f h c141
                    refine lv_iload_n hx hb dX0_move_76 rfl (lv_at hl 4 rfl) ?_
                    refine lv_aload hx hb dX0_move_77 (lv_at hl 1 rfl) ?_
                    obtain ⟨v154, hv154, h⟩ := bd1_some h
                    refine k_S_size C hO hP hS.1 hlv8 hv154 q1155 (Nat.le_of_ble_eq_true rfl) hl.1 (Nat.le_of_ble_eq_true rfl) hcs dX0_move_79 ?_
                    refine lv_iload hx hb dX0_move_82 (lv_at hl 7 rfl) ?_
                    refine lv_isub hx hb dX0_move_84 ?_
                    refine lv_icmp_gt (tgt := 105) hx hb dX0_move_85 rfl (fun c155 => ?_) (fun c155 => ?_)
                    · have h := if_some_t h c155
                      refine lv_iconst (v := 0) hx hb dX0_move_105 (by decide) ?_
                      refine lv_iconst (v := 1) hx hb dX0_move_106 (by decide) ?_
                      obtain ⟨o158, st157, hv156, h⟩ := bd2_some h
                      rcases o158 with _ | v156
                      · rw [onx_none] at h
                        refine k_L_needT C hO hP hS hv156 q402 (Nat.le_of_ble_eq_true rfl) hl.1 (Nat.le_of_ble_eq_true rfl) hcs dX0_move_107 (fun H locs hP hS => ?_)
                        refine cc_catch (pre := []) (a1 := 0) (a2 := 152) (hp := 153) (post := []) C hO hP q129 htab rfl rfl ?_
                        refine lv_astore (lv' := [(6, .ref (ad 61)), (7, .ref v13), (0, .ref (ad 60)), (1, .int x1), (2, .int x2), (3, .int x3), (4, .int x4), (5, .int x5)]) hx hb dX0_move_153 hl (by decide) rfl (fun ls hl => ?_)
                        refine lv_aload_n hx hb dX0_move_155 rfl (lv_at hl 2 rfl) ?_
                        refine lv_aload hx hb dX0_move_156 (lv_at hl 0 rfl) ?_
                        obtain ⟨v159, st160, hv159, h⟩ := bd2_some h
                        refine k_L_finds C hO hP hS hv159 q410 (Nat.le_of_ble_eq_true rfl) hl.1 (Nat.le_of_ble_eq_true rfl) hcs dX0_move_158 (fun H locs hP hS => ?_)
                        cases h
                        refine W.widen (k := 1) (n := 40) (Nat.le_of_ble_eq_true rfl) (Nat.le_of_ble_eq_true rfl) ?_
                        exact W.iret hx hb hr (fun t ht _ => ⟨rfl, hS.F ht, _, hsub, hO, by rw [ht]; exact hP⟩) hS.2.2 dX0_move_161
                      · rw [onx_some] at h
                        refine k_L_needR C hO hP hS hv156 q402 (Nat.le_of_ble_eq_true rfl) hl.1 (Nat.le_of_ble_eq_true rfl) hcs dX0_move_107 (fun H locs hP hS => ?_)
                        refine lv_aload hx hb dX0_move_110 (lv_at hl 1 rfl) ?_
                        obtain ⟨w162, b163, n164, f165, hsw162, h⟩ := bd4_some h
                        obtain ⟨st161, hst161, h⟩ := bd1_some h
                        refine W.size0 (fun hH => ?_)
                        have hH := hH.trans hnx
                        refine k_S_row C had hO hP hS hH hlv8 hsw162 hst161 q1475 (Nat.le_of_ble_eq_true rfl) hl.1 (Nat.le_of_ble_eq_true rfl) ⟨by omega, by omega⟩ dX0_move_112 (fun H locs hO hP hS hz1 => ?_)
                        have hcs : 0 + 1 ≤ R.cells ∧ 0 + 40 ≤ R.slots := ⟨by omega, by omega⟩
                        have hsub := hsub1
                        have hlv13 := live_app (l := [1000 + nx]) hlv13
                        have hlv8 := live_app (l := [1000 + nx]) hlv8
                        refine lv_astore (lv' := [(8, .ref nx), (7, .ref v13), (6, .ref v8), (0, .ref (ad 60)), (1, .int x1), (2, .int x2), (3, .int x3), (4, .int x4), (5, .int x5)]) hx hb dX0_move_115 hl (by decide) rfl (fun ls hl => ?_)
                        refine lv_iconst (v := 0) hx hb dX0_move_117 (by decide) ?_
                        refine lv_istore (lv' := [(9, .int 0), (8, .ref nx), (7, .ref v13), (6, .ref v8), (0, .ref (ad 60)), (1, .int x1), (2, .int x2), (3, .int x3), (4, .int x4), (5, .int x5)]) hx hb dX0_move_118 hl (by decide) rfl (fun ls hl => ?_)
                        obtain ⟨st166, hz167, h⟩ := bd1_some h
                        refine L120 x2 x4 x5 v13 hlv13 N _ 0 _ hz167 _ _ hP hS ls (lv_sub hl [6, 8, 9, 2, 1, 0] rfl) (fun H locs hP hS ls hl => ?_)
                        refine lv_iload hx hb dX0_move_150 (lv_at hl 0 rfl) ?_
                        cases h
                        refine W.widen (k := 1) (n := 40) (Nat.le_of_ble_eq_true rfl) (Nat.le_of_ble_eq_true rfl) ?_
                        exact W.iret hx hb hr (fun t ht _ => ⟨rfl, hS.F ht, _, hsub, hO, by rw [ht]; exact hP⟩) hS.2.2 dX0_move_152
                    · have h := if_some_f h c155
                      refine lv_iload hx hb dX0_move_88 (lv_at hl 6 rfl) ?_
                      refine lv_aload hx hb dX0_move_90 (lv_at hl 0 rfl) ?_
                      obtain ⟨v168, hv168, h⟩ := bd1_some h
                      refine k_S_size C hO hP hS.1 hlv13 hv168 q1155 (Nat.le_of_ble_eq_true rfl) hl.1 (Nat.le_of_ble_eq_true rfl) hcs dX0_move_92 ?_
                      refine lv_iload hx hb dX0_move_95 (lv_at hl 7 rfl) ?_
                      refine lv_isub hx hb dX0_move_97 ?_
                      refine lv_icmp_gt (tgt := 105) hx hb dX0_move_98 rfl (fun c169 => ?_) (fun c169 => ?_)
                      · have h := if_some_t h c169
                        refine lv_iconst (v := 0) hx hb dX0_move_105 (by decide) ?_
                        refine lv_iconst (v := 1) hx hb dX0_move_106 (by decide) ?_
                        obtain ⟨o172, st171, hv170, h⟩ := bd2_some h
                        rcases o172 with _ | v170
                        · rw [onx_none] at h
                          refine k_L_needT C hO hP hS hv170 q402 (Nat.le_of_ble_eq_true rfl) hl.1 (Nat.le_of_ble_eq_true rfl) hcs dX0_move_107 (fun H locs hP hS => ?_)
                          refine cc_catch (pre := []) (a1 := 0) (a2 := 152) (hp := 153) (post := []) C hO hP q129 htab rfl rfl ?_
                          refine lv_astore (lv' := [(6, .ref (ad 61)), (7, .ref v13), (0, .ref (ad 60)), (1, .int x1), (2, .int x2), (3, .int x3), (4, .int x4), (5, .int x5)]) hx hb dX0_move_153 hl (by decide) rfl (fun ls hl => ?_)
                          refine lv_aload_n hx hb dX0_move_155 rfl (lv_at hl 2 rfl) ?_
                          refine lv_aload hx hb dX0_move_156 (lv_at hl 0 rfl) ?_
                          obtain ⟨v173, st174, hv173, h⟩ := bd2_some h
                          refine k_L_finds C hO hP hS hv173 q410 (Nat.le_of_ble_eq_true rfl) hl.1 (Nat.le_of_ble_eq_true rfl) hcs dX0_move_158 (fun H locs hP hS => ?_)
                          cases h
                          refine W.widen (k := 1) (n := 40) (Nat.le_of_ble_eq_true rfl) (Nat.le_of_ble_eq_true rfl) ?_
                          exact W.iret hx hb hr (fun t ht _ => ⟨rfl, hS.F ht, _, hsub, hO, by rw [ht]; exact hP⟩) hS.2.2 dX0_move_161
                        · rw [onx_some] at h
                          refine k_L_needR C hO hP hS hv170 q402 (Nat.le_of_ble_eq_true rfl) hl.1 (Nat.le_of_ble_eq_true rfl) hcs dX0_move_107 (fun H locs hP hS => ?_)
                          refine lv_aload hx hb dX0_move_110 (lv_at hl 1 rfl) ?_
                          obtain ⟨w176, b177, n178, f179, hsw176, h⟩ := bd4_some h
                          obtain ⟨st175, hst175, h⟩ := bd1_some h
                          refine W.size0 (fun hH => ?_)
                          have hH := hH.trans hnx
                          refine k_S_row C had hO hP hS hH hlv8 hsw176 hst175 q1475 (Nat.le_of_ble_eq_true rfl) hl.1 (Nat.le_of_ble_eq_true rfl) ⟨by omega, by omega⟩ dX0_move_112 (fun H locs hO hP hS hz1 => ?_)
                          have hcs : 0 + 1 ≤ R.cells ∧ 0 + 40 ≤ R.slots := ⟨by omega, by omega⟩
                          have hsub := hsub1
                          have hlv13 := live_app (l := [1000 + nx]) hlv13
                          have hlv8 := live_app (l := [1000 + nx]) hlv8
                          refine lv_astore (lv' := [(8, .ref nx), (7, .ref v13), (6, .ref v8), (0, .ref (ad 60)), (1, .int x1), (2, .int x2), (3, .int x3), (4, .int x4), (5, .int x5)]) hx hb dX0_move_115 hl (by decide) rfl (fun ls hl => ?_)
                          refine lv_iconst (v := 0) hx hb dX0_move_117 (by decide) ?_
                          refine lv_istore (lv' := [(9, .int 0), (8, .ref nx), (7, .ref v13), (6, .ref v8), (0, .ref (ad 60)), (1, .int x1), (2, .int x2), (3, .int x3), (4, .int x4), (5, .int x5)]) hx hb dX0_move_118 hl (by decide) rfl (fun ls hl => ?_)
                          obtain ⟨st180, hz181, h⟩ := bd1_some h
                          refine L120 x2 x4 x5 v13 hlv13 N _ 0 _ hz181 _ _ hP hS ls (lv_sub hl [6, 8, 9, 2, 1, 0] rfl) (fun H locs hP hS ls hl => ?_)
                          refine lv_iload hx hb dX0_move_150 (lv_at hl 0 rfl) ?_
                          cases h
                          refine W.widen (k := 1) (n := 40) (Nat.le_of_ble_eq_true rfl) (Nat.le_of_ble_eq_true rfl) ?_
                          exact W.iret hx hb hr (fun t ht _ => ⟨rfl, hS.F ht, _, hsub, hO, by rw [ht]; exact hP⟩) hS.2.2 dX0_move_152
                      · have h := if_some_f h c169
                        refine lv_iconst (v := 1) hx hb dX0_move_101 (by decide) ?_
                        refine lv_goto (tgt := 106) hx hb dX0_move_102 rfl ?_
                        refine lv_iconst (v := 1) hx hb dX0_move_106 (by decide) ?_
                        obtain ⟨o184, st183, hv182, h⟩ := bd2_some h
                        rcases o184 with _ | v182
                        · rw [onx_none] at h
                          refine k_L_needT C hO hP hS hv182 q402 (Nat.le_of_ble_eq_true rfl) hl.1 (Nat.le_of_ble_eq_true rfl) hcs dX0_move_107 (fun H locs hP hS => ?_)
                          refine cc_catch (pre := []) (a1 := 0) (a2 := 152) (hp := 153) (post := []) C hO hP q129 htab rfl rfl ?_
                          refine lv_astore (lv' := [(6, .ref (ad 61)), (7, .ref v13), (0, .ref (ad 60)), (1, .int x1), (2, .int x2), (3, .int x3), (4, .int x4), (5, .int x5)]) hx hb dX0_move_153 hl (by decide) rfl (fun ls hl => ?_)
                          refine lv_aload_n hx hb dX0_move_155 rfl (lv_at hl 2 rfl) ?_
                          refine lv_aload hx hb dX0_move_156 (lv_at hl 0 rfl) ?_
                          obtain ⟨v185, st186, hv185, h⟩ := bd2_some h
                          refine k_L_finds C hO hP hS hv185 q410 (Nat.le_of_ble_eq_true rfl) hl.1 (Nat.le_of_ble_eq_true rfl) hcs dX0_move_158 (fun H locs hP hS => ?_)
                          cases h
                          refine W.widen (k := 1) (n := 40) (Nat.le_of_ble_eq_true rfl) (Nat.le_of_ble_eq_true rfl) ?_
                          exact W.iret hx hb hr (fun t ht _ => ⟨rfl, hS.F ht, _, hsub, hO, by rw [ht]; exact hP⟩) hS.2.2 dX0_move_161
                        · rw [onx_some] at h
                          refine k_L_needR C hO hP hS hv182 q402 (Nat.le_of_ble_eq_true rfl) hl.1 (Nat.le_of_ble_eq_true rfl) hcs dX0_move_107 (fun H locs hP hS => ?_)
                          refine lv_aload hx hb dX0_move_110 (lv_at hl 1 rfl) ?_
                          obtain ⟨w188, b189, n190, f191, hsw188, h⟩ := bd4_some h
                          obtain ⟨st187, hst187, h⟩ := bd1_some h
                          refine W.size0 (fun hH => ?_)
                          have hH := hH.trans hnx
                          refine k_S_row C had hO hP hS hH hlv8 hsw188 hst187 q1475 (Nat.le_of_ble_eq_true rfl) hl.1 (Nat.le_of_ble_eq_true rfl) ⟨by omega, by omega⟩ dX0_move_112 (fun H locs hO hP hS hz1 => ?_)
                          have hcs : 0 + 1 ≤ R.cells ∧ 0 + 40 ≤ R.slots := ⟨by omega, by omega⟩
                          have hsub := hsub1
                          have hlv13 := live_app (l := [1000 + nx]) hlv13
                          have hlv8 := live_app (l := [1000 + nx]) hlv8
                          refine lv_astore (lv' := [(8, .ref nx), (7, .ref v13), (6, .ref v8), (0, .ref (ad 60)), (1, .int x1), (2, .int x2), (3, .int x3), (4, .int x4), (5, .int x5)]) hx hb dX0_move_115 hl (by decide) rfl (fun ls hl => ?_)
                          refine lv_iconst (v := 0) hx hb dX0_move_117 (by decide) ?_
                          refine lv_istore (lv' := [(9, .int 0), (8, .ref nx), (7, .ref v13), (6, .ref v8), (0, .ref (ad 60)), (1, .int x1), (2, .int x2), (3, .int x3), (4, .int x4), (5, .int x5)]) hx hb dX0_move_118 hl (by decide) rfl (fun ls hl => ?_)
                          obtain ⟨st192, hz193, h⟩ := bd1_some h
                          refine L120 x2 x4 x5 v13 hlv13 N _ 0 _ hz193 _ _ hP hS ls (lv_sub hl [6, 8, 9, 2, 1, 0] rfl) (fun H locs hP hS ls hl => ?_)
                          refine lv_iload hx hb dX0_move_150 (lv_at hl 0 rfl) ?_
                          cases h
                          refine W.widen (k := 1) (n := 40) (Nat.le_of_ble_eq_true rfl) (Nat.le_of_ble_eq_true rfl) ?_
                          exact W.iret hx hb hr (fun t ht _ => ⟨rfl, hS.F ht, _, hsub, hO, by rw [ht]; exact hP⟩) hS.2.2 dX0_move_152
  · have h := if_some_f h c2
    refine lv_iload_n hx hb dX0_move_8 rfl (lv_at hl 3 rfl) ?_
    obtain ⟨v194, hv194, h⟩ := bd1_some h
    refine k_L_isSheet hx hb C.2.2.1 hown C.2.2.2.2.1 C.2.2.2.2.2.1 q1143 hv194 (Nat.le_of_ble_eq_true rfl) hl.1 (Nat.le_of_ble_eq_true rfl) hcs dX0_move_9 ?_
    refine lv_if_eq (tgt := 19) hx hb dX0_move_12 rfl (fun c195 => ?_) (fun c195 => ?_)
    · have h := if_some_t h c195
      refine lv_iconst (v := 0) hx hb dX0_move_19 (by decide) ?_
      refine lv_iconst (v := 1) hx hb dX0_move_20 (by decide) ?_
      obtain ⟨o198, st197, hv196, h⟩ := bd2_some h
      rcases o198 with _ | v196
      · rw [onx_none] at h
        refine k_L_needT C hO hP hS hv196 q402 (Nat.le_of_ble_eq_true rfl) hl.1 (Nat.le_of_ble_eq_true rfl) hcs dX0_move_21 (fun H locs hP hS => ?_)
        refine cc_catch (pre := []) (a1 := 0) (a2 := 152) (hp := 153) (post := []) C hO hP q129 htab rfl rfl ?_
        refine lv_astore (lv' := [(6, .ref (ad 61)), (0, .ref (ad 60)), (1, .int x1), (2, .int x2), (3, .int x3), (4, .int x4), (5, .int x5)]) hx hb dX0_move_153 hl (by decide) rfl (fun ls hl => ?_)
        refine lv_aload_n hx hb dX0_move_155 rfl (lv_at hl 1 rfl) ?_
        refine lv_aload hx hb dX0_move_156 (lv_at hl 0 rfl) ?_
        obtain ⟨v199, st200, hv199, h⟩ := bd2_some h
        refine k_L_finds C hO hP hS hv199 q410 (Nat.le_of_ble_eq_true rfl) hl.1 (Nat.le_of_ble_eq_true rfl) hcs dX0_move_158 (fun H locs hP hS => ?_)
        cases h
        refine W.widen (k := 1) (n := 40) (Nat.le_of_ble_eq_true rfl) (Nat.le_of_ble_eq_true rfl) ?_
        exact W.iret hx hb hr (fun t ht _ => ⟨rfl, hS.F ht, _, hsub, hO, by rw [ht]; exact hP⟩) hS.2.2 dX0_move_161
      · rw [onx_some] at h
        refine k_L_needR C hO hP hS hv196 q402 (Nat.le_of_ble_eq_true rfl) hl.1 (Nat.le_of_ble_eq_true rfl) hcs dX0_move_21 (fun H locs hP hS => ?_)
        refine lv_aload_n hx hb dX0_move_24 rfl (lv_at hl 0 rfl) ?_
        refine lv_iload_n hx hb dX0_move_25 rfl (lv_at hl 1 rfl) ?_
        obtain ⟨o203, st202, hv201, h⟩ := bd2_some h
        rcases o203 with _ | v201
        · rw [onx_none] at h
          refine k_L_sheetAtT C hO hP hS hv201 q1146 (Nat.le_of_ble_eq_true rfl) hl.1 (Nat.le_of_ble_eq_true rfl) hcs dX0_move_26 (fun H locs hP hS => ?_)
          refine cc_catch (pre := []) (a1 := 0) (a2 := 152) (hp := 153) (post := []) C hO hP q129 htab rfl rfl ?_
          refine lv_astore (lv' := [(6, .ref (ad 61)), (0, .ref (ad 60)), (1, .int x1), (2, .int x2), (3, .int x3), (4, .int x4), (5, .int x5)]) hx hb dX0_move_153 hl (by decide) rfl (fun ls hl => ?_)
          refine lv_aload_n hx hb dX0_move_155 rfl (lv_at hl 1 rfl) ?_
          refine lv_aload hx hb dX0_move_156 (lv_at hl 0 rfl) ?_
          obtain ⟨v204, st205, hv204, h⟩ := bd2_some h
          refine k_L_finds C hO hP hS hv204 q410 (Nat.le_of_ble_eq_true rfl) hl.1 (Nat.le_of_ble_eq_true rfl) hcs dX0_move_158 (fun H locs hP hS => ?_)
          cases h
          refine W.widen (k := 1) (n := 40) (Nat.le_of_ble_eq_true rfl) (Nat.le_of_ble_eq_true rfl) ?_
          exact W.iret hx hb hr (fun t ht _ => ⟨rfl, hS.F ht, _, hsub, hO, by rw [ht]; exact hP⟩) hS.2.2 dX0_move_161
        · rw [onx_some] at h
          refine k_L_sheetAtR C hO hP hS hv201 q1146 (Nat.le_of_ble_eq_true rfl) hl.1 (Nat.le_of_ble_eq_true rfl) hcs dX0_move_26 (fun H locs hP hS => ?_)
          have hlv201 := (w_live_L_sheetAt hP hv201)
          refine lv_astore (lv' := [(6, .ref v201), (0, .ref (ad 60)), (1, .int x1), (2, .int x2), (3, .int x3), (4, .int x4), (5, .int x5)]) hx hb dX0_move_29 hl (by decide) rfl (fun ls hl => ?_)
          refine lv_aload_n hx hb dX0_move_31 rfl (lv_at hl 1 rfl) ?_
          refine lv_iload_n hx hb dX0_move_32 rfl (lv_at hl 4 rfl) ?_
          obtain ⟨o208, st207, hv206, h⟩ := bd2_some h
          rcases o208 with _ | v206
          · rw [onx_none] at h
            refine k_L_sheetAtT C hO hP hS hv206 q1146 (Nat.le_of_ble_eq_true rfl) hl.1 (Nat.le_of_ble_eq_true rfl) hcs dX0_move_33 (fun H locs hP hS => ?_)
            refine cc_catch (pre := []) (a1 := 0) (a2 := 152) (hp := 153) (post := []) C hO hP q129 htab rfl rfl ?_
            refine lv_astore (lv' := [(6, .ref (ad 61)), (0, .ref (ad 60)), (1, .int x1), (2, .int x2), (3, .int x3), (4, .int x4), (5, .int x5)]) hx hb dX0_move_153 hl (by decide) rfl (fun ls hl => ?_)
            refine lv_aload_n hx hb dX0_move_155 rfl (lv_at hl 1 rfl) ?_
            refine lv_aload hx hb dX0_move_156 (lv_at hl 0 rfl) ?_
            obtain ⟨v209, st210, hv209, h⟩ := bd2_some h
            refine k_L_finds C hO hP hS hv209 q410 (Nat.le_of_ble_eq_true rfl) hl.1 (Nat.le_of_ble_eq_true rfl) hcs dX0_move_158 (fun H locs hP hS => ?_)
            cases h
            refine W.widen (k := 1) (n := 40) (Nat.le_of_ble_eq_true rfl) (Nat.le_of_ble_eq_true rfl) ?_
            exact W.iret hx hb hr (fun t ht _ => ⟨rfl, hS.F ht, _, hsub, hO, by rw [ht]; exact hP⟩) hS.2.2 dX0_move_161
          · rw [onx_some] at h
            refine k_L_sheetAtR C hO hP hS hv206 q1146 (Nat.le_of_ble_eq_true rfl) hl.1 (Nat.le_of_ble_eq_true rfl) hcs dX0_move_33 (fun H locs hP hS => ?_)
            have hlv206 := (w_live_L_sheetAt hP hv206)
            refine lv_astore (lv' := [(7, .ref v206), (6, .ref v201), (0, .ref (ad 60)), (1, .int x1), (2, .int x2), (3, .int x3), (4, .int x4), (5, .int x5)]) hx hb dX0_move_36 hl (by decide) rfl (fun ls hl => ?_)
            refine lv_aload_n hx hb dX0_move_38 rfl (lv_at hl 2 rfl) ?_
            refine lv_aload hx hb dX0_move_39 (lv_at hl 1 rfl) ?_
            obtain ⟨v211, hv211, h⟩ := bd1_some h
            refine k_S_width C hO hP hS.1 hlv201 hv211 q1463 (Nat.le_of_ble_eq_true rfl) hl.1 (Nat.le_of_ble_eq_true rfl) hcs dX0_move_41 ?_
            refine lv_aload hx hb dX0_move_44 (lv_at hl 0 rfl) ?_
            obtain ⟨v212, hv212, h⟩ := bd1_some h
            refine k_S_width C hO hP hS.1 hlv206 hv212 q1463 (Nat.le_of_ble_eq_true rfl) hl.1 (Nat.le_of_ble_eq_true rfl) hcs dX0_move_46 ?_
            refine lv_icmp_ne (tgt := 56) hx hb dX0_move_49 rfl (fun c213 => ?_) (fun c213 => ?_)
            · have h := if_some_f h c213
              refine lv_iconst (v := 0) hx hb dX0_move_56 (by decide) ?_
              refine lv_iconst (v := 5) hx hb dX0_move_57 (by decide) ?_
              obtain ⟨o216, st215, hv214, h⟩ := bd2_some h
              rcases o216 with _ | v214
              · rw [onx_none] at h
                refine k_L_needT C hO hP hS hv214 q402 (Nat.le_of_ble_eq_true rfl) hl.1 (Nat.le_of_ble_eq_true rfl) hcs dX0_move_58 (fun H locs hP hS => ?_)
                refine cc_catch (pre := []) (a1 := 0) (a2 := 152) (hp := 153) (post := []) C hO hP q129 htab rfl rfl ?_
                refine lv_astore (lv' := [(6, .ref (ad 61)), (7, .ref v206), (0, .ref (ad 60)), (1, .int x1), (2, .int x2), (3, .int x3), (4, .int x4), (5, .int x5)]) hx hb dX0_move_153 hl (by decide) rfl (fun ls hl => ?_)
                refine lv_aload_n hx hb dX0_move_155 rfl (lv_at hl 2 rfl) ?_
                refine lv_aload hx hb dX0_move_156 (lv_at hl 0 rfl) ?_
                obtain ⟨v217, st218, hv217, h⟩ := bd2_some h
                refine k_L_finds C hO hP hS hv217 q410 (Nat.le_of_ble_eq_true rfl) hl.1 (Nat.le_of_ble_eq_true rfl) hcs dX0_move_158 (fun H locs hP hS => ?_)
                cases h
                refine W.widen (k := 1) (n := 40) (Nat.le_of_ble_eq_true rfl) (Nat.le_of_ble_eq_true rfl) ?_
                exact W.iret hx hb hr (fun t ht _ => ⟨rfl, hS.F ht, _, hsub, hO, by rw [ht]; exact hP⟩) hS.2.2 dX0_move_161
              · rw [onx_some] at h
                refine k_L_needR C hO hP hS hv214 q402 (Nat.le_of_ble_eq_true rfl) hl.1 (Nat.le_of_ble_eq_true rfl) hcs dX0_move_58 (fun H locs hP hS => ?_)
                refine lv_aload_n hx hb dX0_move_61 rfl (lv_at hl 2 rfl) ?_
                refine lv_iload hx hb dX0_move_62 (lv_at hl 7 rfl) ?_
                refine lv_if_lt (tgt := 105) hx hb dX0_move_64 rfl (fun c219 => ?_) (fun c219 => ?_)
                · have h := if_some_t h c219
                  refine lv_iconst (v := 0) hx hb dX0_move_105 (by decide) ?_
                  refine lv_iconst (v := 1) hx hb dX0_move_106 (by decide) ?_
                  obtain ⟨o222, st221, hv220, h⟩ := bd2_some h
                  rcases o222 with _ | v220
                  · rw [onx_none] at h
                    refine k_L_needT C hO hP hS hv220 q402 (Nat.le_of_ble_eq_true rfl) hl.1 (Nat.le_of_ble_eq_true rfl) hcs dX0_move_107 (fun H locs hP hS => ?_)
                    refine cc_catch (pre := []) (a1 := 0) (a2 := 152) (hp := 153) (post := []) C hO hP q129 htab rfl rfl ?_
                    refine lv_astore (lv' := [(6, .ref (ad 61)), (7, .ref v206), (0, .ref (ad 60)), (1, .int x1), (2, .int x2), (3, .int x3), (4, .int x4), (5, .int x5)]) hx hb dX0_move_153 hl (by decide) rfl (fun ls hl => ?_)
                    refine lv_aload_n hx hb dX0_move_155 rfl (lv_at hl 2 rfl) ?_
                    refine lv_aload hx hb dX0_move_156 (lv_at hl 0 rfl) ?_
                    obtain ⟨v223, st224, hv223, h⟩ := bd2_some h
                    refine k_L_finds C hO hP hS hv223 q410 (Nat.le_of_ble_eq_true rfl) hl.1 (Nat.le_of_ble_eq_true rfl) hcs dX0_move_158 (fun H locs hP hS => ?_)
                    cases h
                    refine W.widen (k := 1) (n := 40) (Nat.le_of_ble_eq_true rfl) (Nat.le_of_ble_eq_true rfl) ?_
                    exact W.iret hx hb hr (fun t ht _ => ⟨rfl, hS.F ht, _, hsub, hO, by rw [ht]; exact hP⟩) hS.2.2 dX0_move_161
                  · rw [onx_some] at h
                    refine k_L_needR C hO hP hS hv220 q402 (Nat.le_of_ble_eq_true rfl) hl.1 (Nat.le_of_ble_eq_true rfl) hcs dX0_move_107 (fun H locs hP hS => ?_)
                    refine lv_aload hx hb dX0_move_110 (lv_at hl 1 rfl) ?_
                    obtain ⟨w226, b227, n228, f229, hsw226, h⟩ := bd4_some h
                    obtain ⟨st225, hst225, h⟩ := bd1_some h
                    refine W.size0 (fun hH => ?_)
                    have hH := hH.trans hnx
                    refine k_S_row C had hO hP hS hH hlv201 hsw226 hst225 q1475 (Nat.le_of_ble_eq_true rfl) hl.1 (Nat.le_of_ble_eq_true rfl) ⟨by omega, by omega⟩ dX0_move_112 (fun H locs hO hP hS hz1 => ?_)
                    have hcs : 0 + 1 ≤ R.cells ∧ 0 + 40 ≤ R.slots := ⟨by omega, by omega⟩
                    have hsub := hsub1
                    have hlv201 := live_app (l := [1000 + nx]) hlv201
                    have hlv206 := live_app (l := [1000 + nx]) hlv206
                    refine lv_astore (lv' := [(8, .ref nx), (7, .ref v206), (6, .ref v201), (0, .ref (ad 60)), (1, .int x1), (2, .int x2), (3, .int x3), (4, .int x4), (5, .int x5)]) hx hb dX0_move_115 hl (by decide) rfl (fun ls hl => ?_)
                    refine lv_iconst (v := 0) hx hb dX0_move_117 (by decide) ?_
                    refine lv_istore (lv' := [(9, .int 0), (8, .ref nx), (7, .ref v206), (6, .ref v201), (0, .ref (ad 60)), (1, .int x1), (2, .int x2), (3, .int x3), (4, .int x4), (5, .int x5)]) hx hb dX0_move_118 hl (by decide) rfl (fun ls hl => ?_)
                    obtain ⟨st230, hz231, h⟩ := bd1_some h
                    refine L120 x2 x4 x5 v206 hlv206 N _ 0 _ hz231 _ _ hP hS ls (lv_sub hl [6, 8, 9, 2, 1, 0] rfl) (fun H locs hP hS ls hl => ?_)
                    refine lv_iload hx hb dX0_move_150 (lv_at hl 0 rfl) ?_
                    cases h
                    refine W.widen (k := 1) (n := 40) (Nat.le_of_ble_eq_true rfl) (Nat.le_of_ble_eq_true rfl) ?_
                    exact W.iret hx hb hr (fun t ht _ => ⟨rfl, hS.F ht, _, hsub, hO, by rw [ht]; exact hP⟩) hS.2.2 dX0_move_152
                · have h := if_some_f h c219
                  refine lv_iload_n hx hb dX0_move_67 rfl (lv_at hl 4 rfl) ?_
                  refine lv_if_lt (tgt := 105) hx hb dX0_move_68 rfl (fun c232 => ?_) (fun c232 => ?_)
                  · have h := if_some_t h c232
                    refine lv_iconst (v := 0) hx hb dX0_move_105 (by decide) ?_
                    refine lv_iconst (v := 1) hx hb dX0_move_106 (by decide) ?_
                    obtain ⟨o235, st234, hv233, h⟩ := bd2_some h
                    rcases o235 with _ | v233
                    · rw [onx_none] at h
                      refine k_L_needT C hO hP hS hv233 q402 (Nat.le_of_ble_eq_true rfl) hl.1 (Nat.le_of_ble_eq_true rfl) hcs dX0_move_107 (fun H locs hP hS => ?_)
                      refine cc_catch (pre := []) (a1 := 0) (a2 := 152) (hp := 153) (post := []) C hO hP q129 htab rfl rfl ?_
                      refine lv_astore (lv' := [(6, .ref (ad 61)), (7, .ref v206), (0, .ref (ad 60)), (1, .int x1), (2, .int x2), (3, .int x3), (4, .int x4), (5, .int x5)]) hx hb dX0_move_153 hl (by decide) rfl (fun ls hl => ?_)
                      refine lv_aload_n hx hb dX0_move_155 rfl (lv_at hl 2 rfl) ?_
                      refine lv_aload hx hb dX0_move_156 (lv_at hl 0 rfl) ?_
                      obtain ⟨v236, st237, hv236, h⟩ := bd2_some h
                      refine k_L_finds C hO hP hS hv236 q410 (Nat.le_of_ble_eq_true rfl) hl.1 (Nat.le_of_ble_eq_true rfl) hcs dX0_move_158 (fun H locs hP hS => ?_)
                      cases h
                      refine W.widen (k := 1) (n := 40) (Nat.le_of_ble_eq_true rfl) (Nat.le_of_ble_eq_true rfl) ?_
                      exact W.iret hx hb hr (fun t ht _ => ⟨rfl, hS.F ht, _, hsub, hO, by rw [ht]; exact hP⟩) hS.2.2 dX0_move_161
                    · rw [onx_some] at h
                      refine k_L_needR C hO hP hS hv233 q402 (Nat.le_of_ble_eq_true rfl) hl.1 (Nat.le_of_ble_eq_true rfl) hcs dX0_move_107 (fun H locs hP hS => ?_)
                      refine lv_aload hx hb dX0_move_110 (lv_at hl 1 rfl) ?_
                      obtain ⟨w239, b240, n241, f242, hsw239, h⟩ := bd4_some h
                      obtain ⟨st238, hst238, h⟩ := bd1_some h
                      refine W.size0 (fun hH => ?_)
                      have hH := hH.trans hnx
                      refine k_S_row C had hO hP hS hH hlv201 hsw239 hst238 q1475 (Nat.le_of_ble_eq_true rfl) hl.1 (Nat.le_of_ble_eq_true rfl) ⟨by omega, by omega⟩ dX0_move_112 (fun H locs hO hP hS hz1 => ?_)
                      have hcs : 0 + 1 ≤ R.cells ∧ 0 + 40 ≤ R.slots := ⟨by omega, by omega⟩
                      have hsub := hsub1
                      have hlv201 := live_app (l := [1000 + nx]) hlv201
                      have hlv206 := live_app (l := [1000 + nx]) hlv206
                      refine lv_astore (lv' := [(8, .ref nx), (7, .ref v206), (6, .ref v201), (0, .ref (ad 60)), (1, .int x1), (2, .int x2), (3, .int x3), (4, .int x4), (5, .int x5)]) hx hb dX0_move_115 hl (by decide) rfl (fun ls hl => ?_)
                      refine lv_iconst (v := 0) hx hb dX0_move_117 (by decide) ?_
                      refine lv_istore (lv' := [(9, .int 0), (8, .ref nx), (7, .ref v206), (6, .ref v201), (0, .ref (ad 60)), (1, .int x1), (2, .int x2), (3, .int x3), (4, .int x4), (5, .int x5)]) hx hb dX0_move_118 hl (by decide) rfl (fun ls hl => ?_)
                      obtain ⟨st243, hz244, h⟩ := bd1_some h
                      refine L120 x2 x4 x5 v206 hlv206 N _ 0 _ hz244 _ _ hP hS ls (lv_sub hl [6, 8, 9, 2, 1, 0] rfl) (fun H locs hP hS ls hl => ?_)
                      refine lv_iload hx hb dX0_move_150 (lv_at hl 0 rfl) ?_
                      cases h
                      refine W.widen (k := 1) (n := 40) (Nat.le_of_ble_eq_true rfl) (Nat.le_of_ble_eq_true rfl) ?_
                      exact W.iret hx hb hr (fun t ht _ => ⟨rfl, hS.F ht, _, hsub, hO, by rw [ht]; exact hP⟩) hS.2.2 dX0_move_152
                  · have h := if_some_f h c232
                    refine lv_iload hx hb dX0_move_71 (lv_at hl 6 rfl) ?_
                    refine lv_if_lt (tgt := 105) hx hb dX0_move_73 rfl (fun c245 => ?_) (fun c245 => ?_)
                    · have h := if_some_t h c245
                      refine lv_iconst (v := 0) hx hb dX0_move_105 (by decide) ?_
                      refine lv_iconst (v := 1) hx hb dX0_move_106 (by decide) ?_
                      obtain ⟨o248, st247, hv246, h⟩ := bd2_some h
                      rcases o248 with _ | v246
                      · rw [onx_none] at h
                        refine k_L_needT C hO hP hS hv246 q402 (Nat.le_of_ble_eq_true rfl) hl.1 (Nat.le_of_ble_eq_true rfl) hcs dX0_move_107 (fun H locs hP hS => ?_)
                        refine cc_catch (pre := []) (a1 := 0) (a2 := 152) (hp := 153) (post := []) C hO hP q129 htab rfl rfl ?_
                        refine lv_astore (lv' := [(6, .ref (ad 61)), (7, .ref v206), (0, .ref (ad 60)), (1, .int x1), (2, .int x2), (3, .int x3), (4, .int x4), (5, .int x5)]) hx hb dX0_move_153 hl (by decide) rfl (fun ls hl => ?_)
                        refine lv_aload_n hx hb dX0_move_155 rfl (lv_at hl 2 rfl) ?_
                        refine lv_aload hx hb dX0_move_156 (lv_at hl 0 rfl) ?_
                        obtain ⟨v249, st250, hv249, h⟩ := bd2_some h
                        refine k_L_finds C hO hP hS hv249 q410 (Nat.le_of_ble_eq_true rfl) hl.1 (Nat.le_of_ble_eq_true rfl) hcs dX0_move_158 (fun H locs hP hS => ?_)
                        cases h
                        refine W.widen (k := 1) (n := 40) (Nat.le_of_ble_eq_true rfl) (Nat.le_of_ble_eq_true rfl) ?_
                        exact W.iret hx hb hr (fun t ht _ => ⟨rfl, hS.F ht, _, hsub, hO, by rw [ht]; exact hP⟩) hS.2.2 dX0_move_161
                      · rw [onx_some] at h
                        refine k_L_needR C hO hP hS hv246 q402 (Nat.le_of_ble_eq_true rfl) hl.1 (Nat.le_of_ble_eq_true rfl) hcs dX0_move_107 (fun H locs hP hS => ?_)
                        refine lv_aload hx hb dX0_move_110 (lv_at hl 1 rfl) ?_
                        obtain ⟨w252, b253, n254, f255, hsw252, h⟩ := bd4_some h
                        obtain ⟨st251, hst251, h⟩ := bd1_some h
                        refine W.size0 (fun hH => ?_)
                        have hH := hH.trans hnx
                        refine k_S_row C had hO hP hS hH hlv201 hsw252 hst251 q1475 (Nat.le_of_ble_eq_true rfl) hl.1 (Nat.le_of_ble_eq_true rfl) ⟨by omega, by omega⟩ dX0_move_112 (fun H locs hO hP hS hz1 => ?_)
                        have hcs : 0 + 1 ≤ R.cells ∧ 0 + 40 ≤ R.slots := ⟨by omega, by omega⟩
                        have hsub := hsub1
                        have hlv201 := live_app (l := [1000 + nx]) hlv201
                        have hlv206 := live_app (l := [1000 + nx]) hlv206
                        refine lv_astore (lv' := [(8, .ref nx), (7, .ref v206), (6, .ref v201), (0, .ref (ad 60)), (1, .int x1), (2, .int x2), (3, .int x3), (4, .int x4), (5, .int x5)]) hx hb dX0_move_115 hl (by decide) rfl (fun ls hl => ?_)
                        refine lv_iconst (v := 0) hx hb dX0_move_117 (by decide) ?_
                        refine lv_istore (lv' := [(9, .int 0), (8, .ref nx), (7, .ref v206), (6, .ref v201), (0, .ref (ad 60)), (1, .int x1), (2, .int x2), (3, .int x3), (4, .int x4), (5, .int x5)]) hx hb dX0_move_118 hl (by decide) rfl (fun ls hl => ?_)
                        obtain ⟨st256, hz257, h⟩ := bd1_some h
                        refine L120 x2 x4 x5 v206 hlv206 N _ 0 _ hz257 _ _ hP hS ls (lv_sub hl [6, 8, 9, 2, 1, 0] rfl) (fun H locs hP hS ls hl => ?_)
                        refine lv_iload hx hb dX0_move_150 (lv_at hl 0 rfl) ?_
                        cases h
                        refine W.widen (k := 1) (n := 40) (Nat.le_of_ble_eq_true rfl) (Nat.le_of_ble_eq_true rfl) ?_
                        exact W.iret hx hb hr (fun t ht _ => ⟨rfl, hS.F ht, _, hsub, hO, by rw [ht]; exact hP⟩) hS.2.2 dX0_move_152
                    · have h := if_some_f h c245
                      refine lv_iload_n hx hb dX0_move_76 rfl (lv_at hl 4 rfl) ?_
                      refine lv_aload hx hb dX0_move_77 (lv_at hl 1 rfl) ?_
                      obtain ⟨v258, hv258, h⟩ := bd1_some h
                      refine k_S_size C hO hP hS.1 hlv201 hv258 q1155 (Nat.le_of_ble_eq_true rfl) hl.1 (Nat.le_of_ble_eq_true rfl) hcs dX0_move_79 ?_
                      refine lv_iload hx hb dX0_move_82 (lv_at hl 7 rfl) ?_
                      refine lv_isub hx hb dX0_move_84 ?_
                      refine lv_icmp_gt (tgt := 105) hx hb dX0_move_85 rfl (fun c259 => ?_) (fun c259 => ?_)
                      · have h := if_some_t h c259
                        refine lv_iconst (v := 0) hx hb dX0_move_105 (by decide) ?_
                        refine lv_iconst (v := 1) hx hb dX0_move_106 (by decide) ?_
                        obtain ⟨o262, st261, hv260, h⟩ := bd2_some h
                        rcases o262 with _ | v260
                        · rw [onx_none] at h
                          refine k_L_needT C hO hP hS hv260 q402 (Nat.le_of_ble_eq_true rfl) hl.1 (Nat.le_of_ble_eq_true rfl) hcs dX0_move_107 (fun H locs hP hS => ?_)
                          refine cc_catch (pre := []) (a1 := 0) (a2 := 152) (hp := 153) (post := []) C hO hP q129 htab rfl rfl ?_
                          refine lv_astore (lv' := [(6, .ref (ad 61)), (7, .ref v206), (0, .ref (ad 60)), (1, .int x1), (2, .int x2), (3, .int x3), (4, .int x4), (5, .int x5)]) hx hb dX0_move_153 hl (by decide) rfl (fun ls hl => ?_)
                          refine lv_aload_n hx hb dX0_move_155 rfl (lv_at hl 2 rfl) ?_
                          refine lv_aload hx hb dX0_move_156 (lv_at hl 0 rfl) ?_
                          obtain ⟨v263, st264, hv263, h⟩ := bd2_some h
                          refine k_L_finds C hO hP hS hv263 q410 (Nat.le_of_ble_eq_true rfl) hl.1 (Nat.le_of_ble_eq_true rfl) hcs dX0_move_158 (fun H locs hP hS => ?_)
                          cases h
                          refine W.widen (k := 1) (n := 40) (Nat.le_of_ble_eq_true rfl) (Nat.le_of_ble_eq_true rfl) ?_
                          exact W.iret hx hb hr (fun t ht _ => ⟨rfl, hS.F ht, _, hsub, hO, by rw [ht]; exact hP⟩) hS.2.2 dX0_move_161
                        · rw [onx_some] at h
                          refine k_L_needR C hO hP hS hv260 q402 (Nat.le_of_ble_eq_true rfl) hl.1 (Nat.le_of_ble_eq_true rfl) hcs dX0_move_107 (fun H locs hP hS => ?_)
                          refine lv_aload hx hb dX0_move_110 (lv_at hl 1 rfl) ?_
                          obtain ⟨w266, b267, n268, f269, hsw266, h⟩ := bd4_some h
                          obtain ⟨st265, hst265, h⟩ := bd1_some h
                          refine W.size0 (fun hH => ?_)
                          have hH := hH.trans hnx
                          refine k_S_row C had hO hP hS hH hlv201 hsw266 hst265 q1475 (Nat.le_of_ble_eq_true rfl) hl.1 (Nat.le_of_ble_eq_true rfl) ⟨by omega, by omega⟩ dX0_move_112 (fun H locs hO hP hS hz1 => ?_)
                          have hcs : 0 + 1 ≤ R.cells ∧ 0 + 40 ≤ R.slots := ⟨by omega, by omega⟩
                          have hsub := hsub1
                          have hlv201 := live_app (l := [1000 + nx]) hlv201
                          have hlv206 := live_app (l := [1000 + nx]) hlv206
                          refine lv_astore (lv' := [(8, .ref nx), (7, .ref v206), (6, .ref v201), (0, .ref (ad 60)), (1, .int x1), (2, .int x2), (3, .int x3), (4, .int x4), (5, .int x5)]) hx hb dX0_move_115 hl (by decide) rfl (fun ls hl => ?_)
                          refine lv_iconst (v := 0) hx hb dX0_move_117 (by decide) ?_
                          refine lv_istore (lv' := [(9, .int 0), (8, .ref nx), (7, .ref v206), (6, .ref v201), (0, .ref (ad 60)), (1, .int x1), (2, .int x2), (3, .int x3), (4, .int x4), (5, .int x5)]) hx hb dX0_move_118 hl (by decide) rfl (fun ls hl => ?_)
                          obtain ⟨st270, hz271, h⟩ := bd1_some h
                          refine L120 x2 x4 x5 v206 hlv206 N _ 0 _ hz271 _ _ hP hS ls (lv_sub hl [6, 8, 9, 2, 1, 0] rfl) (fun H locs hP hS ls hl => ?_)
                          refine lv_iload hx hb dX0_move_150 (lv_at hl 0 rfl) ?_
                          cases h
                          refine W.widen (k := 1) (n := 40) (Nat.le_of_ble_eq_true rfl) (Nat.le_of_ble_eq_true rfl) ?_
                          exact W.iret hx hb hr (fun t ht _ => ⟨rfl, hS.F ht, _, hsub, hO, by rw [ht]; exact hP⟩) hS.2.2 dX0_move_152
                      · have h := if_some_f h c259
                        refine lv_iload hx hb dX0_move_88 (lv_at hl 6 rfl) ?_
                        refine lv_aload hx hb dX0_move_90 (lv_at hl 0 rfl) ?_
                        obtain ⟨v272, hv272, h⟩ := bd1_some h
                        refine k_S_size C hO hP hS.1 hlv206 hv272 q1155 (Nat.le_of_ble_eq_true rfl) hl.1 (Nat.le_of_ble_eq_true rfl) hcs dX0_move_92 ?_
                        refine lv_iload hx hb dX0_move_95 (lv_at hl 7 rfl) ?_
                        refine lv_isub hx hb dX0_move_97 ?_
                        refine lv_icmp_gt (tgt := 105) hx hb dX0_move_98 rfl (fun c273 => ?_) (fun c273 => ?_)
                        · have h := if_some_t h c273
                          refine lv_iconst (v := 0) hx hb dX0_move_105 (by decide) ?_
                          refine lv_iconst (v := 1) hx hb dX0_move_106 (by decide) ?_
                          obtain ⟨o276, st275, hv274, h⟩ := bd2_some h
                          rcases o276 with _ | v274
                          · rw [onx_none] at h
                            refine k_L_needT C hO hP hS hv274 q402 (Nat.le_of_ble_eq_true rfl) hl.1 (Nat.le_of_ble_eq_true rfl) hcs dX0_move_107 (fun H locs hP hS => ?_)
                            refine cc_catch (pre := []) (a1 := 0) (a2 := 152) (hp := 153) (post := []) C hO hP q129 htab rfl rfl ?_
                            refine lv_astore (lv' := [(6, .ref (ad 61)), (7, .ref v206), (0, .ref (ad 60)), (1, .int x1), (2, .int x2), (3, .int x3), (4, .int x4), (5, .int x5)]) hx hb dX0_move_153 hl (by decide) rfl (fun ls hl => ?_)
                            refine lv_aload_n hx hb dX0_move_155 rfl (lv_at hl 2 rfl) ?_
                            refine lv_aload hx hb dX0_move_156 (lv_at hl 0 rfl) ?_
                            obtain ⟨v277, st278, hv277, h⟩ := bd2_some h
                            refine k_L_finds C hO hP hS hv277 q410 (Nat.le_of_ble_eq_true rfl) hl.1 (Nat.le_of_ble_eq_true rfl) hcs dX0_move_158 (fun H locs hP hS => ?_)
                            cases h
                            refine W.widen (k := 1) (n := 40) (Nat.le_of_ble_eq_true rfl) (Nat.le_of_ble_eq_true rfl) ?_
                            exact W.iret hx hb hr (fun t ht _ => ⟨rfl, hS.F ht, _, hsub, hO, by rw [ht]; exact hP⟩) hS.2.2 dX0_move_161
                          · rw [onx_some] at h
                            refine k_L_needR C hO hP hS hv274 q402 (Nat.le_of_ble_eq_true rfl) hl.1 (Nat.le_of_ble_eq_true rfl) hcs dX0_move_107 (fun H locs hP hS => ?_)
                            refine lv_aload hx hb dX0_move_110 (lv_at hl 1 rfl) ?_
                            obtain ⟨w280, b281, n282, f283, hsw280, h⟩ := bd4_some h
                            obtain ⟨st279, hst279, h⟩ := bd1_some h
                            refine W.size0 (fun hH => ?_)
                            have hH := hH.trans hnx
                            refine k_S_row C had hO hP hS hH hlv201 hsw280 hst279 q1475 (Nat.le_of_ble_eq_true rfl) hl.1 (Nat.le_of_ble_eq_true rfl) ⟨by omega, by omega⟩ dX0_move_112 (fun H locs hO hP hS hz1 => ?_)
                            have hcs : 0 + 1 ≤ R.cells ∧ 0 + 40 ≤ R.slots := ⟨by omega, by omega⟩
                            have hsub := hsub1
                            have hlv201 := live_app (l := [1000 + nx]) hlv201
                            have hlv206 := live_app (l := [1000 + nx]) hlv206
                            refine lv_astore (lv' := [(8, .ref nx), (7, .ref v206), (6, .ref v201), (0, .ref (ad 60)), (1, .int x1), (2, .int x2), (3, .int x3), (4, .int x4), (5, .int x5)]) hx hb dX0_move_115 hl (by decide) rfl (fun ls hl => ?_)
                            refine lv_iconst (v := 0) hx hb dX0_move_117 (by decide) ?_
                            refine lv_istore (lv' := [(9, .int 0), (8, .ref nx), (7, .ref v206), (6, .ref v201), (0, .ref (ad 60)), (1, .int x1), (2, .int x2), (3, .int x3), (4, .int x4), (5, .int x5)]) hx hb dX0_move_118 hl (by decide) rfl (fun ls hl => ?_)
                            obtain ⟨st284, hz285, h⟩ := bd1_some h
                            refine L120 x2 x4 x5 v206 hlv206 N _ 0 _ hz285 _ _ hP hS ls (lv_sub hl [6, 8, 9, 2, 1, 0] rfl) (fun H locs hP hS ls hl => ?_)
                            refine lv_iload hx hb dX0_move_150 (lv_at hl 0 rfl) ?_
                            cases h
                            refine W.widen (k := 1) (n := 40) (Nat.le_of_ble_eq_true rfl) (Nat.le_of_ble_eq_true rfl) ?_
                            exact W.iret hx hb hr (fun t ht _ => ⟨rfl, hS.F ht, _, hsub, hO, by rw [ht]; exact hP⟩) hS.2.2 dX0_move_152
                        · have h := if_some_f h c273
                          refine lv_iconst (v := 1) hx hb dX0_move_101 (by decide) ?_
                          refine lv_goto (tgt := 106) hx hb dX0_move_102 rfl ?_
                          refine lv_iconst (v := 1) hx hb dX0_move_106 (by decide) ?_
                          obtain ⟨o288, st287, hv286, h⟩ := bd2_some h
                          rcases o288 with _ | v286
                          · rw [onx_none] at h
                            refine k_L_needT C hO hP hS hv286 q402 (Nat.le_of_ble_eq_true rfl) hl.1 (Nat.le_of_ble_eq_true rfl) hcs dX0_move_107 (fun H locs hP hS => ?_)
                            refine cc_catch (pre := []) (a1 := 0) (a2 := 152) (hp := 153) (post := []) C hO hP q129 htab rfl rfl ?_
                            refine lv_astore (lv' := [(6, .ref (ad 61)), (7, .ref v206), (0, .ref (ad 60)), (1, .int x1), (2, .int x2), (3, .int x3), (4, .int x4), (5, .int x5)]) hx hb dX0_move_153 hl (by decide) rfl (fun ls hl => ?_)
                            refine lv_aload_n hx hb dX0_move_155 rfl (lv_at hl 2 rfl) ?_
                            refine lv_aload hx hb dX0_move_156 (lv_at hl 0 rfl) ?_
                            obtain ⟨v289, st290, hv289, h⟩ := bd2_some h
                            refine k_L_finds C hO hP hS hv289 q410 (Nat.le_of_ble_eq_true rfl) hl.1 (Nat.le_of_ble_eq_true rfl) hcs dX0_move_158 (fun H locs hP hS => ?_)
                            cases h
                            refine W.widen (k := 1) (n := 40) (Nat.le_of_ble_eq_true rfl) (Nat.le_of_ble_eq_true rfl) ?_
                            exact W.iret hx hb hr (fun t ht _ => ⟨rfl, hS.F ht, _, hsub, hO, by rw [ht]; exact hP⟩) hS.2.2 dX0_move_161
                          · rw [onx_some] at h
                            refine k_L_needR C hO hP hS hv286 q402 (Nat.le_of_ble_eq_true rfl) hl.1 (Nat.le_of_ble_eq_true rfl) hcs dX0_move_107 (fun H locs hP hS => ?_)
                            refine lv_aload hx hb dX0_move_110 (lv_at hl 1 rfl) ?_
                            obtain ⟨w292, b293, n294, f295, hsw292, h⟩ := bd4_some h
                            obtain ⟨st291, hst291, h⟩ := bd1_some h
                            refine W.size0 (fun hH => ?_)
                            have hH := hH.trans hnx
                            refine k_S_row C had hO hP hS hH hlv201 hsw292 hst291 q1475 (Nat.le_of_ble_eq_true rfl) hl.1 (Nat.le_of_ble_eq_true rfl) ⟨by omega, by omega⟩ dX0_move_112 (fun H locs hO hP hS hz1 => ?_)
                            have hcs : 0 + 1 ≤ R.cells ∧ 0 + 40 ≤ R.slots := ⟨by omega, by omega⟩
                            have hsub := hsub1
                            have hlv201 := live_app (l := [1000 + nx]) hlv201
                            have hlv206 := live_app (l := [1000 + nx]) hlv206
                            refine lv_astore (lv' := [(8, .ref nx), (7, .ref v206), (6, .ref v201), (0, .ref (ad 60)), (1, .int x1), (2, .int x2), (3, .int x3), (4, .int x4), (5, .int x5)]) hx hb dX0_move_115 hl (by decide) rfl (fun ls hl => ?_)
                            refine lv_iconst (v := 0) hx hb dX0_move_117 (by decide) ?_
                            refine lv_istore (lv' := [(9, .int 0), (8, .ref nx), (7, .ref v206), (6, .ref v201), (0, .ref (ad 60)), (1, .int x1), (2, .int x2), (3, .int x3), (4, .int x4), (5, .int x5)]) hx hb dX0_move_118 hl (by decide) rfl (fun ls hl => ?_)
                            obtain ⟨st296, hz297, h⟩ := bd1_some h
                            refine L120 x2 x4 x5 v206 hlv206 N _ 0 _ hz297 _ _ hP hS ls (lv_sub hl [6, 8, 9, 2, 1, 0] rfl) (fun H locs hP hS ls hl => ?_)
                            refine lv_iload hx hb dX0_move_150 (lv_at hl 0 rfl) ?_
                            cases h
                            refine W.widen (k := 1) (n := 40) (Nat.le_of_ble_eq_true rfl) (Nat.le_of_ble_eq_true rfl) ?_
                            exact W.iret hx hb hr (fun t ht _ => ⟨rfl, hS.F ht, _, hsub, hO, by rw [ht]; exact hP⟩) hS.2.2 dX0_move_152
            · have h := if_some_t h c213
              refine lv_iconst (v := 1) hx hb dX0_move_52 (by decide) ?_
              refine lv_goto (tgt := 57) hx hb dX0_move_53 rfl ?_
              refine lv_iconst (v := 5) hx hb dX0_move_57 (by decide) ?_
              obtain ⟨o300, st299, hv298, h⟩ := bd2_some h
              rcases o300 with _ | v298
              · rw [onx_none] at h
                refine k_L_needT C hO hP hS hv298 q402 (Nat.le_of_ble_eq_true rfl) hl.1 (Nat.le_of_ble_eq_true rfl) hcs dX0_move_58 (fun H locs hP hS => ?_)
                refine cc_catch (pre := []) (a1 := 0) (a2 := 152) (hp := 153) (post := []) C hO hP q129 htab rfl rfl ?_
                refine lv_astore (lv' := [(6, .ref (ad 61)), (7, .ref v206), (0, .ref (ad 60)), (1, .int x1), (2, .int x2), (3, .int x3), (4, .int x4), (5, .int x5)]) hx hb dX0_move_153 hl (by decide) rfl (fun ls hl => ?_)
                refine lv_aload_n hx hb dX0_move_155 rfl (lv_at hl 2 rfl) ?_
                refine lv_aload hx hb dX0_move_156 (lv_at hl 0 rfl) ?_
                obtain ⟨v301, st302, hv301, h⟩ := bd2_some h
                refine k_L_finds C hO hP hS hv301 q410 (Nat.le_of_ble_eq_true rfl) hl.1 (Nat.le_of_ble_eq_true rfl) hcs dX0_move_158 (fun H locs hP hS => ?_)
                cases h
                refine W.widen (k := 1) (n := 40) (Nat.le_of_ble_eq_true rfl) (Nat.le_of_ble_eq_true rfl) ?_
                exact W.iret hx hb hr (fun t ht _ => ⟨rfl, hS.F ht, _, hsub, hO, by rw [ht]; exact hP⟩) hS.2.2 dX0_move_161
              · rw [onx_some] at h
                refine k_L_needR C hO hP hS hv298 q402 (Nat.le_of_ble_eq_true rfl) hl.1 (Nat.le_of_ble_eq_true rfl) hcs dX0_move_58 (fun H locs hP hS => ?_)
                refine lv_aload_n hx hb dX0_move_61 rfl (lv_at hl 2 rfl) ?_
                refine lv_iload hx hb dX0_move_62 (lv_at hl 7 rfl) ?_
                refine lv_if_lt (tgt := 105) hx hb dX0_move_64 rfl (fun c303 => ?_) (fun c303 => ?_)
                · have h := if_some_t h c303
                  refine lv_iconst (v := 0) hx hb dX0_move_105 (by decide) ?_
                  refine lv_iconst (v := 1) hx hb dX0_move_106 (by decide) ?_
                  obtain ⟨o306, st305, hv304, h⟩ := bd2_some h
                  rcases o306 with _ | v304
                  · rw [onx_none] at h
                    refine k_L_needT C hO hP hS hv304 q402 (Nat.le_of_ble_eq_true rfl) hl.1 (Nat.le_of_ble_eq_true rfl) hcs dX0_move_107 (fun H locs hP hS => ?_)
                    refine cc_catch (pre := []) (a1 := 0) (a2 := 152) (hp := 153) (post := []) C hO hP q129 htab rfl rfl ?_
                    refine lv_astore (lv' := [(6, .ref (ad 61)), (7, .ref v206), (0, .ref (ad 60)), (1, .int x1), (2, .int x2), (3, .int x3), (4, .int x4), (5, .int x5)]) hx hb dX0_move_153 hl (by decide) rfl (fun ls hl => ?_)
                    refine lv_aload_n hx hb dX0_move_155 rfl (lv_at hl 2 rfl) ?_
                    refine lv_aload hx hb dX0_move_156 (lv_at hl 0 rfl) ?_
                    obtain ⟨v307, st308, hv307, h⟩ := bd2_some h
                    refine k_L_finds C hO hP hS hv307 q410 (Nat.le_of_ble_eq_true rfl) hl.1 (Nat.le_of_ble_eq_true rfl) hcs dX0_move_158 (fun H locs hP hS => ?_)
                    cases h
                    refine W.widen (k := 1) (n := 40) (Nat.le_of_ble_eq_true rfl) (Nat.le_of_ble_eq_true rfl) ?_
                    exact W.iret hx hb hr (fun t ht _ => ⟨rfl, hS.F ht, _, hsub, hO, by rw [ht]; exact hP⟩) hS.2.2 dX0_move_161
                  · rw [onx_some] at h
                    refine k_L_needR C hO hP hS hv304 q402 (Nat.le_of_ble_eq_true rfl) hl.1 (Nat.le_of_ble_eq_true rfl) hcs dX0_move_107 (fun H locs hP hS => ?_)
                    refine lv_aload hx hb dX0_move_110 (lv_at hl 1 rfl) ?_
                    obtain ⟨w310, b311, n312, f313, hsw310, h⟩ := bd4_some h
                    obtain ⟨st309, hst309, h⟩ := bd1_some h
                    refine W.size0 (fun hH => ?_)
                    have hH := hH.trans hnx
                    refine k_S_row C had hO hP hS hH hlv201 hsw310 hst309 q1475 (Nat.le_of_ble_eq_true rfl) hl.1 (Nat.le_of_ble_eq_true rfl) ⟨by omega, by omega⟩ dX0_move_112 (fun H locs hO hP hS hz1 => ?_)
                    have hcs : 0 + 1 ≤ R.cells ∧ 0 + 40 ≤ R.slots := ⟨by omega, by omega⟩
                    have hsub := hsub1
                    have hlv201 := live_app (l := [1000 + nx]) hlv201
                    have hlv206 := live_app (l := [1000 + nx]) hlv206
                    refine lv_astore (lv' := [(8, .ref nx), (7, .ref v206), (6, .ref v201), (0, .ref (ad 60)), (1, .int x1), (2, .int x2), (3, .int x3), (4, .int x4), (5, .int x5)]) hx hb dX0_move_115 hl (by decide) rfl (fun ls hl => ?_)
                    refine lv_iconst (v := 0) hx hb dX0_move_117 (by decide) ?_
                    refine lv_istore (lv' := [(9, .int 0), (8, .ref nx), (7, .ref v206), (6, .ref v201), (0, .ref (ad 60)), (1, .int x1), (2, .int x2), (3, .int x3), (4, .int x4), (5, .int x5)]) hx hb dX0_move_118 hl (by decide) rfl (fun ls hl => ?_)
                    obtain ⟨st314, hz315, h⟩ := bd1_some h
                    refine L120 x2 x4 x5 v206 hlv206 N _ 0 _ hz315 _ _ hP hS ls (lv_sub hl [6, 8, 9, 2, 1, 0] rfl) (fun H locs hP hS ls hl => ?_)
                    refine lv_iload hx hb dX0_move_150 (lv_at hl 0 rfl) ?_
                    cases h
                    refine W.widen (k := 1) (n := 40) (Nat.le_of_ble_eq_true rfl) (Nat.le_of_ble_eq_true rfl) ?_
                    exact W.iret hx hb hr (fun t ht _ => ⟨rfl, hS.F ht, _, hsub, hO, by rw [ht]; exact hP⟩) hS.2.2 dX0_move_152
                · have h := if_some_f h c303
                  refine lv_iload_n hx hb dX0_move_67 rfl (lv_at hl 4 rfl) ?_
                  refine lv_if_lt (tgt := 105) hx hb dX0_move_68 rfl (fun c316 => ?_) (fun c316 => ?_)
                  · have h := if_some_t h c316
                    refine lv_iconst (v := 0) hx hb dX0_move_105 (by decide) ?_
                    refine lv_iconst (v := 1) hx hb dX0_move_106 (by decide) ?_
                    obtain ⟨o319, st318, hv317, h⟩ := bd2_some h
                    rcases o319 with _ | v317
                    · rw [onx_none] at h
                      refine k_L_needT C hO hP hS hv317 q402 (Nat.le_of_ble_eq_true rfl) hl.1 (Nat.le_of_ble_eq_true rfl) hcs dX0_move_107 (fun H locs hP hS => ?_)
                      refine cc_catch (pre := []) (a1 := 0) (a2 := 152) (hp := 153) (post := []) C hO hP q129 htab rfl rfl ?_
                      refine lv_astore (lv' := [(6, .ref (ad 61)), (7, .ref v206), (0, .ref (ad 60)), (1, .int x1), (2, .int x2), (3, .int x3), (4, .int x4), (5, .int x5)]) hx hb dX0_move_153 hl (by decide) rfl (fun ls hl => ?_)
                      refine lv_aload_n hx hb dX0_move_155 rfl (lv_at hl 2 rfl) ?_
                      refine lv_aload hx hb dX0_move_156 (lv_at hl 0 rfl) ?_
                      obtain ⟨v320, st321, hv320, h⟩ := bd2_some h
                      refine k_L_finds C hO hP hS hv320 q410 (Nat.le_of_ble_eq_true rfl) hl.1 (Nat.le_of_ble_eq_true rfl) hcs dX0_move_158 (fun H locs hP hS => ?_)
                      cases h
                      refine W.widen (k := 1) (n := 40) (Nat.le_of_ble_eq_true rfl) (Nat.le_of_ble_eq_true rfl) ?_
                      exact W.iret hx hb hr (fun t ht _ => ⟨rfl, hS.F ht, _, hsub, hO, by rw [ht]; exact hP⟩) hS.2.2 dX0_move_161
                    · rw [onx_some] at h
                      refine k_L_needR C hO hP hS hv317 q402 (Nat.le_of_ble_eq_true rfl) hl.1 (Nat.le_of_ble_eq_true rfl) hcs dX0_move_107 (fun H locs hP hS => ?_)
                      refine lv_aload hx hb dX0_move_110 (lv_at hl 1 rfl) ?_
                      obtain ⟨w323, b324, n325, f326, hsw323, h⟩ := bd4_some h
                      obtain ⟨st322, hst322, h⟩ := bd1_some h
                      refine W.size0 (fun hH => ?_)
                      have hH := hH.trans hnx
                      refine k_S_row C had hO hP hS hH hlv201 hsw323 hst322 q1475 (Nat.le_of_ble_eq_true rfl) hl.1 (Nat.le_of_ble_eq_true rfl) ⟨by omega, by omega⟩ dX0_move_112 (fun H locs hO hP hS hz1 => ?_)
                      have hcs : 0 + 1 ≤ R.cells ∧ 0 + 40 ≤ R.slots := ⟨by omega, by omega⟩
                      have hsub := hsub1
                      have hlv201 := live_app (l := [1000 + nx]) hlv201
                      have hlv206 := live_app (l := [1000 + nx]) hlv206
                      refine lv_astore (lv' := [(8, .ref nx), (7, .ref v206), (6, .ref v201), (0, .ref (ad 60)), (1, .int x1), (2, .int x2), (3, .int x3), (4, .int x4), (5, .int x5)]) hx hb dX0_move_115 hl (by decide) rfl (fun ls hl => ?_)
                      refine lv_iconst (v := 0) hx hb dX0_move_117 (by decide) ?_
                      refine lv_istore (lv' := [(9, .int 0), (8, .ref nx), (7, .ref v206), (6, .ref v201), (0, .ref (ad 60)), (1, .int x1), (2, .int x2), (3, .int x3), (4, .int x4), (5, .int x5)]) hx hb dX0_move_118 hl (by decide) rfl (fun ls hl => ?_)
                      obtain ⟨st327, hz328, h⟩ := bd1_some h
                      refine L120 x2 x4 x5 v206 hlv206 N _ 0 _ hz328 _ _ hP hS ls (lv_sub hl [6, 8, 9, 2, 1, 0] rfl) (fun H locs hP hS ls hl => ?_)
                      refine lv_iload hx hb dX0_move_150 (lv_at hl 0 rfl) ?_
                      cases h
                      refine W.widen (k := 1) (n := 40) (Nat.le_of_ble_eq_true rfl) (Nat.le_of_ble_eq_true rfl) ?_
                      exact W.iret hx hb hr (fun t ht _ => ⟨rfl, hS.F ht, _, hsub, hO, by rw [ht]; exact hP⟩) hS.2.2 dX0_move_152
                  · have h := if_some_f h c316
                    refine lv_iload hx hb dX0_move_71 (lv_at hl 6 rfl) ?_
                    refine lv_if_lt (tgt := 105) hx hb dX0_move_73 rfl (fun c329 => ?_) (fun c329 => ?_)
                    · have h := if_some_t h c329
                      refine lv_iconst (v := 0) hx hb dX0_move_105 (by decide) ?_
                      refine lv_iconst (v := 1) hx hb dX0_move_106 (by decide) ?_
                      obtain ⟨o332, st331, hv330, h⟩ := bd2_some h
                      rcases o332 with _ | v330
                      · rw [onx_none] at h
                        refine k_L_needT C hO hP hS hv330 q402 (Nat.le_of_ble_eq_true rfl) hl.1 (Nat.le_of_ble_eq_true rfl) hcs dX0_move_107 (fun H locs hP hS => ?_)
                        refine cc_catch (pre := []) (a1 := 0) (a2 := 152) (hp := 153) (post := []) C hO hP q129 htab rfl rfl ?_
                        refine lv_astore (lv' := [(6, .ref (ad 61)), (7, .ref v206), (0, .ref (ad 60)), (1, .int x1), (2, .int x2), (3, .int x3), (4, .int x4), (5, .int x5)]) hx hb dX0_move_153 hl (by decide) rfl (fun ls hl => ?_)
                        refine lv_aload_n hx hb dX0_move_155 rfl (lv_at hl 2 rfl) ?_
                        refine lv_aload hx hb dX0_move_156 (lv_at hl 0 rfl) ?_
                        obtain ⟨v333, st334, hv333, h⟩ := bd2_some h
                        refine k_L_finds C hO hP hS hv333 q410 (Nat.le_of_ble_eq_true rfl) hl.1 (Nat.le_of_ble_eq_true rfl) hcs dX0_move_158 (fun H locs hP hS => ?_)
                        cases h
                        refine W.widen (k := 1) (n := 40) (Nat.le_of_ble_eq_true rfl) (Nat.le_of_ble_eq_true rfl) ?_
                        exact W.iret hx hb hr (fun t ht _ => ⟨rfl, hS.F ht, _, hsub, hO, by rw [ht]; exact hP⟩) hS.2.2 dX0_move_161
                      · rw [onx_some] at h
                        refine k_L_needR C hO hP hS hv330 q402 (Nat.le_of_ble_eq_true rfl) hl.1 (Nat.le_of_ble_eq_true rfl) hcs dX0_move_107 (fun H locs hP hS => ?_)
                        refine lv_aload hx hb dX0_move_110 (lv_at hl 1 rfl) ?_
                        obtain ⟨w336, b337, n338, f339, hsw336, h⟩ := bd4_some h
                        obtain ⟨st335, hst335, h⟩ := bd1_some h
                        refine W.size0 (fun hH => ?_)
                        have hH := hH.trans hnx
                        refine k_S_row C had hO hP hS hH hlv201 hsw336 hst335 q1475 (Nat.le_of_ble_eq_true rfl) hl.1 (Nat.le_of_ble_eq_true rfl) ⟨by omega, by omega⟩ dX0_move_112 (fun H locs hO hP hS hz1 => ?_)
                        have hcs : 0 + 1 ≤ R.cells ∧ 0 + 40 ≤ R.slots := ⟨by omega, by omega⟩
                        have hsub := hsub1
                        have hlv201 := live_app (l := [1000 + nx]) hlv201
                        have hlv206 := live_app (l := [1000 + nx]) hlv206
                        refine lv_astore (lv' := [(8, .ref nx), (7, .ref v206), (6, .ref v201), (0, .ref (ad 60)), (1, .int x1), (2, .int x2), (3, .int x3), (4, .int x4), (5, .int x5)]) hx hb dX0_move_115 hl (by decide) rfl (fun ls hl => ?_)
                        refine lv_iconst (v := 0) hx hb dX0_move_117 (by decide) ?_
                        refine lv_istore (lv' := [(9, .int 0), (8, .ref nx), (7, .ref v206), (6, .ref v201), (0, .ref (ad 60)), (1, .int x1), (2, .int x2), (3, .int x3), (4, .int x4), (5, .int x5)]) hx hb dX0_move_118 hl (by decide) rfl (fun ls hl => ?_)
                        obtain ⟨st340, hz341, h⟩ := bd1_some h
                        refine L120 x2 x4 x5 v206 hlv206 N _ 0 _ hz341 _ _ hP hS ls (lv_sub hl [6, 8, 9, 2, 1, 0] rfl) (fun H locs hP hS ls hl => ?_)
                        refine lv_iload hx hb dX0_move_150 (lv_at hl 0 rfl) ?_
                        cases h
                        refine W.widen (k := 1) (n := 40) (Nat.le_of_ble_eq_true rfl) (Nat.le_of_ble_eq_true rfl) ?_
                        exact W.iret hx hb hr (fun t ht _ => ⟨rfl, hS.F ht, _, hsub, hO, by rw [ht]; exact hP⟩) hS.2.2 dX0_move_152
                    · have h := if_some_f h c329
                      refine lv_iload_n hx hb dX0_move_76 rfl (lv_at hl 4 rfl) ?_
                      refine lv_aload hx hb dX0_move_77 (lv_at hl 1 rfl) ?_
                      obtain ⟨v342, hv342, h⟩ := bd1_some h
                      refine k_S_size C hO hP hS.1 hlv201 hv342 q1155 (Nat.le_of_ble_eq_true rfl) hl.1 (Nat.le_of_ble_eq_true rfl) hcs dX0_move_79 ?_
                      refine lv_iload hx hb dX0_move_82 (lv_at hl 7 rfl) ?_
                      refine lv_isub hx hb dX0_move_84 ?_
                      refine lv_icmp_gt (tgt := 105) hx hb dX0_move_85 rfl (fun c343 => ?_) (fun c343 => ?_)
                      · have h := if_some_t h c343
                        refine lv_iconst (v := 0) hx hb dX0_move_105 (by decide) ?_
                        refine lv_iconst (v := 1) hx hb dX0_move_106 (by decide) ?_
                        obtain ⟨o346, st345, hv344, h⟩ := bd2_some h
                        rcases o346 with _ | v344
                        · rw [onx_none] at h
                          refine k_L_needT C hO hP hS hv344 q402 (Nat.le_of_ble_eq_true rfl) hl.1 (Nat.le_of_ble_eq_true rfl) hcs dX0_move_107 (fun H locs hP hS => ?_)
                          refine cc_catch (pre := []) (a1 := 0) (a2 := 152) (hp := 153) (post := []) C hO hP q129 htab rfl rfl ?_
                          refine lv_astore (lv' := [(6, .ref (ad 61)), (7, .ref v206), (0, .ref (ad 60)), (1, .int x1), (2, .int x2), (3, .int x3), (4, .int x4), (5, .int x5)]) hx hb dX0_move_153 hl (by decide) rfl (fun ls hl => ?_)
                          refine lv_aload_n hx hb dX0_move_155 rfl (lv_at hl 2 rfl) ?_
                          refine lv_aload hx hb dX0_move_156 (lv_at hl 0 rfl) ?_
                          obtain ⟨v347, st348, hv347, h⟩ := bd2_some h
                          refine k_L_finds C hO hP hS hv347 q410 (Nat.le_of_ble_eq_true rfl) hl.1 (Nat.le_of_ble_eq_true rfl) hcs dX0_move_158 (fun H locs hP hS => ?_)
                          cases h
                          refine W.widen (k := 1) (n := 40) (Nat.le_of_ble_eq_true rfl) (Nat.le_of_ble_eq_true rfl) ?_
                          exact W.iret hx hb hr (fun t ht _ => ⟨rfl, hS.F ht, _, hsub, hO, by rw [ht]; exact hP⟩) hS.2.2 dX0_move_161
                        · rw [onx_some] at h
                          refine k_L_needR C hO hP hS hv344 q402 (Nat.le_of_ble_eq_true rfl) hl.1 (Nat.le_of_ble_eq_true rfl) hcs dX0_move_107 (fun H locs hP hS => ?_)
                          refine lv_aload hx hb dX0_move_110 (lv_at hl 1 rfl) ?_
                          obtain ⟨w350, b351, n352, f353, hsw350, h⟩ := bd4_some h
                          obtain ⟨st349, hst349, h⟩ := bd1_some h
                          refine W.size0 (fun hH => ?_)
                          have hH := hH.trans hnx
                          refine k_S_row C had hO hP hS hH hlv201 hsw350 hst349 q1475 (Nat.le_of_ble_eq_true rfl) hl.1 (Nat.le_of_ble_eq_true rfl) ⟨by omega, by omega⟩ dX0_move_112 (fun H locs hO hP hS hz1 => ?_)
                          have hcs : 0 + 1 ≤ R.cells ∧ 0 + 40 ≤ R.slots := ⟨by omega, by omega⟩
                          have hsub := hsub1
                          have hlv201 := live_app (l := [1000 + nx]) hlv201
                          have hlv206 := live_app (l := [1000 + nx]) hlv206
                          refine lv_astore (lv' := [(8, .ref nx), (7, .ref v206), (6, .ref v201), (0, .ref (ad 60)), (1, .int x1), (2, .int x2), (3, .int x3), (4, .int x4), (5, .int x5)]) hx hb dX0_move_115 hl (by decide) rfl (fun ls hl => ?_)
                          refine lv_iconst (v := 0) hx hb dX0_move_117 (by decide) ?_
                          refine lv_istore (lv' := [(9, .int 0), (8, .ref nx), (7, .ref v206), (6, .ref v201), (0, .ref (ad 60)), (1, .int x1), (2, .int x2), (3, .int x3), (4, .int x4), (5, .int x5)]) hx hb dX0_move_118 hl (by decide) rfl (fun ls hl => ?_)
                          obtain ⟨st354, hz355, h⟩ := bd1_some h
                          refine L120 x2 x4 x5 v206 hlv206 N _ 0 _ hz355 _ _ hP hS ls (lv_sub hl [6, 8, 9, 2, 1, 0] rfl) (fun H locs hP hS ls hl => ?_)
                          refine lv_iload hx hb dX0_move_150 (lv_at hl 0 rfl) ?_
                          cases h
                          refine W.widen (k := 1) (n := 40) (Nat.le_of_ble_eq_true rfl) (Nat.le_of_ble_eq_true rfl) ?_
                          exact W.iret hx hb hr (fun t ht _ => ⟨rfl, hS.F ht, _, hsub, hO, by rw [ht]; exact hP⟩) hS.2.2 dX0_move_152
                      · have h := if_some_f h c343
                        refine lv_iload hx hb dX0_move_88 (lv_at hl 6 rfl) ?_
                        refine lv_aload hx hb dX0_move_90 (lv_at hl 0 rfl) ?_
                        obtain ⟨v356, hv356, h⟩ := bd1_some h
                        refine k_S_size C hO hP hS.1 hlv206 hv356 q1155 (Nat.le_of_ble_eq_true rfl) hl.1 (Nat.le_of_ble_eq_true rfl) hcs dX0_move_92 ?_
                        refine lv_iload hx hb dX0_move_95 (lv_at hl 7 rfl) ?_
                        refine lv_isub hx hb dX0_move_97 ?_
                        refine lv_icmp_gt (tgt := 105) hx hb dX0_move_98 rfl (fun c357 => ?_) (fun c357 => ?_)
                        · have h := if_some_t h c357
                          refine lv_iconst (v := 0) hx hb dX0_move_105 (by decide) ?_
                          refine lv_iconst (v := 1) hx hb dX0_move_106 (by decide) ?_
                          obtain ⟨o360, st359, hv358, h⟩ := bd2_some h
                          rcases o360 with _ | v358
                          · rw [onx_none] at h
                            refine k_L_needT C hO hP hS hv358 q402 (Nat.le_of_ble_eq_true rfl) hl.1 (Nat.le_of_ble_eq_true rfl) hcs dX0_move_107 (fun H locs hP hS => ?_)
                            refine cc_catch (pre := []) (a1 := 0) (a2 := 152) (hp := 153) (post := []) C hO hP q129 htab rfl rfl ?_
                            refine lv_astore (lv' := [(6, .ref (ad 61)), (7, .ref v206), (0, .ref (ad 60)), (1, .int x1), (2, .int x2), (3, .int x3), (4, .int x4), (5, .int x5)]) hx hb dX0_move_153 hl (by decide) rfl (fun ls hl => ?_)
                            refine lv_aload_n hx hb dX0_move_155 rfl (lv_at hl 2 rfl) ?_
                            refine lv_aload hx hb dX0_move_156 (lv_at hl 0 rfl) ?_
                            obtain ⟨v361, st362, hv361, h⟩ := bd2_some h
                            refine k_L_finds C hO hP hS hv361 q410 (Nat.le_of_ble_eq_true rfl) hl.1 (Nat.le_of_ble_eq_true rfl) hcs dX0_move_158 (fun H locs hP hS => ?_)
                            cases h
                            refine W.widen (k := 1) (n := 40) (Nat.le_of_ble_eq_true rfl) (Nat.le_of_ble_eq_true rfl) ?_
                            exact W.iret hx hb hr (fun t ht _ => ⟨rfl, hS.F ht, _, hsub, hO, by rw [ht]; exact hP⟩) hS.2.2 dX0_move_161
                          · rw [onx_some] at h
                            refine k_L_needR C hO hP hS hv358 q402 (Nat.le_of_ble_eq_true rfl) hl.1 (Nat.le_of_ble_eq_true rfl) hcs dX0_move_107 (fun H locs hP hS => ?_)
                            refine lv_aload hx hb dX0_move_110 (lv_at hl 1 rfl) ?_
                            obtain ⟨w364, b365, n366, f367, hsw364, h⟩ := bd4_some h
                            obtain ⟨st363, hst363, h⟩ := bd1_some h
                            refine W.size0 (fun hH => ?_)
                            have hH := hH.trans hnx
                            refine k_S_row C had hO hP hS hH hlv201 hsw364 hst363 q1475 (Nat.le_of_ble_eq_true rfl) hl.1 (Nat.le_of_ble_eq_true rfl) ⟨by omega, by omega⟩ dX0_move_112 (fun H locs hO hP hS hz1 => ?_)
                            have hcs : 0 + 1 ≤ R.cells ∧ 0 + 40 ≤ R.slots := ⟨by omega, by omega⟩
                            have hsub := hsub1
                            have hlv201 := live_app (l := [1000 + nx]) hlv201
                            have hlv206 := live_app (l := [1000 + nx]) hlv206
                            refine lv_astore (lv' := [(8, .ref nx), (7, .ref v206), (6, .ref v201), (0, .ref (ad 60)), (1, .int x1), (2, .int x2), (3, .int x3), (4, .int x4), (5, .int x5)]) hx hb dX0_move_115 hl (by decide) rfl (fun ls hl => ?_)
                            refine lv_iconst (v := 0) hx hb dX0_move_117 (by decide) ?_
                            refine lv_istore (lv' := [(9, .int 0), (8, .ref nx), (7, .ref v206), (6, .ref v201), (0, .ref (ad 60)), (1, .int x1), (2, .int x2), (3, .int x3), (4, .int x4), (5, .int x5)]) hx hb dX0_move_118 hl (by decide) rfl (fun ls hl => ?_)
                            obtain ⟨st368, hz369, h⟩ := bd1_some h
                            refine L120 x2 x4 x5 v206 hlv206 N _ 0 _ hz369 _ _ hP hS ls (lv_sub hl [6, 8, 9, 2, 1, 0] rfl) (fun H locs hP hS ls hl => ?_)
                            refine lv_iload hx hb dX0_move_150 (lv_at hl 0 rfl) ?_
                            cases h
                            refine W.widen (k := 1) (n := 40) (Nat.le_of_ble_eq_true rfl) (Nat.le_of_ble_eq_true rfl) ?_
                            exact W.iret hx hb hr (fun t ht _ => ⟨rfl, hS.F ht, _, hsub, hO, by rw [ht]; exact hP⟩) hS.2.2 dX0_move_152
                        · have h := if_some_f h c357
                          refine lv_iconst (v := 1) hx hb dX0_move_101 (by decide) ?_
                          refine lv_goto (tgt := 106) hx hb dX0_move_102 rfl ?_
                          refine lv_iconst (v := 1) hx hb dX0_move_106 (by decide) ?_
                          obtain ⟨o372, st371, hv370, h⟩ := bd2_some h
                          rcases o372 with _ | v370
                          · rw [onx_none] at h
                            refine k_L_needT C hO hP hS hv370 q402 (Nat.le_of_ble_eq_true rfl) hl.1 (Nat.le_of_ble_eq_true rfl) hcs dX0_move_107 (fun H locs hP hS => ?_)
                            refine cc_catch (pre := []) (a1 := 0) (a2 := 152) (hp := 153) (post := []) C hO hP q129 htab rfl rfl ?_
                            refine lv_astore (lv' := [(6, .ref (ad 61)), (7, .ref v206), (0, .ref (ad 60)), (1, .int x1), (2, .int x2), (3, .int x3), (4, .int x4), (5, .int x5)]) hx hb dX0_move_153 hl (by decide) rfl (fun ls hl => ?_)
                            refine lv_aload_n hx hb dX0_move_155 rfl (lv_at hl 2 rfl) ?_
                            refine lv_aload hx hb dX0_move_156 (lv_at hl 0 rfl) ?_
                            obtain ⟨v373, st374, hv373, h⟩ := bd2_some h
                            refine k_L_finds C hO hP hS hv373 q410 (Nat.le_of_ble_eq_true rfl) hl.1 (Nat.le_of_ble_eq_true rfl) hcs dX0_move_158 (fun H locs hP hS => ?_)
                            cases h
                            refine W.widen (k := 1) (n := 40) (Nat.le_of_ble_eq_true rfl) (Nat.le_of_ble_eq_true rfl) ?_
                            exact W.iret hx hb hr (fun t ht _ => ⟨rfl, hS.F ht, _, hsub, hO, by rw [ht]; exact hP⟩) hS.2.2 dX0_move_161
                          · rw [onx_some] at h
                            refine k_L_needR C hO hP hS hv370 q402 (Nat.le_of_ble_eq_true rfl) hl.1 (Nat.le_of_ble_eq_true rfl) hcs dX0_move_107 (fun H locs hP hS => ?_)
                            refine lv_aload hx hb dX0_move_110 (lv_at hl 1 rfl) ?_
                            obtain ⟨w376, b377, n378, f379, hsw376, h⟩ := bd4_some h
                            obtain ⟨st375, hst375, h⟩ := bd1_some h
                            refine W.size0 (fun hH => ?_)
                            have hH := hH.trans hnx
                            refine k_S_row C had hO hP hS hH hlv201 hsw376 hst375 q1475 (Nat.le_of_ble_eq_true rfl) hl.1 (Nat.le_of_ble_eq_true rfl) ⟨by omega, by omega⟩ dX0_move_112 (fun H locs hO hP hS hz1 => ?_)
                            have hcs : 0 + 1 ≤ R.cells ∧ 0 + 40 ≤ R.slots := ⟨by omega, by omega⟩
                            have hsub := hsub1
                            have hlv201 := live_app (l := [1000 + nx]) hlv201
                            have hlv206 := live_app (l := [1000 + nx]) hlv206
                            refine lv_astore (lv' := [(8, .ref nx), (7, .ref v206), (6, .ref v201), (0, .ref (ad 60)), (1, .int x1), (2, .int x2), (3, .int x3), (4, .int x4), (5, .int x5)]) hx hb dX0_move_115 hl (by decide) rfl (fun ls hl => ?_)
                            refine lv_iconst (v := 0) hx hb dX0_move_117 (by decide) ?_
                            refine lv_istore (lv' := [(9, .int 0), (8, .ref nx), (7, .ref v206), (6, .ref v201), (0, .ref (ad 60)), (1, .int x1), (2, .int x2), (3, .int x3), (4, .int x4), (5, .int x5)]) hx hb dX0_move_118 hl (by decide) rfl (fun ls hl => ?_)
                            obtain ⟨st380, hz381, h⟩ := bd1_some h
                            refine L120 x2 x4 x5 v206 hlv206 N _ 0 _ hz381 _ _ hP hS ls (lv_sub hl [6, 8, 9, 2, 1, 0] rfl) (fun H locs hP hS ls hl => ?_)
                            refine lv_iload hx hb dX0_move_150 (lv_at hl 0 rfl) ?_
                            cases h
                            refine W.widen (k := 1) (n := 40) (Nat.le_of_ble_eq_true rfl) (Nat.le_of_ble_eq_true rfl) ?_
                            exact W.iret hx hb hr (fun t ht _ => ⟨rfl, hS.F ht, _, hsub, hO, by rw [ht]; exact hP⟩) hS.2.2 dX0_move_152
    · have h := if_some_f h c195
      refine lv_iconst (v := 1) hx hb dX0_move_15 (by decide) ?_
      refine lv_goto (tgt := 20) hx hb dX0_move_16 rfl ?_
      refine lv_iconst (v := 1) hx hb dX0_move_20 (by decide) ?_
      obtain ⟨o384, st383, hv382, h⟩ := bd2_some h
      rcases o384 with _ | v382
      · rw [onx_none] at h
        refine k_L_needT C hO hP hS hv382 q402 (Nat.le_of_ble_eq_true rfl) hl.1 (Nat.le_of_ble_eq_true rfl) hcs dX0_move_21 (fun H locs hP hS => ?_)
        refine cc_catch (pre := []) (a1 := 0) (a2 := 152) (hp := 153) (post := []) C hO hP q129 htab rfl rfl ?_
        refine lv_astore (lv' := [(6, .ref (ad 61)), (0, .ref (ad 60)), (1, .int x1), (2, .int x2), (3, .int x3), (4, .int x4), (5, .int x5)]) hx hb dX0_move_153 hl (by decide) rfl (fun ls hl => ?_)
        refine lv_aload_n hx hb dX0_move_155 rfl (lv_at hl 1 rfl) ?_
        refine lv_aload hx hb dX0_move_156 (lv_at hl 0 rfl) ?_
        obtain ⟨v385, st386, hv385, h⟩ := bd2_some h
        refine k_L_finds C hO hP hS hv385 q410 (Nat.le_of_ble_eq_true rfl) hl.1 (Nat.le_of_ble_eq_true rfl) hcs dX0_move_158 (fun H locs hP hS => ?_)
        cases h
        refine W.widen (k := 1) (n := 40) (Nat.le_of_ble_eq_true rfl) (Nat.le_of_ble_eq_true rfl) ?_
        exact W.iret hx hb hr (fun t ht _ => ⟨rfl, hS.F ht, _, hsub, hO, by rw [ht]; exact hP⟩) hS.2.2 dX0_move_161
      · rw [onx_some] at h
        refine k_L_needR C hO hP hS hv382 q402 (Nat.le_of_ble_eq_true rfl) hl.1 (Nat.le_of_ble_eq_true rfl) hcs dX0_move_21 (fun H locs hP hS => ?_)
        refine lv_aload_n hx hb dX0_move_24 rfl (lv_at hl 0 rfl) ?_
        refine lv_iload_n hx hb dX0_move_25 rfl (lv_at hl 1 rfl) ?_
        obtain ⟨o389, st388, hv387, h⟩ := bd2_some h
        rcases o389 with _ | v387
        · rw [onx_none] at h
          refine k_L_sheetAtT C hO hP hS hv387 q1146 (Nat.le_of_ble_eq_true rfl) hl.1 (Nat.le_of_ble_eq_true rfl) hcs dX0_move_26 (fun H locs hP hS => ?_)
          refine cc_catch (pre := []) (a1 := 0) (a2 := 152) (hp := 153) (post := []) C hO hP q129 htab rfl rfl ?_
          refine lv_astore (lv' := [(6, .ref (ad 61)), (0, .ref (ad 60)), (1, .int x1), (2, .int x2), (3, .int x3), (4, .int x4), (5, .int x5)]) hx hb dX0_move_153 hl (by decide) rfl (fun ls hl => ?_)
          refine lv_aload_n hx hb dX0_move_155 rfl (lv_at hl 1 rfl) ?_
          refine lv_aload hx hb dX0_move_156 (lv_at hl 0 rfl) ?_
          obtain ⟨v390, st391, hv390, h⟩ := bd2_some h
          refine k_L_finds C hO hP hS hv390 q410 (Nat.le_of_ble_eq_true rfl) hl.1 (Nat.le_of_ble_eq_true rfl) hcs dX0_move_158 (fun H locs hP hS => ?_)
          cases h
          refine W.widen (k := 1) (n := 40) (Nat.le_of_ble_eq_true rfl) (Nat.le_of_ble_eq_true rfl) ?_
          exact W.iret hx hb hr (fun t ht _ => ⟨rfl, hS.F ht, _, hsub, hO, by rw [ht]; exact hP⟩) hS.2.2 dX0_move_161
        · rw [onx_some] at h
          refine k_L_sheetAtR C hO hP hS hv387 q1146 (Nat.le_of_ble_eq_true rfl) hl.1 (Nat.le_of_ble_eq_true rfl) hcs dX0_move_26 (fun H locs hP hS => ?_)
          have hlv387 := (w_live_L_sheetAt hP hv387)
          refine lv_astore (lv' := [(6, .ref v387), (0, .ref (ad 60)), (1, .int x1), (2, .int x2), (3, .int x3), (4, .int x4), (5, .int x5)]) hx hb dX0_move_29 hl (by decide) rfl (fun ls hl => ?_)
          refine lv_aload_n hx hb dX0_move_31 rfl (lv_at hl 1 rfl) ?_
          refine lv_iload_n hx hb dX0_move_32 rfl (lv_at hl 4 rfl) ?_
          obtain ⟨o394, st393, hv392, h⟩ := bd2_some h
          rcases o394 with _ | v392
          · rw [onx_none] at h
            refine k_L_sheetAtT C hO hP hS hv392 q1146 (Nat.le_of_ble_eq_true rfl) hl.1 (Nat.le_of_ble_eq_true rfl) hcs dX0_move_33 (fun H locs hP hS => ?_)
            refine cc_catch (pre := []) (a1 := 0) (a2 := 152) (hp := 153) (post := []) C hO hP q129 htab rfl rfl ?_
            refine lv_astore (lv' := [(6, .ref (ad 61)), (0, .ref (ad 60)), (1, .int x1), (2, .int x2), (3, .int x3), (4, .int x4), (5, .int x5)]) hx hb dX0_move_153 hl (by decide) rfl (fun ls hl => ?_)
            refine lv_aload_n hx hb dX0_move_155 rfl (lv_at hl 1 rfl) ?_
            refine lv_aload hx hb dX0_move_156 (lv_at hl 0 rfl) ?_
            obtain ⟨v395, st396, hv395, h⟩ := bd2_some h
            refine k_L_finds C hO hP hS hv395 q410 (Nat.le_of_ble_eq_true rfl) hl.1 (Nat.le_of_ble_eq_true rfl) hcs dX0_move_158 (fun H locs hP hS => ?_)
            cases h
            refine W.widen (k := 1) (n := 40) (Nat.le_of_ble_eq_true rfl) (Nat.le_of_ble_eq_true rfl) ?_
            exact W.iret hx hb hr (fun t ht _ => ⟨rfl, hS.F ht, _, hsub, hO, by rw [ht]; exact hP⟩) hS.2.2 dX0_move_161
          · rw [onx_some] at h
            refine k_L_sheetAtR C hO hP hS hv392 q1146 (Nat.le_of_ble_eq_true rfl) hl.1 (Nat.le_of_ble_eq_true rfl) hcs dX0_move_33 (fun H locs hP hS => ?_)
            have hlv392 := (w_live_L_sheetAt hP hv392)
            refine lv_astore (lv' := [(7, .ref v392), (6, .ref v387), (0, .ref (ad 60)), (1, .int x1), (2, .int x2), (3, .int x3), (4, .int x4), (5, .int x5)]) hx hb dX0_move_36 hl (by decide) rfl (fun ls hl => ?_)
            refine lv_aload_n hx hb dX0_move_38 rfl (lv_at hl 2 rfl) ?_
            refine lv_aload hx hb dX0_move_39 (lv_at hl 1 rfl) ?_
            obtain ⟨v397, hv397, h⟩ := bd1_some h
            refine k_S_width C hO hP hS.1 hlv387 hv397 q1463 (Nat.le_of_ble_eq_true rfl) hl.1 (Nat.le_of_ble_eq_true rfl) hcs dX0_move_41 ?_
            refine lv_aload hx hb dX0_move_44 (lv_at hl 0 rfl) ?_
            obtain ⟨v398, hv398, h⟩ := bd1_some h
            refine k_S_width C hO hP hS.1 hlv392 hv398 q1463 (Nat.le_of_ble_eq_true rfl) hl.1 (Nat.le_of_ble_eq_true rfl) hcs dX0_move_46 ?_
            refine lv_icmp_ne (tgt := 56) hx hb dX0_move_49 rfl (fun c399 => ?_) (fun c399 => ?_)
            · have h := if_some_f h c399
              refine lv_iconst (v := 0) hx hb dX0_move_56 (by decide) ?_
              refine lv_iconst (v := 5) hx hb dX0_move_57 (by decide) ?_
              obtain ⟨o402, st401, hv400, h⟩ := bd2_some h
              rcases o402 with _ | v400
              · rw [onx_none] at h
                refine k_L_needT C hO hP hS hv400 q402 (Nat.le_of_ble_eq_true rfl) hl.1 (Nat.le_of_ble_eq_true rfl) hcs dX0_move_58 (fun H locs hP hS => ?_)
                refine cc_catch (pre := []) (a1 := 0) (a2 := 152) (hp := 153) (post := []) C hO hP q129 htab rfl rfl ?_
                refine lv_astore (lv' := [(6, .ref (ad 61)), (7, .ref v392), (0, .ref (ad 60)), (1, .int x1), (2, .int x2), (3, .int x3), (4, .int x4), (5, .int x5)]) hx hb dX0_move_153 hl (by decide) rfl (fun ls hl => ?_)
                refine lv_aload_n hx hb dX0_move_155 rfl (lv_at hl 2 rfl) ?_
                refine lv_aload hx hb dX0_move_156 (lv_at hl 0 rfl) ?_
                obtain ⟨v403, st404, hv403, h⟩ := bd2_some h
                refine k_L_finds C hO hP hS hv403 q410 (Nat.le_of_ble_eq_true rfl) hl.1 (Nat.le_of_ble_eq_true rfl) hcs dX0_move_158 (fun H locs hP hS => ?_)
                cases h
                refine W.widen (k := 1) (n := 40) (Nat.le_of_ble_eq_true rfl) (Nat.le_of_ble_eq_true rfl) ?_
                exact W.iret hx hb hr (fun t ht _ => ⟨rfl, hS.F ht, _, hsub, hO, by rw [ht]; exact hP⟩) hS.2.2 dX0_move_161
              · rw [onx_some] at h
                refine k_L_needR C hO hP hS hv400 q402 (Nat.le_of_ble_eq_true rfl) hl.1 (Nat.le_of_ble_eq_true rfl) hcs dX0_move_58 (fun H locs hP hS => ?_)
                refine lv_aload_n hx hb dX0_move_61 rfl (lv_at hl 2 rfl) ?_
                refine lv_iload hx hb dX0_move_62 (lv_at hl 7 rfl) ?_
                refine lv_if_lt (tgt := 105) hx hb dX0_move_64 rfl (fun c405 => ?_) (fun c405 => ?_)
                · have h := if_some_t h c405
                  refine lv_iconst (v := 0) hx hb dX0_move_105 (by decide) ?_
                  refine lv_iconst (v := 1) hx hb dX0_move_106 (by decide) ?_
                  obtain ⟨o408, st407, hv406, h⟩ := bd2_some h
                  rcases o408 with _ | v406
                  · rw [onx_none] at h
                    refine k_L_needT C hO hP hS hv406 q402 (Nat.le_of_ble_eq_true rfl) hl.1 (Nat.le_of_ble_eq_true rfl) hcs dX0_move_107 (fun H locs hP hS => ?_)
                    refine cc_catch (pre := []) (a1 := 0) (a2 := 152) (hp := 153) (post := []) C hO hP q129 htab rfl rfl ?_
                    refine lv_astore (lv' := [(6, .ref (ad 61)), (7, .ref v392), (0, .ref (ad 60)), (1, .int x1), (2, .int x2), (3, .int x3), (4, .int x4), (5, .int x5)]) hx hb dX0_move_153 hl (by decide) rfl (fun ls hl => ?_)
                    refine lv_aload_n hx hb dX0_move_155 rfl (lv_at hl 2 rfl) ?_
                    refine lv_aload hx hb dX0_move_156 (lv_at hl 0 rfl) ?_
                    obtain ⟨v409, st410, hv409, h⟩ := bd2_some h
                    refine k_L_finds C hO hP hS hv409 q410 (Nat.le_of_ble_eq_true rfl) hl.1 (Nat.le_of_ble_eq_true rfl) hcs dX0_move_158 (fun H locs hP hS => ?_)
                    cases h
                    refine W.widen (k := 1) (n := 40) (Nat.le_of_ble_eq_true rfl) (Nat.le_of_ble_eq_true rfl) ?_
                    exact W.iret hx hb hr (fun t ht _ => ⟨rfl, hS.F ht, _, hsub, hO, by rw [ht]; exact hP⟩) hS.2.2 dX0_move_161
                  · rw [onx_some] at h
                    refine k_L_needR C hO hP hS hv406 q402 (Nat.le_of_ble_eq_true rfl) hl.1 (Nat.le_of_ble_eq_true rfl) hcs dX0_move_107 (fun H locs hP hS => ?_)
                    refine lv_aload hx hb dX0_move_110 (lv_at hl 1 rfl) ?_
                    obtain ⟨w412, b413, n414, f415, hsw412, h⟩ := bd4_some h
                    obtain ⟨st411, hst411, h⟩ := bd1_some h
                    refine W.size0 (fun hH => ?_)
                    have hH := hH.trans hnx
                    refine k_S_row C had hO hP hS hH hlv387 hsw412 hst411 q1475 (Nat.le_of_ble_eq_true rfl) hl.1 (Nat.le_of_ble_eq_true rfl) ⟨by omega, by omega⟩ dX0_move_112 (fun H locs hO hP hS hz1 => ?_)
                    have hcs : 0 + 1 ≤ R.cells ∧ 0 + 40 ≤ R.slots := ⟨by omega, by omega⟩
                    have hsub := hsub1
                    have hlv387 := live_app (l := [1000 + nx]) hlv387
                    have hlv392 := live_app (l := [1000 + nx]) hlv392
                    refine lv_astore (lv' := [(8, .ref nx), (7, .ref v392), (6, .ref v387), (0, .ref (ad 60)), (1, .int x1), (2, .int x2), (3, .int x3), (4, .int x4), (5, .int x5)]) hx hb dX0_move_115 hl (by decide) rfl (fun ls hl => ?_)
                    refine lv_iconst (v := 0) hx hb dX0_move_117 (by decide) ?_
                    refine lv_istore (lv' := [(9, .int 0), (8, .ref nx), (7, .ref v392), (6, .ref v387), (0, .ref (ad 60)), (1, .int x1), (2, .int x2), (3, .int x3), (4, .int x4), (5, .int x5)]) hx hb dX0_move_118 hl (by decide) rfl (fun ls hl => ?_)
                    obtain ⟨st416, hz417, h⟩ := bd1_some h
                    refine L120 x2 x4 x5 v392 hlv392 N _ 0 _ hz417 _ _ hP hS ls (lv_sub hl [6, 8, 9, 2, 1, 0] rfl) (fun H locs hP hS ls hl => ?_)
                    refine lv_iload hx hb dX0_move_150 (lv_at hl 0 rfl) ?_
                    cases h
                    refine W.widen (k := 1) (n := 40) (Nat.le_of_ble_eq_true rfl) (Nat.le_of_ble_eq_true rfl) ?_
                    exact W.iret hx hb hr (fun t ht _ => ⟨rfl, hS.F ht, _, hsub, hO, by rw [ht]; exact hP⟩) hS.2.2 dX0_move_152
                · have h := if_some_f h c405
                  refine lv_iload_n hx hb dX0_move_67 rfl (lv_at hl 4 rfl) ?_
                  refine lv_if_lt (tgt := 105) hx hb dX0_move_68 rfl (fun c418 => ?_) (fun c418 => ?_)
                  · have h := if_some_t h c418
                    refine lv_iconst (v := 0) hx hb dX0_move_105 (by decide) ?_
                    refine lv_iconst (v := 1) hx hb dX0_move_106 (by decide) ?_
                    obtain ⟨o421, st420, hv419, h⟩ := bd2_some h
                    rcases o421 with _ | v419
                    · rw [onx_none] at h
                      refine k_L_needT C hO hP hS hv419 q402 (Nat.le_of_ble_eq_true rfl) hl.1 (Nat.le_of_ble_eq_true rfl) hcs dX0_move_107 (fun H locs hP hS => ?_)
                      refine cc_catch (pre := []) (a1 := 0) (a2 := 152) (hp := 153) (post := []) C hO hP q129 htab rfl rfl ?_
                      refine lv_astore (lv' := [(6, .ref (ad 61)), (7, .ref v392), (0, .ref (ad 60)), (1, .int x1), (2, .int x2), (3, .int x3), (4, .int x4), (5, .int x5)]) hx hb dX0_move_153 hl (by decide) rfl (fun ls hl => ?_)
                      refine lv_aload_n hx hb dX0_move_155 rfl (lv_at hl 2 rfl) ?_
                      refine lv_aload hx hb dX0_move_156 (lv_at hl 0 rfl) ?_
                      obtain ⟨v422, st423, hv422, h⟩ := bd2_some h
                      refine k_L_finds C hO hP hS hv422 q410 (Nat.le_of_ble_eq_true rfl) hl.1 (Nat.le_of_ble_eq_true rfl) hcs dX0_move_158 (fun H locs hP hS => ?_)
                      cases h
                      refine W.widen (k := 1) (n := 40) (Nat.le_of_ble_eq_true rfl) (Nat.le_of_ble_eq_true rfl) ?_
                      exact W.iret hx hb hr (fun t ht _ => ⟨rfl, hS.F ht, _, hsub, hO, by rw [ht]; exact hP⟩) hS.2.2 dX0_move_161
                    · rw [onx_some] at h
                      refine k_L_needR C hO hP hS hv419 q402 (Nat.le_of_ble_eq_true rfl) hl.1 (Nat.le_of_ble_eq_true rfl) hcs dX0_move_107 (fun H locs hP hS => ?_)
                      refine lv_aload hx hb dX0_move_110 (lv_at hl 1 rfl) ?_
                      obtain ⟨w425, b426, n427, f428, hsw425, h⟩ := bd4_some h
                      obtain ⟨st424, hst424, h⟩ := bd1_some h
                      refine W.size0 (fun hH => ?_)
                      have hH := hH.trans hnx
                      refine k_S_row C had hO hP hS hH hlv387 hsw425 hst424 q1475 (Nat.le_of_ble_eq_true rfl) hl.1 (Nat.le_of_ble_eq_true rfl) ⟨by omega, by omega⟩ dX0_move_112 (fun H locs hO hP hS hz1 => ?_)
                      have hcs : 0 + 1 ≤ R.cells ∧ 0 + 40 ≤ R.slots := ⟨by omega, by omega⟩
                      have hsub := hsub1
                      have hlv387 := live_app (l := [1000 + nx]) hlv387
                      have hlv392 := live_app (l := [1000 + nx]) hlv392
                      refine lv_astore (lv' := [(8, .ref nx), (7, .ref v392), (6, .ref v387), (0, .ref (ad 60)), (1, .int x1), (2, .int x2), (3, .int x3), (4, .int x4), (5, .int x5)]) hx hb dX0_move_115 hl (by decide) rfl (fun ls hl => ?_)
                      refine lv_iconst (v := 0) hx hb dX0_move_117 (by decide) ?_
                      refine lv_istore (lv' := [(9, .int 0), (8, .ref nx), (7, .ref v392), (6, .ref v387), (0, .ref (ad 60)), (1, .int x1), (2, .int x2), (3, .int x3), (4, .int x4), (5, .int x5)]) hx hb dX0_move_118 hl (by decide) rfl (fun ls hl => ?_)
                      obtain ⟨st429, hz430, h⟩ := bd1_some h
                      refine L120 x2 x4 x5 v392 hlv392 N _ 0 _ hz430 _ _ hP hS ls (lv_sub hl [6, 8, 9, 2, 1, 0] rfl) (fun H locs hP hS ls hl => ?_)
                      refine lv_iload hx hb dX0_move_150 (lv_at hl 0 rfl) ?_
                      cases h
                      refine W.widen (k := 1) (n := 40) (Nat.le_of_ble_eq_true rfl) (Nat.le_of_ble_eq_true rfl) ?_
                      exact W.iret hx hb hr (fun t ht _ => ⟨rfl, hS.F ht, _, hsub, hO, by rw [ht]; exact hP⟩) hS.2.2 dX0_move_152
                  · have h := if_some_f h c418
                    refine lv_iload hx hb dX0_move_71 (lv_at hl 6 rfl) ?_
                    refine lv_if_lt (tgt := 105) hx hb dX0_move_73 rfl (fun c431 => ?_) (fun c431 => ?_)
                    · have h := if_some_t h c431
                      refine lv_iconst (v := 0) hx hb dX0_move_105 (by decide) ?_
                      refine lv_iconst (v := 1) hx hb dX0_move_106 (by decide) ?_
                      obtain ⟨o434, st433, hv432, h⟩ := bd2_some h
                      rcases o434 with _ | v432
                      · rw [onx_none] at h
                        refine k_L_needT C hO hP hS hv432 q402 (Nat.le_of_ble_eq_true rfl) hl.1 (Nat.le_of_ble_eq_true rfl) hcs dX0_move_107 (fun H locs hP hS => ?_)
                        refine cc_catch (pre := []) (a1 := 0) (a2 := 152) (hp := 153) (post := []) C hO hP q129 htab rfl rfl ?_
                        refine lv_astore (lv' := [(6, .ref (ad 61)), (7, .ref v392), (0, .ref (ad 60)), (1, .int x1), (2, .int x2), (3, .int x3), (4, .int x4), (5, .int x5)]) hx hb dX0_move_153 hl (by decide) rfl (fun ls hl => ?_)
                        refine lv_aload_n hx hb dX0_move_155 rfl (lv_at hl 2 rfl) ?_
                        refine lv_aload hx hb dX0_move_156 (lv_at hl 0 rfl) ?_
                        obtain ⟨v435, st436, hv435, h⟩ := bd2_some h
                        refine k_L_finds C hO hP hS hv435 q410 (Nat.le_of_ble_eq_true rfl) hl.1 (Nat.le_of_ble_eq_true rfl) hcs dX0_move_158 (fun H locs hP hS => ?_)
                        cases h
                        refine W.widen (k := 1) (n := 40) (Nat.le_of_ble_eq_true rfl) (Nat.le_of_ble_eq_true rfl) ?_
                        exact W.iret hx hb hr (fun t ht _ => ⟨rfl, hS.F ht, _, hsub, hO, by rw [ht]; exact hP⟩) hS.2.2 dX0_move_161
                      · rw [onx_some] at h
                        refine k_L_needR C hO hP hS hv432 q402 (Nat.le_of_ble_eq_true rfl) hl.1 (Nat.le_of_ble_eq_true rfl) hcs dX0_move_107 (fun H locs hP hS => ?_)
                        refine lv_aload hx hb dX0_move_110 (lv_at hl 1 rfl) ?_
                        obtain ⟨w438, b439, n440, f441, hsw438, h⟩ := bd4_some h
                        obtain ⟨st437, hst437, h⟩ := bd1_some h
                        refine W.size0 (fun hH => ?_)
                        have hH := hH.trans hnx
                        refine k_S_row C had hO hP hS hH hlv387 hsw438 hst437 q1475 (Nat.le_of_ble_eq_true rfl) hl.1 (Nat.le_of_ble_eq_true rfl) ⟨by omega, by omega⟩ dX0_move_112 (fun H locs hO hP hS hz1 => ?_)
                        have hcs : 0 + 1 ≤ R.cells ∧ 0 + 40 ≤ R.slots := ⟨by omega, by omega⟩
                        have hsub := hsub1
                        have hlv387 := live_app (l := [1000 + nx]) hlv387
                        have hlv392 := live_app (l := [1000 + nx]) hlv392
                        refine lv_astore (lv' := [(8, .ref nx), (7, .ref v392), (6, .ref v387), (0, .ref (ad 60)), (1, .int x1), (2, .int x2), (3, .int x3), (4, .int x4), (5, .int x5)]) hx hb dX0_move_115 hl (by decide) rfl (fun ls hl => ?_)
                        refine lv_iconst (v := 0) hx hb dX0_move_117 (by decide) ?_
                        refine lv_istore (lv' := [(9, .int 0), (8, .ref nx), (7, .ref v392), (6, .ref v387), (0, .ref (ad 60)), (1, .int x1), (2, .int x2), (3, .int x3), (4, .int x4), (5, .int x5)]) hx hb dX0_move_118 hl (by decide) rfl (fun ls hl => ?_)
                        obtain ⟨st442, hz443, h⟩ := bd1_some h
                        refine L120 x2 x4 x5 v392 hlv392 N _ 0 _ hz443 _ _ hP hS ls (lv_sub hl [6, 8, 9, 2, 1, 0] rfl) (fun H locs hP hS ls hl => ?_)
                        refine lv_iload hx hb dX0_move_150 (lv_at hl 0 rfl) ?_
                        cases h
                        refine W.widen (k := 1) (n := 40) (Nat.le_of_ble_eq_true rfl) (Nat.le_of_ble_eq_true rfl) ?_
                        exact W.iret hx hb hr (fun t ht _ => ⟨rfl, hS.F ht, _, hsub, hO, by rw [ht]; exact hP⟩) hS.2.2 dX0_move_152
                    · have h := if_some_f h c431
                      refine lv_iload_n hx hb dX0_move_76 rfl (lv_at hl 4 rfl) ?_
                      refine lv_aload hx hb dX0_move_77 (lv_at hl 1 rfl) ?_
                      obtain ⟨v444, hv444, h⟩ := bd1_some h
                      refine k_S_size C hO hP hS.1 hlv387 hv444 q1155 (Nat.le_of_ble_eq_true rfl) hl.1 (Nat.le_of_ble_eq_true rfl) hcs dX0_move_79 ?_
                      refine lv_iload hx hb dX0_move_82 (lv_at hl 7 rfl) ?_
                      refine lv_isub hx hb dX0_move_84 ?_
                      refine lv_icmp_gt (tgt := 105) hx hb dX0_move_85 rfl (fun c445 => ?_) (fun c445 => ?_)
                      · have h := if_some_t h c445
                        refine lv_iconst (v := 0) hx hb dX0_move_105 (by decide) ?_
                        refine lv_iconst (v := 1) hx hb dX0_move_106 (by decide) ?_
                        obtain ⟨o448, st447, hv446, h⟩ := bd2_some h
                        rcases o448 with _ | v446
                        · rw [onx_none] at h
                          refine k_L_needT C hO hP hS hv446 q402 (Nat.le_of_ble_eq_true rfl) hl.1 (Nat.le_of_ble_eq_true rfl) hcs dX0_move_107 (fun H locs hP hS => ?_)
                          refine cc_catch (pre := []) (a1 := 0) (a2 := 152) (hp := 153) (post := []) C hO hP q129 htab rfl rfl ?_
                          refine lv_astore (lv' := [(6, .ref (ad 61)), (7, .ref v392), (0, .ref (ad 60)), (1, .int x1), (2, .int x2), (3, .int x3), (4, .int x4), (5, .int x5)]) hx hb dX0_move_153 hl (by decide) rfl (fun ls hl => ?_)
                          refine lv_aload_n hx hb dX0_move_155 rfl (lv_at hl 2 rfl) ?_
                          refine lv_aload hx hb dX0_move_156 (lv_at hl 0 rfl) ?_
                          obtain ⟨v449, st450, hv449, h⟩ := bd2_some h
                          refine k_L_finds C hO hP hS hv449 q410 (Nat.le_of_ble_eq_true rfl) hl.1 (Nat.le_of_ble_eq_true rfl) hcs dX0_move_158 (fun H locs hP hS => ?_)
                          cases h
                          refine W.widen (k := 1) (n := 40) (Nat.le_of_ble_eq_true rfl) (Nat.le_of_ble_eq_true rfl) ?_
                          exact W.iret hx hb hr (fun t ht _ => ⟨rfl, hS.F ht, _, hsub, hO, by rw [ht]; exact hP⟩) hS.2.2 dX0_move_161
                        · rw [onx_some] at h
                          refine k_L_needR C hO hP hS hv446 q402 (Nat.le_of_ble_eq_true rfl) hl.1 (Nat.le_of_ble_eq_true rfl) hcs dX0_move_107 (fun H locs hP hS => ?_)
                          refine lv_aload hx hb dX0_move_110 (lv_at hl 1 rfl) ?_
                          obtain ⟨w452, b453, n454, f455, hsw452, h⟩ := bd4_some h
                          obtain ⟨st451, hst451, h⟩ := bd1_some h
                          refine W.size0 (fun hH => ?_)
                          have hH := hH.trans hnx
                          refine k_S_row C had hO hP hS hH hlv387 hsw452 hst451 q1475 (Nat.le_of_ble_eq_true rfl) hl.1 (Nat.le_of_ble_eq_true rfl) ⟨by omega, by omega⟩ dX0_move_112 (fun H locs hO hP hS hz1 => ?_)
                          have hcs : 0 + 1 ≤ R.cells ∧ 0 + 40 ≤ R.slots := ⟨by omega, by omega⟩
                          have hsub := hsub1
                          have hlv387 := live_app (l := [1000 + nx]) hlv387
                          have hlv392 := live_app (l := [1000 + nx]) hlv392
                          refine lv_astore (lv' := [(8, .ref nx), (7, .ref v392), (6, .ref v387), (0, .ref (ad 60)), (1, .int x1), (2, .int x2), (3, .int x3), (4, .int x4), (5, .int x5)]) hx hb dX0_move_115 hl (by decide) rfl (fun ls hl => ?_)
                          refine lv_iconst (v := 0) hx hb dX0_move_117 (by decide) ?_
                          refine lv_istore (lv' := [(9, .int 0), (8, .ref nx), (7, .ref v392), (6, .ref v387), (0, .ref (ad 60)), (1, .int x1), (2, .int x2), (3, .int x3), (4, .int x4), (5, .int x5)]) hx hb dX0_move_118 hl (by decide) rfl (fun ls hl => ?_)
                          obtain ⟨st456, hz457, h⟩ := bd1_some h
                          refine L120 x2 x4 x5 v392 hlv392 N _ 0 _ hz457 _ _ hP hS ls (lv_sub hl [6, 8, 9, 2, 1, 0] rfl) (fun H locs hP hS ls hl => ?_)
                          refine lv_iload hx hb dX0_move_150 (lv_at hl 0 rfl) ?_
                          cases h
                          refine W.widen (k := 1) (n := 40) (Nat.le_of_ble_eq_true rfl) (Nat.le_of_ble_eq_true rfl) ?_
                          exact W.iret hx hb hr (fun t ht _ => ⟨rfl, hS.F ht, _, hsub, hO, by rw [ht]; exact hP⟩) hS.2.2 dX0_move_152
                      · have h := if_some_f h c445
                        refine lv_iload hx hb dX0_move_88 (lv_at hl 6 rfl) ?_
                        refine lv_aload hx hb dX0_move_90 (lv_at hl 0 rfl) ?_
                        obtain ⟨v458, hv458, h⟩ := bd1_some h
                        refine k_S_size C hO hP hS.1 hlv392 hv458 q1155 (Nat.le_of_ble_eq_true rfl) hl.1 (Nat.le_of_ble_eq_true rfl) hcs dX0_move_92 ?_
                        refine lv_iload hx hb dX0_move_95 (lv_at hl 7 rfl) ?_
                        refine lv_isub hx hb dX0_move_97 ?_
                        refine lv_icmp_gt (tgt := 105) hx hb dX0_move_98 rfl (fun c459 => ?_) (fun c459 => ?_)
                        · have h := if_some_t h c459
                          refine lv_iconst (v := 0) hx hb dX0_move_105 (by decide) ?_
                          refine lv_iconst (v := 1) hx hb dX0_move_106 (by decide) ?_
                          obtain ⟨o462, st461, hv460, h⟩ := bd2_some h
                          rcases o462 with _ | v460
                          · rw [onx_none] at h
                            refine k_L_needT C hO hP hS hv460 q402 (Nat.le_of_ble_eq_true rfl) hl.1 (Nat.le_of_ble_eq_true rfl) hcs dX0_move_107 (fun H locs hP hS => ?_)
                            refine cc_catch (pre := []) (a1 := 0) (a2 := 152) (hp := 153) (post := []) C hO hP q129 htab rfl rfl ?_
                            refine lv_astore (lv' := [(6, .ref (ad 61)), (7, .ref v392), (0, .ref (ad 60)), (1, .int x1), (2, .int x2), (3, .int x3), (4, .int x4), (5, .int x5)]) hx hb dX0_move_153 hl (by decide) rfl (fun ls hl => ?_)
                            refine lv_aload_n hx hb dX0_move_155 rfl (lv_at hl 2 rfl) ?_
                            refine lv_aload hx hb dX0_move_156 (lv_at hl 0 rfl) ?_
                            obtain ⟨v463, st464, hv463, h⟩ := bd2_some h
                            refine k_L_finds C hO hP hS hv463 q410 (Nat.le_of_ble_eq_true rfl) hl.1 (Nat.le_of_ble_eq_true rfl) hcs dX0_move_158 (fun H locs hP hS => ?_)
                            cases h
                            refine W.widen (k := 1) (n := 40) (Nat.le_of_ble_eq_true rfl) (Nat.le_of_ble_eq_true rfl) ?_
                            exact W.iret hx hb hr (fun t ht _ => ⟨rfl, hS.F ht, _, hsub, hO, by rw [ht]; exact hP⟩) hS.2.2 dX0_move_161
                          · rw [onx_some] at h
                            refine k_L_needR C hO hP hS hv460 q402 (Nat.le_of_ble_eq_true rfl) hl.1 (Nat.le_of_ble_eq_true rfl) hcs dX0_move_107 (fun H locs hP hS => ?_)
                            refine lv_aload hx hb dX0_move_110 (lv_at hl 1 rfl) ?_
                            obtain ⟨w466, b467, n468, f469, hsw466, h⟩ := bd4_some h
                            obtain ⟨st465, hst465, h⟩ := bd1_some h
                            refine W.size0 (fun hH => ?_)
                            have hH := hH.trans hnx
                            refine k_S_row C had hO hP hS hH hlv387 hsw466 hst465 q1475 (Nat.le_of_ble_eq_true rfl) hl.1 (Nat.le_of_ble_eq_true rfl) ⟨by omega, by omega⟩ dX0_move_112 (fun H locs hO hP hS hz1 => ?_)
                            have hcs : 0 + 1 ≤ R.cells ∧ 0 + 40 ≤ R.slots := ⟨by omega, by omega⟩
                            have hsub := hsub1
                            have hlv387 := live_app (l := [1000 + nx]) hlv387
                            have hlv392 := live_app (l := [1000 + nx]) hlv392
                            refine lv_astore (lv' := [(8, .ref nx), (7, .ref v392), (6, .ref v387), (0, .ref (ad 60)), (1, .int x1), (2, .int x2), (3, .int x3), (4, .int x4), (5, .int x5)]) hx hb dX0_move_115 hl (by decide) rfl (fun ls hl => ?_)
                            refine lv_iconst (v := 0) hx hb dX0_move_117 (by decide) ?_
                            refine lv_istore (lv' := [(9, .int 0), (8, .ref nx), (7, .ref v392), (6, .ref v387), (0, .ref (ad 60)), (1, .int x1), (2, .int x2), (3, .int x3), (4, .int x4), (5, .int x5)]) hx hb dX0_move_118 hl (by decide) rfl (fun ls hl => ?_)
                            obtain ⟨st470, hz471, h⟩ := bd1_some h
                            refine L120 x2 x4 x5 v392 hlv392 N _ 0 _ hz471 _ _ hP hS ls (lv_sub hl [6, 8, 9, 2, 1, 0] rfl) (fun H locs hP hS ls hl => ?_)
                            refine lv_iload hx hb dX0_move_150 (lv_at hl 0 rfl) ?_
                            cases h
                            refine W.widen (k := 1) (n := 40) (Nat.le_of_ble_eq_true rfl) (Nat.le_of_ble_eq_true rfl) ?_
                            exact W.iret hx hb hr (fun t ht _ => ⟨rfl, hS.F ht, _, hsub, hO, by rw [ht]; exact hP⟩) hS.2.2 dX0_move_152
                        · have h := if_some_f h c459
                          refine lv_iconst (v := 1) hx hb dX0_move_101 (by decide) ?_
                          refine lv_goto (tgt := 106) hx hb dX0_move_102 rfl ?_
                          refine lv_iconst (v := 1) hx hb dX0_move_106 (by decide) ?_
                          obtain ⟨o474, st473, hv472, h⟩ := bd2_some h
                          rcases o474 with _ | v472
                          · rw [onx_none] at h
                            refine k_L_needT C hO hP hS hv472 q402 (Nat.le_of_ble_eq_true rfl) hl.1 (Nat.le_of_ble_eq_true rfl) hcs dX0_move_107 (fun H locs hP hS => ?_)
                            refine cc_catch (pre := []) (a1 := 0) (a2 := 152) (hp := 153) (post := []) C hO hP q129 htab rfl rfl ?_
                            refine lv_astore (lv' := [(6, .ref (ad 61)), (7, .ref v392), (0, .ref (ad 60)), (1, .int x1), (2, .int x2), (3, .int x3), (4, .int x4), (5, .int x5)]) hx hb dX0_move_153 hl (by decide) rfl (fun ls hl => ?_)
                            refine lv_aload_n hx hb dX0_move_155 rfl (lv_at hl 2 rfl) ?_
                            refine lv_aload hx hb dX0_move_156 (lv_at hl 0 rfl) ?_
                            obtain ⟨v475, st476, hv475, h⟩ := bd2_some h
                            refine k_L_finds C hO hP hS hv475 q410 (Nat.le_of_ble_eq_true rfl) hl.1 (Nat.le_of_ble_eq_true rfl) hcs dX0_move_158 (fun H locs hP hS => ?_)
                            cases h
                            refine W.widen (k := 1) (n := 40) (Nat.le_of_ble_eq_true rfl) (Nat.le_of_ble_eq_true rfl) ?_
                            exact W.iret hx hb hr (fun t ht _ => ⟨rfl, hS.F ht, _, hsub, hO, by rw [ht]; exact hP⟩) hS.2.2 dX0_move_161
                          · rw [onx_some] at h
                            refine k_L_needR C hO hP hS hv472 q402 (Nat.le_of_ble_eq_true rfl) hl.1 (Nat.le_of_ble_eq_true rfl) hcs dX0_move_107 (fun H locs hP hS => ?_)
                            refine lv_aload hx hb dX0_move_110 (lv_at hl 1 rfl) ?_
                            obtain ⟨w478, b479, n480, f481, hsw478, h⟩ := bd4_some h
                            obtain ⟨st477, hst477, h⟩ := bd1_some h
                            refine W.size0 (fun hH => ?_)
                            have hH := hH.trans hnx
                            refine k_S_row C had hO hP hS hH hlv387 hsw478 hst477 q1475 (Nat.le_of_ble_eq_true rfl) hl.1 (Nat.le_of_ble_eq_true rfl) ⟨by omega, by omega⟩ dX0_move_112 (fun H locs hO hP hS hz1 => ?_)
                            have hcs : 0 + 1 ≤ R.cells ∧ 0 + 40 ≤ R.slots := ⟨by omega, by omega⟩
                            have hsub := hsub1
                            have hlv387 := live_app (l := [1000 + nx]) hlv387
                            have hlv392 := live_app (l := [1000 + nx]) hlv392
                            refine lv_astore (lv' := [(8, .ref nx), (7, .ref v392), (6, .ref v387), (0, .ref (ad 60)), (1, .int x1), (2, .int x2), (3, .int x3), (4, .int x4), (5, .int x5)]) hx hb dX0_move_115 hl (by decide) rfl (fun ls hl => ?_)
                            refine lv_iconst (v := 0) hx hb dX0_move_117 (by decide) ?_
                            refine lv_istore (lv' := [(9, .int 0), (8, .ref nx), (7, .ref v392), (6, .ref v387), (0, .ref (ad 60)), (1, .int x1), (2, .int x2), (3, .int x3), (4, .int x4), (5, .int x5)]) hx hb dX0_move_118 hl (by decide) rfl (fun ls hl => ?_)
                            obtain ⟨st482, hz483, h⟩ := bd1_some h
                            refine L120 x2 x4 x5 v392 hlv392 N _ 0 _ hz483 _ _ hP hS ls (lv_sub hl [6, 8, 9, 2, 1, 0] rfl) (fun H locs hP hS ls hl => ?_)
                            refine lv_iload hx hb dX0_move_150 (lv_at hl 0 rfl) ?_
                            cases h
                            refine W.widen (k := 1) (n := 40) (Nat.le_of_ble_eq_true rfl) (Nat.le_of_ble_eq_true rfl) ?_
                            exact W.iret hx hb hr (fun t ht _ => ⟨rfl, hS.F ht, _, hsub, hO, by rw [ht]; exact hP⟩) hS.2.2 dX0_move_152
            · have h := if_some_t h c399
              refine lv_iconst (v := 1) hx hb dX0_move_52 (by decide) ?_
              refine lv_goto (tgt := 57) hx hb dX0_move_53 rfl ?_
              refine lv_iconst (v := 5) hx hb dX0_move_57 (by decide) ?_
              obtain ⟨o486, st485, hv484, h⟩ := bd2_some h
              rcases o486 with _ | v484
              · rw [onx_none] at h
                refine k_L_needT C hO hP hS hv484 q402 (Nat.le_of_ble_eq_true rfl) hl.1 (Nat.le_of_ble_eq_true rfl) hcs dX0_move_58 (fun H locs hP hS => ?_)
                refine cc_catch (pre := []) (a1 := 0) (a2 := 152) (hp := 153) (post := []) C hO hP q129 htab rfl rfl ?_
                refine lv_astore (lv' := [(6, .ref (ad 61)), (7, .ref v392), (0, .ref (ad 60)), (1, .int x1), (2, .int x2), (3, .int x3), (4, .int x4), (5, .int x5)]) hx hb dX0_move_153 hl (by decide) rfl (fun ls hl => ?_)
                refine lv_aload_n hx hb dX0_move_155 rfl (lv_at hl 2 rfl) ?_
                refine lv_aload hx hb dX0_move_156 (lv_at hl 0 rfl) ?_
                obtain ⟨v487, st488, hv487, h⟩ := bd2_some h
                refine k_L_finds C hO hP hS hv487 q410 (Nat.le_of_ble_eq_true rfl) hl.1 (Nat.le_of_ble_eq_true rfl) hcs dX0_move_158 (fun H locs hP hS => ?_)
                cases h
                refine W.widen (k := 1) (n := 40) (Nat.le_of_ble_eq_true rfl) (Nat.le_of_ble_eq_true rfl) ?_
                exact W.iret hx hb hr (fun t ht _ => ⟨rfl, hS.F ht, _, hsub, hO, by rw [ht]; exact hP⟩) hS.2.2 dX0_move_161
              · rw [onx_some] at h
                refine k_L_needR C hO hP hS hv484 q402 (Nat.le_of_ble_eq_true rfl) hl.1 (Nat.le_of_ble_eq_true rfl) hcs dX0_move_58 (fun H locs hP hS => ?_)
                refine lv_aload_n hx hb dX0_move_61 rfl (lv_at hl 2 rfl) ?_
                refine lv_iload hx hb dX0_move_62 (lv_at hl 7 rfl) ?_
                refine lv_if_lt (tgt := 105) hx hb dX0_move_64 rfl (fun c489 => ?_) (fun c489 => ?_)
                · have h := if_some_t h c489
                  refine lv_iconst (v := 0) hx hb dX0_move_105 (by decide) ?_
                  refine lv_iconst (v := 1) hx hb dX0_move_106 (by decide) ?_
                  obtain ⟨o492, st491, hv490, h⟩ := bd2_some h
                  rcases o492 with _ | v490
                  · rw [onx_none] at h
                    refine k_L_needT C hO hP hS hv490 q402 (Nat.le_of_ble_eq_true rfl) hl.1 (Nat.le_of_ble_eq_true rfl) hcs dX0_move_107 (fun H locs hP hS => ?_)
                    refine cc_catch (pre := []) (a1 := 0) (a2 := 152) (hp := 153) (post := []) C hO hP q129 htab rfl rfl ?_
                    refine lv_astore (lv' := [(6, .ref (ad 61)), (7, .ref v392), (0, .ref (ad 60)), (1, .int x1), (2, .int x2), (3, .int x3), (4, .int x4), (5, .int x5)]) hx hb dX0_move_153 hl (by decide) rfl (fun ls hl => ?_)
                    refine lv_aload_n hx hb dX0_move_155 rfl (lv_at hl 2 rfl) ?_
                    refine lv_aload hx hb dX0_move_156 (lv_at hl 0 rfl) ?_
                    obtain ⟨v493, st494, hv493, h⟩ := bd2_some h
                    refine k_L_finds C hO hP hS hv493 q410 (Nat.le_of_ble_eq_true rfl) hl.1 (Nat.le_of_ble_eq_true rfl) hcs dX0_move_158 (fun H locs hP hS => ?_)
                    cases h
                    refine W.widen (k := 1) (n := 40) (Nat.le_of_ble_eq_true rfl) (Nat.le_of_ble_eq_true rfl) ?_
                    exact W.iret hx hb hr (fun t ht _ => ⟨rfl, hS.F ht, _, hsub, hO, by rw [ht]; exact hP⟩) hS.2.2 dX0_move_161
                  · rw [onx_some] at h
                    refine k_L_needR C hO hP hS hv490 q402 (Nat.le_of_ble_eq_true rfl) hl.1 (Nat.le_of_ble_eq_true rfl) hcs dX0_move_107 (fun H locs hP hS => ?_)
                    refine lv_aload hx hb dX0_move_110 (lv_at hl 1 rfl) ?_
                    obtain ⟨w496, b497, n498, f499, hsw496, h⟩ := bd4_some h
                    obtain ⟨st495, hst495, h⟩ := bd1_some h
                    refine W.size0 (fun hH => ?_)
                    have hH := hH.trans hnx
                    refine k_S_row C had hO hP hS hH hlv387 hsw496 hst495 q1475 (Nat.le_of_ble_eq_true rfl) hl.1 (Nat.le_of_ble_eq_true rfl) ⟨by omega, by omega⟩ dX0_move_112 (fun H locs hO hP hS hz1 => ?_)
                    have hcs : 0 + 1 ≤ R.cells ∧ 0 + 40 ≤ R.slots := ⟨by omega, by omega⟩
                    have hsub := hsub1
                    have hlv387 := live_app (l := [1000 + nx]) hlv387
                    have hlv392 := live_app (l := [1000 + nx]) hlv392
                    refine lv_astore (lv' := [(8, .ref nx), (7, .ref v392), (6, .ref v387), (0, .ref (ad 60)), (1, .int x1), (2, .int x2), (3, .int x3), (4, .int x4), (5, .int x5)]) hx hb dX0_move_115 hl (by decide) rfl (fun ls hl => ?_)
                    refine lv_iconst (v := 0) hx hb dX0_move_117 (by decide) ?_
                    refine lv_istore (lv' := [(9, .int 0), (8, .ref nx), (7, .ref v392), (6, .ref v387), (0, .ref (ad 60)), (1, .int x1), (2, .int x2), (3, .int x3), (4, .int x4), (5, .int x5)]) hx hb dX0_move_118 hl (by decide) rfl (fun ls hl => ?_)
                    obtain ⟨st500, hz501, h⟩ := bd1_some h
                    refine L120 x2 x4 x5 v392 hlv392 N _ 0 _ hz501 _ _ hP hS ls (lv_sub hl [6, 8, 9, 2, 1, 0] rfl) (fun H locs hP hS ls hl => ?_)
                    refine lv_iload hx hb dX0_move_150 (lv_at hl 0 rfl) ?_
                    cases h
                    refine W.widen (k := 1) (n := 40) (Nat.le_of_ble_eq_true rfl) (Nat.le_of_ble_eq_true rfl) ?_
                    exact W.iret hx hb hr (fun t ht _ => ⟨rfl, hS.F ht, _, hsub, hO, by rw [ht]; exact hP⟩) hS.2.2 dX0_move_152
                · have h := if_some_f h c489
                  refine lv_iload_n hx hb dX0_move_67 rfl (lv_at hl 4 rfl) ?_
                  refine lv_if_lt (tgt := 105) hx hb dX0_move_68 rfl (fun c502 => ?_) (fun c502 => ?_)
                  · have h := if_some_t h c502
                    refine lv_iconst (v := 0) hx hb dX0_move_105 (by decide) ?_
                    refine lv_iconst (v := 1) hx hb dX0_move_106 (by decide) ?_
                    obtain ⟨o505, st504, hv503, h⟩ := bd2_some h
                    rcases o505 with _ | v503
                    · rw [onx_none] at h
                      refine k_L_needT C hO hP hS hv503 q402 (Nat.le_of_ble_eq_true rfl) hl.1 (Nat.le_of_ble_eq_true rfl) hcs dX0_move_107 (fun H locs hP hS => ?_)
                      refine cc_catch (pre := []) (a1 := 0) (a2 := 152) (hp := 153) (post := []) C hO hP q129 htab rfl rfl ?_
                      refine lv_astore (lv' := [(6, .ref (ad 61)), (7, .ref v392), (0, .ref (ad 60)), (1, .int x1), (2, .int x2), (3, .int x3), (4, .int x4), (5, .int x5)]) hx hb dX0_move_153 hl (by decide) rfl (fun ls hl => ?_)
                      refine lv_aload_n hx hb dX0_move_155 rfl (lv_at hl 2 rfl) ?_
                      refine lv_aload hx hb dX0_move_156 (lv_at hl 0 rfl) ?_
                      obtain ⟨v506, st507, hv506, h⟩ := bd2_some h
                      refine k_L_finds C hO hP hS hv506 q410 (Nat.le_of_ble_eq_true rfl) hl.1 (Nat.le_of_ble_eq_true rfl) hcs dX0_move_158 (fun H locs hP hS => ?_)
                      cases h
                      refine W.widen (k := 1) (n := 40) (Nat.le_of_ble_eq_true rfl) (Nat.le_of_ble_eq_true rfl) ?_
                      exact W.iret hx hb hr (fun t ht _ => ⟨rfl, hS.F ht, _, hsub, hO, by rw [ht]; exact hP⟩) hS.2.2 dX0_move_161
                    · rw [onx_some] at h
                      refine k_L_needR C hO hP hS hv503 q402 (Nat.le_of_ble_eq_true rfl) hl.1 (Nat.le_of_ble_eq_true rfl) hcs dX0_move_107 (fun H locs hP hS => ?_)
                      refine lv_aload hx hb dX0_move_110 (lv_at hl 1 rfl) ?_
                      obtain ⟨w509, b510, n511, f512, hsw509, h⟩ := bd4_some h
                      obtain ⟨st508, hst508, h⟩ := bd1_some h
                      refine W.size0 (fun hH => ?_)
                      have hH := hH.trans hnx
                      refine k_S_row C had hO hP hS hH hlv387 hsw509 hst508 q1475 (Nat.le_of_ble_eq_true rfl) hl.1 (Nat.le_of_ble_eq_true rfl) ⟨by omega, by omega⟩ dX0_move_112 (fun H locs hO hP hS hz1 => ?_)
                      have hcs : 0 + 1 ≤ R.cells ∧ 0 + 40 ≤ R.slots := ⟨by omega, by omega⟩
                      have hsub := hsub1
                      have hlv387 := live_app (l := [1000 + nx]) hlv387
                      have hlv392 := live_app (l := [1000 + nx]) hlv392
                      refine lv_astore (lv' := [(8, .ref nx), (7, .ref v392), (6, .ref v387), (0, .ref (ad 60)), (1, .int x1), (2, .int x2), (3, .int x3), (4, .int x4), (5, .int x5)]) hx hb dX0_move_115 hl (by decide) rfl (fun ls hl => ?_)
                      refine lv_iconst (v := 0) hx hb dX0_move_117 (by decide) ?_
                      refine lv_istore (lv' := [(9, .int 0), (8, .ref nx), (7, .ref v392), (6, .ref v387), (0, .ref (ad 60)), (1, .int x1), (2, .int x2), (3, .int x3), (4, .int x4), (5, .int x5)]) hx hb dX0_move_118 hl (by decide) rfl (fun ls hl => ?_)
                      obtain ⟨st513, hz514, h⟩ := bd1_some h
                      refine L120 x2 x4 x5 v392 hlv392 N _ 0 _ hz514 _ _ hP hS ls (lv_sub hl [6, 8, 9, 2, 1, 0] rfl) (fun H locs hP hS ls hl => ?_)
                      refine lv_iload hx hb dX0_move_150 (lv_at hl 0 rfl) ?_
                      cases h
                      refine W.widen (k := 1) (n := 40) (Nat.le_of_ble_eq_true rfl) (Nat.le_of_ble_eq_true rfl) ?_
                      exact W.iret hx hb hr (fun t ht _ => ⟨rfl, hS.F ht, _, hsub, hO, by rw [ht]; exact hP⟩) hS.2.2 dX0_move_152
                  · have h := if_some_f h c502
                    refine lv_iload hx hb dX0_move_71 (lv_at hl 6 rfl) ?_
                    refine lv_if_lt (tgt := 105) hx hb dX0_move_73 rfl (fun c515 => ?_) (fun c515 => ?_)
                    · have h := if_some_t h c515
                      refine lv_iconst (v := 0) hx hb dX0_move_105 (by decide) ?_
                      refine lv_iconst (v := 1) hx hb dX0_move_106 (by decide) ?_
                      obtain ⟨o518, st517, hv516, h⟩ := bd2_some h
                      rcases o518 with _ | v516
                      · rw [onx_none] at h
                        refine k_L_needT C hO hP hS hv516 q402 (Nat.le_of_ble_eq_true rfl) hl.1 (Nat.le_of_ble_eq_true rfl) hcs dX0_move_107 (fun H locs hP hS => ?_)
                        refine cc_catch (pre := []) (a1 := 0) (a2 := 152) (hp := 153) (post := []) C hO hP q129 htab rfl rfl ?_
                        refine lv_astore (lv' := [(6, .ref (ad 61)), (7, .ref v392), (0, .ref (ad 60)), (1, .int x1), (2, .int x2), (3, .int x3), (4, .int x4), (5, .int x5)]) hx hb dX0_move_153 hl (by decide) rfl (fun ls hl => ?_)
                        refine lv_aload_n hx hb dX0_move_155 rfl (lv_at hl 2 rfl) ?_
                        refine lv_aload hx hb dX0_move_156 (lv_at hl 0 rfl) ?_
                        obtain ⟨v519, st520, hv519, h⟩ := bd2_some h
                        refine k_L_finds C hO hP hS hv519 q410 (Nat.le_of_ble_eq_true rfl) hl.1 (Nat.le_of_ble_eq_true rfl) hcs dX0_move_158 (fun H locs hP hS => ?_)
                        cases h
                        refine W.widen (k := 1) (n := 40) (Nat.le_of_ble_eq_true rfl) (Nat.le_of_ble_eq_true rfl) ?_
                        exact W.iret hx hb hr (fun t ht _ => ⟨rfl, hS.F ht, _, hsub, hO, by rw [ht]; exact hP⟩) hS.2.2 dX0_move_161
                      · rw [onx_some] at h
                        refine k_L_needR C hO hP hS hv516 q402 (Nat.le_of_ble_eq_true rfl) hl.1 (Nat.le_of_ble_eq_true rfl) hcs dX0_move_107 (fun H locs hP hS => ?_)
                        refine lv_aload hx hb dX0_move_110 (lv_at hl 1 rfl) ?_
                        obtain ⟨w522, b523, n524, f525, hsw522, h⟩ := bd4_some h
                        obtain ⟨st521, hst521, h⟩ := bd1_some h
                        refine W.size0 (fun hH => ?_)
                        have hH := hH.trans hnx
                        refine k_S_row C had hO hP hS hH hlv387 hsw522 hst521 q1475 (Nat.le_of_ble_eq_true rfl) hl.1 (Nat.le_of_ble_eq_true rfl) ⟨by omega, by omega⟩ dX0_move_112 (fun H locs hO hP hS hz1 => ?_)
                        have hcs : 0 + 1 ≤ R.cells ∧ 0 + 40 ≤ R.slots := ⟨by omega, by omega⟩
                        have hsub := hsub1
                        have hlv387 := live_app (l := [1000 + nx]) hlv387
                        have hlv392 := live_app (l := [1000 + nx]) hlv392
                        refine lv_astore (lv' := [(8, .ref nx), (7, .ref v392), (6, .ref v387), (0, .ref (ad 60)), (1, .int x1), (2, .int x2), (3, .int x3), (4, .int x4), (5, .int x5)]) hx hb dX0_move_115 hl (by decide) rfl (fun ls hl => ?_)
                        refine lv_iconst (v := 0) hx hb dX0_move_117 (by decide) ?_
                        refine lv_istore (lv' := [(9, .int 0), (8, .ref nx), (7, .ref v392), (6, .ref v387), (0, .ref (ad 60)), (1, .int x1), (2, .int x2), (3, .int x3), (4, .int x4), (5, .int x5)]) hx hb dX0_move_118 hl (by decide) rfl (fun ls hl => ?_)
                        obtain ⟨st526, hz527, h⟩ := bd1_some h
                        refine L120 x2 x4 x5 v392 hlv392 N _ 0 _ hz527 _ _ hP hS ls (lv_sub hl [6, 8, 9, 2, 1, 0] rfl) (fun H locs hP hS ls hl => ?_)
                        refine lv_iload hx hb dX0_move_150 (lv_at hl 0 rfl) ?_
                        cases h
                        refine W.widen (k := 1) (n := 40) (Nat.le_of_ble_eq_true rfl) (Nat.le_of_ble_eq_true rfl) ?_
                        exact W.iret hx hb hr (fun t ht _ => ⟨rfl, hS.F ht, _, hsub, hO, by rw [ht]; exact hP⟩) hS.2.2 dX0_move_152
                    · have h := if_some_f h c515
                      refine lv_iload_n hx hb dX0_move_76 rfl (lv_at hl 4 rfl) ?_
                      refine lv_aload hx hb dX0_move_77 (lv_at hl 1 rfl) ?_
                      obtain ⟨v528, hv528, h⟩ := bd1_some h
                      refine k_S_size C hO hP hS.1 hlv387 hv528 q1155 (Nat.le_of_ble_eq_true rfl) hl.1 (Nat.le_of_ble_eq_true rfl) hcs dX0_move_79 ?_
                      refine lv_iload hx hb dX0_move_82 (lv_at hl 7 rfl) ?_
                      refine lv_isub hx hb dX0_move_84 ?_
                      refine lv_icmp_gt (tgt := 105) hx hb dX0_move_85 rfl (fun c529 => ?_) (fun c529 => ?_)
                      · have h := if_some_t h c529
                        refine lv_iconst (v := 0) hx hb dX0_move_105 (by decide) ?_
                        refine lv_iconst (v := 1) hx hb dX0_move_106 (by decide) ?_
                        obtain ⟨o532, st531, hv530, h⟩ := bd2_some h
                        rcases o532 with _ | v530
                        · rw [onx_none] at h
                          refine k_L_needT C hO hP hS hv530 q402 (Nat.le_of_ble_eq_true rfl) hl.1 (Nat.le_of_ble_eq_true rfl) hcs dX0_move_107 (fun H locs hP hS => ?_)
                          refine cc_catch (pre := []) (a1 := 0) (a2 := 152) (hp := 153) (post := []) C hO hP q129 htab rfl rfl ?_
                          refine lv_astore (lv' := [(6, .ref (ad 61)), (7, .ref v392), (0, .ref (ad 60)), (1, .int x1), (2, .int x2), (3, .int x3), (4, .int x4), (5, .int x5)]) hx hb dX0_move_153 hl (by decide) rfl (fun ls hl => ?_)
                          refine lv_aload_n hx hb dX0_move_155 rfl (lv_at hl 2 rfl) ?_
                          refine lv_aload hx hb dX0_move_156 (lv_at hl 0 rfl) ?_
                          obtain ⟨v533, st534, hv533, h⟩ := bd2_some h
                          refine k_L_finds C hO hP hS hv533 q410 (Nat.le_of_ble_eq_true rfl) hl.1 (Nat.le_of_ble_eq_true rfl) hcs dX0_move_158 (fun H locs hP hS => ?_)
                          cases h
                          refine W.widen (k := 1) (n := 40) (Nat.le_of_ble_eq_true rfl) (Nat.le_of_ble_eq_true rfl) ?_
                          exact W.iret hx hb hr (fun t ht _ => ⟨rfl, hS.F ht, _, hsub, hO, by rw [ht]; exact hP⟩) hS.2.2 dX0_move_161
                        · rw [onx_some] at h
                          refine k_L_needR C hO hP hS hv530 q402 (Nat.le_of_ble_eq_true rfl) hl.1 (Nat.le_of_ble_eq_true rfl) hcs dX0_move_107 (fun H locs hP hS => ?_)
                          refine lv_aload hx hb dX0_move_110 (lv_at hl 1 rfl) ?_
                          obtain ⟨w536, b537, n538, f539, hsw536, h⟩ := bd4_some h
                          obtain ⟨st535, hst535, h⟩ := bd1_some h
                          refine W.size0 (fun hH => ?_)
                          have hH := hH.trans hnx
                          refine k_S_row C had hO hP hS hH hlv387 hsw536 hst535 q1475 (Nat.le_of_ble_eq_true rfl) hl.1 (Nat.le_of_ble_eq_true rfl) ⟨by omega, by omega⟩ dX0_move_112 (fun H locs hO hP hS hz1 => ?_)
                          have hcs : 0 + 1 ≤ R.cells ∧ 0 + 40 ≤ R.slots := ⟨by omega, by omega⟩
                          have hsub := hsub1
                          have hlv387 := live_app (l := [1000 + nx]) hlv387
                          have hlv392 := live_app (l := [1000 + nx]) hlv392
                          refine lv_astore (lv' := [(8, .ref nx), (7, .ref v392), (6, .ref v387), (0, .ref (ad 60)), (1, .int x1), (2, .int x2), (3, .int x3), (4, .int x4), (5, .int x5)]) hx hb dX0_move_115 hl (by decide) rfl (fun ls hl => ?_)
                          refine lv_iconst (v := 0) hx hb dX0_move_117 (by decide) ?_
                          refine lv_istore (lv' := [(9, .int 0), (8, .ref nx), (7, .ref v392), (6, .ref v387), (0, .ref (ad 60)), (1, .int x1), (2, .int x2), (3, .int x3), (4, .int x4), (5, .int x5)]) hx hb dX0_move_118 hl (by decide) rfl (fun ls hl => ?_)
                          obtain ⟨st540, hz541, h⟩ := bd1_some h
                          refine L120 x2 x4 x5 v392 hlv392 N _ 0 _ hz541 _ _ hP hS ls (lv_sub hl [6, 8, 9, 2, 1, 0] rfl) (fun H locs hP hS ls hl => ?_)
                          refine lv_iload hx hb dX0_move_150 (lv_at hl 0 rfl) ?_
                          cases h
                          refine W.widen (k := 1) (n := 40) (Nat.le_of_ble_eq_true rfl) (Nat.le_of_ble_eq_true rfl) ?_
                          exact W.iret hx hb hr (fun t ht _ => ⟨rfl, hS.F ht, _, hsub, hO, by rw [ht]; exact hP⟩) hS.2.2 dX0_move_152
                      · have h := if_some_f h c529
                        refine lv_iload hx hb dX0_move_88 (lv_at hl 6 rfl) ?_
                        refine lv_aload hx hb dX0_move_90 (lv_at hl 0 rfl) ?_
                        obtain ⟨v542, hv542, h⟩ := bd1_some h
                        refine k_S_size C hO hP hS.1 hlv392 hv542 q1155 (Nat.le_of_ble_eq_true rfl) hl.1 (Nat.le_of_ble_eq_true rfl) hcs dX0_move_92 ?_
                        refine lv_iload hx hb dX0_move_95 (lv_at hl 7 rfl) ?_
                        refine lv_isub hx hb dX0_move_97 ?_
                        refine lv_icmp_gt (tgt := 105) hx hb dX0_move_98 rfl (fun c543 => ?_) (fun c543 => ?_)
                        · have h := if_some_t h c543
                          refine lv_iconst (v := 0) hx hb dX0_move_105 (by decide) ?_
                          refine lv_iconst (v := 1) hx hb dX0_move_106 (by decide) ?_
                          obtain ⟨o546, st545, hv544, h⟩ := bd2_some h
                          rcases o546 with _ | v544
                          · rw [onx_none] at h
                            refine k_L_needT C hO hP hS hv544 q402 (Nat.le_of_ble_eq_true rfl) hl.1 (Nat.le_of_ble_eq_true rfl) hcs dX0_move_107 (fun H locs hP hS => ?_)
                            refine cc_catch (pre := []) (a1 := 0) (a2 := 152) (hp := 153) (post := []) C hO hP q129 htab rfl rfl ?_
                            refine lv_astore (lv' := [(6, .ref (ad 61)), (7, .ref v392), (0, .ref (ad 60)), (1, .int x1), (2, .int x2), (3, .int x3), (4, .int x4), (5, .int x5)]) hx hb dX0_move_153 hl (by decide) rfl (fun ls hl => ?_)
                            refine lv_aload_n hx hb dX0_move_155 rfl (lv_at hl 2 rfl) ?_
                            refine lv_aload hx hb dX0_move_156 (lv_at hl 0 rfl) ?_
                            obtain ⟨v547, st548, hv547, h⟩ := bd2_some h
                            refine k_L_finds C hO hP hS hv547 q410 (Nat.le_of_ble_eq_true rfl) hl.1 (Nat.le_of_ble_eq_true rfl) hcs dX0_move_158 (fun H locs hP hS => ?_)
                            cases h
                            refine W.widen (k := 1) (n := 40) (Nat.le_of_ble_eq_true rfl) (Nat.le_of_ble_eq_true rfl) ?_
                            exact W.iret hx hb hr (fun t ht _ => ⟨rfl, hS.F ht, _, hsub, hO, by rw [ht]; exact hP⟩) hS.2.2 dX0_move_161
                          · rw [onx_some] at h
                            refine k_L_needR C hO hP hS hv544 q402 (Nat.le_of_ble_eq_true rfl) hl.1 (Nat.le_of_ble_eq_true rfl) hcs dX0_move_107 (fun H locs hP hS => ?_)
                            refine lv_aload hx hb dX0_move_110 (lv_at hl 1 rfl) ?_
                            obtain ⟨w550, b551, n552, f553, hsw550, h⟩ := bd4_some h
                            obtain ⟨st549, hst549, h⟩ := bd1_some h
                            refine W.size0 (fun hH => ?_)
                            have hH := hH.trans hnx
                            refine k_S_row C had hO hP hS hH hlv387 hsw550 hst549 q1475 (Nat.le_of_ble_eq_true rfl) hl.1 (Nat.le_of_ble_eq_true rfl) ⟨by omega, by omega⟩ dX0_move_112 (fun H locs hO hP hS hz1 => ?_)
                            have hcs : 0 + 1 ≤ R.cells ∧ 0 + 40 ≤ R.slots := ⟨by omega, by omega⟩
                            have hsub := hsub1
                            have hlv387 := live_app (l := [1000 + nx]) hlv387
                            have hlv392 := live_app (l := [1000 + nx]) hlv392
                            refine lv_astore (lv' := [(8, .ref nx), (7, .ref v392), (6, .ref v387), (0, .ref (ad 60)), (1, .int x1), (2, .int x2), (3, .int x3), (4, .int x4), (5, .int x5)]) hx hb dX0_move_115 hl (by decide) rfl (fun ls hl => ?_)
                            refine lv_iconst (v := 0) hx hb dX0_move_117 (by decide) ?_
                            refine lv_istore (lv' := [(9, .int 0), (8, .ref nx), (7, .ref v392), (6, .ref v387), (0, .ref (ad 60)), (1, .int x1), (2, .int x2), (3, .int x3), (4, .int x4), (5, .int x5)]) hx hb dX0_move_118 hl (by decide) rfl (fun ls hl => ?_)
                            obtain ⟨st554, hz555, h⟩ := bd1_some h
                            refine L120 x2 x4 x5 v392 hlv392 N _ 0 _ hz555 _ _ hP hS ls (lv_sub hl [6, 8, 9, 2, 1, 0] rfl) (fun H locs hP hS ls hl => ?_)
                            refine lv_iload hx hb dX0_move_150 (lv_at hl 0 rfl) ?_
                            cases h
                            refine W.widen (k := 1) (n := 40) (Nat.le_of_ble_eq_true rfl) (Nat.le_of_ble_eq_true rfl) ?_
                            exact W.iret hx hb hr (fun t ht _ => ⟨rfl, hS.F ht, _, hsub, hO, by rw [ht]; exact hP⟩) hS.2.2 dX0_move_152
                        · have h := if_some_f h c543
                          refine lv_iconst (v := 1) hx hb dX0_move_101 (by decide) ?_
                          refine lv_goto (tgt := 106) hx hb dX0_move_102 rfl ?_
                          refine lv_iconst (v := 1) hx hb dX0_move_106 (by decide) ?_
                          obtain ⟨o558, st557, hv556, h⟩ := bd2_some h
                          rcases o558 with _ | v556
                          · rw [onx_none] at h
                            refine k_L_needT C hO hP hS hv556 q402 (Nat.le_of_ble_eq_true rfl) hl.1 (Nat.le_of_ble_eq_true rfl) hcs dX0_move_107 (fun H locs hP hS => ?_)
                            refine cc_catch (pre := []) (a1 := 0) (a2 := 152) (hp := 153) (post := []) C hO hP q129 htab rfl rfl ?_
                            refine lv_astore (lv' := [(6, .ref (ad 61)), (7, .ref v392), (0, .ref (ad 60)), (1, .int x1), (2, .int x2), (3, .int x3), (4, .int x4), (5, .int x5)]) hx hb dX0_move_153 hl (by decide) rfl (fun ls hl => ?_)
                            refine lv_aload_n hx hb dX0_move_155 rfl (lv_at hl 2 rfl) ?_
                            refine lv_aload hx hb dX0_move_156 (lv_at hl 0 rfl) ?_
                            obtain ⟨v559, st560, hv559, h⟩ := bd2_some h
                            refine k_L_finds C hO hP hS hv559 q410 (Nat.le_of_ble_eq_true rfl) hl.1 (Nat.le_of_ble_eq_true rfl) hcs dX0_move_158 (fun H locs hP hS => ?_)
                            cases h
                            refine W.widen (k := 1) (n := 40) (Nat.le_of_ble_eq_true rfl) (Nat.le_of_ble_eq_true rfl) ?_
                            exact W.iret hx hb hr (fun t ht _ => ⟨rfl, hS.F ht, _, hsub, hO, by rw [ht]; exact hP⟩) hS.2.2 dX0_move_161
                          · rw [onx_some] at h
                            refine k_L_needR C hO hP hS hv556 q402 (Nat.le_of_ble_eq_true rfl) hl.1 (Nat.le_of_ble_eq_true rfl) hcs dX0_move_107 (fun H locs hP hS => ?_)
                            refine lv_aload hx hb dX0_move_110 (lv_at hl 1 rfl) ?_
                            obtain ⟨w562, b563, n564, f565, hsw562, h⟩ := bd4_some h
                            obtain ⟨st561, hst561, h⟩ := bd1_some h
                            refine W.size0 (fun hH => ?_)
                            have hH := hH.trans hnx
                            refine k_S_row C had hO hP hS hH hlv387 hsw562 hst561 q1475 (Nat.le_of_ble_eq_true rfl) hl.1 (Nat.le_of_ble_eq_true rfl) ⟨by omega, by omega⟩ dX0_move_112 (fun H locs hO hP hS hz1 => ?_)
                            have hcs : 0 + 1 ≤ R.cells ∧ 0 + 40 ≤ R.slots := ⟨by omega, by omega⟩
                            have hsub := hsub1
                            have hlv387 := live_app (l := [1000 + nx]) hlv387
                            have hlv392 := live_app (l := [1000 + nx]) hlv392
                            refine lv_astore (lv' := [(8, .ref nx), (7, .ref v392), (6, .ref v387), (0, .ref (ad 60)), (1, .int x1), (2, .int x2), (3, .int x3), (4, .int x4), (5, .int x5)]) hx hb dX0_move_115 hl (by decide) rfl (fun ls hl => ?_)
                            refine lv_iconst (v := 0) hx hb dX0_move_117 (by decide) ?_
                            refine lv_istore (lv' := [(9, .int 0), (8, .ref nx), (7, .ref v392), (6, .ref v387), (0, .ref (ad 60)), (1, .int x1), (2, .int x2), (3, .int x3), (4, .int x4), (5, .int x5)]) hx hb dX0_move_118 hl (by decide) rfl (fun ls hl => ?_)
                            obtain ⟨st566, hz567, h⟩ := bd1_some h
                            refine L120 x2 x4 x5 v392 hlv392 N _ 0 _ hz567 _ _ hP hS ls (lv_sub hl [6, 8, 9, 2, 1, 0] rfl) (fun H locs hP hS ls hl => ?_)
                            refine lv_iload hx hb dX0_move_150 (lv_at hl 0 rfl) ?_
                            cases h
                            refine W.widen (k := 1) (n := 40) (Nat.le_of_ble_eq_true rfl) (Nat.le_of_ble_eq_true rfl) ?_
                            exact W.iret hx hb hr (fun t ht _ => ⟨rfl, hS.F ht, _, hsub, hO, by rw [ht]; exact hP⟩) hS.2.2 dX0_move_152
end
