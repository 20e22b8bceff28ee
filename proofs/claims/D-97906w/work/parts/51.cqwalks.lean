/-! explains: walks -/
set_option maxRecDepth 100000
section
variable {p : Program} {l : Launch} {e : Env} {R : Room} {s : State} {m : MethodId} {args : Array Value} {below : List Frame} {meth : Method} {c : Code} {H : Heap} {locs : List Loc} {cells slots d : Nat} {Q : State → Prop} {cc : ByteArray} {pc nL : Nat} {ls : Array Slot} {rest : List Value} {D : va_G} {cA : Nat → ClassId} {ks : List Nat} {ad : Nat → Nat} {A : Nat → Prop} {st : CS} {H0 : Heap} {own : String} {index : Nat}
theorem zr_eq {v w : Int32} (h : zr v = some w) : v = w := by
  unfold zr at h
  split at h
  · exact Option.some.inj h
  · cases h
abbrev cX0_explains : ByteArray := prog_1_method_47_code
def yX0_explains : MethodName := ⟨RX0, "explains", "(LChapterLoan$Sheet;II)Z"⟩
theorem dX0_explains_0 : decode cX0_explains 0 = .ok (.aload_n 0, 1) := by decide +kernel
theorem dX0_explains_1 : decode cX0_explains 1 = .ok (.getfield 53, 3) := by decide +kernel
theorem dX0_explains_4 : decode cX0_explains 4 = .ok (.aload_n 0, 1) := by decide +kernel
theorem dX0_explains_5 : decode cX0_explains 5 = .ok (.getfield 46, 3) := by decide +kernel
theorem dX0_explains_8 : decode cX0_explains 8 = .ok (.invokevirtual 229, 3) := by decide +kernel
theorem dX0_explains_11 : decode cX0_explains 11 = .ok (.pop, 1) := by decide +kernel
theorem dX0_explains_12 : decode cX0_explains 12 = .ok (.aload_n 0, 1) := by decide +kernel
theorem dX0_explains_13 : decode cX0_explains 13 = .ok (.getfield 53, 3) := by decide +kernel
theorem dX0_explains_16 : decode cX0_explains 16 = .ok (.getfield 142, 3) := by decide +kernel
theorem dX0_explains_19 : decode cX0_explains 19 = .ok (.iload_n 2, 1) := by decide +kernel
theorem dX0_explains_20 : decode cX0_explains 20 = .ok (.iload_n 3, 1) := by decide +kernel
theorem dX0_explains_21 : decode cX0_explains 21 = .ok (.aload_n 0, 1) := by decide +kernel
theorem dX0_explains_22 : decode cX0_explains 22 = .ok (.getfield 59, 3) := by decide +kernel
theorem dX0_explains_25 : decode cX0_explains 25 = .ok (.iload_n 2, 1) := by decide +kernel
theorem dX0_explains_26 : decode cX0_explains 26 = .ok (.aload_n 0, 1) := by decide +kernel
theorem dX0_explains_27 : decode cX0_explains 27 = .ok (.getfield 46, 3) := by decide +kernel
theorem dX0_explains_30 : decode cX0_explains 30 = .ok (.getfield 142, 3) := by decide +kernel
theorem dX0_explains_33 : decode cX0_explains 33 = .ok (.iload_n 2, 1) := by decide +kernel
theorem dX0_explains_34 : decode cX0_explains 34 = .ok (.aaload, 1) := by decide +kernel
theorem dX0_explains_35 : decode cX0_explains 35 = .ok (.getfield 174, 3) := by decide +kernel
theorem dX0_explains_38 : decode cX0_explains 38 = .ok (.invokestatic 146, 3) := by decide +kernel
theorem dX0_explains_41 : decode cX0_explains 41 = .ok (.aastore, 1) := by decide +kernel
theorem dX0_explains_42 : decode cX0_explains 42 = .ok (.aload_n 0, 1) := by decide +kernel
theorem dX0_explains_43 : decode cX0_explains 43 = .ok (.getfield 46, 3) := by decide +kernel
theorem dX0_explains_46 : decode cX0_explains 46 = .ok (.getfield 157, 3) := by decide +kernel
theorem dX0_explains_49 : decode cX0_explains 49 = .ok (.iload_n 2, 1) := by decide +kernel
theorem dX0_explains_50 : decode cX0_explains 50 = .ok (.iaload, 1) := by decide +kernel
theorem dX0_explains_51 : decode cX0_explains 51 = .ok (.istore 4, 2) := by decide +kernel
theorem dX0_explains_53 : decode cX0_explains 53 = .ok (.iconst 0, 1) := by decide +kernel
theorem dX0_explains_54 : decode cX0_explains 54 = .ok (.istore 5, 2) := by decide +kernel
theorem dX0_explains_56 : decode cX0_explains 56 = .ok (.iload 5, 2) := by decide +kernel
theorem dX0_explains_58 : decode cX0_explains 58 = .ok (.bipush 60, 2) := by decide +kernel
theorem dX0_explains_60 : decode cX0_explains 60 = .ok (.if_icmp .ge 16, 3) := by decide +kernel
theorem dX0_explains_63 : decode cX0_explains 63 = .ok (.aload_n 0, 1) := by decide +kernel
theorem dX0_explains_64 : decode cX0_explains 64 = .ok (.getfield 53, 3) := by decide +kernel
theorem dX0_explains_67 : decode cX0_explains 67 = .ok (.invokevirtual 220, 3) := by decide +kernel
theorem dX0_explains_70 : decode cX0_explains 70 = .ok (.iinc 5 1, 3) := by decide +kernel
theorem dX0_explains_73 : decode cX0_explains 73 = .ok (.goto (-17), 3) := by decide +kernel
theorem dX0_explains_76 : decode cX0_explains 76 = .ok (.aload_n 1, 1) := by decide +kernel
theorem dX0_explains_77 : decode cX0_explains 77 = .ok (.invokevirtual 307, 3) := by decide +kernel
theorem dX0_explains_80 : decode cX0_explains 80 = .ok (.aload_n 0, 1) := by decide +kernel
theorem dX0_explains_81 : decode cX0_explains 81 = .ok (.getfield 53, 3) := by decide +kernel
theorem dX0_explains_84 : decode cX0_explains 84 = .ok (.getfield 157, 3) := by decide +kernel
theorem dX0_explains_87 : decode cX0_explains 87 = .ok (.iload_n 2, 1) := by decide +kernel
theorem dX0_explains_88 : decode cX0_explains 88 = .ok (.iaload, 1) := by decide +kernel
theorem dX0_explains_89 : decode cX0_explains 89 = .ok (.iload 4, 2) := by decide +kernel
theorem dX0_explains_91 : decode cX0_explains 91 = .ok (.isub, 1) := by decide +kernel
theorem dX0_explains_92 : decode cX0_explains 92 = .ok (.if_icmp .gt 7, 3) := by decide +kernel
theorem dX0_explains_95 : decode cX0_explains 95 = .ok (.iconst 1, 1) := by decide +kernel
theorem dX0_explains_96 : decode cX0_explains 96 = .ok (.goto 4, 3) := by decide +kernel
theorem dX0_explains_99 : decode cX0_explains 99 = .ok (.iconst 0, 1) := by decide +kernel
theorem dX0_explains_100 : decode cX0_explains 100 = .ok (.istore 5, 2) := by decide +kernel
theorem dX0_explains_102 : decode cX0_explains 102 = .ok (.iconst 0, 1) := by decide +kernel
theorem dX0_explains_103 : decode cX0_explains 103 = .ok (.istore 6, 2) := by decide +kernel
theorem dX0_explains_105 : decode cX0_explains 105 = .ok (.iload 6, 2) := by decide +kernel
theorem dX0_explains_107 : decode cX0_explains 107 = .ok (.aload_n 1, 1) := by decide +kernel
theorem dX0_explains_108 : decode cX0_explains 108 = .ok (.invokevirtual 307, 3) := by decide +kernel
theorem dX0_explains_111 : decode cX0_explains 111 = .ok (.if_icmp .ge 43, 3) := by decide +kernel
theorem dX0_explains_114 : decode cX0_explains 114 = .ok (.iload 5, 2) := by decide +kernel
theorem dX0_explains_116 : decode cX0_explains 116 = .ok (.ifCond .eq 38, 3) := by decide +kernel
theorem dX0_explains_119 : decode cX0_explains 119 = .ok (.aload_n 1, 1) := by decide +kernel
theorem dX0_explains_120 : decode cX0_explains 120 = .ok (.iload 6, 2) := by decide +kernel
theorem dX0_explains_122 : decode cX0_explains 122 = .ok (.invokevirtual 310, 3) := by decide +kernel
theorem dX0_explains_125 : decode cX0_explains 125 = .ok (.aload_n 0, 1) := by decide +kernel
theorem dX0_explains_126 : decode cX0_explains 126 = .ok (.getfield 53, 3) := by decide +kernel
theorem dX0_explains_129 : decode cX0_explains 129 = .ok (.iload_n 2, 1) := by decide +kernel
theorem dX0_explains_130 : decode cX0_explains 130 = .ok (.iload 4, 2) := by decide +kernel
theorem dX0_explains_132 : decode cX0_explains 132 = .ok (.iload 6, 2) := by decide +kernel
theorem dX0_explains_134 : decode cX0_explains 134 = .ok (.iadd, 1) := by decide +kernel
theorem dX0_explains_135 : decode cX0_explains 135 = .ok (.invokevirtual 190, 3) := by decide +kernel
theorem dX0_explains_138 : decode cX0_explains 138 = .ok (.if_icmp .ne 7, 3) := by decide +kernel
theorem dX0_explains_141 : decode cX0_explains 141 = .ok (.iconst 1, 1) := by decide +kernel
theorem dX0_explains_142 : decode cX0_explains 142 = .ok (.goto 4, 3) := by decide +kernel
theorem dX0_explains_145 : decode cX0_explains 145 = .ok (.iconst 0, 1) := by decide +kernel
theorem dX0_explains_146 : decode cX0_explains 146 = .ok (.istore 5, 2) := by decide +kernel
theorem dX0_explains_148 : decode cX0_explains 148 = .ok (.iinc 6 1, 3) := by decide +kernel
theorem dX0_explains_151 : decode cX0_explains 151 = .ok (.goto (-46), 3) := by decide +kernel
theorem dX0_explains_154 : decode cX0_explains 154 = .ok (.iload 5, 2) := by decide +kernel
theorem dX0_explains_156 : decode cX0_explains 156 = .ok (.ireturn, 1) := by decide +kernel
theorem w_L_explains {l : Launch} {D : va_G} {cA : Nat → ClassId} {ks : List Nat} {ad : Nat → Nat} {A : Nat → Prop} (had : adP ad) (hO : klOk A ks ad) {N : Nat} {st st' : CS} {nx x1 : Nat} {x2 x3 r0 : Int32} (hlx1 : live ks ad x1) (h : L_explains (ad 62) nx N cA st x1 x2 x3 = some (r0, st')) : Met l yX0_explains (ws_ yX0_explains cX0_explains 7 (some .boolean)) (rmA 66 1 3) (nPre nx D cA ks ad A st [.ref (ad 60), .ref x1, .int x2, .int x3]) (nQ nx (some (.int r0)) D cA ks ad A st') 1 3 A := by
  refine cc_ofA (own := RX0) (by decide) rfl (Nat.le_of_ble_eq_true rfl) (fun p e s m below meth c R args ls C hr hlk hP hS hl hcsA hnx => ?_)
  have hx := C.1
  have hb := C.2.1
  have hown := C.2.2.2.1
  have hNst := C.2.2.2.2.2.2.2.1
  have hO1 : klOk A (ks ++ [1000 + nx]) ad := by
    have h1 := klOk_new had hO hP (C.2.2.2.2.2.2.2.2 _ (Nat.le_refl _))
    rw [hnx] at h1
    exact h1
  have hO0 := hO
  have hO := hO1
  have hcs : 0 + 1 ≤ R.cells ∧ 0 + 3 ≤ R.slots := hcsA
  have hl : lv_has ls 7 [(0, .ref (ad 60)), (1, .ref x1), (2, .int x2), (3, .int x3)] := hl
  have L56 : ∀ (x1 : Nat), ∀ (hlx1 : live (ks ++ [1000 + nx]) ad x1), ∀ (x2 : Int32), ∀ (x4 : Int32), ∀ (n : Nat) (st : CS) (x5 : Int32) (st2 : CS), L_explains_L56 N cA x1 x2 x4 n st x5 = some st2 → ∀ (H : Heap) (locs : List Loc), cW D cA (ks ++ [1000 + nx]) ad st H → va_S A s.heap H locs → ∀ ls : Array Slot, lv_has ls 7 [(0, .ref (ad 60)), (1, .ref x1), (2, .int x2), (4, .int x4), (5, .int x5)] → (∀ (H : Heap) (locs : List Loc), cW D cA (ks ++ [1000 + nx]) ad st2 H → va_S A s.heap H locs → ∀ ls : Array Slot, lv_has ls 7 [(0, .ref (ad 60)), (1, .ref x1), (2, .int x2), (4, .int x4)] → W p l e R s m args below meth c H locs (0 + 1) (0 + 3) (MQ below (nQ nx (some (.int r0)) D cA ks ad A st') args s 1 3 A) (F0 m 76 ls [])) → W p l e R s m args below meth c H locs (0 + 1) (0 + 3) (MQ below (nQ nx (some (.int r0)) D cA ks ad A st') args s 1 3 A) (F0 m 56 ls []) := by
    intro x1 hlx1 x2 x4 n
    induction n with
    | zero =>
      intro st x5 st2 h
      exact non_some h
    | succ n ih =>
      intro st x5 st2 h H locs hP hS ls hl kx
      rw [L_explains_L56] at h
      refine lv_iload hx hb dX0_explains_56 (lv_at hl 4 rfl) ?_
      refine lv_bipush (v := 60) hx hb dX0_explains_58 (by decide) ?_
      refine lv_icmp_ge (tgt := 76) hx hb dX0_explains_60 rfl (fun c12 => ?_) (fun c12 => ?_)
      · have h := if_some_t h c12
        cases h
        exact kx _ _ hP hS ls (lv_sub hl [0, 1, 2, 3] rfl)
      · have h := if_some_f h c12
        refine lv_aload_n hx hb dX0_explains_63 rfl (lv_at hl 0 rfl) ?_
        refine lg_tried C hO hP dX0_explains_64 ?_
        obtain ⟨st14, hv13, h⟩ := bd1_some h
        refine k_T_goes (t := 2) C hO (by decide) hP hS hv13 q806 (Nat.le_of_ble_eq_true rfl) hl.1 (Nat.le_of_ble_eq_true rfl) hcs dX0_explains_67 (fun H locs hP hS => ?_)
        refine lv_iinc (v := x5 + 1) (lv' := [(5, .int (x5 + 1)), (0, .ref (ad 60)), (1, .ref x1), (2, .int x2), (4, .int x4)]) hx hb dX0_explains_70 hl (k := 4) rfl rfl (by decide) rfl (fun ls hl => ?_)
        refine lv_goto (tgt := 56) hx hb dX0_explains_73 rfl ?_
        exact ih st14 (x5 + 1) _ h _ _ hP hS ls (lv_sub hl [1, 2, 3, 4, 0] rfl) kx
  have L105 : ∀ (st : CS), ∀ (x1 : Nat), ∀ (hlx1 : live (ks ++ [1000 + nx]) ad x1), ∀ (x2 : Int32), ∀ (x4 : Int32), ∀ (n : Nat) (x5 : Int32) (x6 : Int32) (z5 : Int32), L_explains_L105 N cA st x1 x2 x4 n x5 x6 = some z5 → ∀ (H : Heap) (locs : List Loc), cW D cA (ks ++ [1000 + nx]) ad st H → va_S A s.heap H locs → ∀ ls : Array Slot, lv_has ls 7 [(0, .ref (ad 60)), (1, .ref x1), (2, .int x2), (4, .int x4), (5, .int x5), (6, .int x6)] → (∀ ls : Array Slot, lv_has ls 7 [(5, .int z5)] → W p l e R s m args below meth c H locs (0 + 1) (0 + 3) (MQ below (nQ nx (some (.int r0)) D cA ks ad A st') args s 1 3 A) (F0 m 154 ls [])) → W p l e R s m args below meth c H locs (0 + 1) (0 + 3) (MQ below (nQ nx (some (.int r0)) D cA ks ad A st') args s 1 3 A) (F0 m 105 ls []) := by
    intro st x1 hlx1 x2 x4 n
    induction n with
    | zero =>
      intro x5 x6 z5 h
      exact non_some h
    | succ n ih =>
      intro x5 x6 z5 h H locs hP hS ls hl kx
      rw [L_explains_L105] at h
      refine lv_iload hx hb dX0_explains_105 (lv_at hl 5 rfl) ?_
      refine lv_aload_n hx hb dX0_explains_107 rfl (lv_at hl 1 rfl) ?_
      obtain ⟨v19, hv19, h⟩ := bd1_some h
      refine k_S_size C hO hP hS.1 hlx1 hv19 q1155 (Nat.le_of_ble_eq_true rfl) hl.1 (Nat.le_of_ble_eq_true rfl) hcs dX0_explains_108 ?_
      refine lv_icmp_ge (tgt := 154) hx hb dX0_explains_111 rfl (fun c20 => ?_) (fun c20 => ?_)
      · have h := if_some_t h c20
        cases h
        exact kx ls (lv_sub hl [4] rfl)
      · have h := if_some_f h c20
        refine lv_iload hx hb dX0_explains_114 (lv_at hl 4 rfl) ?_
        refine lv_if_eq (tgt := 154) hx hb dX0_explains_116 rfl (fun c21 => ?_) (fun c21 => ?_)
        · have h := if_some_t h c21
          cases h
          exact kx ls (lv_sub hl [4] rfl)
        · have h := if_some_f h c21
          refine lv_aload_n hx hb dX0_explains_119 rfl (lv_at hl 1 rfl) ?_
          refine lv_iload hx hb dX0_explains_120 (lv_at hl 5 rfl) ?_
          obtain ⟨v22, hv22, h⟩ := bd1_some h
          refine k_S_get C hO hP hS.1 hlx1 hv22 q1167 (Nat.le_of_ble_eq_true rfl) hl.1 (Nat.le_of_ble_eq_true rfl) hcs dX0_explains_122 ?_
          refine lv_aload_n hx hb dX0_explains_125 rfl (lv_at hl 0 rfl) ?_
          refine lg_tried C hO hP dX0_explains_126 ?_
          refine lv_iload_n hx hb dX0_explains_129 rfl (lv_at hl 2 rfl) ?_
          refine lv_iload hx hb dX0_explains_130 (lv_at hl 3 rfl) ?_
          refine lv_iload hx hb dX0_explains_132 (lv_at hl 5 rfl) ?_
          refine lv_iadd hx hb dX0_explains_134 ?_
          obtain ⟨v23, hv23, h⟩ := bd1_some h
          refine k_T_factAt (t := 2) C hO (by decide) hP hv23 q708 (Nat.le_of_ble_eq_true rfl) hS.1 hl.1 (Nat.le_of_ble_eq_true rfl) hcs dX0_explains_135 ?_
          refine lv_icmp_ne (tgt := 145) hx hb dX0_explains_138 rfl (fun c24 => ?_) (fun c24 => ?_)
          · have h := if_some_f h c24
            refine lv_iconst (v := 0) hx hb dX0_explains_145 (by decide) ?_
            refine lv_istore (lv' := [(5, .int 0), (0, .ref (ad 60)), (1, .ref x1), (2, .int x2), (4, .int x4), (6, .int x6)]) hx hb dX0_explains_146 hl (by decide) rfl (fun ls hl => ?_)
            refine lv_iinc (v := x6 + 1) (lv' := [(6, .int (x6 + 1)), (5, .int 0), (0, .ref (ad 60)), (1, .ref x1), (2, .int x2), (4, .int x4)]) hx hb dX0_explains_148 hl (k := 5) rfl rfl (by decide) rfl (fun ls hl => ?_)
            refine lv_goto (tgt := 105) hx hb dX0_explains_151 rfl ?_
            exact ih 0 (x6 + 1) _ h _ _ hP hS ls (lv_sub hl [2, 3, 4, 5, 1, 0] rfl) kx
          · have h := if_some_t h c24
            refine lv_iconst (v := 1) hx hb dX0_explains_141 (by decide) ?_
            refine lv_goto (tgt := 146) hx hb dX0_explains_142 rfl ?_
            refine lv_istore (lv' := [(5, .int 1), (0, .ref (ad 60)), (1, .ref x1), (2, .int x2), (4, .int x4), (6, .int x6)]) hx hb dX0_explains_146 hl (by decide) rfl (fun ls hl => ?_)
            refine lv_iinc (v := x6 + 1) (lv' := [(6, .int (x6 + 1)), (5, .int 1), (0, .ref (ad 60)), (1, .ref x1), (2, .int x2), (4, .int x4)]) hx hb dX0_explains_148 hl (k := 5) rfl rfl (by decide) rfl (fun ls hl => ?_)
            refine lv_goto (tgt := 105) hx hb dX0_explains_151 rfl ?_
            exact ih 1 (x6 + 1) _ h _ _ hP hS ls (lv_sub hl [2, 3, 4, 5, 1, 0] rfl) kx
  have hO := hO0
  have hcs : 0 ≤ R.cells ∧ 0 ≤ R.slots := ⟨Nat.zero_le _, Nat.zero_le _⟩
  rw [L_explains] at h
  refine lv_aload_n hx hb dX0_explains_0 rfl (lv_at hl 0 rfl) ?_
  refine lg_tried C hO hP dX0_explains_1 ?_
  refine lv_aload_n hx hb dX0_explains_4 rfl (lv_at hl 0 rfl) ?_
  refine lg_town C hO hP dX0_explains_5 ?_
  obtain ⟨st1, hst1, h⟩ := bd1_some h
  refine k_T_become (t := 2) (u := 0) C hO (by decide) (by decide) hP hS hst1 q852 (Nat.le_of_ble_eq_true rfl) hl.1 (Nat.le_of_ble_eq_true rfl) hcs dX0_explains_8 (fun H locs hP hS => ?_)
  refine lv_pop hx hb dX0_explains_11 rfl ?_
  refine lv_aload_n hx hb dX0_explains_12 rfl (lv_at hl 0 rfl) ?_
  refine lg_tried C hO hP dX0_explains_13 ?_
  refine tgN_debtor (t := 2) C hO (by decide) hP dX0_explains_16 ?_
  refine lv_iload_n hx hb dX0_explains_19 rfl (lv_at hl 2 rfl) ?_
  refine lv_iload_n hx hb dX0_explains_20 rfl (lv_at hl 3 rfl) ?_
  refine lv_aload_n hx hb dX0_explains_21 rfl (lv_at hl 0 rfl) ?_
  refine lg_trace C hO hP dX0_explains_22 ?_
  refine lv_iload_n hx hb dX0_explains_25 rfl (lv_at hl 2 rfl) ?_
  refine lv_aload_n hx hb dX0_explains_26 rfl (lv_at hl 0 rfl) ?_
  refine lg_town C hO hP dX0_explains_27 ?_
  refine tgN_debtor (t := 0) C hO (by decide) hP dX0_explains_30 ?_
  refine lv_iload_n hx hb dX0_explains_33 rfl (lv_at hl 2 rfl) ?_
  obtain ⟨r2, hr2, h⟩ := bd1_some h
  refine cc_ald C hP 4 (hO.2.2.2 _ (tk_ 17 (by decide) (by decide))) (cg_t 17 (by decide) (by decide)) rfl hr2 dX0_explains_34 ?_
  rcases r2 with _ | a3
  · exact non_some h
  · rw [onq_some] at h
    have hla3 := ref_live hP hr2 (tk_ 17 (by decide) (by decide)) (tk61 (by decide)) (tk68 (by decide))
    obtain ⟨k4, tr5, dn6, dm7, hdk4, h⟩ := bd4_some h
    have hbk4 : dbAt ks ad st1.2.2.2 a3 k4 tr5 dn6 dm7 := ⟨hla3, dvOf_some hdk4⟩
    refine db_get C hP hbk4 2 (by decide) (fun k h => (db_T h).2.2.1) q486 (fun _ h => h) rfl dX0_explains_35 ?_
    obtain ⟨st8, hst8, h⟩ := bd1_some h
    refine k_L_debtorOf C had hO hP hS hnx hst8 q449 q450 q85 q451 (Nat.le_of_ble_eq_true rfl) hl.1 (Nat.le_of_ble_eq_true rfl) hcsA dX0_explains_38 (fun H locs hO hP hS => ?_)
    have hcs : 0 + 1 ≤ R.cells ∧ 0 + 3 ≤ R.slots := hcsA
    have hlx1 := live_app (l := [1000 + nx]) hlx1
    by_cases c10 : isDeb st8.2.2.2 nx = true
    · have h := if_some_t h c10
      obtain ⟨b9, hb9, h⟩ := bd1_some h
      refine cc_astM (st2 := csQ st8 (20 * 2 + 17) b9) C hO hP hS 4 (hO.2.2.2 _ (tk_ 17 (by decide) (by decide))) (cg_t 17 (by decide) (by decide)) rfl hb9 (deb_any C hP (live_new had) c10) (cg_Qt 17 (by decide) (by decide)) (by rw [(wrq_some hb9).2]; exact refOk_set hP.2 (tk68 (by decide)) (live_new had)) dX0_explains_41 (fun H locs hP hS => ?_)
      refine lv_aload_n hx hb dX0_explains_42 rfl (lv_at hl 0 rfl) ?_
      refine lg_town C hO hP dX0_explains_43 ?_
      refine tgN_many (t := 0) C hO (by decide) hP dX0_explains_46 ?_
      refine lv_iload_n hx hb dX0_explains_49 rfl (lv_at hl 2 rfl) ?_
      obtain ⟨v11, hv11, h⟩ := bd1_some h
      refine cc_ild C hP (hO.2.2.2 _ (tk_ 8 (by decide) (by decide))) (cg_t 8 (by decide) (by decide)) hv11 dX0_explains_50 ?_
      refine lv_istore (lv' := [(4, .int v11), (0, .ref (ad 60)), (1, .ref x1), (2, .int x2), (3, .int x3)]) hx hb dX0_explains_51 hl (by decide) rfl (fun ls hl => ?_)
      refine lv_iconst (v := 0) hx hb dX0_explains_53 (by decide) ?_
      refine lv_istore (lv' := [(5, .int 0), (4, .int v11), (0, .ref (ad 60)), (1, .ref x1), (2, .int x2), (3, .int x3)]) hx hb dX0_explains_54 hl (by decide) rfl (fun ls hl => ?_)
      obtain ⟨st15, hz31, h⟩ := bd1_some h
      refine L56 x1 hlx1 x2 v11 N _ 0 _ hz31 _ _ hP hS ls (lv_sub hl [2, 3, 4, 1, 0] rfl) (fun H locs hP hS ls hl => ?_)
      refine lv_aload_n hx hb dX0_explains_76 rfl (lv_at hl 1 rfl) ?_
      obtain ⟨v16, hv16, h⟩ := bd1_some h
      refine k_S_size C hO hP hS.1 hlx1 hv16 q1155 (Nat.le_of_ble_eq_true rfl) hl.1 (Nat.le_of_ble_eq_true rfl) hcs dX0_explains_77 ?_
      refine lv_aload_n hx hb dX0_explains_80 rfl (lv_at hl 0 rfl) ?_
      refine lg_tried C hO hP dX0_explains_81 ?_
      refine tgN_many (t := 2) C hO (by decide) hP dX0_explains_84 ?_
      refine lv_iload_n hx hb dX0_explains_87 rfl (lv_at hl 2 rfl) ?_
      obtain ⟨v17, hv17, h⟩ := bd1_some h
      refine cc_ild C hP (hO.2.2.2 _ (tk_ 8 (by decide) (by decide))) (cg_t 8 (by decide) (by decide)) hv17 dX0_explains_88 ?_
      refine lv_iload hx hb dX0_explains_89 (lv_at hl 3 rfl) ?_
      refine lv_isub hx hb dX0_explains_91 ?_
      refine lv_icmp_gt (tgt := 99) hx hb dX0_explains_92 rfl (fun c18 => ?_) (fun c18 => ?_)
      · have h := if_some_t h c18
        refine lv_iconst (v := 0) hx hb dX0_explains_99 (by decide) ?_
        refine lv_istore (lv' := [(5, .int 0), (0, .ref (ad 60)), (1, .ref x1), (2, .int x2), (4, .int v11)]) hx hb dX0_explains_100 hl (by decide) rfl (fun ls hl => ?_)
        refine lv_iconst (v := 0) hx hb dX0_explains_102 (by decide) ?_
        refine lv_istore (lv' := [(6, .int 0), (5, .int 0), (0, .ref (ad 60)), (1, .ref x1), (2, .int x2), (4, .int v11)]) hx hb dX0_explains_103 hl (by decide) rfl (fun ls hl => ?_)
        obtain ⟨z25, hz27, h⟩ := bd1_some h
        refine L105 st15 x1 hlx1 x2 v11 N 0 0 _ hz27 _ _ hP hS ls (lv_sub hl [2, 3, 4, 5, 1, 0] rfl) (fun ls hl => ?_)
        refine lv_iload hx hb dX0_explains_154 (lv_at hl 0 rfl) ?_
        obtain ⟨w26, hw26, h⟩ := bd1_some h
        have ew26 := zr_eq hw26
        subst ew26
        cases h
        refine W.sizeLe (fun hz => ?_)
        exact W.zret hx hb hr (zr_some hw26).1.1 (fun t ht _ => ⟨rfl, by rw [ht]; exact hP, hS.F ht, by rw [ht]; have hz3 := ad_lt hP (k := 1000 + nx) (by simp); rw [had] at hz3; omega⟩) hS.2.2 dX0_explains_156
      · have h := if_some_f h c18
        refine lv_iconst (v := 1) hx hb dX0_explains_95 (by decide) ?_
        refine lv_goto (tgt := 100) hx hb dX0_explains_96 rfl ?_
        refine lv_istore (lv' := [(5, .int 1), (0, .ref (ad 60)), (1, .ref x1), (2, .int x2), (4, .int v11)]) hx hb dX0_explains_100 hl (by decide) rfl (fun ls hl => ?_)
        refine lv_iconst (v := 0) hx hb dX0_explains_102 (by decide) ?_
        refine lv_istore (lv' := [(6, .int 0), (5, .int 1), (0, .ref (ad 60)), (1, .ref x1), (2, .int x2), (4, .int v11)]) hx hb dX0_explains_103 hl (by decide) rfl (fun ls hl => ?_)
        obtain ⟨z28, hz30, h⟩ := bd1_some h
        refine L105 st15 x1 hlx1 x2 v11 N 1 0 _ hz30 _ _ hP hS ls (lv_sub hl [2, 3, 4, 5, 1, 0] rfl) (fun ls hl => ?_)
        refine lv_iload hx hb dX0_explains_154 (lv_at hl 0 rfl) ?_
        obtain ⟨w29, hw29, h⟩ := bd1_some h
        have ew29 := zr_eq hw29
        subst ew29
        cases h
        refine W.sizeLe (fun hz => ?_)
        exact W.zret hx hb hr (zr_some hw29).1.1 (fun t ht _ => ⟨rfl, by rw [ht]; exact hP, hS.F ht, by rw [ht]; have hz3 := ad_lt hP (k := 1000 + nx) (by simp); rw [had] at hz3; omega⟩) hS.2.2 dX0_explains_156
    · exact non_some (if_some_f h c10)
end
