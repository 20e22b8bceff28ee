/-! ChapterLoan: rows of facts, debtors: walks -/
set_option maxRecDepth 100000
section
variable {p : Program} {l : Launch} {e : Env} {R : Room} {s : State} {m : MethodId} {args : Array Value} {below : List Frame} {meth : Method} {c : Code} {H : Heap} {locs : List Loc} {cells slots d : Nat} {Q : State → Prop} {cc : ByteArray} {pc nL : Nat} {ls : Array Slot} {rest : List Value} {D : va_G} {cA : Nat → ClassId} {ks : List Nat} {ad : Nat → Nat} {A : Nat → Prop} {st : CS} {H0 : Heap} {own : String} {index : Nat} {t : Nat}
theorem cpn_some {f g b : Nat → Int32} {n : Int32} {k : Nat} (h : cpn f g n k = some b) : ¬ n < 0 ∧ n.toNatClampNeg ≤ k ∧ va_cpy f g 0 0 n.toNatClampNeg = b := by
  unfold cpn at h
  split at h
  · rename_i hq
    exact ⟨hq.1, hq.2, Option.some.inj h⟩
  · cases h
abbrev cX0_takes : ByteArray := prog_1_method_38_code
def yX0_takes : MethodName := ⟨RX0, "takes", "(II)V"⟩
theorem dX0_takes_0 : decode cX0_takes 0 = .ok (.aload_n 0, 1) := by decide +kernel
theorem dX0_takes_1 : decode cX0_takes 1 = .ok (.getfield 269, 3) := by decide +kernel
theorem dX0_takes_4 : decode cX0_takes 4 = .ok (.ifCond .eq 38, 3) := by decide +kernel
theorem dX0_takes_7 : decode cX0_takes 7 = .ok (.aload_n 0, 1) := by decide +kernel
theorem dX0_takes_8 : decode cX0_takes 8 = .ok (.getfield 53, 3) := by decide +kernel
theorem dX0_takes_11 : decode cX0_takes 11 = .ok (.iload_n 1, 1) := by decide +kernel
theorem dX0_takes_12 : decode cX0_takes 12 = .ok (.invokevirtual 163, 3) := by decide +kernel
theorem dX0_takes_15 : decode cX0_takes 15 = .ok (.ifCond .ne 23, 3) := by decide +kernel
theorem dX0_takes_18 : decode cX0_takes 18 = .ok (.aload_n 0, 1) := by decide +kernel
theorem dX0_takes_19 : decode cX0_takes 19 = .ok (.getfield 273, 3) := by decide +kernel
theorem dX0_takes_22 : decode cX0_takes 22 = .ok (.iconst (-1), 1) := by decide +kernel
theorem dX0_takes_23 : decode cX0_takes 23 = .ok (.if_icmp .eq 11, 3) := by decide +kernel
theorem dX0_takes_26 : decode cX0_takes 26 = .ok (.iload_n 2, 1) := by decide +kernel
theorem dX0_takes_27 : decode cX0_takes 27 = .ok (.aload_n 0, 1) := by decide +kernel
theorem dX0_takes_28 : decode cX0_takes 28 = .ok (.getfield 273, 3) := by decide +kernel
theorem dX0_takes_31 : decode cX0_takes 31 = .ok (.if_icmp .ge 7, 3) := by decide +kernel
theorem dX0_takes_34 : decode cX0_takes 34 = .ok (.iconst 1, 1) := by decide +kernel
theorem dX0_takes_35 : decode cX0_takes 35 = .ok (.goto 20, 3) := by decide +kernel
theorem dX0_takes_38 : decode cX0_takes 38 = .ok (.iconst 0, 1) := by decide +kernel
theorem dX0_takes_39 : decode cX0_takes 39 = .ok (.goto 16, 3) := by decide +kernel
theorem dX0_takes_42 : decode cX0_takes 42 = .ok (.iload_n 2, 1) := by decide +kernel
theorem dX0_takes_43 : decode cX0_takes 43 = .ok (.aload_n 0, 1) := by decide +kernel
theorem dX0_takes_44 : decode cX0_takes 44 = .ok (.getfield 273, 3) := by decide +kernel
theorem dX0_takes_47 : decode cX0_takes 47 = .ok (.if_icmp .le 7, 3) := by decide +kernel
theorem dX0_takes_50 : decode cX0_takes 50 = .ok (.iconst 1, 1) := by decide +kernel
theorem dX0_takes_51 : decode cX0_takes 51 = .ok (.goto 4, 3) := by decide +kernel
theorem dX0_takes_54 : decode cX0_takes 54 = .ok (.iconst 0, 1) := by decide +kernel
theorem dX0_takes_55 : decode cX0_takes 55 = .ok (.istore_n 3, 1) := by decide +kernel
theorem dX0_takes_56 : decode cX0_takes 56 = .ok (.iload_n 3, 1) := by decide +kernel
theorem dX0_takes_57 : decode cX0_takes 57 = .ok (.ifCond .eq 22, 3) := by decide +kernel
theorem dX0_takes_60 : decode cX0_takes 60 = .ok (.aload_n 0, 1) := by decide +kernel
theorem dX0_takes_61 : decode cX0_takes 61 = .ok (.iload_n 2, 1) := by decide +kernel
theorem dX0_takes_62 : decode cX0_takes 62 = .ok (.putfield 273, 3) := by decide +kernel
theorem dX0_takes_65 : decode cX0_takes 65 = .ok (.aload_n 0, 1) := by decide +kernel
theorem dX0_takes_66 : decode cX0_takes 66 = .ok (.getfield 73, 3) := by decide +kernel
theorem dX0_takes_69 : decode cX0_takes 69 = .ok (.iconst 0, 1) := by decide +kernel
theorem dX0_takes_70 : decode cX0_takes 70 = .ok (.aload_n 0, 1) := by decide +kernel
theorem dX0_takes_71 : decode cX0_takes 71 = .ok (.getfield 76, 3) := by decide +kernel
theorem dX0_takes_74 : decode cX0_takes 74 = .ok (.iconst 0, 1) := by decide +kernel
theorem dX0_takes_75 : decode cX0_takes 75 = .ok (.iload_n 2, 1) := by decide +kernel
theorem dX0_takes_76 : decode cX0_takes 76 = .ok (.invokestatic 276, 3) := by decide +kernel
theorem dX0_takes_79 : decode cX0_takes 79 = .ok (.return_, 1) := by decide +kernel
theorem q1116 : (Jvm.Cond.methodLink "ChapterLoan" (276 : Nat) ({ cls := "java/lang/System", name := "arraycopy", desc := "(Ljava/lang/Object;ILjava/lang/Object;II)V" } : Jvm.MethodName)) ∈ lw_all := lw_g (lw_at lw_m5 72 rfl) rfl
theorem w_L_takes {l : Launch} {D : va_G} {cA : Nat → ClassId} {ks : List Nat} {ad : Nat → Nat} {A : Nat → Prop} (hO : klOk A ks ad) {st st' : CS} {N : Nat} {x1 : Int32} {x2 : Int32} (h : L_takes N st x1 x2 = some st') : cV l yX0_takes cX0_takes 4 none 6 D cA ks ad A st [.ref (ad 60), .int x1, .int x2] none st' := by
  refine cc_ofV (own := RX0) (by decide) rfl (Nat.le_of_ble_eq_true rfl) (fun p e s m below meth c R args ls C hr hlk hP hS hl hcs => ?_)
  have hx := C.1
  have hb := C.2.1
  have hown := C.2.2.2.1
  have hNst := C.2.2.2.2.2.2.2.1
  have hl : lv_has ls 4 [(0, .ref (ad 60)), (1, .int x1), (2, .int x2)] := hl
  rw [L_takes] at h
  refine lv_aload_n hx hb dX0_takes_0 rfl (lv_at hl 0 rfl) ?_
  refine lg_isShortest C hO hP dX0_takes_1 ?_
  refine lv_if_eq (tgt := 42) hx hb dX0_takes_4 rfl (fun c1 => ?_) (fun c1 => ?_)
  · have h := if_some_t h c1
    refine lv_iload_n hx hb dX0_takes_42 rfl (lv_at hl 2 rfl) ?_
    refine lv_aload_n hx hb dX0_takes_43 rfl (lv_at hl 0 rfl) ?_
    refine lg_bestMany C hO hP dX0_takes_44 ?_
    refine lv_icmp_le (tgt := 54) hx hb dX0_takes_47 rfl (fun c2 => ?_) (fun c2 => ?_)
    · have h := if_some_t h c2
      refine lv_iconst (v := 0) hx hb dX0_takes_54 (by decide) ?_
      refine lv_istore_n (lv' := [(3, .int 0), (0, .ref (ad 60)), (1, .int x1), (2, .int x2)]) hx hb dX0_takes_55 rfl hl (by decide) rfl (fun ls hl => ?_)
      refine lv_iload_n hx hb dX0_takes_56 rfl (lv_at hl 0 rfl) ?_
      refine lv_if_eq (tgt := 79) hx hb dX0_takes_57 rfl (fun _ => ?_) (fun c => absurd c (by decide))
      exact cc_vret hx hb hr hlk h hP hS dX0_takes_79
    · have h := if_some_f h c2
      refine lv_iconst (v := 1) hx hb dX0_takes_50 (by decide) ?_
      refine lv_goto (tgt := 55) hx hb dX0_takes_51 rfl ?_
      refine lv_istore_n (lv' := [(3, .int 1), (0, .ref (ad 60)), (1, .int x1), (2, .int x2)]) hx hb dX0_takes_55 rfl hl (by decide) rfl (fun ls hl => ?_)
      refine lv_iload_n hx hb dX0_takes_56 rfl (lv_at hl 0 rfl) ?_
      refine lv_if_eq (tgt := 79) hx hb dX0_takes_57 rfl (fun c => absurd c (by decide)) (fun _ => ?_)
      refine lv_aload_n hx hb dX0_takes_60 rfl (lv_at hl 1 rfl) ?_
      refine lv_iload_n hx hb dX0_takes_61 rfl (lv_at hl 3 rfl) ?_
      refine lp_bestMany C hO hP hS dX0_takes_62 (fun H locs hP hS => ?_)
      refine lv_aload_n hx hb dX0_takes_65 rfl (lv_at hl 1 rfl) ?_
      refine lg_row C hO hP dX0_takes_66 ?_
      refine lv_iconst (v := 0) hx hb dX0_takes_69 (by decide) ?_
      refine lv_aload_n hx hb dX0_takes_70 rfl (lv_at hl 1 rfl) ?_
      refine lg_bestRow C hO hP dX0_takes_71 ?_
      refine lv_iconst (v := 0) hx hb dX0_takes_74 (by decide) ?_
      refine lv_iload_n hx hb dX0_takes_75 rfl (lv_at hl 3 rfl) ?_
      obtain ⟨b3, hb3, h⟩ := bd1_some h
      obtain ⟨hcb3, hdb3, heb3⟩ := cpn_some hb3
      refine cc_cpn (st2 := csA (csF st 60 10 x2) 66 b3) C hO hP hS 0 rfl rfl (hO.2.2.2 65 (by decide)) (hO.2.2.2 66 (by decide)) rfl rfl ⟨hcb3, rfl⟩ ⟨hdb3, hdb3⟩ (fun _ _ => rfl) (by rw [heb3]; exact cg_A rfl) hP.2 q1116 q858 q857 q106 (Nat.le_of_ble_eq_true rfl) hl.1 (Nat.le_of_ble_eq_true rfl) dX0_takes_76 (fun H locs hP hS => ?_)
      exact cc_vret hx hb hr hlk h hP hS dX0_takes_79
  · have h := if_some_f h c1
    refine lv_aload_n hx hb dX0_takes_7 rfl (lv_at hl 0 rfl) ?_
    refine lg_tried C hO hP dX0_takes_8 ?_
    refine lv_iload_n hx hb dX0_takes_11 rfl (lv_at hl 1 rfl) ?_
    obtain ⟨v4, hv4, h⟩ := bd1_some h
    refine k_T_open (t := 2) C hO (by decide) hP hv4 q703 (Nat.le_of_ble_eq_true rfl) hS.1 hl.1 (Nat.le_of_ble_eq_true rfl) hcs dX0_takes_12 ?_
    refine lv_if_ne (tgt := 38) hx hb dX0_takes_15 rfl (fun c5 => ?_) (fun c5 => ?_)
    · have h := if_some_f h c5
      refine lv_iconst (v := 0) hx hb dX0_takes_38 (by decide) ?_
      refine lv_goto (tgt := 55) hx hb dX0_takes_39 rfl ?_
      refine lv_istore_n (lv' := [(3, .int 0), (0, .ref (ad 60)), (1, .int x1), (2, .int x2)]) hx hb dX0_takes_55 rfl hl (by decide) rfl (fun ls hl => ?_)
      refine lv_iload_n hx hb dX0_takes_56 rfl (lv_at hl 0 rfl) ?_
      refine lv_if_eq (tgt := 79) hx hb dX0_takes_57 rfl (fun _ => ?_) (fun c => absurd c (by decide))
      exact cc_vret hx hb hr hlk h hP hS dX0_takes_79
    · have h := if_some_t h c5
      refine lv_aload_n hx hb dX0_takes_18 rfl (lv_at hl 0 rfl) ?_
      refine lg_bestMany C hO hP dX0_takes_19 ?_
      refine lv_iconst (v := (-1)) hx hb dX0_takes_22 (by decide) ?_
      refine lv_icmp_eq (tgt := 34) hx hb dX0_takes_23 rfl (fun c6 => ?_) (fun c6 => ?_)
      · have h := if_some_t h c6
        refine lv_iconst (v := 1) hx hb dX0_takes_34 (by decide) ?_
        refine lv_goto (tgt := 55) hx hb dX0_takes_35 rfl ?_
        refine lv_istore_n (lv' := [(3, .int 1), (0, .ref (ad 60)), (1, .int x1), (2, .int x2)]) hx hb dX0_takes_55 rfl hl (by decide) rfl (fun ls hl => ?_)
        refine lv_iload_n hx hb dX0_takes_56 rfl (lv_at hl 0 rfl) ?_
        refine lv_if_eq (tgt := 79) hx hb dX0_takes_57 rfl (fun c => absurd c (by decide)) (fun _ => ?_)
        refine lv_aload_n hx hb dX0_takes_60 rfl (lv_at hl 1 rfl) ?_
        refine lv_iload_n hx hb dX0_takes_61 rfl (lv_at hl 3 rfl) ?_
        refine lp_bestMany C hO hP hS dX0_takes_62 (fun H locs hP hS => ?_)
        refine lv_aload_n hx hb dX0_takes_65 rfl (lv_at hl 1 rfl) ?_
        refine lg_row C hO hP dX0_takes_66 ?_
        refine lv_iconst (v := 0) hx hb dX0_takes_69 (by decide) ?_
        refine lv_aload_n hx hb dX0_takes_70 rfl (lv_at hl 1 rfl) ?_
        refine lg_bestRow C hO hP dX0_takes_71 ?_
        refine lv_iconst (v := 0) hx hb dX0_takes_74 (by decide) ?_
        refine lv_iload_n hx hb dX0_takes_75 rfl (lv_at hl 3 rfl) ?_
        obtain ⟨b7, hb7, h⟩ := bd1_some h
        obtain ⟨hcb7, hdb7, heb7⟩ := cpn_some hb7
        refine cc_cpn (st2 := csA (csF st 60 10 x2) 66 b7) C hO hP hS 0 rfl rfl (hO.2.2.2 65 (by decide)) (hO.2.2.2 66 (by decide)) rfl rfl ⟨hcb7, rfl⟩ ⟨hdb7, hdb7⟩ (fun _ _ => rfl) (by rw [heb7]; exact cg_A rfl) hP.2 q1116 q858 q857 q106 (Nat.le_of_ble_eq_true rfl) hl.1 (Nat.le_of_ble_eq_true rfl) dX0_takes_76 (fun H locs hP hS => ?_)
        exact cc_vret hx hb hr hlk h hP hS dX0_takes_79
      · have h := if_some_f h c6
        refine lv_iload_n hx hb dX0_takes_26 rfl (lv_at hl 2 rfl) ?_
        refine lv_aload_n hx hb dX0_takes_27 rfl (lv_at hl 0 rfl) ?_
        refine lg_bestMany C hO hP dX0_takes_28 ?_
        refine lv_icmp_ge (tgt := 38) hx hb dX0_takes_31 rfl (fun c8 => ?_) (fun c8 => ?_)
        · have h := if_some_t h c8
          refine lv_iconst (v := 0) hx hb dX0_takes_38 (by decide) ?_
          refine lv_goto (tgt := 55) hx hb dX0_takes_39 rfl ?_
          refine lv_istore_n (lv' := [(3, .int 0), (0, .ref (ad 60)), (1, .int x1), (2, .int x2)]) hx hb dX0_takes_55 rfl hl (by decide) rfl (fun ls hl => ?_)
          refine lv_iload_n hx hb dX0_takes_56 rfl (lv_at hl 0 rfl) ?_
          refine lv_if_eq (tgt := 79) hx hb dX0_takes_57 rfl (fun _ => ?_) (fun c => absurd c (by decide))
          exact cc_vret hx hb hr hlk h hP hS dX0_takes_79
        · have h := if_some_f h c8
          refine lv_iconst (v := 1) hx hb dX0_takes_34 (by decide) ?_
          refine lv_goto (tgt := 55) hx hb dX0_takes_35 rfl ?_
          refine lv_istore_n (lv' := [(3, .int 1), (0, .ref (ad 60)), (1, .int x1), (2, .int x2)]) hx hb dX0_takes_55 rfl hl (by decide) rfl (fun ls hl => ?_)
          refine lv_iload_n hx hb dX0_takes_56 rfl (lv_at hl 0 rfl) ?_
          refine lv_if_eq (tgt := 79) hx hb dX0_takes_57 rfl (fun c => absurd c (by decide)) (fun _ => ?_)
          refine lv_aload_n hx hb dX0_takes_60 rfl (lv_at hl 1 rfl) ?_
          refine lv_iload_n hx hb dX0_takes_61 rfl (lv_at hl 3 rfl) ?_
          refine lp_bestMany C hO hP hS dX0_takes_62 (fun H locs hP hS => ?_)
          refine lv_aload_n hx hb dX0_takes_65 rfl (lv_at hl 1 rfl) ?_
          refine lg_row C hO hP dX0_takes_66 ?_
          refine lv_iconst (v := 0) hx hb dX0_takes_69 (by decide) ?_
          refine lv_aload_n hx hb dX0_takes_70 rfl (lv_at hl 1 rfl) ?_
          refine lg_bestRow C hO hP dX0_takes_71 ?_
          refine lv_iconst (v := 0) hx hb dX0_takes_74 (by decide) ?_
          refine lv_iload_n hx hb dX0_takes_75 rfl (lv_at hl 3 rfl) ?_
          obtain ⟨b9, hb9, h⟩ := bd1_some h
          obtain ⟨hcb9, hdb9, heb9⟩ := cpn_some hb9
          refine cc_cpn (st2 := csA (csF st 60 10 x2) 66 b9) C hO hP hS 0 rfl rfl (hO.2.2.2 65 (by decide)) (hO.2.2.2 66 (by decide)) rfl rfl ⟨hcb9, rfl⟩ ⟨hdb9, hdb9⟩ (fun _ _ => rfl) (by rw [heb9]; exact cg_A rfl) hP.2 q1116 q858 q857 q106 (Nat.le_of_ble_eq_true rfl) hl.1 (Nat.le_of_ble_eq_true rfl) dX0_takes_76 (fun H locs hP hS => ?_)
          exact cc_vret hx hb hr hlk h hP hS dX0_takes_79
theorem q1115 : (Jvm.Cond.code ({ cls := "ChapterLoan", name := "takes", desc := "(II)V" } : Jvm.MethodName) prog_1_method_38_code (4 : Nat) (Option.none : Option Jvm.ClassFile.FieldType)) ∈ lw_all := lw_g (lw_at lw_m5 71 rfl) rfl
theorem q1114 : (Jvm.Cond.instanceMethod ({ cls := "ChapterLoan", name := "takes", desc := "(II)V" } : Jvm.MethodName)) ∈ lw_all := lw_g (lw_at lw_m5 70 rfl) rfl
theorem k_L_takes {N : Nat} {a0 : Int32} {a1 : Int32} {st' : CS} (C : cC p R d s m args c cc nL RX0 D cA A) (hO : klOk A ks ad) (hP : cW D cA ks ad st H) (hS : va_S A s.heap H locs) (h : L_takes N st a0 a1 = some st') (hl : Cond.methodLink RX0 index yX0_takes ∈ lw_all) (hd : 6 + 1 ≤ d) (hsz : ls.size = nL) (hW : (rest.map fun v => v.category).sum ≤ 8) (hcs : cells ≤ R.cells ∧ slots ≤ R.slots) (hdg : decode cc pc = .ok (.invokevirtual index, 3)) (kk : ∀ (H1 : Heap) (locs1 : List Loc), cW D cA ks ad st' H1 → va_S A s.heap H1 locs1 → W p l e R s m args below meth c H1 locs1 cells slots Q (F0 m (pc + 3) ls (rest))) : W p l e R s m args below meth c H locs cells slots Q (F0 m pc ls (.int a1 :: .int a0 :: .ref (ad 60) :: rest)) :=
  cc_cV (As := [.int a0, .int a1]) C hP hS (w_L_takes hO h) (cwV 2 C.2.2.2.2.1 (lw_V hl q1114 qs24 q85 q1115) rfl rfl rfl (by decide +kernel) (mr_ C.2.2.2.2.2.1 hd (by decide))) (cc_recv C hP (hO.2.2.2 60 (by decide)) rfl (q := (RX0, TX0, 13)) rfl) rfl hsz rfl hW hdg hcs kk
abbrev cX0_goesOn : ByteArray := prog_1_method_39_code
def yX0_goesOn : MethodName := ⟨RX0, "goesOn", "(II)V"⟩
theorem dX0_goesOn_0 : decode cX0_goesOn 0 = .ok (.aload_n 0, 1) := by decide +kernel
theorem dX0_goesOn_1 : decode cX0_goesOn 1 = .ok (.iload_n 1, 1) := by decide +kernel
theorem dX0_goesOn_2 : decode cX0_goesOn 2 = .ok (.iload_n 2, 1) := by decide +kernel
theorem dX0_goesOn_3 : decode cX0_goesOn 3 = .ok (.invokevirtual 282, 3) := by decide +kernel
theorem dX0_goesOn_6 : decode cX0_goesOn 6 = .ok (.aload_n 0, 1) := by decide +kernel
theorem dX0_goesOn_7 : decode cX0_goesOn 7 = .ok (.getfield 53, 3) := by decide +kernel
theorem dX0_goesOn_10 : decode cX0_goesOn 10 = .ok (.iload_n 1, 1) := by decide +kernel
theorem dX0_goesOn_11 : decode cX0_goesOn 11 = .ok (.invokevirtual 180, 3) := by decide +kernel
theorem dX0_goesOn_14 : decode cX0_goesOn 14 = .ok (.istore_n 3, 1) := by decide +kernel
theorem dX0_goesOn_15 : decode cX0_goesOn 15 = .ok (.iconst 0, 1) := by decide +kernel
theorem dX0_goesOn_16 : decode cX0_goesOn 16 = .ok (.istore 4, 2) := by decide +kernel
theorem dX0_goesOn_18 : decode cX0_goesOn 18 = .ok (.iload 4, 2) := by decide +kernel
theorem dX0_goesOn_20 : decode cX0_goesOn 20 = .ok (.aload_n 0, 1) := by decide +kernel
theorem dX0_goesOn_21 : decode cX0_goesOn 21 = .ok (.getfield 46, 3) := by decide +kernel
theorem dX0_goesOn_24 : decode cX0_goesOn 24 = .ok (.getfield 88, 3) := by decide +kernel
theorem dX0_goesOn_27 : decode cX0_goesOn 27 = .ok (.if_icmp .ge 94, 3) := by decide +kernel
theorem dX0_goesOn_30 : decode cX0_goesOn 30 = .ok (.iload_n 3, 1) := by decide +kernel
theorem dX0_goesOn_31 : decode cX0_goesOn 31 = .ok (.iload 4, 2) := by decide +kernel
theorem dX0_goesOn_33 : decode cX0_goesOn 33 = .ok (.invokestatic 135, 3) := by decide +kernel
theorem dX0_goesOn_36 : decode cX0_goesOn 36 = .ok (.ifCond .eq 79, 3) := by decide +kernel
theorem dX0_goesOn_39 : decode cX0_goesOn 39 = .ok (.aload_n 0, 1) := by decide +kernel
theorem dX0_goesOn_40 : decode cX0_goesOn 40 = .ok (.getfield 73, 3) := by decide +kernel
theorem dX0_goesOn_43 : decode cX0_goesOn 43 = .ok (.iload_n 2, 1) := by decide +kernel
theorem dX0_goesOn_44 : decode cX0_goesOn 44 = .ok (.iload 4, 2) := by decide +kernel
theorem dX0_goesOn_46 : decode cX0_goesOn 46 = .ok (.iastore, 1) := by decide +kernel
theorem dX0_goesOn_47 : decode cX0_goesOn 47 = .ok (.aload_n 0, 1) := by decide +kernel
theorem dX0_goesOn_48 : decode cX0_goesOn 48 = .ok (.getfield 53, 3) := by decide +kernel
theorem dX0_goesOn_51 : decode cX0_goesOn 51 = .ok (.iload_n 1, 1) := by decide +kernel
theorem dX0_goesOn_52 : decode cX0_goesOn 52 = .ok (.iload 4, 2) := by decide +kernel
theorem dX0_goesOn_54 : decode cX0_goesOn 54 = .ok (.invokevirtual 285, 3) := by decide +kernel
theorem dX0_goesOn_57 : decode cX0_goesOn 57 = .ok (.aload_n 0, 1) := by decide +kernel
theorem dX0_goesOn_58 : decode cX0_goesOn 58 = .ok (.getfield 53, 3) := by decide +kernel
theorem dX0_goesOn_61 : decode cX0_goesOn 61 = .ok (.iload_n 1, 1) := by decide +kernel
theorem dX0_goesOn_62 : decode cX0_goesOn 62 = .ok (.invokevirtual 288, 3) := by decide +kernel
theorem dX0_goesOn_65 : decode cX0_goesOn 65 = .ok (.ifCond .ne 37, 3) := by decide +kernel
theorem dX0_goesOn_68 : decode cX0_goesOn 68 = .ok (.aload_n 0, 1) := by decide +kernel
theorem dX0_goesOn_69 : decode cX0_goesOn 69 = .ok (.getfield 53, 3) := by decide +kernel
theorem dX0_goesOn_72 : decode cX0_goesOn 72 = .ok (.dup, 1) := by decide +kernel
theorem dX0_goesOn_73 : decode cX0_goesOn 73 = .ok (.getfield 213, 3) := by decide +kernel
theorem dX0_goesOn_76 : decode cX0_goesOn 76 = .ok (.iconst 1, 1) := by decide +kernel
theorem dX0_goesOn_77 : decode cX0_goesOn 77 = .ok (.iadd, 1) := by decide +kernel
theorem dX0_goesOn_78 : decode cX0_goesOn 78 = .ok (.putfield 213, 3) := by decide +kernel
theorem dX0_goesOn_81 : decode cX0_goesOn 81 = .ok (.aload_n 0, 1) := by decide +kernel
theorem dX0_goesOn_82 : decode cX0_goesOn 82 = .ok (.iload_n 1, 1) := by decide +kernel
theorem dX0_goesOn_83 : decode cX0_goesOn 83 = .ok (.iload_n 2, 1) := by decide +kernel
theorem dX0_goesOn_84 : decode cX0_goesOn 84 = .ok (.iconst 1, 1) := by decide +kernel
theorem dX0_goesOn_85 : decode cX0_goesOn 85 = .ok (.iadd, 1) := by decide +kernel
theorem dX0_goesOn_86 : decode cX0_goesOn 86 = .ok (.invokevirtual 291, 3) := by decide +kernel
theorem dX0_goesOn_89 : decode cX0_goesOn 89 = .ok (.aload_n 0, 1) := by decide +kernel
theorem dX0_goesOn_90 : decode cX0_goesOn 90 = .ok (.getfield 53, 3) := by decide +kernel
theorem dX0_goesOn_93 : decode cX0_goesOn 93 = .ok (.dup, 1) := by decide +kernel
theorem dX0_goesOn_94 : decode cX0_goesOn 94 = .ok (.getfield 213, 3) := by decide +kernel
theorem dX0_goesOn_97 : decode cX0_goesOn 97 = .ok (.iconst 1, 1) := by decide +kernel
theorem dX0_goesOn_98 : decode cX0_goesOn 98 = .ok (.isub, 1) := by decide +kernel
theorem dX0_goesOn_99 : decode cX0_goesOn 99 = .ok (.putfield 213, 3) := by decide +kernel
theorem dX0_goesOn_102 : decode cX0_goesOn 102 = .ok (.aload_n 0, 1) := by decide +kernel
theorem dX0_goesOn_103 : decode cX0_goesOn 103 = .ok (.getfield 53, 3) := by decide +kernel
theorem dX0_goesOn_106 : decode cX0_goesOn 106 = .ok (.getfield 157, 3) := by decide +kernel
theorem dX0_goesOn_109 : decode cX0_goesOn 109 = .ok (.iload_n 1, 1) := by decide +kernel
theorem dX0_goesOn_110 : decode cX0_goesOn 110 = .ok (.dup2, 1) := by decide +kernel
theorem dX0_goesOn_111 : decode cX0_goesOn 111 = .ok (.iaload, 1) := by decide +kernel
theorem dX0_goesOn_112 : decode cX0_goesOn 112 = .ok (.iconst 1, 1) := by decide +kernel
theorem dX0_goesOn_113 : decode cX0_goesOn 113 = .ok (.isub, 1) := by decide +kernel
theorem dX0_goesOn_114 : decode cX0_goesOn 114 = .ok (.iastore, 1) := by decide +kernel
theorem dX0_goesOn_115 : decode cX0_goesOn 115 = .ok (.iinc 4 1, 3) := by decide +kernel
theorem dX0_goesOn_118 : decode cX0_goesOn 118 = .ok (.goto (-100), 3) := by decide +kernel
theorem dX0_goesOn_121 : decode cX0_goesOn 121 = .ok (.return_, 1) := by decide +kernel
theorem q607 : (Jvm.Cond.methodLink "ChapterLoan" (180 : Nat) ({ cls := "ChapterLoan$Town", name := "mayAll", desc := "(I)I" } : Jvm.MethodName)) ∈ lw_all := lw_g (lw_at lw_m3 43 rfl) rfl
theorem q1108 : (Jvm.Cond.methodLink "ChapterLoan" (291 : Nat) ({ cls := "ChapterLoan", name := "goesOn", desc := "(II)V" } : Jvm.MethodName)) ∈ lw_all := lw_g (lw_at lw_m5 64 rfl) rfl
theorem q1112 : (Jvm.Cond.methodLink "ChapterLoan" (282 : Nat) ({ cls := "ChapterLoan", name := "takes", desc := "(II)V" } : Jvm.MethodName)) ∈ lw_all := lw_g (lw_at lw_m5 68 rfl) rfl
theorem q1117 : (Jvm.Cond.methodLink "ChapterLoan" (285 : Nat) ({ cls := "ChapterLoan$Town", name := "writes", desc := "(II)V" } : Jvm.MethodName)) ∈ lw_all := lw_g (lw_at lw_m5 73 rfl) rfl
theorem q1118 : (Jvm.Cond.methodLink "ChapterLoan" (288 : Nat) ({ cls := "ChapterLoan$Town", name := "isOverdue", desc := "(I)Z" } : Jvm.MethodName)) ∈ lw_all := lw_g (lw_at lw_m5 74 rfl) rfl
theorem q1111 : (Jvm.Cond.code ({ cls := "ChapterLoan", name := "goesOn", desc := "(II)V" } : Jvm.MethodName) prog_1_method_39_code (5 : Nat) (Option.none : Option Jvm.ClassFile.FieldType)) ∈ lw_all := lw_g (lw_at lw_m5 67 rfl) rfl
theorem q1110 : (Jvm.Cond.instanceMethod ({ cls := "ChapterLoan", name := "goesOn", desc := "(II)V" } : Jvm.MethodName)) ∈ lw_all := lw_g (lw_at lw_m5 66 rfl) rfl
theorem ka_goesOn {a0 a1 : Int32} {dk : Nat} {st' : CS} (C : cC p R d s m args c cc nL RX0 D cA A) (hO : klOk A ks ad) (hP : cW D cA ks ad st H) (hS : va_S A s.heap H locs) (hM : cV l yX0_goesOn cX0_goesOn 5 none dk D cA ks ad A st [.ref (ad 60), .int a0, .int a1] none st') (hl : Cond.methodLink RX0 index yX0_goesOn ∈ lw_all) (hd : dk + 1 ≤ d) (hsz : ls.size = nL) (hW : (rest.map fun v => v.category).sum ≤ 8) (hcs : cells ≤ R.cells ∧ slots ≤ R.slots) (hdg : decode cc pc = .ok (.invokevirtual index, 3)) (kk : ∀ (H1 : Heap) (locs1 : List Loc), cW D cA ks ad st' H1 → va_S A s.heap H1 locs1 → W p l e R s m args below meth c H1 locs1 cells slots Q (F0 m (pc + 3) ls rest)) : W p l e R s m args below meth c H locs cells slots Q (F0 m pc ls (.int a1 :: .int a0 :: .ref (ad 60) :: rest)) :=
  cc_cV (As := [.int a0, .int a1]) C hP hS hM (cwV 2 C.2.2.2.2.1 (lw_V hl q1110 qs23 q85 q1111) rfl rfl rfl (by decide +kernel) (mr_ C.2.2.2.2.2.1 hd (by decide))) (cc_recv C hP (hO.2.2.2 60 (by decide)) rfl (q := (RX0, TX0, 13)) rfl) rfl hsz rfl hW hdg hcs kk
theorem w_L_goesOn_b {l : Launch} {D : va_G} {cA : Nat → ClassId} {ks : List Nat} {ad : Nat → Nat} {A : Nat → Prop} (hO : klOk A ks ad) {dk : Nat} (hdk : 7 ≤ dk) {N : Nat} {f_goesOn : CS → Int32 → Int32 → Option CS} (hf : (∀ (st : CS) (a0 a1 : Int32) (st' : CS), f_goesOn st a0 a1 = some st' → cV l yX0_goesOn cX0_goesOn 5 none dk D cA ks ad A st [.ref (ad 60), .int a0, .int a1] none st')) {st st' : CS} {x1 x2 : Int32} (h : L_goesOn_b N f_goesOn st x1 x2 = some st') : cV l yX0_goesOn cX0_goesOn 5 none (dk + 1) D cA ks ad A st [.ref (ad 60), .int x1, .int x2] none st' := by
  refine cc_ofV (own := RX0) (by decide) rfl (Nat.le_of_ble_eq_true rfl) (fun p e s m below meth c R args ls C hr hlk hP hS hl hcs => ?_)
  have hx := C.1
  have hb := C.2.1
  have hown := C.2.2.2.1
  have hNst := C.2.2.2.2.2.2.2.1
  have hl : lv_has ls 5 [(0, .ref (ad 60)), (1, .int x1), (2, .int x2)] := hl
  have L18 : ∀ (x1 : Int32), ∀ (x2 : Int32), ∀ (x3 : Int32), ∀ (n : Nat) (st : CS) (x4 : Int32) (st2 : CS), L_goesOn_b_L18 N f_goesOn x1 x2 x3 n st x4 = some st2 → ∀ (H : Heap) (locs : List Loc), cW D cA ks ad st H → va_S A s.heap H locs → ∀ ls : Array Slot, lv_has ls 5 [(0, .ref (ad 60)), (1, .int x1), (2, .int x2), (3, .int x3), (4, .int x4)] → (∀ (H : Heap) (locs : List Loc), cW D cA ks ad st2 H → va_S A s.heap H locs → ∀ ls : Array Slot, lv_has ls 5 [] → cWV p l e R s m args below meth c D cA ks ad A none st' H locs (F0 m 121 ls [])) → cWV p l e R s m args below meth c D cA ks ad A none st' H locs (F0 m 18 ls []) := by
    intro x1 x2 x3 n
    induction n with
    | zero =>
      intro st x4 st2 h
      exact non_some h
    | succ n ih =>
      intro st x4 st2 h H locs hP hS ls hl kx
      rw [L_goesOn_b_L18] at h
      refine lv_iload hx hb dX0_goesOn_18 (lv_at hl 4 rfl) ?_
      refine lv_aload_n hx hb dX0_goesOn_20 rfl (lv_at hl 0 rfl) ?_
      refine lg_town C hO hP dX0_goesOn_21 ?_
      refine tgN_facts (t := 0) C hO (by decide) hP dX0_goesOn_24 ?_
      refine lv_icmp_ge (tgt := 121) hx hb dX0_goesOn_27 rfl (fun c4 => ?_) (fun c4 => ?_)
      · have h := if_some_t h c4
        cases h
        exact kx _ _ hP hS ls (lv_sub hl [] rfl)
      · have h := if_some_f h c4
        refine lv_iload_n hx hb dX0_goesOn_30 rfl (lv_at hl 3 rfl) ?_
        refine lv_iload hx hb dX0_goesOn_31 (lv_at hl 4 rfl) ?_
        obtain ⟨v5, hv5, h⟩ := bd1_some h
        refine k_L_isIn hx hb C.2.2.1 hown C.2.2.2.2.1 C.2.2.2.2.2.1 q439 hv5 (by omega) hl.1 (Nat.le_of_ble_eq_true rfl) hcs dX0_goesOn_33 ?_
        refine lv_if_eq (tgt := 115) hx hb dX0_goesOn_36 rfl (fun c6 => ?_) (fun c6 => ?_)
        · have h := if_some_t h c6
          refine lv_iinc (v := x4 + 1) (lv' := [(4, .int (x4 + 1)), (0, .ref (ad 60)), (1, .int x1), (2, .int x2), (3, .int x3)]) hx hb dX0_goesOn_115 hl (k := 4) rfl rfl (by decide) rfl (fun ls hl => ?_)
          refine lv_goto (tgt := 18) hx hb dX0_goesOn_118 rfl ?_
          exact ih st (x4 + 1) _ h _ _ hP hS ls (lv_sub hl [1, 2, 3, 4, 0] rfl) kx
        · have h := if_some_f h c6
          refine lv_aload_n hx hb dX0_goesOn_39 rfl (lv_at hl 0 rfl) ?_
          refine lg_row C hO hP dX0_goesOn_40 ?_
          refine lv_iload_n hx hb dX0_goesOn_43 rfl (lv_at hl 2 rfl) ?_
          refine lv_iload hx hb dX0_goesOn_44 (lv_at hl 4 rfl) ?_
          obtain ⟨b7, hb7, h⟩ := bd1_some h
          refine cc_ist C hO hP hS (hO.2.2.2 _ (by decide)) rfl hb7 (cg_A rfl) hP.2 dX0_goesOn_46 (fun H locs hP hS => ?_)
          refine lv_aload_n hx hb dX0_goesOn_47 rfl (lv_at hl 0 rfl) ?_
          refine lg_tried C hO hP dX0_goesOn_48 ?_
          refine lv_iload_n hx hb dX0_goesOn_51 rfl (lv_at hl 1 rfl) ?_
          refine lv_iload hx hb dX0_goesOn_52 (lv_at hl 4 rfl) ?_
          obtain ⟨st9, hv8, h⟩ := bd1_some h
          refine k_T_writes (t := 2) C hO (by decide) hP hS hv8 q1117 (by omega) hl.1 (Nat.le_of_ble_eq_true rfl) hcs dX0_goesOn_54 (fun H locs hP hS => ?_)
          refine lv_aload_n hx hb dX0_goesOn_57 rfl (lv_at hl 0 rfl) ?_
          refine lg_tried C hO hP dX0_goesOn_58 ?_
          refine lv_iload_n hx hb dX0_goesOn_61 rfl (lv_at hl 1 rfl) ?_
          obtain ⟨v10, hv10, h⟩ := bd1_some h
          refine k_T_isOverdue (t := 2) C hO (by decide) hP hv10 q1118 (by omega) hS.1 hl.1 (Nat.le_of_ble_eq_true rfl) hcs dX0_goesOn_62 ?_
          refine lv_if_ne (tgt := 102) hx hb dX0_goesOn_65 rfl (fun c11 => ?_) (fun c11 => ?_)
          · have h := if_some_f h c11
            refine lv_aload_n hx hb dX0_goesOn_102 rfl (lv_at hl 0 rfl) ?_
            refine lg_tried C hO hP dX0_goesOn_103 ?_
            refine tgN_many (t := 2) C hO (by decide) hP dX0_goesOn_106 ?_
            refine lv_iload_n hx hb dX0_goesOn_109 rfl (lv_at hl 1 rfl) ?_
            refine lv_dup2_11 hx hb dX0_goesOn_110 rfl rfl ?_
            obtain ⟨v12, hv12, h⟩ := bd1_some h
            refine cc_ild C hP (hO.2.2.2 _ (tk_ 8 (by decide) (by decide))) (cg_t 8 (by decide) (by decide)) hv12 dX0_goesOn_111 ?_
            refine lv_iconst (v := 1) hx hb dX0_goesOn_112 (by decide) ?_
            refine lv_isub hx hb dX0_goesOn_113 ?_
            obtain ⟨b13, hb13, h⟩ := bd1_some h
            refine cc_ist C hO hP hS (hO.2.2.2 _ (tk_ 8 (by decide) (by decide))) (cg_t 8 (by decide) (by decide)) hb13 (cg_At 8 (by decide) (by decide)) hP.2 dX0_goesOn_114 (fun H locs hP hS => ?_)
            refine lv_iinc (v := x4 + 1) (lv' := [(4, .int (x4 + 1)), (0, .ref (ad 60)), (1, .int x1), (2, .int x2), (3, .int x3)]) hx hb dX0_goesOn_115 hl (k := 4) rfl rfl (by decide) rfl (fun ls hl => ?_)
            refine lv_goto (tgt := 18) hx hb dX0_goesOn_118 rfl ?_
            exact ih (csA st9 (20 * 2 + 8) b13) (x4 + 1) _ h _ _ hP hS ls (lv_sub hl [1, 2, 3, 4, 0] rfl) kx
          · have h := if_some_t h c11
            refine lv_aload_n hx hb dX0_goesOn_68 rfl (lv_at hl 0 rfl) ?_
            refine lg_tried C hO hP dX0_goesOn_69 ?_
            refine lv_dup hx hb dX0_goesOn_72 rfl ?_
            refine tgN_week (t := 2) C hO (by decide) hP dX0_goesOn_73 ?_
            refine lv_iconst (v := 1) hx hb dX0_goesOn_76 (by decide) ?_
            refine lv_iadd hx hb dX0_goesOn_77 ?_
            refine tpN_week (t := 2) C hO (by decide) hP hS dX0_goesOn_78 (fun H locs hP hS => ?_)
            refine lv_aload_n hx hb dX0_goesOn_81 rfl (lv_at hl 0 rfl) ?_
            refine lv_iload_n hx hb dX0_goesOn_82 rfl (lv_at hl 1 rfl) ?_
            refine lv_iload_n hx hb dX0_goesOn_83 rfl (lv_at hl 2 rfl) ?_
            refine lv_iconst (v := 1) hx hb dX0_goesOn_84 (by decide) ?_
            refine lv_iadd hx hb dX0_goesOn_85 ?_
            obtain ⟨st15, hv14, h⟩ := bd1_some h
            refine ka_goesOn C hO hP hS (hf _ _ _ _ hv14) q1108 (by omega) hl.1 (Nat.le_of_ble_eq_true rfl) hcs dX0_goesOn_86 (fun H locs hP hS => ?_)
            refine lv_aload_n hx hb dX0_goesOn_89 rfl (lv_at hl 0 rfl) ?_
            refine lg_tried C hO hP dX0_goesOn_90 ?_
            refine lv_dup hx hb dX0_goesOn_93 rfl ?_
            refine tgN_week (t := 2) C hO (by decide) hP dX0_goesOn_94 ?_
            refine lv_iconst (v := 1) hx hb dX0_goesOn_97 (by decide) ?_
            refine lv_isub hx hb dX0_goesOn_98 ?_
            refine tpN_week (t := 2) C hO (by decide) hP hS dX0_goesOn_99 (fun H locs hP hS => ?_)
            refine lv_aload_n hx hb dX0_goesOn_102 rfl (lv_at hl 0 rfl) ?_
            refine lg_tried C hO hP dX0_goesOn_103 ?_
            refine tgN_many (t := 2) C hO (by decide) hP dX0_goesOn_106 ?_
            refine lv_iload_n hx hb dX0_goesOn_109 rfl (lv_at hl 1 rfl) ?_
            refine lv_dup2_11 hx hb dX0_goesOn_110 rfl rfl ?_
            obtain ⟨v16, hv16, h⟩ := bd1_some h
            refine cc_ild C hP (hO.2.2.2 _ (tk_ 8 (by decide) (by decide))) (cg_t 8 (by decide) (by decide)) hv16 dX0_goesOn_111 ?_
            refine lv_iconst (v := 1) hx hb dX0_goesOn_112 (by decide) ?_
            refine lv_isub hx hb dX0_goesOn_113 ?_
            obtain ⟨b17, hb17, h⟩ := bd1_some h
            refine cc_ist C hO hP hS (hO.2.2.2 _ (tk_ 8 (by decide) (by decide))) (cg_t 8 (by decide) (by decide)) hb17 (cg_At 8 (by decide) (by decide)) hP.2 dX0_goesOn_114 (fun H locs hP hS => ?_)
            refine lv_iinc (v := x4 + 1) (lv' := [(4, .int (x4 + 1)), (0, .ref (ad 60)), (1, .int x1), (2, .int x2), (3, .int x3)]) hx hb dX0_goesOn_115 hl (k := 4) rfl rfl (by decide) rfl (fun ls hl => ?_)
            refine lv_goto (tgt := 18) hx hb dX0_goesOn_118 rfl ?_
            exact ih (csA (csF st15 (20 * 2) 13 ((st15.1 (20 * 2) 13) - 1)) (20 * 2 + 8) b17) (x4 + 1) _ h _ _ hP hS ls (lv_sub hl [1, 2, 3, 4, 0] rfl) kx
  rw [L_goesOn_b] at h
  refine lv_aload_n hx hb dX0_goesOn_0 rfl (lv_at hl 0 rfl) ?_
  refine lv_iload_n hx hb dX0_goesOn_1 rfl (lv_at hl 1 rfl) ?_
  refine lv_iload_n hx hb dX0_goesOn_2 rfl (lv_at hl 2 rfl) ?_
  obtain ⟨st2, hv1, h⟩ := bd1_some h
  refine k_L_takes C hO hP hS hv1 q1112 (by omega) hl.1 (Nat.le_of_ble_eq_true rfl) hcs dX0_goesOn_3 (fun H locs hP hS => ?_)
  refine lv_aload_n hx hb dX0_goesOn_6 rfl (lv_at hl 0 rfl) ?_
  refine lg_tried C hO hP dX0_goesOn_7 ?_
  refine lv_iload_n hx hb dX0_goesOn_10 rfl (lv_at hl 1 rfl) ?_
  obtain ⟨v3, hv3, h⟩ := bd1_some h
  refine k_T_mayAll (t := 2) C hO (by decide) hP hv3 q607 (by omega) hS.1 hl.1 (Nat.le_of_ble_eq_true rfl) hcs dX0_goesOn_11 ?_
  refine lv_istore_n (lv' := [(3, .int v3), (0, .ref (ad 60)), (1, .int x1), (2, .int x2)]) hx hb dX0_goesOn_14 rfl hl (by decide) rfl (fun ls hl => ?_)
  refine lv_iconst (v := 0) hx hb dX0_goesOn_15 (by decide) ?_
  refine lv_istore (lv' := [(4, .int 0), (3, .int v3), (0, .ref (ad 60)), (1, .int x1), (2, .int x2)]) hx hb dX0_goesOn_16 hl (by decide) rfl (fun ls hl => ?_)
  obtain ⟨st18, hz19, h⟩ := bd1_some h
  refine L18 x1 x2 v3 N _ 0 _ hz19 _ _ hP hS ls (lv_sub hl [2, 3, 4, 1, 0] rfl) (fun H locs hP hS ls hl => ?_)
  exact cc_vret hx hb hr hlk h hP hS dX0_goesOn_121
theorem wr_L_goesOn {l : Launch} {D : va_G} {cA : Nat → ClassId} {ks : List Nat} {ad : Nat → Nat} {A : Nat → Prop} (hO : klOk A ks ad) {N : Nat} : ∀ (d : Nat), (∀ (st : CS) (a0 a1 : Int32) (st' : CS), L_goesOn_r N d st a0 a1 = some st' → cV l yX0_goesOn cX0_goesOn 5 none (d + 7) D cA ks ad A st [.ref (ad 60), .int a0, .int a1] none st') := by
  intro d
  induction d with
  | zero =>
    intro st a0 a1 st' h
    exact non_some h
  | succ d ih =>
    intro st a0 a1 st' h
    have h2 := w_L_goesOn_b (l := l) (D := D) (cA := cA) hO (dk := d + 7) (by omega) ih (h := h)
    exact (show d + 1 + 7 = d + 7 + 1 by omega) ▸ h2
theorem k_L_goesOn {a0 a1 : Int32} {N : Nat} {st' : CS} (C : cC p R d s m args c cc nL RX0 D cA A) (hO : klOk A ks ad) (hP : cW D cA ks ad st H) (hS : va_S A s.heap H locs) (h : L_goesOn N st a0 a1 = some st') (hl : Cond.methodLink RX0 index yX0_goesOn ∈ lw_all) (hd : 17 + 1 ≤ d) (hsz : ls.size = nL) (hW : (rest.map fun v => v.category).sum ≤ 8) (hcs : cells ≤ R.cells ∧ slots ≤ R.slots) (hdg : decode cc pc = .ok (.invokevirtual index, 3)) (kk : ∀ (H1 : Heap) (locs1 : List Loc), cW D cA ks ad st' H1 → va_S A s.heap H1 locs1 → W p l e R s m args below meth c H1 locs1 cells slots Q (F0 m (pc + 3) ls rest)) : W p l e R s m args below meth c H locs cells slots Q (F0 m pc ls (.int a1 :: .int a0 :: .ref (ad 60) :: rest)) :=
  ka_goesOn (dk := 17) C hO hP hS (wr_L_goesOn hO 10 _ _ _ _ h) hl hd hsz hW hcs hdg kk
abbrev cX0_rowOf : ByteArray := prog_1_method_40_code
def yX0_rowOf : MethodName := ⟨RX0, "rowOf", "(IZI)I"⟩
theorem dX0_rowOf_0 : decode cX0_rowOf 0 = .ok (.aload_n 0, 1) := by decide +kernel
theorem dX0_rowOf_1 : decode cX0_rowOf 1 = .ok (.aload_n 0, 1) := by decide +kernel
theorem dX0_rowOf_2 : decode cX0_rowOf 2 = .ok (.iload_n 1, 1) := by decide +kernel
theorem dX0_rowOf_3 : decode cX0_rowOf 3 = .ok (.invokevirtual 160, 3) := by decide +kernel
theorem dX0_rowOf_6 : decode cX0_rowOf 6 = .ok (.ifCond .eq 17, 3) := by decide +kernel
theorem dX0_rowOf_9 : decode cX0_rowOf 9 = .ok (.iload_n 3, 1) := by decide +kernel
theorem dX0_rowOf_10 : decode cX0_rowOf 10 = .ok (.iconst (-1), 1) := by decide +kernel
theorem dX0_rowOf_11 : decode cX0_rowOf 11 = .ok (.bipush 7, 2) := by decide +kernel
theorem dX0_rowOf_13 : decode cX0_rowOf 13 = .ok (.invokestatic 91, 3) := by decide +kernel
theorem dX0_rowOf_16 : decode cX0_rowOf 16 = .ok (.ifCond .eq 7, 3) := by decide +kernel
theorem dX0_rowOf_19 : decode cX0_rowOf 19 = .ok (.iconst 1, 1) := by decide +kernel
theorem dX0_rowOf_20 : decode cX0_rowOf 20 = .ok (.goto 4, 3) := by decide +kernel
theorem dX0_rowOf_23 : decode cX0_rowOf 23 = .ok (.iconst 0, 1) := by decide +kernel
theorem dX0_rowOf_24 : decode cX0_rowOf 24 = .ok (.iconst 1, 1) := by decide +kernel
theorem dX0_rowOf_25 : decode cX0_rowOf 25 = .ok (.invokevirtual 102, 3) := by decide +kernel
theorem dX0_rowOf_28 : decode cX0_rowOf 28 = .ok (.aload_n 0, 1) := by decide +kernel
theorem dX0_rowOf_29 : decode cX0_rowOf 29 = .ok (.aload_n 0, 1) := by decide +kernel
theorem dX0_rowOf_30 : decode cX0_rowOf 30 = .ok (.getfield 46, 3) := by decide +kernel
theorem dX0_rowOf_33 : decode cX0_rowOf 33 = .ok (.getfield 153, 3) := by decide +kernel
theorem dX0_rowOf_36 : decode cX0_rowOf 36 = .ok (.iload_n 1, 1) := by decide +kernel
theorem dX0_rowOf_37 : decode cX0_rowOf 37 = .ok (.baload, 1) := by decide +kernel
theorem dX0_rowOf_38 : decode cX0_rowOf 38 = .ok (.ifCond .ne 7, 3) := by decide +kernel
theorem dX0_rowOf_41 : decode cX0_rowOf 41 = .ok (.iconst 1, 1) := by decide +kernel
theorem dX0_rowOf_42 : decode cX0_rowOf 42 = .ok (.goto 4, 3) := by decide +kernel
theorem dX0_rowOf_45 : decode cX0_rowOf 45 = .ok (.iconst 0, 1) := by decide +kernel
theorem dX0_rowOf_46 : decode cX0_rowOf 46 = .ok (.iconst 3, 1) := by decide +kernel
theorem dX0_rowOf_47 : decode cX0_rowOf 47 = .ok (.invokevirtual 102, 3) := by decide +kernel
theorem dX0_rowOf_50 : decode cX0_rowOf 50 = .ok (.aload_n 0, 1) := by decide +kernel
theorem dX0_rowOf_51 : decode cX0_rowOf 51 = .ok (.getfield 53, 3) := by decide +kernel
theorem dX0_rowOf_54 : decode cX0_rowOf 54 = .ok (.aload_n 0, 1) := by decide +kernel
theorem dX0_rowOf_55 : decode cX0_rowOf 55 = .ok (.getfield 46, 3) := by decide +kernel
theorem dX0_rowOf_58 : decode cX0_rowOf 58 = .ok (.invokevirtual 229, 3) := by decide +kernel
theorem dX0_rowOf_61 : decode cX0_rowOf 61 = .ok (.pop, 1) := by decide +kernel
theorem dX0_rowOf_62 : decode cX0_rowOf 62 = .ok (.aload_n 0, 1) := by decide +kernel
theorem dX0_rowOf_63 : decode cX0_rowOf 63 = .ok (.iload_n 2, 1) := by decide +kernel
theorem dX0_rowOf_64 : decode cX0_rowOf 64 = .ok (.putfield 269, 3) := by decide +kernel
theorem dX0_rowOf_67 : decode cX0_rowOf 67 = .ok (.aload_n 0, 1) := by decide +kernel
theorem dX0_rowOf_68 : decode cX0_rowOf 68 = .ok (.iconst (-1), 1) := by decide +kernel
theorem dX0_rowOf_69 : decode cX0_rowOf 69 = .ok (.putfield 273, 3) := by decide +kernel
theorem dX0_rowOf_72 : decode cX0_rowOf 72 = .ok (.aload_n 0, 1) := by decide +kernel
theorem dX0_rowOf_73 : decode cX0_rowOf 73 = .ok (.iload_n 1, 1) := by decide +kernel
theorem dX0_rowOf_74 : decode cX0_rowOf 74 = .ok (.iconst 0, 1) := by decide +kernel
theorem dX0_rowOf_75 : decode cX0_rowOf 75 = .ok (.invokevirtual 291, 3) := by decide +kernel
theorem dX0_rowOf_78 : decode cX0_rowOf 78 = .ok (.aload_n 0, 1) := by decide +kernel
theorem dX0_rowOf_79 : decode cX0_rowOf 79 = .ok (.aload_n 0, 1) := by decide +kernel
theorem dX0_rowOf_80 : decode cX0_rowOf 80 = .ok (.getfield 273, 3) := by decide +kernel
theorem dX0_rowOf_83 : decode cX0_rowOf 83 = .ok (.iconst (-1), 1) := by decide +kernel
theorem dX0_rowOf_84 : decode cX0_rowOf 84 = .ok (.if_icmp .eq 15, 3) := by decide +kernel
theorem dX0_rowOf_87 : decode cX0_rowOf 87 = .ok (.iload_n 3, 1) := by decide +kernel
theorem dX0_rowOf_88 : decode cX0_rowOf 88 = .ok (.aload_n 0, 1) := by decide +kernel
theorem dX0_rowOf_89 : decode cX0_rowOf 89 = .ok (.getfield 273, 3) := by decide +kernel
theorem dX0_rowOf_92 : decode cX0_rowOf 92 = .ok (.if_icmp .ge 7, 3) := by decide +kernel
theorem dX0_rowOf_95 : decode cX0_rowOf 95 = .ok (.iconst 1, 1) := by decide +kernel
theorem dX0_rowOf_96 : decode cX0_rowOf 96 = .ok (.goto 4, 3) := by decide +kernel
theorem dX0_rowOf_99 : decode cX0_rowOf 99 = .ok (.iconst 0, 1) := by decide +kernel
theorem dX0_rowOf_100 : decode cX0_rowOf 100 = .ok (.iconst 2, 1) := by decide +kernel
theorem dX0_rowOf_101 : decode cX0_rowOf 101 = .ok (.invokevirtual 102, 3) := by decide +kernel
theorem dX0_rowOf_104 : decode cX0_rowOf 104 = .ok (.iload_n 3, 1) := by decide +kernel
theorem dX0_rowOf_105 : decode cX0_rowOf 105 = .ok (.ifCond .ge 10, 3) := by decide +kernel
theorem dX0_rowOf_108 : decode cX0_rowOf 108 = .ok (.aload_n 0, 1) := by decide +kernel
theorem dX0_rowOf_109 : decode cX0_rowOf 109 = .ok (.getfield 273, 3) := by decide +kernel
theorem dX0_rowOf_112 : decode cX0_rowOf 112 = .ok (.goto 9, 3) := by decide +kernel
theorem dX0_rowOf_115 : decode cX0_rowOf 115 = .ok (.aload_n 0, 1) := by decide +kernel
theorem dX0_rowOf_116 : decode cX0_rowOf 116 = .ok (.getfield 76, 3) := by decide +kernel
theorem dX0_rowOf_119 : decode cX0_rowOf 119 = .ok (.iload_n 3, 1) := by decide +kernel
theorem dX0_rowOf_120 : decode cX0_rowOf 120 = .ok (.iaload, 1) := by decide +kernel
theorem dX0_rowOf_121 : decode cX0_rowOf 121 = .ok (.ireturn, 1) := by decide +kernel
theorem w_L_rowOf {l : Launch} {D : va_G} {cA : Nat → ClassId} {ks : List Nat} {ad : Nat → Nat} {A : Nat → Prop} (hO : klOk A ks ad) {st st' : CS} {N : Nat} {x1 : Int32} {x2 : Int32} {x3 : Int32} {o : Option Int32} (h : L_rowOf N st x1 x2 x3 = some (o, st')) : cX l yX0_rowOf cX0_rowOf 4 (some .int) 18 D cA ks ad A st [.ref (ad 60), .int x1, .int x2, .int x3] (o.map fun v => some (.int v)) st' := by
  refine cc_ofX (own := RX0) (by decide) rfl (Nat.le_of_ble_eq_true rfl) (fun p e s m below meth c R args ls C hr hlk htab hP hS hl hcs => ?_)
  have hx := C.1
  have hb := C.2.1
  have hown := C.2.2.2.1
  have hNst := C.2.2.2.2.2.2.2.1
  have hl : lv_has ls 4 [(0, .ref (ad 60)), (1, .int x1), (2, .int x2), (3, .int x3)] := hl
  rw [L_rowOf] at h
  refine lv_aload_n hx hb dX0_rowOf_0 rfl (lv_at hl 0 rfl) ?_
  refine lv_aload_n hx hb dX0_rowOf_1 rfl (lv_at hl 0 rfl) ?_
  refine lv_iload_n hx hb dX0_rowOf_2 rfl (lv_at hl 1 rfl) ?_
  obtain ⟨v1, hv1, h⟩ := bd1_some h
  refine k_L_isDebtor C hO hP hv1 q559 (Nat.le_of_ble_eq_true rfl) (Nat.le_refl _) hl.1 (Nat.le_of_ble_eq_true rfl) hcs dX0_rowOf_3 ?_
  refine lv_if_eq (tgt := 23) hx hb dX0_rowOf_6 rfl (fun c2 => ?_) (fun c2 => ?_)
  · have h := if_some_t h c2
    refine lv_iconst (v := 0) hx hb dX0_rowOf_23 (by decide) ?_
    refine lv_iconst (v := 1) hx hb dX0_rowOf_24 (by decide) ?_
    obtain ⟨o5, st4, hv3, h⟩ := bd2_some h
    rcases o5 with _ | v3
    · rw [onx_none] at h
      refine k_L_needT C hO hP hS hv3 q402 (Nat.le_of_ble_eq_true rfl) hl.1 (Nat.le_of_ble_eq_true rfl) hcs dX0_rowOf_25 (fun H locs hP hS => ?_)
      cases h
      exact x_out htab hlk rfl hP hS
    · rw [onx_some] at h
      refine k_L_needR C hO hP hS hv3 q402 (Nat.le_of_ble_eq_true rfl) hl.1 (Nat.le_of_ble_eq_true rfl) hcs dX0_rowOf_25 (fun H locs hP hS => ?_)
      refine lv_aload_n hx hb dX0_rowOf_28 rfl (lv_at hl 0 rfl) ?_
      refine lv_aload_n hx hb dX0_rowOf_29 rfl (lv_at hl 0 rfl) ?_
      refine lg_town C hO hP dX0_rowOf_30 ?_
      refine tgN_isBroken (t := 0) C hO (by decide) hP dX0_rowOf_33 ?_
      refine lv_iload_n hx hb dX0_rowOf_36 rfl (lv_at hl 1 rfl) ?_
      obtain ⟨v6, hv6, h⟩ := bd1_some h
      refine cc_zld C hP (hO.2.2.2 _ (tk_ 7 (by decide) (by decide))) (cg_t 7 (by decide) (by decide)) hv6 dX0_rowOf_37 ?_
      refine lv_if_ne (tgt := 45) hx hb dX0_rowOf_38 rfl (fun c7 => ?_) (fun c7 => ?_)
      · have h := if_some_f h c7
        refine lv_iconst (v := 0) hx hb dX0_rowOf_45 (by decide) ?_
        refine lv_iconst (v := 3) hx hb dX0_rowOf_46 (by decide) ?_
        obtain ⟨o10, st9, hv8, h⟩ := bd2_some h
        rcases o10 with _ | v8
        · rw [onx_none] at h
          refine k_L_needT C hO hP hS hv8 q402 (Nat.le_of_ble_eq_true rfl) hl.1 (Nat.le_of_ble_eq_true rfl) hcs dX0_rowOf_47 (fun H locs hP hS => ?_)
          cases h
          exact x_out htab hlk rfl hP hS
        · rw [onx_some] at h
          refine k_L_needR C hO hP hS hv8 q402 (Nat.le_of_ble_eq_true rfl) hl.1 (Nat.le_of_ble_eq_true rfl) hcs dX0_rowOf_47 (fun H locs hP hS => ?_)
          refine lv_aload_n hx hb dX0_rowOf_50 rfl (lv_at hl 0 rfl) ?_
          refine lg_tried C hO hP dX0_rowOf_51 ?_
          refine lv_aload_n hx hb dX0_rowOf_54 rfl (lv_at hl 0 rfl) ?_
          refine lg_town C hO hP dX0_rowOf_55 ?_
          obtain ⟨st11, hst11, h⟩ := bd1_some h
          refine k_T_become (t := 2) (u := 0) C hO (by decide) (by decide) hP hS hst11 q852 (Nat.le_of_ble_eq_true rfl) hl.1 (Nat.le_of_ble_eq_true rfl) hcs dX0_rowOf_58 (fun H locs hP hS => ?_)
          refine lv_pop hx hb dX0_rowOf_61 rfl ?_
          refine lv_aload_n hx hb dX0_rowOf_62 rfl (lv_at hl 0 rfl) ?_
          refine lv_iload_n hx hb dX0_rowOf_63 rfl (lv_at hl 2 rfl) ?_
          obtain ⟨w12, hw12, h⟩ := bd1_some h
          refine lp_isShortest C hO hP hS (zr_some hw12).1 dX0_rowOf_64 (fun H locs hP hS => ?_)
          refine lv_aload_n hx hb dX0_rowOf_67 rfl (lv_at hl 0 rfl) ?_
          refine lv_iconst (v := (-1)) hx hb dX0_rowOf_68 (by decide) ?_
          refine lp_bestMany C hO hP hS dX0_rowOf_69 (fun H locs hP hS => ?_)
          refine lv_aload_n hx hb dX0_rowOf_72 rfl (lv_at hl 0 rfl) ?_
          refine lv_iload_n hx hb dX0_rowOf_73 rfl (lv_at hl 1 rfl) ?_
          refine lv_iconst (v := 0) hx hb dX0_rowOf_74 (by decide) ?_
          obtain ⟨st14, hv13, h⟩ := bd1_some h
          refine k_L_goesOn C hO hP hS hv13 q1108 (Nat.le_of_ble_eq_true rfl) hl.1 (Nat.le_of_ble_eq_true rfl) hcs dX0_rowOf_75 (fun H locs hP hS => ?_)
          refine lv_aload_n hx hb dX0_rowOf_78 rfl (lv_at hl 0 rfl) ?_
          refine lv_aload_n hx hb dX0_rowOf_79 rfl (lv_at hl 0 rfl) ?_
          refine lg_bestMany C hO hP dX0_rowOf_80 ?_
          refine lv_iconst (v := (-1)) hx hb dX0_rowOf_83 (by decide) ?_
          refine lv_icmp_eq (tgt := 99) hx hb dX0_rowOf_84 rfl (fun c15 => ?_) (fun c15 => ?_)
          · have h := if_some_t h c15
            refine lv_iconst (v := 0) hx hb dX0_rowOf_99 (by decide) ?_
            refine lv_iconst (v := 2) hx hb dX0_rowOf_100 (by decide) ?_
            obtain ⟨o18, st17, hv16, h⟩ := bd2_some h
            rcases o18 with _ | v16
            · rw [onx_none] at h
              refine k_L_needT C hO hP hS hv16 q402 (Nat.le_of_ble_eq_true rfl) hl.1 (Nat.le_of_ble_eq_true rfl) hcs dX0_rowOf_101 (fun H locs hP hS => ?_)
              cases h
              exact x_out htab hlk rfl hP hS
            · rw [onx_some] at h
              refine k_L_needR C hO hP hS hv16 q402 (Nat.le_of_ble_eq_true rfl) hl.1 (Nat.le_of_ble_eq_true rfl) hcs dX0_rowOf_101 (fun H locs hP hS => ?_)
              refine lv_iload_n hx hb dX0_rowOf_104 rfl (lv_at hl 3 rfl) ?_
              refine lv_if_ge (tgt := 115) hx hb dX0_rowOf_105 rfl (fun c19 => ?_) (fun c19 => ?_)
              · have h := if_some_t h c19
                refine lv_aload_n hx hb dX0_rowOf_115 rfl (lv_at hl 0 rfl) ?_
                refine lg_bestRow C hO hP dX0_rowOf_116 ?_
                refine lv_iload_n hx hb dX0_rowOf_119 rfl (lv_at hl 3 rfl) ?_
                obtain ⟨v20, hv20, h⟩ := bd1_some h
                refine cc_ild C hP (hO.2.2.2 _ (by decide)) rfl hv20 dX0_rowOf_120 ?_
                cases h
                exact x_ans rfl (W.iret hx hb hr (fun t ht _ => ⟨rfl, by rw [ht]; exact hP, hS.F ht⟩) hS.2.2 dX0_rowOf_121)
              · have h := if_some_f h c19
                refine lv_aload_n hx hb dX0_rowOf_108 rfl (lv_at hl 0 rfl) ?_
                refine lg_bestMany C hO hP dX0_rowOf_109 ?_
                refine lv_goto (tgt := 121) hx hb dX0_rowOf_112 rfl ?_
                cases h
                exact x_ans rfl (W.iret hx hb hr (fun t ht _ => ⟨rfl, by rw [ht]; exact hP, hS.F ht⟩) hS.2.2 dX0_rowOf_121)
          · have h := if_some_f h c15
            refine lv_iload_n hx hb dX0_rowOf_87 rfl (lv_at hl 3 rfl) ?_
            refine lv_aload_n hx hb dX0_rowOf_88 rfl (lv_at hl 0 rfl) ?_
            refine lg_bestMany C hO hP dX0_rowOf_89 ?_
            refine lv_icmp_ge (tgt := 99) hx hb dX0_rowOf_92 rfl (fun c21 => ?_) (fun c21 => ?_)
            · have h := if_some_t h c21
              refine lv_iconst (v := 0) hx hb dX0_rowOf_99 (by decide) ?_
              refine lv_iconst (v := 2) hx hb dX0_rowOf_100 (by decide) ?_
              obtain ⟨o24, st23, hv22, h⟩ := bd2_some h
              rcases o24 with _ | v22
              · rw [onx_none] at h
                refine k_L_needT C hO hP hS hv22 q402 (Nat.le_of_ble_eq_true rfl) hl.1 (Nat.le_of_ble_eq_true rfl) hcs dX0_rowOf_101 (fun H locs hP hS => ?_)
                cases h
                exact x_out htab hlk rfl hP hS
              · rw [onx_some] at h
                refine k_L_needR C hO hP hS hv22 q402 (Nat.le_of_ble_eq_true rfl) hl.1 (Nat.le_of_ble_eq_true rfl) hcs dX0_rowOf_101 (fun H locs hP hS => ?_)
                refine lv_iload_n hx hb dX0_rowOf_104 rfl (lv_at hl 3 rfl) ?_
                refine lv_if_ge (tgt := 115) hx hb dX0_rowOf_105 rfl (fun c25 => ?_) (fun c25 => ?_)
                · have h := if_some_t h c25
                  refine lv_aload_n hx hb dX0_rowOf_115 rfl (lv_at hl 0 rfl) ?_
                  refine lg_bestRow C hO hP dX0_rowOf_116 ?_
                  refine lv_iload_n hx hb dX0_rowOf_119 rfl (lv_at hl 3 rfl) ?_
                  obtain ⟨v26, hv26, h⟩ := bd1_some h
                  refine cc_ild C hP (hO.2.2.2 _ (by decide)) rfl hv26 dX0_rowOf_120 ?_
                  cases h
                  exact x_ans rfl (W.iret hx hb hr (fun t ht _ => ⟨rfl, by rw [ht]; exact hP, hS.F ht⟩) hS.2.2 dX0_rowOf_121)
                · have h := if_some_f h c25
                  refine lv_aload_n hx hb dX0_rowOf_108 rfl (lv_at hl 0 rfl) ?_
                  refine lg_bestMany C hO hP dX0_rowOf_109 ?_
                  refine lv_goto (tgt := 121) hx hb dX0_rowOf_112 rfl ?_
                  cases h
                  exact x_ans rfl (W.iret hx hb hr (fun t ht _ => ⟨rfl, by rw [ht]; exact hP, hS.F ht⟩) hS.2.2 dX0_rowOf_121)
            · have h := if_some_f h c21
              refine lv_iconst (v := 1) hx hb dX0_rowOf_95 (by decide) ?_
              refine lv_goto (tgt := 100) hx hb dX0_rowOf_96 rfl ?_
              refine lv_iconst (v := 2) hx hb dX0_rowOf_100 (by decide) ?_
              obtain ⟨o29, st28, hv27, h⟩ := bd2_some h
              rcases o29 with _ | v27
              · rw [onx_none] at h
                refine k_L_needT C hO hP hS hv27 q402 (Nat.le_of_ble_eq_true rfl) hl.1 (Nat.le_of_ble_eq_true rfl) hcs dX0_rowOf_101 (fun H locs hP hS => ?_)
                cases h
                exact x_out htab hlk rfl hP hS
              · rw [onx_some] at h
                refine k_L_needR C hO hP hS hv27 q402 (Nat.le_of_ble_eq_true rfl) hl.1 (Nat.le_of_ble_eq_true rfl) hcs dX0_rowOf_101 (fun H locs hP hS => ?_)
                refine lv_iload_n hx hb dX0_rowOf_104 rfl (lv_at hl 3 rfl) ?_
                refine lv_if_ge (tgt := 115) hx hb dX0_rowOf_105 rfl (fun c30 => ?_) (fun c30 => ?_)
                · have h := if_some_t h c30
                  refine lv_aload_n hx hb dX0_rowOf_115 rfl (lv_at hl 0 rfl) ?_
                  refine lg_bestRow C hO hP dX0_rowOf_116 ?_
                  refine lv_iload_n hx hb dX0_rowOf_119 rfl (lv_at hl 3 rfl) ?_
                  obtain ⟨v31, hv31, h⟩ := bd1_some h
                  refine cc_ild C hP (hO.2.2.2 _ (by decide)) rfl hv31 dX0_rowOf_120 ?_
                  cases h
                  exact x_ans rfl (W.iret hx hb hr (fun t ht _ => ⟨rfl, by rw [ht]; exact hP, hS.F ht⟩) hS.2.2 dX0_rowOf_121)
                · have h := if_some_f h c30
                  refine lv_aload_n hx hb dX0_rowOf_108 rfl (lv_at hl 0 rfl) ?_
                  refine lg_bestMany C hO hP dX0_rowOf_109 ?_
                  refine lv_goto (tgt := 121) hx hb dX0_rowOf_112 rfl ?_
                  cases h
                  exact x_ans rfl (W.iret hx hb hr (fun t ht _ => ⟨rfl, by rw [ht]; exact hP, hS.F ht⟩) hS.2.2 dX0_rowOf_121)
      · have h := if_some_t h c7
        refine lv_iconst (v := 1) hx hb dX0_rowOf_41 (by decide) ?_
        refine lv_goto (tgt := 46) hx hb dX0_rowOf_42 rfl ?_
        refine lv_iconst (v := 3) hx hb dX0_rowOf_46 (by decide) ?_
        obtain ⟨o34, st33, hv32, h⟩ := bd2_some h
        rcases o34 with _ | v32
        · rw [onx_none] at h
          refine k_L_needT C hO hP hS hv32 q402 (Nat.le_of_ble_eq_true rfl) hl.1 (Nat.le_of_ble_eq_true rfl) hcs dX0_rowOf_47 (fun H locs hP hS => ?_)
          cases h
          exact x_out htab hlk rfl hP hS
        · rw [onx_some] at h
          refine k_L_needR C hO hP hS hv32 q402 (Nat.le_of_ble_eq_true rfl) hl.1 (Nat.le_of_ble_eq_true rfl) hcs dX0_rowOf_47 (fun H locs hP hS => ?_)
          refine lv_aload_n hx hb dX0_rowOf_50 rfl (lv_at hl 0 rfl) ?_
          refine lg_tried C hO hP dX0_rowOf_51 ?_
          refine lv_aload_n hx hb dX0_rowOf_54 rfl (lv_at hl 0 rfl) ?_
          refine lg_town C hO hP dX0_rowOf_55 ?_
          obtain ⟨st35, hst35, h⟩ := bd1_some h
          refine k_T_become (t := 2) (u := 0) C hO (by decide) (by decide) hP hS hst35 q852 (Nat.le_of_ble_eq_true rfl) hl.1 (Nat.le_of_ble_eq_true rfl) hcs dX0_rowOf_58 (fun H locs hP hS => ?_)
          refine lv_pop hx hb dX0_rowOf_61 rfl ?_
          refine lv_aload_n hx hb dX0_rowOf_62 rfl (lv_at hl 0 rfl) ?_
          refine lv_iload_n hx hb dX0_rowOf_63 rfl (lv_at hl 2 rfl) ?_
          obtain ⟨w36, hw36, h⟩ := bd1_some h
          refine lp_isShortest C hO hP hS (zr_some hw36).1 dX0_rowOf_64 (fun H locs hP hS => ?_)
          refine lv_aload_n hx hb dX0_rowOf_67 rfl (lv_at hl 0 rfl) ?_
          refine lv_iconst (v := (-1)) hx hb dX0_rowOf_68 (by decide) ?_
          refine lp_bestMany C hO hP hS dX0_rowOf_69 (fun H locs hP hS => ?_)
          refine lv_aload_n hx hb dX0_rowOf_72 rfl (lv_at hl 0 rfl) ?_
          refine lv_iload_n hx hb dX0_rowOf_73 rfl (lv_at hl 1 rfl) ?_
          refine lv_iconst (v := 0) hx hb dX0_rowOf_74 (by decide) ?_
          obtain ⟨st38, hv37, h⟩ := bd1_some h
          refine k_L_goesOn C hO hP hS hv37 q1108 (Nat.le_of_ble_eq_true rfl) hl.1 (Nat.le_of_ble_eq_true rfl) hcs dX0_rowOf_75 (fun H locs hP hS => ?_)
          refine lv_aload_n hx hb dX0_rowOf_78 rfl (lv_at hl 0 rfl) ?_
          refine lv_aload_n hx hb dX0_rowOf_79 rfl (lv_at hl 0 rfl) ?_
          refine lg_bestMany C hO hP dX0_rowOf_80 ?_
          refine lv_iconst (v := (-1)) hx hb dX0_rowOf_83 (by decide) ?_
          refine lv_icmp_eq (tgt := 99) hx hb dX0_rowOf_84 rfl (fun c39 => ?_) (fun c39 => ?_)
          · have h := if_some_t h c39
            refine lv_iconst (v := 0) hx hb dX0_rowOf_99 (by decide) ?_
            refine lv_iconst (v := 2) hx hb dX0_rowOf_100 (by decide) ?_
            obtain ⟨o42, st41, hv40, h⟩ := bd2_some h
            rcases o42 with _ | v40
            · rw [onx_none] at h
              refine k_L_needT C hO hP hS hv40 q402 (Nat.le_of_ble_eq_true rfl) hl.1 (Nat.le_of_ble_eq_true rfl) hcs dX0_rowOf_101 (fun H locs hP hS => ?_)
              cases h
              exact x_out htab hlk rfl hP hS
            · rw [onx_some] at h
              refine k_L_needR C hO hP hS hv40 q402 (Nat.le_of_ble_eq_true rfl) hl.1 (Nat.le_of_ble_eq_true rfl) hcs dX0_rowOf_101 (fun H locs hP hS => ?_)
              refine lv_iload_n hx hb dX0_rowOf_104 rfl (lv_at hl 3 rfl) ?_
              refine lv_if_ge (tgt := 115) hx hb dX0_rowOf_105 rfl (fun c43 => ?_) (fun c43 => ?_)
              · have h := if_some_t h c43
                refine lv_aload_n hx hb dX0_rowOf_115 rfl (lv_at hl 0 rfl) ?_
                refine lg_bestRow C hO hP dX0_rowOf_116 ?_
                refine lv_iload_n hx hb dX0_rowOf_119 rfl (lv_at hl 3 rfl) ?_
                obtain ⟨v44, hv44, h⟩ := bd1_some h
                refine cc_ild C hP (hO.2.2.2 _ (by decide)) rfl hv44 dX0_rowOf_120 ?_
                cases h
                exact x_ans rfl (W.iret hx hb hr (fun t ht _ => ⟨rfl, by rw [ht]; exact hP, hS.F ht⟩) hS.2.2 dX0_rowOf_121)
              · have h := if_some_f h c43
                refine lv_aload_n hx hb dX0_rowOf_108 rfl (lv_at hl 0 rfl) ?_
                refine lg_bestMany C hO hP dX0_rowOf_109 ?_
                refine lv_goto (tgt := 121) hx hb dX0_rowOf_112 rfl ?_
                cases h
                exact x_ans rfl (W.iret hx hb hr (fun t ht _ => ⟨rfl, by rw [ht]; exact hP, hS.F ht⟩) hS.2.2 dX0_rowOf_121)
          · have h := if_some_f h c39
            refine lv_iload_n hx hb dX0_rowOf_87 rfl (lv_at hl 3 rfl) ?_
            refine lv_aload_n hx hb dX0_rowOf_88 rfl (lv_at hl 0 rfl) ?_
            refine lg_bestMany C hO hP dX0_rowOf_89 ?_
            refine lv_icmp_ge (tgt := 99) hx hb dX0_rowOf_92 rfl (fun c45 => ?_) (fun c45 => ?_)
            · have h := if_some_t h c45
              refine lv_iconst (v := 0) hx hb dX0_rowOf_99 (by decide) ?_
              refine lv_iconst (v := 2) hx hb dX0_rowOf_100 (by decide) ?_
              obtain ⟨o48, st47, hv46, h⟩ := bd2_some h
              rcases o48 with _ | v46
              · rw [onx_none] at h
                refine k_L_needT C hO hP hS hv46 q402 (Nat.le_of_ble_eq_true rfl) hl.1 (Nat.le_of_ble_eq_true rfl) hcs dX0_rowOf_101 (fun H locs hP hS => ?_)
                cases h
                exact x_out htab hlk rfl hP hS
              · rw [onx_some] at h
                refine k_L_needR C hO hP hS hv46 q402 (Nat.le_of_ble_eq_true rfl) hl.1 (Nat.le_of_ble_eq_true rfl) hcs dX0_rowOf_101 (fun H locs hP hS => ?_)
                refine lv_iload_n hx hb dX0_rowOf_104 rfl (lv_at hl 3 rfl) ?_
                refine lv_if_ge (tgt := 115) hx hb dX0_rowOf_105 rfl (fun c49 => ?_) (fun c49 => ?_)
                · have h := if_some_t h c49
                  refine lv_aload_n hx hb dX0_rowOf_115 rfl (lv_at hl 0 rfl) ?_
                  refine lg_bestRow C hO hP dX0_rowOf_116 ?_
                  refine lv_iload_n hx hb dX0_rowOf_119 rfl (lv_at hl 3 rfl) ?_
                  obtain ⟨v50, hv50, h⟩ := bd1_some h
                  refine cc_ild C hP (hO.2.2.2 _ (by decide)) rfl hv50 dX0_rowOf_120 ?_
                  cases h
                  exact x_ans rfl (W.iret hx hb hr (fun t ht _ => ⟨rfl, by rw [ht]; exact hP, hS.F ht⟩) hS.2.2 dX0_rowOf_121)
                · have h := if_some_f h c49
                  refine lv_aload_n hx hb dX0_rowOf_108 rfl (lv_at hl 0 rfl) ?_
                  refine lg_bestMany C hO hP dX0_rowOf_109 ?_
                  refine lv_goto (tgt := 121) hx hb dX0_rowOf_112 rfl ?_
                  cases h
                  exact x_ans rfl (W.iret hx hb hr (fun t ht _ => ⟨rfl, by rw [ht]; exact hP, hS.F ht⟩) hS.2.2 dX0_rowOf_121)
            · have h := if_some_f h c45
              refine lv_iconst (v := 1) hx hb dX0_rowOf_95 (by decide) ?_
              refine lv_goto (tgt := 100) hx hb dX0_rowOf_96 rfl ?_
              refine lv_iconst (v := 2) hx hb dX0_rowOf_100 (by decide) ?_
              obtain ⟨o53, st52, hv51, h⟩ := bd2_some h
              rcases o53 with _ | v51
              · rw [onx_none] at h
                refine k_L_needT C hO hP hS hv51 q402 (Nat.le_of_ble_eq_true rfl) hl.1 (Nat.le_of_ble_eq_true rfl) hcs dX0_rowOf_101 (fun H locs hP hS => ?_)
                cases h
                exact x_out htab hlk rfl hP hS
              · rw [onx_some] at h
                refine k_L_needR C hO hP hS hv51 q402 (Nat.le_of_ble_eq_true rfl) hl.1 (Nat.le_of_ble_eq_true rfl) hcs dX0_rowOf_101 (fun H locs hP hS => ?_)
                refine lv_iload_n hx hb dX0_rowOf_104 rfl (lv_at hl 3 rfl) ?_
                refine lv_if_ge (tgt := 115) hx hb dX0_rowOf_105 rfl (fun c54 => ?_) (fun c54 => ?_)
                · have h := if_some_t h c54
                  refine lv_aload_n hx hb dX0_rowOf_115 rfl (lv_at hl 0 rfl) ?_
                  refine lg_bestRow C hO hP dX0_rowOf_116 ?_
                  refine lv_iload_n hx hb dX0_rowOf_119 rfl (lv_at hl 3 rfl) ?_
                  obtain ⟨v55, hv55, h⟩ := bd1_some h
                  refine cc_ild C hP (hO.2.2.2 _ (by decide)) rfl hv55 dX0_rowOf_120 ?_
                  cases h
                  exact x_ans rfl (W.iret hx hb hr (fun t ht _ => ⟨rfl, by rw [ht]; exact hP, hS.F ht⟩) hS.2.2 dX0_rowOf_121)
                · have h := if_some_f h c54
                  refine lv_aload_n hx hb dX0_rowOf_108 rfl (lv_at hl 0 rfl) ?_
                  refine lg_bestMany C hO hP dX0_rowOf_109 ?_
                  refine lv_goto (tgt := 121) hx hb dX0_rowOf_112 rfl ?_
                  cases h
                  exact x_ans rfl (W.iret hx hb hr (fun t ht _ => ⟨rfl, by rw [ht]; exact hP, hS.F ht⟩) hS.2.2 dX0_rowOf_121)
  · have h := if_some_f h c2
    refine lv_iload_n hx hb dX0_rowOf_9 rfl (lv_at hl 3 rfl) ?_
    refine lv_iconst (v := (-1)) hx hb dX0_rowOf_10 (by decide) ?_
    refine lv_bipush (v := 7) hx hb dX0_rowOf_11 (by decide) ?_
    obtain ⟨v56, hv56, h⟩ := bd1_some h
    refine k_L_in hx hb C.2.2.1 hown C.2.2.2.2.1 C.2.2.2.2.2.1 q399 hv56 (Nat.le_of_ble_eq_true rfl) hl.1 (Nat.le_of_ble_eq_true rfl) hcs dX0_rowOf_13 ?_
    refine lv_if_eq (tgt := 23) hx hb dX0_rowOf_16 rfl (fun c57 => ?_) (fun c57 => ?_)
    · have h := if_some_t h c57
      refine lv_iconst (v := 0) hx hb dX0_rowOf_23 (by decide) ?_
      refine lv_iconst (v := 1) hx hb dX0_rowOf_24 (by decide) ?_
      obtain ⟨o60, st59, hv58, h⟩ := bd2_some h
      rcases o60 with _ | v58
      · rw [onx_none] at h
        refine k_L_needT C hO hP hS hv58 q402 (Nat.le_of_ble_eq_true rfl) hl.1 (Nat.le_of_ble_eq_true rfl) hcs dX0_rowOf_25 (fun H locs hP hS => ?_)
        cases h
        exact x_out htab hlk rfl hP hS
      · rw [onx_some] at h
        refine k_L_needR C hO hP hS hv58 q402 (Nat.le_of_ble_eq_true rfl) hl.1 (Nat.le_of_ble_eq_true rfl) hcs dX0_rowOf_25 (fun H locs hP hS => ?_)
        refine lv_aload_n hx hb dX0_rowOf_28 rfl (lv_at hl 0 rfl) ?_
        refine lv_aload_n hx hb dX0_rowOf_29 rfl (lv_at hl 0 rfl) ?_
        refine lg_town C hO hP dX0_rowOf_30 ?_
        refine tgN_isBroken (t := 0) C hO (by decide) hP dX0_rowOf_33 ?_
        refine lv_iload_n hx hb dX0_rowOf_36 rfl (lv_at hl 1 rfl) ?_
        obtain ⟨v61, hv61, h⟩ := bd1_some h
        refine cc_zld C hP (hO.2.2.2 _ (tk_ 7 (by decide) (by decide))) (cg_t 7 (by decide) (by decide)) hv61 dX0_rowOf_37 ?_
        refine lv_if_ne (tgt := 45) hx hb dX0_rowOf_38 rfl (fun c62 => ?_) (fun c62 => ?_)
        · have h := if_some_f h c62
          refine lv_iconst (v := 0) hx hb dX0_rowOf_45 (by decide) ?_
          refine lv_iconst (v := 3) hx hb dX0_rowOf_46 (by decide) ?_
          obtain ⟨o65, st64, hv63, h⟩ := bd2_some h
          rcases o65 with _ | v63
          · rw [onx_none] at h
            refine k_L_needT C hO hP hS hv63 q402 (Nat.le_of_ble_eq_true rfl) hl.1 (Nat.le_of_ble_eq_true rfl) hcs dX0_rowOf_47 (fun H locs hP hS => ?_)
            cases h
            exact x_out htab hlk rfl hP hS
          · rw [onx_some] at h
            refine k_L_needR C hO hP hS hv63 q402 (Nat.le_of_ble_eq_true rfl) hl.1 (Nat.le_of_ble_eq_true rfl) hcs dX0_rowOf_47 (fun H locs hP hS => ?_)
            refine lv_aload_n hx hb dX0_rowOf_50 rfl (lv_at hl 0 rfl) ?_
            refine lg_tried C hO hP dX0_rowOf_51 ?_
            refine lv_aload_n hx hb dX0_rowOf_54 rfl (lv_at hl 0 rfl) ?_
            refine lg_town C hO hP dX0_rowOf_55 ?_
            obtain ⟨st66, hst66, h⟩ := bd1_some h
            refine k_T_become (t := 2) (u := 0) C hO (by decide) (by decide) hP hS hst66 q852 (Nat.le_of_ble_eq_true rfl) hl.1 (Nat.le_of_ble_eq_true rfl) hcs dX0_rowOf_58 (fun H locs hP hS => ?_)
            refine lv_pop hx hb dX0_rowOf_61 rfl ?_
            refine lv_aload_n hx hb dX0_rowOf_62 rfl (lv_at hl 0 rfl) ?_
            refine lv_iload_n hx hb dX0_rowOf_63 rfl (lv_at hl 2 rfl) ?_
            obtain ⟨w67, hw67, h⟩ := bd1_some h
            refine lp_isShortest C hO hP hS (zr_some hw67).1 dX0_rowOf_64 (fun H locs hP hS => ?_)
            refine lv_aload_n hx hb dX0_rowOf_67 rfl (lv_at hl 0 rfl) ?_
            refine lv_iconst (v := (-1)) hx hb dX0_rowOf_68 (by decide) ?_
            refine lp_bestMany C hO hP hS dX0_rowOf_69 (fun H locs hP hS => ?_)
            refine lv_aload_n hx hb dX0_rowOf_72 rfl (lv_at hl 0 rfl) ?_
            refine lv_iload_n hx hb dX0_rowOf_73 rfl (lv_at hl 1 rfl) ?_
            refine lv_iconst (v := 0) hx hb dX0_rowOf_74 (by decide) ?_
            obtain ⟨st69, hv68, h⟩ := bd1_some h
            refine k_L_goesOn C hO hP hS hv68 q1108 (Nat.le_of_ble_eq_true rfl) hl.1 (Nat.le_of_ble_eq_true rfl) hcs dX0_rowOf_75 (fun H locs hP hS => ?_)
            refine lv_aload_n hx hb dX0_rowOf_78 rfl (lv_at hl 0 rfl) ?_
            refine lv_aload_n hx hb dX0_rowOf_79 rfl (lv_at hl 0 rfl) ?_
            refine lg_bestMany C hO hP dX0_rowOf_80 ?_
            refine lv_iconst (v := (-1)) hx hb dX0_rowOf_83 (by decide) ?_
            refine lv_icmp_eq (tgt := 99) hx hb dX0_rowOf_84 rfl (fun c70 => ?_) (fun c70 => ?_)
            · have h := if_some_t h c70
              refine lv_iconst (v := 0) hx hb dX0_rowOf_99 (by decide) ?_
              refine lv_iconst (v := 2) hx hb dX0_rowOf_100 (by decide) ?_
              obtain ⟨o73, st72, hv71, h⟩ := bd2_some h
              rcases o73 with _ | v71
              · rw [onx_none] at h
                refine k_L_needT C hO hP hS hv71 q402 (Nat.le_of_ble_eq_true rfl) hl.1 (Nat.le_of_ble_eq_true rfl) hcs dX0_rowOf_101 (fun H locs hP hS => ?_)
                cases h
                exact x_out htab hlk rfl hP hS
              · rw [onx_some] at h
                refine k_L_needR C hO hP hS hv71 q402 (Nat.le_of_ble_eq_true rfl) hl.1 (Nat.le_of_ble_eq_true rfl) hcs dX0_rowOf_101 (fun H locs hP hS => ?_)
                refine lv_iload_n hx hb dX0_rowOf_104 rfl (lv_at hl 3 rfl) ?_
                refine lv_if_ge (tgt := 115) hx hb dX0_rowOf_105 rfl (fun c74 => ?_) (fun c74 => ?_)
                · have h := if_some_t h c74
                  refine lv_aload_n hx hb dX0_rowOf_115 rfl (lv_at hl 0 rfl) ?_
                  refine lg_bestRow C hO hP dX0_rowOf_116 ?_
                  refine lv_iload_n hx hb dX0_rowOf_119 rfl (lv_at hl 3 rfl) ?_
                  obtain ⟨v75, hv75, h⟩ := bd1_some h
                  refine cc_ild C hP (hO.2.2.2 _ (by decide)) rfl hv75 dX0_rowOf_120 ?_
                  cases h
                  exact x_ans rfl (W.iret hx hb hr (fun t ht _ => ⟨rfl, by rw [ht]; exact hP, hS.F ht⟩) hS.2.2 dX0_rowOf_121)
                · have h := if_some_f h c74
                  refine lv_aload_n hx hb dX0_rowOf_108 rfl (lv_at hl 0 rfl) ?_
                  refine lg_bestMany C hO hP dX0_rowOf_109 ?_
                  refine lv_goto (tgt := 121) hx hb dX0_rowOf_112 rfl ?_
                  cases h
                  exact x_ans rfl (W.iret hx hb hr (fun t ht _ => ⟨rfl, by rw [ht]; exact hP, hS.F ht⟩) hS.2.2 dX0_rowOf_121)
            · have h := if_some_f h c70
              refine lv_iload_n hx hb dX0_rowOf_87 rfl (lv_at hl 3 rfl) ?_
              refine lv_aload_n hx hb dX0_rowOf_88 rfl (lv_at hl 0 rfl) ?_
              refine lg_bestMany C hO hP dX0_rowOf_89 ?_
              refine lv_icmp_ge (tgt := 99) hx hb dX0_rowOf_92 rfl (fun c76 => ?_) (fun c76 => ?_)
              · have h := if_some_t h c76
                refine lv_iconst (v := 0) hx hb dX0_rowOf_99 (by decide) ?_
                refine lv_iconst (v := 2) hx hb dX0_rowOf_100 (by decide) ?_
                obtain ⟨o79, st78, hv77, h⟩ := bd2_some h
                rcases o79 with _ | v77
                · rw [onx_none] at h
                  refine k_L_needT C hO hP hS hv77 q402 (Nat.le_of_ble_eq_true rfl) hl.1 (Nat.le_of_ble_eq_true rfl) hcs dX0_rowOf_101 (fun H locs hP hS => ?_)
                  cases h
                  exact x_out htab hlk rfl hP hS
                · rw [onx_some] at h
                  refine k_L_needR C hO hP hS hv77 q402 (Nat.le_of_ble_eq_true rfl) hl.1 (Nat.le_of_ble_eq_true rfl) hcs dX0_rowOf_101 (fun H locs hP hS => ?_)
                  refine lv_iload_n hx hb dX0_rowOf_104 rfl (lv_at hl 3 rfl) ?_
                  refine lv_if_ge (tgt := 115) hx hb dX0_rowOf_105 rfl (fun c80 => ?_) (fun c80 => ?_)
                  · have h := if_some_t h c80
                    refine lv_aload_n hx hb dX0_rowOf_115 rfl (lv_at hl 0 rfl) ?_
                    refine lg_bestRow C hO hP dX0_rowOf_116 ?_
                    refine lv_iload_n hx hb dX0_rowOf_119 rfl (lv_at hl 3 rfl) ?_
                    obtain ⟨v81, hv81, h⟩ := bd1_some h
                    refine cc_ild C hP (hO.2.2.2 _ (by decide)) rfl hv81 dX0_rowOf_120 ?_
                    cases h
                    exact x_ans rfl (W.iret hx hb hr (fun t ht _ => ⟨rfl, by rw [ht]; exact hP, hS.F ht⟩) hS.2.2 dX0_rowOf_121)
                  · have h := if_some_f h c80
                    refine lv_aload_n hx hb dX0_rowOf_108 rfl (lv_at hl 0 rfl) ?_
                    refine lg_bestMany C hO hP dX0_rowOf_109 ?_
                    refine lv_goto (tgt := 121) hx hb dX0_rowOf_112 rfl ?_
                    cases h
                    exact x_ans rfl (W.iret hx hb hr (fun t ht _ => ⟨rfl, by rw [ht]; exact hP, hS.F ht⟩) hS.2.2 dX0_rowOf_121)
              · have h := if_some_f h c76
                refine lv_iconst (v := 1) hx hb dX0_rowOf_95 (by decide) ?_
                refine lv_goto (tgt := 100) hx hb dX0_rowOf_96 rfl ?_
                refine lv_iconst (v := 2) hx hb dX0_rowOf_100 (by decide) ?_
                obtain ⟨o84, st83, hv82, h⟩ := bd2_some h
                rcases o84 with _ | v82
                · rw [onx_none] at h
                  refine k_L_needT C hO hP hS hv82 q402 (Nat.le_of_ble_eq_true rfl) hl.1 (Nat.le_of_ble_eq_true rfl) hcs dX0_rowOf_101 (fun H locs hP hS => ?_)
                  cases h
                  exact x_out htab hlk rfl hP hS
                · rw [onx_some] at h
                  refine k_L_needR C hO hP hS hv82 q402 (Nat.le_of_ble_eq_true rfl) hl.1 (Nat.le_of_ble_eq_true rfl) hcs dX0_rowOf_101 (fun H locs hP hS => ?_)
                  refine lv_iload_n hx hb dX0_rowOf_104 rfl (lv_at hl 3 rfl) ?_
                  refine lv_if_ge (tgt := 115) hx hb dX0_rowOf_105 rfl (fun c85 => ?_) (fun c85 => ?_)
                  · have h := if_some_t h c85
                    refine lv_aload_n hx hb dX0_rowOf_115 rfl (lv_at hl 0 rfl) ?_
                    refine lg_bestRow C hO hP dX0_rowOf_116 ?_
                    refine lv_iload_n hx hb dX0_rowOf_119 rfl (lv_at hl 3 rfl) ?_
                    obtain ⟨v86, hv86, h⟩ := bd1_some h
                    refine cc_ild C hP (hO.2.2.2 _ (by decide)) rfl hv86 dX0_rowOf_120 ?_
                    cases h
                    exact x_ans rfl (W.iret hx hb hr (fun t ht _ => ⟨rfl, by rw [ht]; exact hP, hS.F ht⟩) hS.2.2 dX0_rowOf_121)
                  · have h := if_some_f h c85
                    refine lv_aload_n hx hb dX0_rowOf_108 rfl (lv_at hl 0 rfl) ?_
                    refine lg_bestMany C hO hP dX0_rowOf_109 ?_
                    refine lv_goto (tgt := 121) hx hb dX0_rowOf_112 rfl ?_
                    cases h
                    exact x_ans rfl (W.iret hx hb hr (fun t ht _ => ⟨rfl, by rw [ht]; exact hP, hS.F ht⟩) hS.2.2 dX0_rowOf_121)
        · have h := if_some_t h c62
          refine lv_iconst (v := 1) hx hb dX0_rowOf_41 (by decide) ?_
          refine lv_goto (tgt := 46) hx hb dX0_rowOf_42 rfl ?_
          refine lv_iconst (v := 3) hx hb dX0_rowOf_46 (by decide) ?_
          obtain ⟨o89, st88, hv87, h⟩ := bd2_some h
          rcases o89 with _ | v87
          · rw [onx_none] at h
            refine k_L_needT C hO hP hS hv87 q402 (Nat.le_of_ble_eq_true rfl) hl.1 (Nat.le_of_ble_eq_true rfl) hcs dX0_rowOf_47 (fun H locs hP hS => ?_)
            cases h
            exact x_out htab hlk rfl hP hS
          · rw [onx_some] at h
            refine k_L_needR C hO hP hS hv87 q402 (Nat.le_of_ble_eq_true rfl) hl.1 (Nat.le_of_ble_eq_true rfl) hcs dX0_rowOf_47 (fun H locs hP hS => ?_)
            refine lv_aload_n hx hb dX0_rowOf_50 rfl (lv_at hl 0 rfl) ?_
            refine lg_tried C hO hP dX0_rowOf_51 ?_
            refine lv_aload_n hx hb dX0_rowOf_54 rfl (lv_at hl 0 rfl) ?_
            refine lg_town C hO hP dX0_rowOf_55 ?_
            obtain ⟨st90, hst90, h⟩ := bd1_some h
            refine k_T_become (t := 2) (u := 0) C hO (by decide) (by decide) hP hS hst90 q852 (Nat.le_of_ble_eq_true rfl) hl.1 (Nat.le_of_ble_eq_true rfl) hcs dX0_rowOf_58 (fun H locs hP hS => ?_)
            refine lv_pop hx hb dX0_rowOf_61 rfl ?_
            refine lv_aload_n hx hb dX0_rowOf_62 rfl (lv_at hl 0 rfl) ?_
            refine lv_iload_n hx hb dX0_rowOf_63 rfl (lv_at hl 2 rfl) ?_
            obtain ⟨w91, hw91, h⟩ := bd1_some h
            refine lp_isShortest C hO hP hS (zr_some hw91).1 dX0_rowOf_64 (fun H locs hP hS => ?_)
            refine lv_aload_n hx hb dX0_rowOf_67 rfl (lv_at hl 0 rfl) ?_
            refine lv_iconst (v := (-1)) hx hb dX0_rowOf_68 (by decide) ?_
            refine lp_bestMany C hO hP hS dX0_rowOf_69 (fun H locs hP hS => ?_)
            refine lv_aload_n hx hb dX0_rowOf_72 rfl (lv_at hl 0 rfl) ?_
            refine lv_iload_n hx hb dX0_rowOf_73 rfl (lv_at hl 1 rfl) ?_
            refine lv_iconst (v := 0) hx hb dX0_rowOf_74 (by decide) ?_
            obtain ⟨st93, hv92, h⟩ := bd1_some h
            refine k_L_goesOn C hO hP hS hv92 q1108 (Nat.le_of_ble_eq_true rfl) hl.1 (Nat.le_of_ble_eq_true rfl) hcs dX0_rowOf_75 (fun H locs hP hS => ?_)
            refine lv_aload_n hx hb dX0_rowOf_78 rfl (lv_at hl 0 rfl) ?_
            refine lv_aload_n hx hb dX0_rowOf_79 rfl (lv_at hl 0 rfl) ?_
            refine lg_bestMany C hO hP dX0_rowOf_80 ?_
            refine lv_iconst (v := (-1)) hx hb dX0_rowOf_83 (by decide) ?_
            refine lv_icmp_eq (tgt := 99) hx hb dX0_rowOf_84 rfl (fun c94 => ?_) (fun c94 => ?_)
            · have h := if_some_t h c94
              refine lv_iconst (v := 0) hx hb dX0_rowOf_99 (by decide) ?_
              refine lv_iconst (v := 2) hx hb dX0_rowOf_100 (by decide) ?_
              obtain ⟨o97, st96, hv95, h⟩ := bd2_some h
              rcases o97 with _ | v95
              · rw [onx_none] at h
                refine k_L_needT C hO hP hS hv95 q402 (Nat.le_of_ble_eq_true rfl) hl.1 (Nat.le_of_ble_eq_true rfl) hcs dX0_rowOf_101 (fun H locs hP hS => ?_)
                cases h
                exact x_out htab hlk rfl hP hS
              · rw [onx_some] at h
                refine k_L_needR C hO hP hS hv95 q402 (Nat.le_of_ble_eq_true rfl) hl.1 (Nat.le_of_ble_eq_true rfl) hcs dX0_rowOf_101 (fun H locs hP hS => ?_)
                refine lv_iload_n hx hb dX0_rowOf_104 rfl (lv_at hl 3 rfl) ?_
                refine lv_if_ge (tgt := 115) hx hb dX0_rowOf_105 rfl (fun c98 => ?_) (fun c98 => ?_)
                · have h := if_some_t h c98
                  refine lv_aload_n hx hb dX0_rowOf_115 rfl (lv_at hl 0 rfl) ?_
                  refine lg_bestRow C hO hP dX0_rowOf_116 ?_
                  refine lv_iload_n hx hb dX0_rowOf_119 rfl (lv_at hl 3 rfl) ?_
                  obtain ⟨v99, hv99, h⟩ := bd1_some h
                  refine cc_ild C hP (hO.2.2.2 _ (by decide)) rfl hv99 dX0_rowOf_120 ?_
                  cases h
                  exact x_ans rfl (W.iret hx hb hr (fun t ht _ => ⟨rfl, by rw [ht]; exact hP, hS.F ht⟩) hS.2.2 dX0_rowOf_121)
                · have h := if_some_f h c98
                  refine lv_aload_n hx hb dX0_rowOf_108 rfl (lv_at hl 0 rfl) ?_
                  refine lg_bestMany C hO hP dX0_rowOf_109 ?_
                  refine lv_goto (tgt := 121) hx hb dX0_rowOf_112 rfl ?_
                  cases h
                  exact x_ans rfl (W.iret hx hb hr (fun t ht _ => ⟨rfl, by rw [ht]; exact hP, hS.F ht⟩) hS.2.2 dX0_rowOf_121)
            · have h := if_some_f h c94
              refine lv_iload_n hx hb dX0_rowOf_87 rfl (lv_at hl 3 rfl) ?_
              refine lv_aload_n hx hb dX0_rowOf_88 rfl (lv_at hl 0 rfl) ?_
              refine lg_bestMany C hO hP dX0_rowOf_89 ?_
              refine lv_icmp_ge (tgt := 99) hx hb dX0_rowOf_92 rfl (fun c100 => ?_) (fun c100 => ?_)
              · have h := if_some_t h c100
                refine lv_iconst (v := 0) hx hb dX0_rowOf_99 (by decide) ?_
                refine lv_iconst (v := 2) hx hb dX0_rowOf_100 (by decide) ?_
                obtain ⟨o103, st102, hv101, h⟩ := bd2_some h
                rcases o103 with _ | v101
                · rw [onx_none] at h
                  refine k_L_needT C hO hP hS hv101 q402 (Nat.le_of_ble_eq_true rfl) hl.1 (Nat.le_of_ble_eq_true rfl) hcs dX0_rowOf_101 (fun H locs hP hS => ?_)
                  cases h
                  exact x_out htab hlk rfl hP hS
                · rw [onx_some] at h
                  refine k_L_needR C hO hP hS hv101 q402 (Nat.le_of_ble_eq_true rfl) hl.1 (Nat.le_of_ble_eq_true rfl) hcs dX0_rowOf_101 (fun H locs hP hS => ?_)
                  refine lv_iload_n hx hb dX0_rowOf_104 rfl (lv_at hl 3 rfl) ?_
                  refine lv_if_ge (tgt := 115) hx hb dX0_rowOf_105 rfl (fun c104 => ?_) (fun c104 => ?_)
                  · have h := if_some_t h c104
                    refine lv_aload_n hx hb dX0_rowOf_115 rfl (lv_at hl 0 rfl) ?_
                    refine lg_bestRow C hO hP dX0_rowOf_116 ?_
                    refine lv_iload_n hx hb dX0_rowOf_119 rfl (lv_at hl 3 rfl) ?_
                    obtain ⟨v105, hv105, h⟩ := bd1_some h
                    refine cc_ild C hP (hO.2.2.2 _ (by decide)) rfl hv105 dX0_rowOf_120 ?_
                    cases h
                    exact x_ans rfl (W.iret hx hb hr (fun t ht _ => ⟨rfl, by rw [ht]; exact hP, hS.F ht⟩) hS.2.2 dX0_rowOf_121)
                  · have h := if_some_f h c104
                    refine lv_aload_n hx hb dX0_rowOf_108 rfl (lv_at hl 0 rfl) ?_
                    refine lg_bestMany C hO hP dX0_rowOf_109 ?_
                    refine lv_goto (tgt := 121) hx hb dX0_rowOf_112 rfl ?_
                    cases h
                    exact x_ans rfl (W.iret hx hb hr (fun t ht _ => ⟨rfl, by rw [ht]; exact hP, hS.F ht⟩) hS.2.2 dX0_rowOf_121)
              · have h := if_some_f h c100
                refine lv_iconst (v := 1) hx hb dX0_rowOf_95 (by decide) ?_
                refine lv_goto (tgt := 100) hx hb dX0_rowOf_96 rfl ?_
                refine lv_iconst (v := 2) hx hb dX0_rowOf_100 (by decide) ?_
                obtain ⟨o108, st107, hv106, h⟩ := bd2_some h
                rcases o108 with _ | v106
                · rw [onx_none] at h
                  refine k_L_needT C hO hP hS hv106 q402 (Nat.le_of_ble_eq_true rfl) hl.1 (Nat.le_of_ble_eq_true rfl) hcs dX0_rowOf_101 (fun H locs hP hS => ?_)
                  cases h
                  exact x_out htab hlk rfl hP hS
                · rw [onx_some] at h
                  refine k_L_needR C hO hP hS hv106 q402 (Nat.le_of_ble_eq_true rfl) hl.1 (Nat.le_of_ble_eq_true rfl) hcs dX0_rowOf_101 (fun H locs hP hS => ?_)
                  refine lv_iload_n hx hb dX0_rowOf_104 rfl (lv_at hl 3 rfl) ?_
                  refine lv_if_ge (tgt := 115) hx hb dX0_rowOf_105 rfl (fun c109 => ?_) (fun c109 => ?_)
                  · have h := if_some_t h c109
                    refine lv_aload_n hx hb dX0_rowOf_115 rfl (lv_at hl 0 rfl) ?_
                    refine lg_bestRow C hO hP dX0_rowOf_116 ?_
                    refine lv_iload_n hx hb dX0_rowOf_119 rfl (lv_at hl 3 rfl) ?_
                    obtain ⟨v110, hv110, h⟩ := bd1_some h
                    refine cc_ild C hP (hO.2.2.2 _ (by decide)) rfl hv110 dX0_rowOf_120 ?_
                    cases h
                    exact x_ans rfl (W.iret hx hb hr (fun t ht _ => ⟨rfl, by rw [ht]; exact hP, hS.F ht⟩) hS.2.2 dX0_rowOf_121)
                  · have h := if_some_f h c109
                    refine lv_aload_n hx hb dX0_rowOf_108 rfl (lv_at hl 0 rfl) ?_
                    refine lg_bestMany C hO hP dX0_rowOf_109 ?_
                    refine lv_goto (tgt := 121) hx hb dX0_rowOf_112 rfl ?_
                    cases h
                    exact x_ans rfl (W.iret hx hb hr (fun t ht _ => ⟨rfl, by rw [ht]; exact hP, hS.F ht⟩) hS.2.2 dX0_rowOf_121)
    · have h := if_some_f h c57
      refine lv_iconst (v := 1) hx hb dX0_rowOf_19 (by decide) ?_
      refine lv_goto (tgt := 24) hx hb dX0_rowOf_20 rfl ?_
      refine lv_iconst (v := 1) hx hb dX0_rowOf_24 (by decide) ?_
      obtain ⟨o113, st112, hv111, h⟩ := bd2_some h
      rcases o113 with _ | v111
      · rw [onx_none] at h
        refine k_L_needT C hO hP hS hv111 q402 (Nat.le_of_ble_eq_true rfl) hl.1 (Nat.le_of_ble_eq_true rfl) hcs dX0_rowOf_25 (fun H locs hP hS => ?_)
        cases h
        exact x_out htab hlk rfl hP hS
      · rw [onx_some] at h
        refine k_L_needR C hO hP hS hv111 q402 (Nat.le_of_ble_eq_true rfl) hl.1 (Nat.le_of_ble_eq_true rfl) hcs dX0_rowOf_25 (fun H locs hP hS => ?_)
        refine lv_aload_n hx hb dX0_rowOf_28 rfl (lv_at hl 0 rfl) ?_
        refine lv_aload_n hx hb dX0_rowOf_29 rfl (lv_at hl 0 rfl) ?_
        refine lg_town C hO hP dX0_rowOf_30 ?_
        refine tgN_isBroken (t := 0) C hO (by decide) hP dX0_rowOf_33 ?_
        refine lv_iload_n hx hb dX0_rowOf_36 rfl (lv_at hl 1 rfl) ?_
        obtain ⟨v114, hv114, h⟩ := bd1_some h
        refine cc_zld C hP (hO.2.2.2 _ (tk_ 7 (by decide) (by decide))) (cg_t 7 (by decide) (by decide)) hv114 dX0_rowOf_37 ?_
        refine lv_if_ne (tgt := 45) hx hb dX0_rowOf_38 rfl (fun c115 => ?_) (fun c115 => ?_)
        · have h := if_some_f h c115
          refine lv_iconst (v := 0) hx hb dX0_rowOf_45 (by decide) ?_
          refine lv_iconst (v := 3) hx hb dX0_rowOf_46 (by decide) ?_
          obtain ⟨o118, st117, hv116, h⟩ := bd2_some h
          rcases o118 with _ | v116
          · rw [onx_none] at h
            refine k_L_needT C hO hP hS hv116 q402 (Nat.le_of_ble_eq_true rfl) hl.1 (Nat.le_of_ble_eq_true rfl) hcs dX0_rowOf_47 (fun H locs hP hS => ?_)
            cases h
            exact x_out htab hlk rfl hP hS
          · rw [onx_some] at h
            refine k_L_needR C hO hP hS hv116 q402 (Nat.le_of_ble_eq_true rfl) hl.1 (Nat.le_of_ble_eq_true rfl) hcs dX0_rowOf_47 (fun H locs hP hS => ?_)
            refine lv_aload_n hx hb dX0_rowOf_50 rfl (lv_at hl 0 rfl) ?_
            refine lg_tried C hO hP dX0_rowOf_51 ?_
            refine lv_aload_n hx hb dX0_rowOf_54 rfl (lv_at hl 0 rfl) ?_
            refine lg_town C hO hP dX0_rowOf_55 ?_
            obtain ⟨st119, hst119, h⟩ := bd1_some h
            refine k_T_become (t := 2) (u := 0) C hO (by decide) (by decide) hP hS hst119 q852 (Nat.le_of_ble_eq_true rfl) hl.1 (Nat.le_of_ble_eq_true rfl) hcs dX0_rowOf_58 (fun H locs hP hS => ?_)
            refine lv_pop hx hb dX0_rowOf_61 rfl ?_
            refine lv_aload_n hx hb dX0_rowOf_62 rfl (lv_at hl 0 rfl) ?_
            refine lv_iload_n hx hb dX0_rowOf_63 rfl (lv_at hl 2 rfl) ?_
            obtain ⟨w120, hw120, h⟩ := bd1_some h
            refine lp_isShortest C hO hP hS (zr_some hw120).1 dX0_rowOf_64 (fun H locs hP hS => ?_)
            refine lv_aload_n hx hb dX0_rowOf_67 rfl (lv_at hl 0 rfl) ?_
            refine lv_iconst (v := (-1)) hx hb dX0_rowOf_68 (by decide) ?_
            refine lp_bestMany C hO hP hS dX0_rowOf_69 (fun H locs hP hS => ?_)
            refine lv_aload_n hx hb dX0_rowOf_72 rfl (lv_at hl 0 rfl) ?_
            refine lv_iload_n hx hb dX0_rowOf_73 rfl (lv_at hl 1 rfl) ?_
            refine lv_iconst (v := 0) hx hb dX0_rowOf_74 (by decide) ?_
            obtain ⟨st122, hv121, h⟩ := bd1_some h
            refine k_L_goesOn C hO hP hS hv121 q1108 (Nat.le_of_ble_eq_true rfl) hl.1 (Nat.le_of_ble_eq_true rfl) hcs dX0_rowOf_75 (fun H locs hP hS => ?_)
            refine lv_aload_n hx hb dX0_rowOf_78 rfl (lv_at hl 0 rfl) ?_
            refine lv_aload_n hx hb dX0_rowOf_79 rfl (lv_at hl 0 rfl) ?_
            refine lg_bestMany C hO hP dX0_rowOf_80 ?_
            refine lv_iconst (v := (-1)) hx hb dX0_rowOf_83 (by decide) ?_
            refine lv_icmp_eq (tgt := 99) hx hb dX0_rowOf_84 rfl (fun c123 => ?_) (fun c123 => ?_)
            · have h := if_some_t h c123
              refine lv_iconst (v := 0) hx hb dX0_rowOf_99 (by decide) ?_
              refine lv_iconst (v := 2) hx hb dX0_rowOf_100 (by decide) ?_
              obtain ⟨o126, st125, hv124, h⟩ := bd2_some h
              rcases o126 with _ | v124
              · rw [onx_none] at h
                refine k_L_needT C hO hP hS hv124 q402 (Nat.le_of_ble_eq_true rfl) hl.1 (Nat.le_of_ble_eq_true rfl) hcs dX0_rowOf_101 (fun H locs hP hS => ?_)
                cases h
                exact x_out htab hlk rfl hP hS
              · rw [onx_some] at h
                refine k_L_needR C hO hP hS hv124 q402 (Nat.le_of_ble_eq_true rfl) hl.1 (Nat.le_of_ble_eq_true rfl) hcs dX0_rowOf_101 (fun H locs hP hS => ?_)
                refine lv_iload_n hx hb dX0_rowOf_104 rfl (lv_at hl 3 rfl) ?_
                refine lv_if_ge (tgt := 115) hx hb dX0_rowOf_105 rfl (fun c127 => ?_) (fun c127 => ?_)
                · have h := if_some_t h c127
                  refine lv_aload_n hx hb dX0_rowOf_115 rfl (lv_at hl 0 rfl) ?_
                  refine lg_bestRow C hO hP dX0_rowOf_116 ?_
                  refine lv_iload_n hx hb dX0_rowOf_119 rfl (lv_at hl 3 rfl) ?_
                  obtain ⟨v128, hv128, h⟩ := bd1_some h
                  refine cc_ild C hP (hO.2.2.2 _ (by decide)) rfl hv128 dX0_rowOf_120 ?_
                  cases h
                  exact x_ans rfl (W.iret hx hb hr (fun t ht _ => ⟨rfl, by rw [ht]; exact hP, hS.F ht⟩) hS.2.2 dX0_rowOf_121)
                · have h := if_some_f h c127
                  refine lv_aload_n hx hb dX0_rowOf_108 rfl (lv_at hl 0 rfl) ?_
                  refine lg_bestMany C hO hP dX0_rowOf_109 ?_
                  refine lv_goto (tgt := 121) hx hb dX0_rowOf_112 rfl ?_
                  cases h
                  exact x_ans rfl (W.iret hx hb hr (fun t ht _ => ⟨rfl, by rw [ht]; exact hP, hS.F ht⟩) hS.2.2 dX0_rowOf_121)
            · have h := if_some_f h c123
              refine lv_iload_n hx hb dX0_rowOf_87 rfl (lv_at hl 3 rfl) ?_
              refine lv_aload_n hx hb dX0_rowOf_88 rfl (lv_at hl 0 rfl) ?_
              refine lg_bestMany C hO hP dX0_rowOf_89 ?_
              refine lv_icmp_ge (tgt := 99) hx hb dX0_rowOf_92 rfl (fun c129 => ?_) (fun c129 => ?_)
              · have h := if_some_t h c129
                refine lv_iconst (v := 0) hx hb dX0_rowOf_99 (by decide) ?_
                refine lv_iconst (v := 2) hx hb dX0_rowOf_100 (by decide) ?_
                obtain ⟨o132, st131, hv130, h⟩ := bd2_some h
                rcases o132 with _ | v130
                · rw [onx_none] at h
                  refine k_L_needT C hO hP hS hv130 q402 (Nat.le_of_ble_eq_true rfl) hl.1 (Nat.le_of_ble_eq_true rfl) hcs dX0_rowOf_101 (fun H locs hP hS => ?_)
                  cases h
                  exact x_out htab hlk rfl hP hS
                · rw [onx_some] at h
                  refine k_L_needR C hO hP hS hv130 q402 (Nat.le_of_ble_eq_true rfl) hl.1 (Nat.le_of_ble_eq_true rfl) hcs dX0_rowOf_101 (fun H locs hP hS => ?_)
                  refine lv_iload_n hx hb dX0_rowOf_104 rfl (lv_at hl 3 rfl) ?_
                  refine lv_if_ge (tgt := 115) hx hb dX0_rowOf_105 rfl (fun c133 => ?_) (fun c133 => ?_)
                  · have h := if_some_t h c133
                    refine lv_aload_n hx hb dX0_rowOf_115 rfl (lv_at hl 0 rfl) ?_
                    refine lg_bestRow C hO hP dX0_rowOf_116 ?_
                    refine lv_iload_n hx hb dX0_rowOf_119 rfl (lv_at hl 3 rfl) ?_
                    obtain ⟨v134, hv134, h⟩ := bd1_some h
                    refine cc_ild C hP (hO.2.2.2 _ (by decide)) rfl hv134 dX0_rowOf_120 ?_
                    cases h
                    exact x_ans rfl (W.iret hx hb hr (fun t ht _ => ⟨rfl, by rw [ht]; exact hP, hS.F ht⟩) hS.2.2 dX0_rowOf_121)
                  · have h := if_some_f h c133
                    refine lv_aload_n hx hb dX0_rowOf_108 rfl (lv_at hl 0 rfl) ?_
                    refine lg_bestMany C hO hP dX0_rowOf_109 ?_
                    refine lv_goto (tgt := 121) hx hb dX0_rowOf_112 rfl ?_
                    cases h
                    exact x_ans rfl (W.iret hx hb hr (fun t ht _ => ⟨rfl, by rw [ht]; exact hP, hS.F ht⟩) hS.2.2 dX0_rowOf_121)
              · have h := if_some_f h c129
                refine lv_iconst (v := 1) hx hb dX0_rowOf_95 (by decide) ?_
                refine lv_goto (tgt := 100) hx hb dX0_rowOf_96 rfl ?_
                refine lv_iconst (v := 2) hx hb dX0_rowOf_100 (by decide) ?_
                obtain ⟨o137, st136, hv135, h⟩ := bd2_some h
                rcases o137 with _ | v135
                · rw [onx_none] at h
                  refine k_L_needT C hO hP hS hv135 q402 (Nat.le_of_ble_eq_true rfl) hl.1 (Nat.le_of_ble_eq_true rfl) hcs dX0_rowOf_101 (fun H locs hP hS => ?_)
                  cases h
                  exact x_out htab hlk rfl hP hS
                · rw [onx_some] at h
                  refine k_L_needR C hO hP hS hv135 q402 (Nat.le_of_ble_eq_true rfl) hl.1 (Nat.le_of_ble_eq_true rfl) hcs dX0_rowOf_101 (fun H locs hP hS => ?_)
                  refine lv_iload_n hx hb dX0_rowOf_104 rfl (lv_at hl 3 rfl) ?_
                  refine lv_if_ge (tgt := 115) hx hb dX0_rowOf_105 rfl (fun c138 => ?_) (fun c138 => ?_)
                  · have h := if_some_t h c138
                    refine lv_aload_n hx hb dX0_rowOf_115 rfl (lv_at hl 0 rfl) ?_
                    refine lg_bestRow C hO hP dX0_rowOf_116 ?_
                    refine lv_iload_n hx hb dX0_rowOf_119 rfl (lv_at hl 3 rfl) ?_
                    obtain ⟨v139, hv139, h⟩ := bd1_some h
                    refine cc_ild C hP (hO.2.2.2 _ (by decide)) rfl hv139 dX0_rowOf_120 ?_
                    cases h
                    exact x_ans rfl (W.iret hx hb hr (fun t ht _ => ⟨rfl, by rw [ht]; exact hP, hS.F ht⟩) hS.2.2 dX0_rowOf_121)
                  · have h := if_some_f h c138
                    refine lv_aload_n hx hb dX0_rowOf_108 rfl (lv_at hl 0 rfl) ?_
                    refine lg_bestMany C hO hP dX0_rowOf_109 ?_
                    refine lv_goto (tgt := 121) hx hb dX0_rowOf_112 rfl ?_
                    cases h
                    exact x_ans rfl (W.iret hx hb hr (fun t ht _ => ⟨rfl, by rw [ht]; exact hP, hS.F ht⟩) hS.2.2 dX0_rowOf_121)
        · have h := if_some_t h c115
          refine lv_iconst (v := 1) hx hb dX0_rowOf_41 (by decide) ?_
          refine lv_goto (tgt := 46) hx hb dX0_rowOf_42 rfl ?_
          refine lv_iconst (v := 3) hx hb dX0_rowOf_46 (by decide) ?_
          obtain ⟨o142, st141, hv140, h⟩ := bd2_some h
          rcases o142 with _ | v140
          · rw [onx_none] at h
            refine k_L_needT C hO hP hS hv140 q402 (Nat.le_of_ble_eq_true rfl) hl.1 (Nat.le_of_ble_eq_true rfl) hcs dX0_rowOf_47 (fun H locs hP hS => ?_)
            cases h
            exact x_out htab hlk rfl hP hS
          · rw [onx_some] at h
            refine k_L_needR C hO hP hS hv140 q402 (Nat.le_of_ble_eq_true rfl) hl.1 (Nat.le_of_ble_eq_true rfl) hcs dX0_rowOf_47 (fun H locs hP hS => ?_)
            refine lv_aload_n hx hb dX0_rowOf_50 rfl (lv_at hl 0 rfl) ?_
            refine lg_tried C hO hP dX0_rowOf_51 ?_
            refine lv_aload_n hx hb dX0_rowOf_54 rfl (lv_at hl 0 rfl) ?_
            refine lg_town C hO hP dX0_rowOf_55 ?_
            obtain ⟨st143, hst143, h⟩ := bd1_some h
            refine k_T_become (t := 2) (u := 0) C hO (by decide) (by decide) hP hS hst143 q852 (Nat.le_of_ble_eq_true rfl) hl.1 (Nat.le_of_ble_eq_true rfl) hcs dX0_rowOf_58 (fun H locs hP hS => ?_)
            refine lv_pop hx hb dX0_rowOf_61 rfl ?_
            refine lv_aload_n hx hb dX0_rowOf_62 rfl (lv_at hl 0 rfl) ?_
            refine lv_iload_n hx hb dX0_rowOf_63 rfl (lv_at hl 2 rfl) ?_
            obtain ⟨w144, hw144, h⟩ := bd1_some h
            refine lp_isShortest C hO hP hS (zr_some hw144).1 dX0_rowOf_64 (fun H locs hP hS => ?_)
            refine lv_aload_n hx hb dX0_rowOf_67 rfl (lv_at hl 0 rfl) ?_
            refine lv_iconst (v := (-1)) hx hb dX0_rowOf_68 (by decide) ?_
            refine lp_bestMany C hO hP hS dX0_rowOf_69 (fun H locs hP hS => ?_)
            refine lv_aload_n hx hb dX0_rowOf_72 rfl (lv_at hl 0 rfl) ?_
            refine lv_iload_n hx hb dX0_rowOf_73 rfl (lv_at hl 1 rfl) ?_
            refine lv_iconst (v := 0) hx hb dX0_rowOf_74 (by decide) ?_
            obtain ⟨st146, hv145, h⟩ := bd1_some h
            refine k_L_goesOn C hO hP hS hv145 q1108 (Nat.le_of_ble_eq_true rfl) hl.1 (Nat.le_of_ble_eq_true rfl) hcs dX0_rowOf_75 (fun H locs hP hS => ?_)
            refine lv_aload_n hx hb dX0_rowOf_78 rfl (lv_at hl 0 rfl) ?_
            refine lv_aload_n hx hb dX0_rowOf_79 rfl (lv_at hl 0 rfl) ?_
            refine lg_bestMany C hO hP dX0_rowOf_80 ?_
            refine lv_iconst (v := (-1)) hx hb dX0_rowOf_83 (by decide) ?_
            refine lv_icmp_eq (tgt := 99) hx hb dX0_rowOf_84 rfl (fun c147 => ?_) (fun c147 => ?_)
            · have h := if_some_t h c147
              refine lv_iconst (v := 0) hx hb dX0_rowOf_99 (by decide) ?_
              refine lv_iconst (v := 2) hx hb dX0_rowOf_100 (by decide) ?_
              obtain ⟨o150, st149, hv148, h⟩ := bd2_some h
              rcases o150 with _ | v148
              · rw [onx_none] at h
                refine k_L_needT C hO hP hS hv148 q402 (Nat.le_of_ble_eq_true rfl) hl.1 (Nat.le_of_ble_eq_true rfl) hcs dX0_rowOf_101 (fun H locs hP hS => ?_)
                cases h
                exact x_out htab hlk rfl hP hS
              · rw [onx_some] at h
                refine k_L_needR C hO hP hS hv148 q402 (Nat.le_of_ble_eq_true rfl) hl.1 (Nat.le_of_ble_eq_true rfl) hcs dX0_rowOf_101 (fun H locs hP hS => ?_)
                refine lv_iload_n hx hb dX0_rowOf_104 rfl (lv_at hl 3 rfl) ?_
                refine lv_if_ge (tgt := 115) hx hb dX0_rowOf_105 rfl (fun c151 => ?_) (fun c151 => ?_)
                · have h := if_some_t h c151
                  refine lv_aload_n hx hb dX0_rowOf_115 rfl (lv_at hl 0 rfl) ?_
                  refine lg_bestRow C hO hP dX0_rowOf_116 ?_
                  refine lv_iload_n hx hb dX0_rowOf_119 rfl (lv_at hl 3 rfl) ?_
                  obtain ⟨v152, hv152, h⟩ := bd1_some h
                  refine cc_ild C hP (hO.2.2.2 _ (by decide)) rfl hv152 dX0_rowOf_120 ?_
                  cases h
                  exact x_ans rfl (W.iret hx hb hr (fun t ht _ => ⟨rfl, by rw [ht]; exact hP, hS.F ht⟩) hS.2.2 dX0_rowOf_121)
                · have h := if_some_f h c151
                  refine lv_aload_n hx hb dX0_rowOf_108 rfl (lv_at hl 0 rfl) ?_
                  refine lg_bestMany C hO hP dX0_rowOf_109 ?_
                  refine lv_goto (tgt := 121) hx hb dX0_rowOf_112 rfl ?_
                  cases h
                  exact x_ans rfl (W.iret hx hb hr (fun t ht _ => ⟨rfl, by rw [ht]; exact hP, hS.F ht⟩) hS.2.2 dX0_rowOf_121)
            · have h := if_some_f h c147
              refine lv_iload_n hx hb dX0_rowOf_87 rfl (lv_at hl 3 rfl) ?_
              refine lv_aload_n hx hb dX0_rowOf_88 rfl (lv_at hl 0 rfl) ?_
              refine lg_bestMany C hO hP dX0_rowOf_89 ?_
              refine lv_icmp_ge (tgt := 99) hx hb dX0_rowOf_92 rfl (fun c153 => ?_) (fun c153 => ?_)
              · have h := if_some_t h c153
                refine lv_iconst (v := 0) hx hb dX0_rowOf_99 (by decide) ?_
                refine lv_iconst (v := 2) hx hb dX0_rowOf_100 (by decide) ?_
                obtain ⟨o156, st155, hv154, h⟩ := bd2_some h
                rcases o156 with _ | v154
                · rw [onx_none] at h
                  refine k_L_needT C hO hP hS hv154 q402 (Nat.le_of_ble_eq_true rfl) hl.1 (Nat.le_of_ble_eq_true rfl) hcs dX0_rowOf_101 (fun H locs hP hS => ?_)
                  cases h
                  exact x_out htab hlk rfl hP hS
                · rw [onx_some] at h
                  refine k_L_needR C hO hP hS hv154 q402 (Nat.le_of_ble_eq_true rfl) hl.1 (Nat.le_of_ble_eq_true rfl) hcs dX0_rowOf_101 (fun H locs hP hS => ?_)
                  refine lv_iload_n hx hb dX0_rowOf_104 rfl (lv_at hl 3 rfl) ?_
                  refine lv_if_ge (tgt := 115) hx hb dX0_rowOf_105 rfl (fun c157 => ?_) (fun c157 => ?_)
                  · have h := if_some_t h c157
                    refine lv_aload_n hx hb dX0_rowOf_115 rfl (lv_at hl 0 rfl) ?_
                    refine lg_bestRow C hO hP dX0_rowOf_116 ?_
                    refine lv_iload_n hx hb dX0_rowOf_119 rfl (lv_at hl 3 rfl) ?_
                    obtain ⟨v158, hv158, h⟩ := bd1_some h
                    refine cc_ild C hP (hO.2.2.2 _ (by decide)) rfl hv158 dX0_rowOf_120 ?_
                    cases h
                    exact x_ans rfl (W.iret hx hb hr (fun t ht _ => ⟨rfl, by rw [ht]; exact hP, hS.F ht⟩) hS.2.2 dX0_rowOf_121)
                  · have h := if_some_f h c157
                    refine lv_aload_n hx hb dX0_rowOf_108 rfl (lv_at hl 0 rfl) ?_
                    refine lg_bestMany C hO hP dX0_rowOf_109 ?_
                    refine lv_goto (tgt := 121) hx hb dX0_rowOf_112 rfl ?_
                    cases h
                    exact x_ans rfl (W.iret hx hb hr (fun t ht _ => ⟨rfl, by rw [ht]; exact hP, hS.F ht⟩) hS.2.2 dX0_rowOf_121)
              · have h := if_some_f h c153
                refine lv_iconst (v := 1) hx hb dX0_rowOf_95 (by decide) ?_
                refine lv_goto (tgt := 100) hx hb dX0_rowOf_96 rfl ?_
                refine lv_iconst (v := 2) hx hb dX0_rowOf_100 (by decide) ?_
                obtain ⟨o161, st160, hv159, h⟩ := bd2_some h
                rcases o161 with _ | v159
                · rw [onx_none] at h
                  refine k_L_needT C hO hP hS hv159 q402 (Nat.le_of_ble_eq_true rfl) hl.1 (Nat.le_of_ble_eq_true rfl) hcs dX0_rowOf_101 (fun H locs hP hS => ?_)
                  cases h
                  exact x_out htab hlk rfl hP hS
                · rw [onx_some] at h
                  refine k_L_needR C hO hP hS hv159 q402 (Nat.le_of_ble_eq_true rfl) hl.1 (Nat.le_of_ble_eq_true rfl) hcs dX0_rowOf_101 (fun H locs hP hS => ?_)
                  refine lv_iload_n hx hb dX0_rowOf_104 rfl (lv_at hl 3 rfl) ?_
                  refine lv_if_ge (tgt := 115) hx hb dX0_rowOf_105 rfl (fun c162 => ?_) (fun c162 => ?_)
                  · have h := if_some_t h c162
                    refine lv_aload_n hx hb dX0_rowOf_115 rfl (lv_at hl 0 rfl) ?_
                    refine lg_bestRow C hO hP dX0_rowOf_116 ?_
                    refine lv_iload_n hx hb dX0_rowOf_119 rfl (lv_at hl 3 rfl) ?_
                    obtain ⟨v163, hv163, h⟩ := bd1_some h
                    refine cc_ild C hP (hO.2.2.2 _ (by decide)) rfl hv163 dX0_rowOf_120 ?_
                    cases h
                    exact x_ans rfl (W.iret hx hb hr (fun t ht _ => ⟨rfl, by rw [ht]; exact hP, hS.F ht⟩) hS.2.2 dX0_rowOf_121)
                  · have h := if_some_f h c162
                    refine lv_aload_n hx hb dX0_rowOf_108 rfl (lv_at hl 0 rfl) ?_
                    refine lg_bestMany C hO hP dX0_rowOf_109 ?_
                    refine lv_goto (tgt := 121) hx hb dX0_rowOf_112 rfl ?_
                    cases h
                    exact x_ans rfl (W.iret hx hb hr (fun t ht _ => ⟨rfl, by rw [ht]; exact hP, hS.F ht⟩) hS.2.2 dX0_rowOf_121)
theorem q1107 : (Jvm.Cond.code ({ cls := "ChapterLoan", name := "rowOf", desc := "(IZI)I" } : Jvm.MethodName) prog_1_method_40_code (4 : Nat) (Option.some Jvm.ClassFile.FieldType.int)) ∈ lw_all := lw_g (lw_at lw_m5 63 rfl) rfl
theorem q1106 : (Jvm.Cond.instanceMethod ({ cls := "ChapterLoan", name := "rowOf", desc := "(IZI)I" } : Jvm.MethodName)) ∈ lw_all := lw_g (lw_at lw_m5 62 rfl) rfl
theorem k_L_rowOfR {N : Nat} {a0 : Int32} {a1 : Int32} {a2 : Int32} {v : Int32} {st' : CS} (C : cC p R d s m args c cc nL RX0 D cA A) (hO : klOk A ks ad) (hP : cW D cA ks ad st H) (hS : va_S A s.heap H locs) (h : L_rowOf N st a0 a1 a2 = some ((some v), st')) (hl : Cond.methodLink RX0 index yX0_rowOf ∈ lw_all) (hd : 18 + 1 ≤ d) (hsz : ls.size = nL) (hW : (rest.map fun v => v.category).sum ≤ 8) (hcs : cells ≤ R.cells ∧ slots ≤ R.slots) (hdg : decode cc pc = .ok (.invokevirtual index, 3)) (kk : ∀ (H1 : Heap) (locs1 : List Loc), cW D cA ks ad st' H1 → va_S A s.heap H1 locs1 → W p l e R s m args below meth c H1 locs1 cells slots Q (F0 m (pc + 3) ls (.int v :: rest))) : W p l e R s m args below meth c H locs cells slots Q (F0 m pc ls (.int a2 :: .int a1 :: .int a0 :: .ref (ad 60) :: rest)) :=
  cc_cXR (As := [.int a0, .int a1, .int a2]) C hP hS (w_L_rowOf hO h) (cwV 3 C.2.2.2.2.1 (lw_V hl q1106 qs22 q85 q1107) rfl rfl rfl (by decide +kernel) (mr_ C.2.2.2.2.2.1 hd (by decide))) (cc_recv C hP (hO.2.2.2 60 (by decide)) rfl (q := (RX0, TX0, 13)) rfl) rfl (by decide +kernel) hsz rfl hW hdg hcs kk
theorem k_L_rowOfT {N : Nat} {a0 : Int32} {a1 : Int32} {a2 : Int32} {st' : CS} (C : cC p R d s m args c cc nL RX0 D cA A) (hO : klOk A ks ad) (hP : cW D cA ks ad st H) (hS : va_S A s.heap H locs) (h : L_rowOf N st a0 a1 a2 = some (none, st')) (hl : Cond.methodLink RX0 index yX0_rowOf ∈ lw_all) (hd : 18 + 1 ≤ d) (hsz : ls.size = nL) (hW : (rest.map fun v => v.category).sum ≤ 8) (hcs : cells ≤ R.cells ∧ slots ≤ R.slots) (hdg : decode cc pc = .ok (.invokevirtual index, 3)) (kk : ∀ (H1 : Heap) (locs1 : List Loc), cW D cA ks ad st' H1 → va_S A s.heap H1 locs1 → WT p l e R s m args below meth c H1 locs1 cells slots Q (ad 61) (F0 m pc ls rest)) : W p l e R s m args below meth c H locs cells slots Q (F0 m pc ls (.int a2 :: .int a1 :: .int a0 :: .ref (ad 60) :: rest)) :=
  cc_cXT (As := [.int a0, .int a1, .int a2]) C hP hS (w_L_rowOf hO h) (cwV 3 C.2.2.2.2.1 (lw_V hl q1106 qs22 q85 q1107) rfl rfl rfl (by decide +kernel) (mr_ C.2.2.2.2.2.1 hd (by decide))) (cc_recv C hP (hO.2.2.2 60 (by decide)) rfl (q := (RX0, TX0, 13)) rfl) rfl (by decide +kernel) hsz rfl hW hdg hcs kk
abbrev cX0_served : ByteArray := prog_1_method_41_code
def yX0_served : MethodName := ⟨RX0, "served", "(II)I"⟩
theorem dX0_served_0 : decode cX0_served 0 = .ok (.aload_n 0, 1) := by decide +kernel
theorem dX0_served_1 : decode cX0_served 1 = .ok (.iload_n 1, 1) := by decide +kernel
theorem dX0_served_2 : decode cX0_served 2 = .ok (.iconst 0, 1) := by decide +kernel
theorem dX0_served_3 : decode cX0_served 3 = .ok (.iload_n 2, 1) := by decide +kernel
theorem dX0_served_4 : decode cX0_served 4 = .ok (.invokevirtual 294, 3) := by decide +kernel
theorem dX0_served_7 : decode cX0_served 7 = .ok (.ireturn, 1) := by decide +kernel
theorem dX0_served_8 : decode cX0_served 8 = .ok (.astore_n 3, 1) := by decide +kernel
theorem dX0_served_9 : decode cX0_served 9 = .ok (.aload_n 0, 1) := by decide +kernel
theorem dX0_served_10 : decode cX0_served 10 = .ok (.aload_n 3, 1) := by decide +kernel
theorem dX0_served_11 : decode cX0_served 11 = .ok (.invokevirtual 123, 3) := by decide +kernel
theorem dX0_served_14 : decode cX0_served 14 = .ok (.ireturn, 1) := by decide +kernel
theorem q1104 : (Jvm.Cond.methodLink "ChapterLoan" (294 : Nat) ({ cls := "ChapterLoan", name := "rowOf", desc := "(IZI)I" } : Jvm.MethodName)) ∈ lw_all := lw_g (lw_at lw_m5 60 rfl) rfl
theorem w_L_served {l : Launch} {D : va_G} {cA : Nat → ClassId} {ks : List Nat} {ad : Nat → Nat} {A : Nat → Prop} (hO : klOk A ks ad) {st st' : CS} {N : Nat} {x1 : Int32} {x2 : Int32} {r0 : Int32} (h : L_served N st x1 x2 = some (r0, st')) : Met l yX0_served (wsW_ yX0_served cX0_served 4 (some .int) [(0, 7, 8, 8)]) (k2_rm 19 (40 * 19)) (cPre D cA ks ad A st [.ref (ad 60), .int x1, .int x2]) (cQ (some (.int r0)) D cA ks ad A st') 0 0 A := by
  refine cc_ofH (own := RX0) (by decide) rfl (Nat.le_of_ble_eq_true rfl) (fun p e s m below meth c R args ls C hr hlk htab hP hS hl hcs => ?_)
  have hx := C.1
  have hb := C.2.1
  have hown := C.2.2.2.1
  have hNst := C.2.2.2.2.2.2.2.1
  have hl : lv_has ls 4 [(0, .ref (ad 60)), (1, .int x1), (2, .int x2)] := hl
  rw [L_served] at h
  refine lv_aload_n hx hb dX0_served_0 rfl (lv_at hl 0 rfl) ?_
  refine lv_iload_n hx hb dX0_served_1 rfl (lv_at hl 1 rfl) ?_
  refine lv_iconst (v := 0) hx hb dX0_served_2 (by decide) ?_
  refine lv_iload_n hx hb dX0_served_3 rfl (lv_at hl 2 rfl) ?_
  obtain ⟨o3, st2, hv1, h⟩ := bd2_some h
  rcases o3 with _ | v1
  · rw [onx_none] at h
    refine k_L_rowOfT C hO hP hS hv1 q1104 (Nat.le_of_ble_eq_true rfl) hl.1 (Nat.le_of_ble_eq_true rfl) hcs dX0_served_4 (fun H locs hP hS => ?_)
    refine cc_catch (pre := []) (a1 := 0) (a2 := 7) (hp := 8) (post := []) C hO hP q129 htab rfl rfl ?_
    refine lv_astore_n (lv' := [(3, .ref (ad 61)), (0, .ref (ad 60)), (1, .int x1), (2, .int x2)]) hx hb dX0_served_8 rfl hl (by decide) rfl (fun ls hl => ?_)
    refine lv_aload_n hx hb dX0_served_9 rfl (lv_at hl 1 rfl) ?_
    refine lv_aload_n hx hb dX0_served_10 rfl (lv_at hl 0 rfl) ?_
    obtain ⟨v4, st5, hv4, h⟩ := bd2_some h
    refine k_L_finds C hO hP hS hv4 q410 (Nat.le_of_ble_eq_true rfl) hl.1 (Nat.le_of_ble_eq_true rfl) hcs dX0_served_11 (fun H locs hP hS => ?_)
    exact cc_viret hx hb hr hlk h hP hS dX0_served_14
  · rw [onx_some] at h
    refine k_L_rowOfR C hO hP hS hv1 q1104 (Nat.le_of_ble_eq_true rfl) hl.1 (Nat.le_of_ble_eq_true rfl) hcs dX0_served_4 (fun H locs hP hS => ?_)
    exact cc_viret hx hb hr hlk h hP hS dX0_served_7
abbrev cX0_closed : ByteArray := prog_1_method_42_code
def yX0_closed : MethodName := ⟨RX0, "closed", "(II)I"⟩
theorem dX0_closed_0 : decode cX0_closed 0 = .ok (.aload_n 0, 1) := by decide +kernel
theorem dX0_closed_1 : decode cX0_closed 1 = .ok (.iload_n 1, 1) := by decide +kernel
theorem dX0_closed_2 : decode cX0_closed 2 = .ok (.iconst 1, 1) := by decide +kernel
theorem dX0_closed_3 : decode cX0_closed 3 = .ok (.iload_n 2, 1) := by decide +kernel
theorem dX0_closed_4 : decode cX0_closed 4 = .ok (.invokevirtual 294, 3) := by decide +kernel
theorem dX0_closed_7 : decode cX0_closed 7 = .ok (.ireturn, 1) := by decide +kernel
theorem dX0_closed_8 : decode cX0_closed 8 = .ok (.astore_n 3, 1) := by decide +kernel
theorem dX0_closed_9 : decode cX0_closed 9 = .ok (.aload_n 0, 1) := by decide +kernel
theorem dX0_closed_10 : decode cX0_closed 10 = .ok (.aload_n 3, 1) := by decide +kernel
theorem dX0_closed_11 : decode cX0_closed 11 = .ok (.invokevirtual 123, 3) := by decide +kernel
theorem dX0_closed_14 : decode cX0_closed 14 = .ok (.ireturn, 1) := by decide +kernel
theorem w_L_closed {l : Launch} {D : va_G} {cA : Nat → ClassId} {ks : List Nat} {ad : Nat → Nat} {A : Nat → Prop} (hO : klOk A ks ad) {st st' : CS} {N : Nat} {x1 : Int32} {x2 : Int32} {r0 : Int32} (h : L_closed N st x1 x2 = some (r0, st')) : Met l yX0_closed (wsW_ yX0_closed cX0_closed 4 (some .int) [(0, 7, 8, 8)]) (k2_rm 19 (40 * 19)) (cPre D cA ks ad A st [.ref (ad 60), .int x1, .int x2]) (cQ (some (.int r0)) D cA ks ad A st') 0 0 A := by
  refine cc_ofH (own := RX0) (by decide) rfl (Nat.le_of_ble_eq_true rfl) (fun p e s m below meth c R args ls C hr hlk htab hP hS hl hcs => ?_)
  have hx := C.1
  have hb := C.2.1
  have hown := C.2.2.2.1
  have hNst := C.2.2.2.2.2.2.2.1
  have hl : lv_has ls 4 [(0, .ref (ad 60)), (1, .int x1), (2, .int x2)] := hl
  rw [L_closed] at h
  refine lv_aload_n hx hb dX0_closed_0 rfl (lv_at hl 0 rfl) ?_
  refine lv_iload_n hx hb dX0_closed_1 rfl (lv_at hl 1 rfl) ?_
  refine lv_iconst (v := 1) hx hb dX0_closed_2 (by decide) ?_
  refine lv_iload_n hx hb dX0_closed_3 rfl (lv_at hl 2 rfl) ?_
  obtain ⟨o3, st2, hv1, h⟩ := bd2_some h
  rcases o3 with _ | v1
  · rw [onx_none] at h
    refine k_L_rowOfT C hO hP hS hv1 q1104 (Nat.le_of_ble_eq_true rfl) hl.1 (Nat.le_of_ble_eq_true rfl) hcs dX0_closed_4 (fun H locs hP hS => ?_)
    refine cc_catch (pre := []) (a1 := 0) (a2 := 7) (hp := 8) (post := []) C hO hP q129 htab rfl rfl ?_
    refine lv_astore_n (lv' := [(3, .ref (ad 61)), (0, .ref (ad 60)), (1, .int x1), (2, .int x2)]) hx hb dX0_closed_8 rfl hl (by decide) rfl (fun ls hl => ?_)
    refine lv_aload_n hx hb dX0_closed_9 rfl (lv_at hl 1 rfl) ?_
    refine lv_aload_n hx hb dX0_closed_10 rfl (lv_at hl 0 rfl) ?_
    obtain ⟨v4, st5, hv4, h⟩ := bd2_some h
    refine k_L_finds C hO hP hS hv4 q410 (Nat.le_of_ble_eq_true rfl) hl.1 (Nat.le_of_ble_eq_true rfl) hcs dX0_closed_11 (fun H locs hP hS => ?_)
    exact cc_viret hx hb hr hlk h hP hS dX0_closed_14
  · rw [onx_some] at h
    refine k_L_rowOfR C hO hP hS hv1 q1104 (Nat.le_of_ble_eq_true rfl) hl.1 (Nat.le_of_ble_eq_true rfl) hcs dX0_closed_4 (fun H locs hP hS => ?_)
    exact cc_viret hx hb hr hlk h hP hS dX0_closed_7
abbrev cX0_debtorAt : ByteArray := prog_1_method_21_code
def yX0_debtorAt : MethodName := ⟨RX0, "debtorAt", "(IZ)LChapterLoan$Debtor;"⟩
theorem dX0_debtorAt_0 : decode cX0_debtorAt 0 = .ok (.aload_n 0, 1) := by decide +kernel
theorem dX0_debtorAt_1 : decode cX0_debtorAt 1 = .ok (.aload_n 0, 1) := by decide +kernel
theorem dX0_debtorAt_2 : decode cX0_debtorAt 2 = .ok (.iload_n 1, 1) := by decide +kernel
theorem dX0_debtorAt_3 : decode cX0_debtorAt 3 = .ok (.invokevirtual 160, 3) := by decide +kernel
theorem dX0_debtorAt_6 : decode cX0_debtorAt 6 = .ok (.ifCond .eq 11, 3) := by decide +kernel
theorem dX0_debtorAt_9 : decode cX0_debtorAt 9 = .ok (.iload_n 2, 1) := by decide +kernel
theorem dX0_debtorAt_10 : decode cX0_debtorAt 10 = .ok (.ifCond .eq 7, 3) := by decide +kernel
theorem dX0_debtorAt_13 : decode cX0_debtorAt 13 = .ok (.iconst 1, 1) := by decide +kernel
theorem dX0_debtorAt_14 : decode cX0_debtorAt 14 = .ok (.goto 4, 3) := by decide +kernel
theorem dX0_debtorAt_17 : decode cX0_debtorAt 17 = .ok (.iconst 0, 1) := by decide +kernel
theorem dX0_debtorAt_18 : decode cX0_debtorAt 18 = .ok (.iconst 1, 1) := by decide +kernel
theorem dX0_debtorAt_19 : decode cX0_debtorAt 19 = .ok (.invokevirtual 102, 3) := by decide +kernel
theorem dX0_debtorAt_22 : decode cX0_debtorAt 22 = .ok (.aload_n 0, 1) := by decide +kernel
theorem dX0_debtorAt_23 : decode cX0_debtorAt 23 = .ok (.getfield 46, 3) := by decide +kernel
theorem dX0_debtorAt_26 : decode cX0_debtorAt 26 = .ok (.getfield 142, 3) := by decide +kernel
theorem dX0_debtorAt_29 : decode cX0_debtorAt 29 = .ok (.iload_n 1, 1) := by decide +kernel
theorem dX0_debtorAt_30 : decode cX0_debtorAt 30 = .ok (.aaload, 1) := by decide +kernel
theorem dX0_debtorAt_31 : decode cX0_debtorAt 31 = .ok (.areturn, 1) := by decide +kernel
theorem w_L_debtorAt {l : Launch} {D : va_G} {cA : Nat → ClassId} {ks : List Nat} {ad : Nat → Nat} {A : Nat → Prop} (hO : klOk A ks ad) {st st' : CS} {x1 : Int32} {x2 : Int32} {o : Option Nat} (h : L_debtorAt st x1 x2 = some (o, st')) : cX l yX0_debtorAt cX0_debtorAt 3 (some (.object "ChapterLoan$Debtor")) 2 D cA ks ad A st [.ref (ad 60), .int x1, .int x2] (o.map fun v => some (.ref v)) st' := by
  refine cc_ofX (own := RX0) (by decide) rfl (Nat.le_of_ble_eq_true rfl) (fun p e s m below meth c R args ls C hr hlk htab hP hS hl hcs => ?_)
  have hx := C.1
  have hb := C.2.1
  have hown := C.2.2.2.1
  have hNst := C.2.2.2.2.2.2.2.1
  have hl : lv_has ls 3 [(0, .ref (ad 60)), (1, .int x1), (2, .int x2)] := hl
  rw [L_debtorAt] at h
  refine lv_aload_n hx hb dX0_debtorAt_0 rfl (lv_at hl 0 rfl) ?_
  refine lv_aload_n hx hb dX0_debtorAt_1 rfl (lv_at hl 0 rfl) ?_
  refine lv_iload_n hx hb dX0_debtorAt_2 rfl (lv_at hl 1 rfl) ?_
  obtain ⟨v1, hv1, h⟩ := bd1_some h
  refine k_L_isDebtor C hO hP hv1 q559 (Nat.le_of_ble_eq_true rfl) (Nat.le_refl _) hl.1 (Nat.le_of_ble_eq_true rfl) hcs dX0_debtorAt_3 ?_
  refine lv_if_eq (tgt := 17) hx hb dX0_debtorAt_6 rfl (fun c2 => ?_) (fun c2 => ?_)
  · have h := if_some_t h c2
    refine lv_iconst (v := 0) hx hb dX0_debtorAt_17 (by decide) ?_
    refine lv_iconst (v := 1) hx hb dX0_debtorAt_18 (by decide) ?_
    obtain ⟨o5, st4, hv3, h⟩ := bd2_some h
    rcases o5 with _ | v3
    · rw [onx_none] at h
      refine k_L_needT C hO hP hS hv3 q402 (Nat.le_of_ble_eq_true rfl) hl.1 (Nat.le_of_ble_eq_true rfl) hcs dX0_debtorAt_19 (fun H locs hP hS => ?_)
      cases h
      exact x_out htab hlk rfl hP hS
    · rw [onx_some] at h
      refine k_L_needR C hO hP hS hv3 q402 (Nat.le_of_ble_eq_true rfl) hl.1 (Nat.le_of_ble_eq_true rfl) hcs dX0_debtorAt_19 (fun H locs hP hS => ?_)
      refine lv_aload_n hx hb dX0_debtorAt_22 rfl (lv_at hl 0 rfl) ?_
      refine lg_town C hO hP dX0_debtorAt_23 ?_
      refine tgN_debtor (t := 0) C hO (by decide) hP dX0_debtorAt_26 ?_
      refine lv_iload_n hx hb dX0_debtorAt_29 rfl (lv_at hl 1 rfl) ?_
      obtain ⟨r6, hr6, h⟩ := bd1_some h
      refine cc_ald C hP 4 (hO.2.2.2 _ (tk_ 17 (by decide) (by decide))) (cg_t 17 (by decide) (by decide)) rfl hr6 dX0_debtorAt_30 ?_
      rcases r6 with _ | a7
      · exact non_some h
      · rw [onq_some] at h
        have hla7 := ref_live hP hr6 (tk_ 17 (by decide) (by decide)) (tk61 (by decide)) (tk68 (by decide))
        cases h
        exact x_ans rfl (W.aret hx hb hr (Or.inl ⟨_, rfl⟩) (Or.inr ⟨_, rfl⟩) (fun t ht _ => ⟨rfl, by rw [ht]; exact hP, hS.F ht⟩) hS.2.2 dX0_debtorAt_31)
  · have h := if_some_f h c2
    refine lv_iload_n hx hb dX0_debtorAt_9 rfl (lv_at hl 2 rfl) ?_
    refine lv_if_eq (tgt := 17) hx hb dX0_debtorAt_10 rfl (fun c8 => ?_) (fun c8 => ?_)
    · have h := if_some_t h c8
      refine lv_iconst (v := 0) hx hb dX0_debtorAt_17 (by decide) ?_
      refine lv_iconst (v := 1) hx hb dX0_debtorAt_18 (by decide) ?_
      obtain ⟨o11, st10, hv9, h⟩ := bd2_some h
      rcases o11 with _ | v9
      · rw [onx_none] at h
        refine k_L_needT C hO hP hS hv9 q402 (Nat.le_of_ble_eq_true rfl) hl.1 (Nat.le_of_ble_eq_true rfl) hcs dX0_debtorAt_19 (fun H locs hP hS => ?_)
        cases h
        exact x_out htab hlk rfl hP hS
      · rw [onx_some] at h
        refine k_L_needR C hO hP hS hv9 q402 (Nat.le_of_ble_eq_true rfl) hl.1 (Nat.le_of_ble_eq_true rfl) hcs dX0_debtorAt_19 (fun H locs hP hS => ?_)
        refine lv_aload_n hx hb dX0_debtorAt_22 rfl (lv_at hl 0 rfl) ?_
        refine lg_town C hO hP dX0_debtorAt_23 ?_
        refine tgN_debtor (t := 0) C hO (by decide) hP dX0_debtorAt_26 ?_
        refine lv_iload_n hx hb dX0_debtorAt_29 rfl (lv_at hl 1 rfl) ?_
        obtain ⟨r12, hr12, h⟩ := bd1_some h
        refine cc_ald C hP 4 (hO.2.2.2 _ (tk_ 17 (by decide) (by decide))) (cg_t 17 (by decide) (by decide)) rfl hr12 dX0_debtorAt_30 ?_
        rcases r12 with _ | a13
        · exact non_some h
        · rw [onq_some] at h
          have hla13 := ref_live hP hr12 (tk_ 17 (by decide) (by decide)) (tk61 (by decide)) (tk68 (by decide))
          cases h
          exact x_ans rfl (W.aret hx hb hr (Or.inl ⟨_, rfl⟩) (Or.inr ⟨_, rfl⟩) (fun t ht _ => ⟨rfl, by rw [ht]; exact hP, hS.F ht⟩) hS.2.2 dX0_debtorAt_31)
    · have h := if_some_f h c8
      refine lv_iconst (v := 1) hx hb dX0_debtorAt_13 (by decide) ?_
      refine lv_goto (tgt := 18) hx hb dX0_debtorAt_14 rfl ?_
      refine lv_iconst (v := 1) hx hb dX0_debtorAt_18 (by decide) ?_
      obtain ⟨o16, st15, hv14, h⟩ := bd2_some h
      rcases o16 with _ | v14
      · rw [onx_none] at h
        refine k_L_needT C hO hP hS hv14 q402 (Nat.le_of_ble_eq_true rfl) hl.1 (Nat.le_of_ble_eq_true rfl) hcs dX0_debtorAt_19 (fun H locs hP hS => ?_)
        cases h
        exact x_out htab hlk rfl hP hS
      · rw [onx_some] at h
        refine k_L_needR C hO hP hS hv14 q402 (Nat.le_of_ble_eq_true rfl) hl.1 (Nat.le_of_ble_eq_true rfl) hcs dX0_debtorAt_19 (fun H locs hP hS => ?_)
        refine lv_aload_n hx hb dX0_debtorAt_22 rfl (lv_at hl 0 rfl) ?_
        refine lg_town C hO hP dX0_debtorAt_23 ?_
        refine tgN_debtor (t := 0) C hO (by decide) hP dX0_debtorAt_26 ?_
        refine lv_iload_n hx hb dX0_debtorAt_29 rfl (lv_at hl 1 rfl) ?_
        obtain ⟨r17, hr17, h⟩ := bd1_some h
        refine cc_ald C hP 4 (hO.2.2.2 _ (tk_ 17 (by decide) (by decide))) (cg_t 17 (by decide) (by decide)) rfl hr17 dX0_debtorAt_30 ?_
        rcases r17 with _ | a18
        · exact non_some h
        · rw [onq_some] at h
          have hla18 := ref_live hP hr17 (tk_ 17 (by decide) (by decide)) (tk61 (by decide)) (tk68 (by decide))
          cases h
          exact x_ans rfl (W.aret hx hb hr (Or.inl ⟨_, rfl⟩) (Or.inr ⟨_, rfl⟩) (fun t ht _ => ⟨rfl, by rw [ht]; exact hP, hS.F ht⟩) hS.2.2 dX0_debtorAt_31)
theorem q558 : (Jvm.Cond.code ({ cls := "ChapterLoan", name := "debtorAt", desc := "(IZ)LChapterLoan$Debtor;" } : Jvm.MethodName) prog_1_method_21_code (3 : Nat) (Option.some (Jvm.ClassFile.FieldType.object "ChapterLoan$Debtor"))) ∈ lw_all := lw_g (lw_at lw_m2 234 rfl) rfl
theorem q557 : (Jvm.Cond.instanceMethod ({ cls := "ChapterLoan", name := "debtorAt", desc := "(IZ)LChapterLoan$Debtor;" } : Jvm.MethodName)) ∈ lw_all := lw_g (lw_at lw_m2 233 rfl) rfl
theorem k_L_debtorAtR {a0 : Int32} {a1 : Int32} {v : Nat} {st' : CS} (C : cC p R d s m args c cc nL RX0 D cA A) (hO : klOk A ks ad) (hP : cW D cA ks ad st H) (hS : va_S A s.heap H locs) (h : L_debtorAt st a0 a1 = some ((some v), st')) (hl : Cond.methodLink RX0 index yX0_debtorAt ∈ lw_all) (hd : 2 + 1 ≤ d) (hsz : ls.size = nL) (hW : (rest.map fun v => v.category).sum ≤ 8) (hcs : cells ≤ R.cells ∧ slots ≤ R.slots) (hdg : decode cc pc = .ok (.invokevirtual index, 3)) (kk : ∀ (H1 : Heap) (locs1 : List Loc), cW D cA ks ad st' H1 → va_S A s.heap H1 locs1 → W p l e R s m args below meth c H1 locs1 cells slots Q (F0 m (pc + 3) ls (.ref v :: rest))) : W p l e R s m args below meth c H locs cells slots Q (F0 m pc ls (.int a1 :: .int a0 :: .ref (ad 60) :: rest)) :=
  cc_cXR (As := [.int a0, .int a1]) C hP hS (w_L_debtorAt hO h) (cwV 2 C.2.2.2.2.1 (lw_V hl q557 qs4 q85 q558) rfl rfl rfl (by decide +kernel) (mr_ C.2.2.2.2.2.1 hd (by decide))) (cc_recv C hP (hO.2.2.2 60 (by decide)) rfl (q := (RX0, TX0, 13)) rfl) rfl (by decide +kernel) hsz rfl hW hdg hcs kk
theorem k_L_debtorAtT {a0 : Int32} {a1 : Int32} {st' : CS} (C : cC p R d s m args c cc nL RX0 D cA A) (hO : klOk A ks ad) (hP : cW D cA ks ad st H) (hS : va_S A s.heap H locs) (h : L_debtorAt st a0 a1 = some (none, st')) (hl : Cond.methodLink RX0 index yX0_debtorAt ∈ lw_all) (hd : 2 + 1 ≤ d) (hsz : ls.size = nL) (hW : (rest.map fun v => v.category).sum ≤ 8) (hcs : cells ≤ R.cells ∧ slots ≤ R.slots) (hdg : decode cc pc = .ok (.invokevirtual index, 3)) (kk : ∀ (H1 : Heap) (locs1 : List Loc), cW D cA ks ad st' H1 → va_S A s.heap H1 locs1 → WT p l e R s m args below meth c H1 locs1 cells slots Q (ad 61) (F0 m pc ls rest)) : W p l e R s m args below meth c H locs cells slots Q (F0 m pc ls (.int a1 :: .int a0 :: .ref (ad 60) :: rest)) :=
  cc_cXT (As := [.int a0, .int a1]) C hP hS (w_L_debtorAt hO h) (cwV 2 C.2.2.2.2.1 (lw_V hl q557 qs4 q85 q558) rfl rfl rfl (by decide +kernel) (mr_ C.2.2.2.2.2.1 hd (by decide))) (cc_recv C hP (hO.2.2.2 60 (by decide)) rfl (q := (RX0, TX0, 13)) rfl) rfl (by decide +kernel) hsz rfl hW hdg hcs kk
theorem w_live_L_debtorAt {st st' : CS} {x1 x2 : Int32} {v : Nat} (hP : cW D cA ks ad st' H) (h : L_debtorAt st x1 x2 = some (some v, st')) : live ks ad v := by
  rw [L_debtorAt] at h
  obtain ⟨v1, -, h⟩ := bd1_some h
  have key : ∀ (e : Option (Option Unit × CS)), (bd2 e fun o s1 => onx o (some (none, s1)) fun _ => bd1 (rdq (s1.2.2.1 (20 * 0 + 17)) 4 x1) fun r => onq r none fun a => some (some a, s1)) = some (some v, st') → live ks ad v := by
    intro e h
    obtain ⟨o, s1, -, h⟩ := bd2_some h
    rcases o with _ | u
    · rw [onx_none] at h; cases h
    · rw [onx_some] at h
      obtain ⟨r, hr, h⟩ := bd1_some h
      rcases r with _ | a
      · cases h
      · rw [onq_some] at h
        cases h
        exact ref_live hP hr (tk_ 17 (by decide) (by decide)) (tk61 (by decide)) (tk68 (by decide))
  split at h
  · exact key _ h
  · split at h
    · exact key _ h
    · exact key _ h
abbrev cX0_ofDebtor : ByteArray := prog_1_method_23_code
def yX0_ofDebtor : MethodName := ⟨RX0, "ofDebtor", "(II)I"⟩
theorem dX0_ofDebtor_0 : decode cX0_ofDebtor 0 = .ok (.aload_n 0, 1) := by decide +kernel
theorem dX0_ofDebtor_1 : decode cX0_ofDebtor 1 = .ok (.iload_n 1, 1) := by decide +kernel
theorem dX0_ofDebtor_2 : decode cX0_ofDebtor 2 = .ok (.iload_n 2, 1) := by decide +kernel
theorem dX0_ofDebtor_3 : decode cX0_ofDebtor 3 = .ok (.iconst 0, 1) := by decide +kernel
theorem dX0_ofDebtor_4 : decode cX0_ofDebtor 4 = .ok (.bipush 9, 2) := by decide +kernel
theorem dX0_ofDebtor_6 : decode cX0_ofDebtor 6 = .ok (.invokestatic 91, 3) := by decide +kernel
theorem dX0_ofDebtor_9 : decode cX0_ofDebtor 9 = .ok (.invokevirtual 166, 3) := by decide +kernel
theorem dX0_ofDebtor_12 : decode cX0_ofDebtor 12 = .ok (.astore_n 3, 1) := by decide +kernel
theorem dX0_ofDebtor_13 : decode cX0_ofDebtor 13 = .ok (.iload_n 2, 1) := by decide +kernel
theorem dX0_ofDebtor_14 : decode cX0_ofDebtor 14 = .ok (.tableswitch 87 0 9 #[54, 59, 87, 87, 87, 87, 64, 87, 69, 78], 54) := by decide +kernel
theorem dX0_ofDebtor_68 : decode cX0_ofDebtor 68 = .ok (.aload_n 3, 1) := by decide +kernel
theorem dX0_ofDebtor_69 : decode cX0_ofDebtor 69 = .ok (.invokevirtual 170, 3) := by decide +kernel
theorem dX0_ofDebtor_72 : decode cX0_ofDebtor 72 = .ok (.ireturn, 1) := by decide +kernel
theorem dX0_ofDebtor_73 : decode cX0_ofDebtor 73 = .ok (.aload_n 3, 1) := by decide +kernel
theorem dX0_ofDebtor_74 : decode cX0_ofDebtor 74 = .ok (.getfield 174, 3) := by decide +kernel
theorem dX0_ofDebtor_77 : decode cX0_ofDebtor 77 = .ok (.ireturn, 1) := by decide +kernel
theorem dX0_ofDebtor_78 : decode cX0_ofDebtor 78 = .ok (.aload_n 3, 1) := by decide +kernel
theorem dX0_ofDebtor_79 : decode cX0_ofDebtor 79 = .ok (.invokevirtual 177, 3) := by decide +kernel
theorem dX0_ofDebtor_82 : decode cX0_ofDebtor 82 = .ok (.ireturn, 1) := by decide +kernel
theorem dX0_ofDebtor_83 : decode cX0_ofDebtor 83 = .ok (.aload_n 0, 1) := by decide +kernel
theorem dX0_ofDebtor_84 : decode cX0_ofDebtor 84 = .ok (.getfield 46, 3) := by decide +kernel
theorem dX0_ofDebtor_87 : decode cX0_ofDebtor 87 = .ok (.iload_n 1, 1) := by decide +kernel
theorem dX0_ofDebtor_88 : decode cX0_ofDebtor 88 = .ok (.invokevirtual 180, 3) := by decide +kernel
theorem dX0_ofDebtor_91 : decode cX0_ofDebtor 91 = .ok (.ireturn, 1) := by decide +kernel
theorem dX0_ofDebtor_92 : decode cX0_ofDebtor 92 = .ok (.aload_n 0, 1) := by decide +kernel
theorem dX0_ofDebtor_93 : decode cX0_ofDebtor 93 = .ok (.getfield 46, 3) := by decide +kernel
theorem dX0_ofDebtor_96 : decode cX0_ofDebtor 96 = .ok (.iload_n 1, 1) := by decide +kernel
theorem dX0_ofDebtor_97 : decode cX0_ofDebtor 97 = .ok (.invokevirtual 183, 3) := by decide +kernel
theorem dX0_ofDebtor_100 : decode cX0_ofDebtor 100 = .ok (.ireturn, 1) := by decide +kernel
theorem dX0_ofDebtor_101 : decode cX0_ofDebtor 101 = .ok (.aload_n 0, 1) := by decide +kernel
theorem dX0_ofDebtor_102 : decode cX0_ofDebtor 102 = .ok (.getfield 46, 3) := by decide +kernel
theorem dX0_ofDebtor_105 : decode cX0_ofDebtor 105 = .ok (.iload_n 1, 1) := by decide +kernel
theorem dX0_ofDebtor_106 : decode cX0_ofDebtor 106 = .ok (.iload_n 2, 1) := by decide +kernel
theorem dX0_ofDebtor_107 : decode cX0_ofDebtor 107 = .ok (.invokestatic 186, 3) := by decide +kernel
theorem dX0_ofDebtor_110 : decode cX0_ofDebtor 110 = .ok (.ireturn, 1) := by decide +kernel
theorem dX0_ofDebtor_111 : decode cX0_ofDebtor 111 = .ok (.astore_n 3, 1) := by decide +kernel
theorem dX0_ofDebtor_112 : decode cX0_ofDebtor 112 = .ok (.aload_n 0, 1) := by decide +kernel
theorem dX0_ofDebtor_113 : decode cX0_ofDebtor 113 = .ok (.aload_n 3, 1) := by decide +kernel
theorem dX0_ofDebtor_114 : decode cX0_ofDebtor 114 = .ok (.invokevirtual 123, 3) := by decide +kernel
theorem dX0_ofDebtor_117 : decode cX0_ofDebtor 117 = .ok (.ireturn, 1) := by decide +kernel
theorem q486 : (Jvm.Cond.fieldLink "ChapterLoan" (174 : Nat) "ChapterLoan$Debtor" "m" "I") ∈ lw_all := lw_g (lw_at lw_m2 162 rfl) rfl
theorem q555 : (Jvm.Cond.methodLink "ChapterLoan" (166 : Nat) ({ cls := "ChapterLoan", name := "debtorAt", desc := "(IZ)LChapterLoan$Debtor;" } : Jvm.MethodName)) ∈ lw_all := lw_g (lw_at lw_m2 231 rfl) rfl
theorem q563 : (Jvm.Cond.methodLink "ChapterLoan" (170 : Nat) ({ cls := "ChapterLoan$Debtor", name := "kind", desc := "()I" } : Jvm.MethodName)) ∈ lw_all := lw_g (lw_at lw_m2 239 rfl) rfl
theorem q586 : (Jvm.Cond.methodLink "ChapterLoan" (177 : Nat) ({ cls := "ChapterLoan$Debtor", name := "due", desc := "()I" } : Jvm.MethodName)) ∈ lw_all := lw_g (lw_at lw_m3 22 rfl) rfl
theorem q651 : (Jvm.Cond.methodLink "ChapterLoan" (183 : Nat) ({ cls := "ChapterLoan$Town", name := "trust", desc := "(I)I" } : Jvm.MethodName)) ∈ lw_all := lw_g (lw_at lw_m3 87 rfl) rfl
theorem w_L_ofDebtor {l : Launch} {D : va_G} {cA : Nat → ClassId} {ks : List Nat} {ad : Nat → Nat} {A : Nat → Prop} (hO : klOk A ks ad) {st st' : CS} {N : Nat} {x1 : Int32} {x2 : Int32} {r0 : Int32} (h : L_ofDebtor N st x1 x2 = some (r0, st')) : Met l yX0_ofDebtor (wsW_ yX0_ofDebtor cX0_ofDebtor 4 (some .int) [(0, 72, 111, 8), (73, 77, 111, 8), (78, 82, 111, 8), (83, 91, 111, 8), (92, 100, 111, 8), (101, 110, 111, 8)]) (k2_rm 64 (40 * 64)) (cPre D cA ks ad A st [.ref (ad 60), .int x1, .int x2]) (cQ (some (.int r0)) D cA ks ad A st') 0 0 A := by
  refine cc_ofH (own := RX0) (by decide) rfl (Nat.le_of_ble_eq_true rfl) (fun p e s m below meth c R args ls C hr hlk htab hP hS hl hcs => ?_)
  have hx := C.1
  have hb := C.2.1
  have hown := C.2.2.2.1
  have hNst := C.2.2.2.2.2.2.2.1
  have hl : lv_has ls 4 [(0, .ref (ad 60)), (1, .int x1), (2, .int x2)] := hl
  rw [L_ofDebtor] at h
  refine lv_aload_n hx hb dX0_ofDebtor_0 rfl (lv_at hl 0 rfl) ?_
  refine lv_iload_n hx hb dX0_ofDebtor_1 rfl (lv_at hl 1 rfl) ?_
  refine lv_iload_n hx hb dX0_ofDebtor_2 rfl (lv_at hl 2 rfl) ?_
  refine lv_iconst (v := 0) hx hb dX0_ofDebtor_3 (by decide) ?_
  refine lv_bipush (v := 9) hx hb dX0_ofDebtor_4 (by decide) ?_
  obtain ⟨v1, hv1, h⟩ := bd1_some h
  refine k_L_in hx hb C.2.2.1 hown C.2.2.2.2.1 C.2.2.2.2.2.1 q399 hv1 (Nat.le_of_ble_eq_true rfl) hl.1 (Nat.le_of_ble_eq_true rfl) hcs dX0_ofDebtor_6 ?_
  obtain ⟨o4, st3, hv2, h⟩ := bd2_some h
  rcases o4 with _ | v2
  · rw [onx_none] at h
    refine k_L_debtorAtT C hO hP hS hv2 q555 (Nat.le_of_ble_eq_true rfl) hl.1 (Nat.le_of_ble_eq_true rfl) hcs dX0_ofDebtor_9 (fun H locs hP hS => ?_)
    refine cc_catch (pre := []) (a1 := 0) (a2 := 72) (hp := 111) (post := [(73, 77, 111, 8), (78, 82, 111, 8), (83, 91, 111, 8), (92, 100, 111, 8), (101, 110, 111, 8)]) C hO hP q129 htab rfl rfl ?_
    refine lv_astore_n (lv' := [(3, .ref (ad 61)), (0, .ref (ad 60)), (1, .int x1), (2, .int x2)]) hx hb dX0_ofDebtor_111 rfl hl (by decide) rfl (fun ls hl => ?_)
    refine lv_aload_n hx hb dX0_ofDebtor_112 rfl (lv_at hl 1 rfl) ?_
    refine lv_aload_n hx hb dX0_ofDebtor_113 rfl (lv_at hl 0 rfl) ?_
    obtain ⟨v5, st6, hv5, h⟩ := bd2_some h
    refine k_L_finds C hO hP hS hv5 q410 (Nat.le_of_ble_eq_true rfl) hl.1 (Nat.le_of_ble_eq_true rfl) hcs dX0_ofDebtor_114 (fun H locs hP hS => ?_)
    exact cc_viret hx hb hr hlk h hP hS dX0_ofDebtor_117
  · rw [onx_some] at h
    refine k_L_debtorAtR C hO hP hS hv2 q555 (Nat.le_of_ble_eq_true rfl) hl.1 (Nat.le_of_ble_eq_true rfl) hcs dX0_ofDebtor_9 (fun H locs hP hS => ?_)
    have hlv2 := (w_live_L_debtorAt hP hv2)
    refine lv_astore_n (lv' := [(3, .ref v2), (0, .ref (ad 60)), (1, .int x1), (2, .int x2)]) hx hb dX0_ofDebtor_12 rfl hl (by decide) rfl (fun ls hl => ?_)
    refine lv_iload_n hx hb dX0_ofDebtor_13 rfl (lv_at hl 3 rfl) ?_
    by_cases c7 : x2 = 0
    · have h := if_some_t h c7
      refine lv_tableIn (tgt := 68) hx hb dX0_ofDebtor_14 (by rw [c7]; decide) (by rw [c7]; decide) (by rw [c7]; rfl) (by decide) ?_
      refine lv_aload_n hx hb dX0_ofDebtor_68 rfl (lv_at hl 0 rfl) ?_
      obtain ⟨k8, tr9, dn10, dm11, hdk8, h⟩ := bd4_some h
      have hbk8 : dbAt ks ad st3.2.2.2 v2 k8 tr9 dn10 dm11 := ⟨hlv2, dvOf_some hdk8⟩
      obtain ⟨v12, hv12, h⟩ := bd1_some h
      refine k_D_kind C hP hS.1 hbk8 hv12 q563 (Nat.le_of_ble_eq_true rfl) hl.1 (Nat.le_of_ble_eq_true rfl) hcs dX0_ofDebtor_69 ?_
      exact cc_viret hx hb hr hlk h hP hS dX0_ofDebtor_72
    · have h := if_some_f h c7
      by_cases c13 : x2 = 1
      · have h := if_some_t h c13
        refine lv_tableIn (tgt := 73) hx hb dX0_ofDebtor_14 (by rw [c13]; decide) (by rw [c13]; decide) (by rw [c13]; rfl) (by decide) ?_
        refine lv_aload_n hx hb dX0_ofDebtor_73 rfl (lv_at hl 0 rfl) ?_
        obtain ⟨k14, tr15, dn16, dm17, hdk14, h⟩ := bd4_some h
        have hbk14 : dbAt ks ad st3.2.2.2 v2 k14 tr15 dn16 dm17 := ⟨hlv2, dvOf_some hdk14⟩
        refine db_get C hP hbk14 2 (by decide) (fun k h => (db_T h).2.2.1) q486 (fun _ h => h) rfl dX0_ofDebtor_74 ?_
        exact cc_viret hx hb hr hlk h hP hS dX0_ofDebtor_77
      · have h := if_some_f h c13
        by_cases c18 : x2 = 2
        · have h := if_some_t h c18
          refine lv_tableIn (tgt := 101) hx hb dX0_ofDebtor_14 (by rw [c18]; decide) (by rw [c18]; decide) (by rw [c18]; rfl) (by decide) ?_
          refine lv_aload_n hx hb dX0_ofDebtor_101 rfl (lv_at hl 1 rfl) ?_
          refine lg_town C hO hP dX0_ofDebtor_102 ?_
          refine lv_iload_n hx hb dX0_ofDebtor_105 rfl (lv_at hl 2 rfl) ?_
          refine lv_iload_n hx hb dX0_ofDebtor_106 rfl (lv_at hl 3 rfl) ?_
          obtain ⟨v19, hv19, h⟩ := bd1_some h
          refine k_L_isOn (t := 0) C hO (by decide) hP hv19 q700 (Nat.le_of_ble_eq_true rfl) hS.1 hl.1 (Nat.le_of_ble_eq_true rfl) hcs dX0_ofDebtor_107 ?_
          exact cc_viret hx hb hr hlk h hP hS dX0_ofDebtor_110
        · have h := if_some_f h c18
          by_cases c20 : x2 = 3
          · have h := if_some_t h c20
            refine lv_tableIn (tgt := 101) hx hb dX0_ofDebtor_14 (by rw [c20]; decide) (by rw [c20]; decide) (by rw [c20]; rfl) (by decide) ?_
            refine lv_aload_n hx hb dX0_ofDebtor_101 rfl (lv_at hl 1 rfl) ?_
            refine lg_town C hO hP dX0_ofDebtor_102 ?_
            refine lv_iload_n hx hb dX0_ofDebtor_105 rfl (lv_at hl 2 rfl) ?_
            refine lv_iload_n hx hb dX0_ofDebtor_106 rfl (lv_at hl 3 rfl) ?_
            obtain ⟨v21, hv21, h⟩ := bd1_some h
            refine k_L_isOn (t := 0) C hO (by decide) hP hv21 q700 (Nat.le_of_ble_eq_true rfl) hS.1 hl.1 (Nat.le_of_ble_eq_true rfl) hcs dX0_ofDebtor_107 ?_
            exact cc_viret hx hb hr hlk h hP hS dX0_ofDebtor_110
          · have h := if_some_f h c20
            by_cases c22 : x2 = 4
            · have h := if_some_t h c22
              refine lv_tableIn (tgt := 101) hx hb dX0_ofDebtor_14 (by rw [c22]; decide) (by rw [c22]; decide) (by rw [c22]; rfl) (by decide) ?_
              refine lv_aload_n hx hb dX0_ofDebtor_101 rfl (lv_at hl 1 rfl) ?_
              refine lg_town C hO hP dX0_ofDebtor_102 ?_
              refine lv_iload_n hx hb dX0_ofDebtor_105 rfl (lv_at hl 2 rfl) ?_
              refine lv_iload_n hx hb dX0_ofDebtor_106 rfl (lv_at hl 3 rfl) ?_
              obtain ⟨v23, hv23, h⟩ := bd1_some h
              refine k_L_isOn (t := 0) C hO (by decide) hP hv23 q700 (Nat.le_of_ble_eq_true rfl) hS.1 hl.1 (Nat.le_of_ble_eq_true rfl) hcs dX0_ofDebtor_107 ?_
              exact cc_viret hx hb hr hlk h hP hS dX0_ofDebtor_110
            · have h := if_some_f h c22
              by_cases c24 : x2 = 5
              · have h := if_some_t h c24
                refine lv_tableIn (tgt := 101) hx hb dX0_ofDebtor_14 (by rw [c24]; decide) (by rw [c24]; decide) (by rw [c24]; rfl) (by decide) ?_
                refine lv_aload_n hx hb dX0_ofDebtor_101 rfl (lv_at hl 1 rfl) ?_
                refine lg_town C hO hP dX0_ofDebtor_102 ?_
                refine lv_iload_n hx hb dX0_ofDebtor_105 rfl (lv_at hl 2 rfl) ?_
                refine lv_iload_n hx hb dX0_ofDebtor_106 rfl (lv_at hl 3 rfl) ?_
                obtain ⟨v25, hv25, h⟩ := bd1_some h
                refine k_L_isOn (t := 0) C hO (by decide) hP hv25 q700 (Nat.le_of_ble_eq_true rfl) hS.1 hl.1 (Nat.le_of_ble_eq_true rfl) hcs dX0_ofDebtor_107 ?_
                exact cc_viret hx hb hr hlk h hP hS dX0_ofDebtor_110
              · have h := if_some_f h c24
                by_cases c26 : x2 = 6
                · have h := if_some_t h c26
                  refine lv_tableIn (tgt := 78) hx hb dX0_ofDebtor_14 (by rw [c26]; decide) (by rw [c26]; decide) (by rw [c26]; rfl) (by decide) ?_
                  refine lv_aload_n hx hb dX0_ofDebtor_78 rfl (lv_at hl 0 rfl) ?_
                  obtain ⟨k27, tr28, dn29, dm30, hdk27, h⟩ := bd4_some h
                  have hbk27 : dbAt ks ad st3.2.2.2 v2 k27 tr28 dn29 dm30 := ⟨hlv2, dvOf_some hdk27⟩
                  obtain ⟨v31, hv31, h⟩ := bd1_some h
                  refine k_D_due C hP hS.1 hbk27 hv31 q586 (Nat.le_of_ble_eq_true rfl) hl.1 (Nat.le_of_ble_eq_true rfl) hcs dX0_ofDebtor_79 ?_
                  exact cc_viret hx hb hr hlk h hP hS dX0_ofDebtor_82
                · have h := if_some_f h c26
                  by_cases c32 : x2 = 7
                  · have h := if_some_t h c32
                    refine lv_tableIn (tgt := 101) hx hb dX0_ofDebtor_14 (by rw [c32]; decide) (by rw [c32]; decide) (by rw [c32]; rfl) (by decide) ?_
                    refine lv_aload_n hx hb dX0_ofDebtor_101 rfl (lv_at hl 1 rfl) ?_
                    refine lg_town C hO hP dX0_ofDebtor_102 ?_
                    refine lv_iload_n hx hb dX0_ofDebtor_105 rfl (lv_at hl 2 rfl) ?_
                    refine lv_iload_n hx hb dX0_ofDebtor_106 rfl (lv_at hl 3 rfl) ?_
                    obtain ⟨v33, hv33, h⟩ := bd1_some h
                    refine k_L_isOn (t := 0) C hO (by decide) hP hv33 q700 (Nat.le_of_ble_eq_true rfl) hS.1 hl.1 (Nat.le_of_ble_eq_true rfl) hcs dX0_ofDebtor_107 ?_
                    exact cc_viret hx hb hr hlk h hP hS dX0_ofDebtor_110
                  · have h := if_some_f h c32
                    by_cases c34 : x2 = 8
                    · have h := if_some_t h c34
                      refine lv_tableIn (tgt := 83) hx hb dX0_ofDebtor_14 (by rw [c34]; decide) (by rw [c34]; decide) (by rw [c34]; rfl) (by decide) ?_
                      refine lv_aload_n hx hb dX0_ofDebtor_83 rfl (lv_at hl 1 rfl) ?_
                      refine lg_town C hO hP dX0_ofDebtor_84 ?_
                      refine lv_iload_n hx hb dX0_ofDebtor_87 rfl (lv_at hl 2 rfl) ?_
                      obtain ⟨v35, hv35, h⟩ := bd1_some h
                      refine k_T_mayAll (t := 0) C hO (by decide) hP hv35 q607 (Nat.le_of_ble_eq_true rfl) hS.1 hl.1 (Nat.le_of_ble_eq_true rfl) hcs dX0_ofDebtor_88 ?_
                      exact cc_viret hx hb hr hlk h hP hS dX0_ofDebtor_91
                    · have h := if_some_f h c34
                      by_cases c36 : x2 = 9
                      · have h := if_some_t h c36
                        refine lv_tableIn (tgt := 92) hx hb dX0_ofDebtor_14 (by rw [c36]; decide) (by rw [c36]; decide) (by rw [c36]; rfl) (by decide) ?_
                        refine lv_aload_n hx hb dX0_ofDebtor_92 rfl (lv_at hl 1 rfl) ?_
                        refine lg_town C hO hP dX0_ofDebtor_93 ?_
                        refine lv_iload_n hx hb dX0_ofDebtor_96 rfl (lv_at hl 2 rfl) ?_
                        obtain ⟨v37, st38, hv37, h⟩ := bd2_some h
                        refine k_T_trust (t := 0) C hO (by decide) hP hS hv37 q651 (Nat.le_of_ble_eq_true rfl) hl.1 (Nat.le_of_ble_eq_true rfl) hcs dX0_ofDebtor_97 (fun H locs hP hS => ?_)
                        exact cc_viret hx hb hr hlk h hP hS dX0_ofDebtor_100
                      · have h := if_some_f h c36
                        refine lv_tableOut (tgt := 101) hx hb dX0_ofDebtor_14 ?_ (by decide) ?_
                        · have := lv_neT c7 (show (0 : Int32).toInt = 0 by decide)
                          have := lv_neT c13 (show (1 : Int32).toInt = 1 by decide)
                          have := lv_neT c18 (show (2 : Int32).toInt = 2 by decide)
                          have := lv_neT c20 (show (3 : Int32).toInt = 3 by decide)
                          have := lv_neT c22 (show (4 : Int32).toInt = 4 by decide)
                          have := lv_neT c24 (show (5 : Int32).toInt = 5 by decide)
                          have := lv_neT c26 (show (6 : Int32).toInt = 6 by decide)
                          have := lv_neT c32 (show (7 : Int32).toInt = 7 by decide)
                          have := lv_neT c34 (show (8 : Int32).toInt = 8 by decide)
                          have := lv_neT c36 (show (9 : Int32).toInt = 9 by decide)
                          omega
                        · refine lv_aload_n hx hb dX0_ofDebtor_101 rfl (lv_at hl 1 rfl) ?_
                          refine lg_town C hO hP dX0_ofDebtor_102 ?_
                          refine lv_iload_n hx hb dX0_ofDebtor_105 rfl (lv_at hl 2 rfl) ?_
                          refine lv_iload_n hx hb dX0_ofDebtor_106 rfl (lv_at hl 3 rfl) ?_
                          obtain ⟨v39, hv39, h⟩ := bd1_some h
                          refine k_L_isOn (t := 0) C hO (by decide) hP hv39 q700 (Nat.le_of_ble_eq_true rfl) hS.1 hl.1 (Nat.le_of_ble_eq_true rfl) hcs dX0_ofDebtor_107 ?_
                          exact cc_viret hx hb hr hlk h hP hS dX0_ofDebtor_110
abbrev cX0_as : ByteArray := prog_1_method_26_code
def yX0_as : MethodName := ⟨RX0, "as", "(II)I"⟩
theorem dX0_as_0 : decode cX0_as 0 = .ok (.aload_n 0, 1) := by decide +kernel
theorem dX0_as_1 : decode cX0_as 1 = .ok (.iload_n 1, 1) := by decide +kernel
theorem dX0_as_2 : decode cX0_as 2 = .ok (.iload_n 2, 1) := by decide +kernel
theorem dX0_as_3 : decode cX0_as 3 = .ok (.iconst 0, 1) := by decide +kernel
theorem dX0_as_4 : decode cX0_as 4 = .ok (.bipush 6, 2) := by decide +kernel
theorem dX0_as_6 : decode cX0_as 6 = .ok (.invokestatic 91, 3) := by decide +kernel
theorem dX0_as_9 : decode cX0_as 9 = .ok (.invokevirtual 166, 3) := by decide +kernel
theorem dX0_as_12 : decode cX0_as 12 = .ok (.astore_n 3, 1) := by decide +kernel
theorem dX0_as_13 : decode cX0_as 13 = .ok (.aload_n 0, 1) := by decide +kernel
theorem dX0_as_14 : decode cX0_as 14 = .ok (.aload_n 3, 1) := by decide +kernel
theorem dX0_as_15 : decode cX0_as 15 = .ok (.iload_n 2, 1) := by decide +kernel
theorem dX0_as_16 : decode cX0_as 16 = .ok (.invokevirtual 197, 3) := by decide +kernel
theorem dX0_as_19 : decode cX0_as 19 = .ok (.iconst 5, 1) := by decide +kernel
theorem dX0_as_20 : decode cX0_as 20 = .ok (.invokevirtual 102, 3) := by decide +kernel
theorem dX0_as_23 : decode cX0_as 23 = .ok (.aload_n 3, 1) := by decide +kernel
theorem dX0_as_24 : decode cX0_as 24 = .ok (.getfield 174, 3) := by decide +kernel
theorem dX0_as_27 : decode cX0_as 27 = .ok (.ireturn, 1) := by decide +kernel
theorem dX0_as_28 : decode cX0_as 28 = .ok (.astore_n 3, 1) := by decide +kernel
theorem dX0_as_29 : decode cX0_as 29 = .ok (.aload_n 0, 1) := by decide +kernel
theorem dX0_as_30 : decode cX0_as 30 = .ok (.aload_n 3, 1) := by decide +kernel
theorem dX0_as_31 : decode cX0_as 31 = .ok (.invokevirtual 123, 3) := by decide +kernel
theorem dX0_as_34 : decode cX0_as 34 = .ok (.ireturn, 1) := by decide +kernel
theorem q717 : (Jvm.Cond.methodLink "ChapterLoan" (197 : Nat) ({ cls := "ChapterLoan$Debtor", name := "isOf", desc := "(I)Z" } : Jvm.MethodName)) ∈ lw_all := lw_g (lw_at lw_m3 153 rfl) rfl
theorem w_L_as {l : Launch} {D : va_G} {cA : Nat → ClassId} {ks : List Nat} {ad : Nat → Nat} {A : Nat → Prop} (hO : klOk A ks ad) {st st' : CS} {x1 : Int32} {x2 : Int32} {r0 : Int32} (h : L_as st x1 x2 = some (r0, st')) : Met l yX0_as (wsW_ yX0_as cX0_as 4 (some .int) [(0, 27, 28, 8)]) (k2_rm 3 (40 * 3)) (cPre D cA ks ad A st [.ref (ad 60), .int x1, .int x2]) (cQ (some (.int r0)) D cA ks ad A st') 0 0 A := by
  refine cc_ofH (own := RX0) (by decide) rfl (Nat.le_of_ble_eq_true rfl) (fun p e s m below meth c R args ls C hr hlk htab hP hS hl hcs => ?_)
  have hx := C.1
  have hb := C.2.1
  have hown := C.2.2.2.1
  have hNst := C.2.2.2.2.2.2.2.1
  have hl : lv_has ls 4 [(0, .ref (ad 60)), (1, .int x1), (2, .int x2)] := hl
  rw [L_as] at h
  refine lv_aload_n hx hb dX0_as_0 rfl (lv_at hl 0 rfl) ?_
  refine lv_iload_n hx hb dX0_as_1 rfl (lv_at hl 1 rfl) ?_
  refine lv_iload_n hx hb dX0_as_2 rfl (lv_at hl 2 rfl) ?_
  refine lv_iconst (v := 0) hx hb dX0_as_3 (by decide) ?_
  refine lv_bipush (v := 6) hx hb dX0_as_4 (by decide) ?_
  obtain ⟨v1, hv1, h⟩ := bd1_some h
  refine k_L_in hx hb C.2.2.1 hown C.2.2.2.2.1 C.2.2.2.2.2.1 q399 hv1 (Nat.le_of_ble_eq_true rfl) hl.1 (Nat.le_of_ble_eq_true rfl) hcs dX0_as_6 ?_
  obtain ⟨o4, st3, hv2, h⟩ := bd2_some h
  rcases o4 with _ | v2
  · rw [onx_none] at h
    refine k_L_debtorAtT C hO hP hS hv2 q555 (Nat.le_of_ble_eq_true rfl) hl.1 (Nat.le_of_ble_eq_true rfl) hcs dX0_as_9 (fun H locs hP hS => ?_)
    refine cc_catch (pre := []) (a1 := 0) (a2 := 27) (hp := 28) (post := []) C hO hP q129 htab rfl rfl ?_
    refine lv_astore_n (lv' := [(3, .ref (ad 61)), (0, .ref (ad 60)), (1, .int x1), (2, .int x2)]) hx hb dX0_as_28 rfl hl (by decide) rfl (fun ls hl => ?_)
    refine lv_aload_n hx hb dX0_as_29 rfl (lv_at hl 1 rfl) ?_
    refine lv_aload_n hx hb dX0_as_30 rfl (lv_at hl 0 rfl) ?_
    obtain ⟨v5, st6, hv5, h⟩ := bd2_some h
    refine k_L_finds C hO hP hS hv5 q410 (Nat.le_of_ble_eq_true rfl) hl.1 (Nat.le_of_ble_eq_true rfl) hcs dX0_as_31 (fun H locs hP hS => ?_)
    exact cc_viret hx hb hr hlk h hP hS dX0_as_34
  · rw [onx_some] at h
    refine k_L_debtorAtR C hO hP hS hv2 q555 (Nat.le_of_ble_eq_true rfl) hl.1 (Nat.le_of_ble_eq_true rfl) hcs dX0_as_9 (fun H locs hP hS => ?_)
    have hlv2 := (w_live_L_debtorAt hP hv2)
    refine lv_astore_n (lv' := [(3, .ref v2), (0, .ref (ad 60)), (1, .int x1), (2, .int x2)]) hx hb dX0_as_12 rfl hl (by decide) rfl (fun ls hl => ?_)
    refine lv_aload_n hx hb dX0_as_13 rfl (lv_at hl 1 rfl) ?_
    refine lv_aload_n hx hb dX0_as_14 rfl (lv_at hl 0 rfl) ?_
    refine lv_iload_n hx hb dX0_as_15 rfl (lv_at hl 3 rfl) ?_
    obtain ⟨k7, tr8, dn9, dm10, hdk7, h⟩ := bd4_some h
    have hbk7 : dbAt ks ad st3.2.2.2 v2 k7 tr8 dn9 dm10 := ⟨hlv2, dvOf_some hdk7⟩
    obtain ⟨v11, hv11, h⟩ := bd1_some h
    refine k_D_isOf C hP hS.1 hbk7 hv11 q717 (Nat.le_of_ble_eq_true rfl) hl.1 (Nat.le_of_ble_eq_true rfl) hcs dX0_as_16 ?_
    refine lv_iconst (v := 5) hx hb dX0_as_19 (by decide) ?_
    obtain ⟨o14, st13, hv12, h⟩ := bd2_some h
    rcases o14 with _ | v12
    · rw [onx_none] at h
      refine k_L_needT C hO hP hS hv12 q402 (Nat.le_of_ble_eq_true rfl) hl.1 (Nat.le_of_ble_eq_true rfl) hcs dX0_as_20 (fun H locs hP hS => ?_)
      refine cc_catch (pre := []) (a1 := 0) (a2 := 27) (hp := 28) (post := []) C hO hP q129 htab rfl rfl ?_
      refine lv_astore_n (lv' := [(3, .ref (ad 61)), (0, .ref (ad 60)), (1, .int x1), (2, .int x2)]) hx hb dX0_as_28 rfl hl (by decide) rfl (fun ls hl => ?_)
      refine lv_aload_n hx hb dX0_as_29 rfl (lv_at hl 1 rfl) ?_
      refine lv_aload_n hx hb dX0_as_30 rfl (lv_at hl 0 rfl) ?_
      obtain ⟨v15, st16, hv15, h⟩ := bd2_some h
      refine k_L_finds C hO hP hS hv15 q410 (Nat.le_of_ble_eq_true rfl) hl.1 (Nat.le_of_ble_eq_true rfl) hcs dX0_as_31 (fun H locs hP hS => ?_)
      exact cc_viret hx hb hr hlk h hP hS dX0_as_34
    · rw [onx_some] at h
      refine k_L_needR C hO hP hS hv12 q402 (Nat.le_of_ble_eq_true rfl) hl.1 (Nat.le_of_ble_eq_true rfl) hcs dX0_as_20 (fun H locs hP hS => ?_)
      refine lv_aload_n hx hb dX0_as_23 rfl (lv_at hl 0 rfl) ?_
      obtain ⟨k17, tr18, dn19, dm20, hdk17, h⟩ := bd4_some h
      have hbk17 : dbAt ks ad st13.2.2.2 v2 k17 tr18 dn19 dm20 := ⟨hlv2, dvOf_some hdk17⟩
      refine db_get C hP hbk17 2 (by decide) (fun k h => (db_T h).2.2.1) q486 (fun _ h => h) rfl dX0_as_24 ?_
      exact cc_viret hx hb hr hlk h hP hS dX0_as_27
end
