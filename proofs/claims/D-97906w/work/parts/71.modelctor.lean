/-! ChapterLoanModel's constructor; the two worlds -/
set_option maxRecDepth 100000
section
variable {p : Program} {l : Launch} {e : Env} {R : Room} {s : State} {m : MethodId} {args : Array Value} {below : List Frame} {meth : Method} {c : Code} {H : Heap} {locs : List Loc} {cells slots d : Nat} {Q : State → Prop} {cc : ByteArray} {pc nL : Nat} {ls : Array Slot} {rest : List Value} {D : va_G} {cl : List vw_C} {tys : List (ClassId × FieldType)} {cA : Nat → ClassId} {own : String} {index : Nat} {n0 N N0 i : Nat} {g : Nat → va_E} {adK adV : Nat → Nat} {cI : ClassId}
theorem nn_iast {q0 n t0 : Nat} {x : ClassId} {f : Nat → Int32} {ii v : Int32} {g' : Nat → va_E} (K : gC p R d s m args c cc nL own D cl tys n0) (hP : nW D cl n0 N g H) (hS : va_S (nA n0) s.heap H locs) (hz : s.heap.size + cells = n0 + N) (h0 : q0 < N) (ha : g q0 = .inl (x, n, .inl f)) (ht : tys[t0]? = some (x, .int)) (hin : vp_in ii n) (hg : va_up g q0 (.inl (x, n, .inl (upd f ii.toNatClampNeg v))) = g') (hdg : decode cc pc = .ok (.iastore, 1))
    (kk : ∀ (H1 : Heap) (locs1 : List Loc), nW D cl n0 N g' H1 → va_S (nA n0) s.heap H1 locs1 → W p l e R s m args below meth c H1 locs1 cells slots Q (F0 m (pc + 1) ls rest)) : W p l e R s m args below meth c H locs cells slots Q (F0 m pc ls (.int v :: .int ii :: .ref (n0 + q0) :: rest)) := by
  subst hg
  refine va_iast K.1 K.2.1 K.2.2.2.2.2.2.1 hP.1 nW_D (nS_self hS) q0 t0 (by rw [kw_at h0, ha]) ht hin hdg (fun H1 locs1 h1 _ h3 => W.sizeLe (fun hzz => kk H1 locs1 ⟨?_, ?_⟩ (nS_trans hS h3)))
  · rw [kw_set] at h1
    exact h1
  · have h4 := h3.1
    have h5 := hP.2
    omega
abbrev cX6_init : ByteArray := prog_30_method_1_code
def yX6_init : MethodName := ⟨RX6, "<init>", "()V"⟩
theorem dX6_init_0 : decode cX6_init 0 = .ok (.aload_n 0, 1) := by decide +kernel
theorem dX6_init_1 : decode cX6_init 1 = .ok (.invokespecial 1, 3) := by decide +kernel
theorem dX6_init_4 : decode cX6_init 4 = .ok (.aload_n 0, 1) := by decide +kernel
theorem dX6_init_5 : decode cX6_init 5 = .ok (.sipush 342, 3) := by decide +kernel
theorem dX6_init_8 : decode cX6_init 8 = .ok (.newarray .int, 2) := by decide +kernel
theorem dX6_init_10 : decode cX6_init 10 = .ok (.putfield 7, 3) := by decide +kernel
theorem dX6_init_13 : decode cX6_init 13 = .ok (.aload_n 0, 1) := by decide +kernel
theorem dX6_init_14 : decode cX6_init 14 = .ok (.sipush 342, 3) := by decide +kernel
theorem dX6_init_17 : decode cX6_init 17 = .ok (.newarray .int, 2) := by decide +kernel
theorem dX6_init_19 : decode cX6_init 19 = .ok (.putfield 13, 3) := by decide +kernel
theorem dX6_init_22 : decode cX6_init 22 = .ok (.aload_n 0, 1) := by decide +kernel
theorem dX6_init_23 : decode cX6_init 23 = .ok (.sipush 170, 3) := by decide +kernel
theorem dX6_init_26 : decode cX6_init 26 = .ok (.newarray .int, 2) := by decide +kernel
theorem dX6_init_28 : decode cX6_init 28 = .ok (.putfield 16, 3) := by decide +kernel
theorem dX6_init_31 : decode cX6_init 31 = .ok (.aload_n 0, 1) := by decide +kernel
theorem dX6_init_32 : decode cX6_init 32 = .ok (.bipush 6, 2) := by decide +kernel
theorem dX6_init_34 : decode cX6_init 34 = .ok (.newarray .int, 2) := by decide +kernel
theorem dX6_init_36 : decode cX6_init 36 = .ok (.putfield 19, 3) := by decide +kernel
theorem dX6_init_39 : decode cX6_init 39 = .ok (.aload_n 0, 1) := by decide +kernel
theorem dX6_init_40 : decode cX6_init 40 = .ok (.iconst 3, 1) := by decide +kernel
theorem dX6_init_41 : decode cX6_init 41 = .ok (.newarray .int, 2) := by decide +kernel
theorem dX6_init_43 : decode cX6_init 43 = .ok (.putfield 22, 3) := by decide +kernel
theorem dX6_init_46 : decode cX6_init 46 = .ok (.aload_n 0, 1) := by decide +kernel
theorem dX6_init_47 : decode cX6_init 47 = .ok (.iconst (-1), 1) := by decide +kernel
theorem dX6_init_48 : decode cX6_init 48 = .ok (.putfield 25, 3) := by decide +kernel
theorem dX6_init_51 : decode cX6_init 51 = .ok (.aload_n 0, 1) := by decide +kernel
theorem dX6_init_52 : decode cX6_init 52 = .ok (.bipush 9, 2) := by decide +kernel
theorem dX6_init_54 : decode cX6_init 54 = .ok (.newarray .int, 2) := by decide +kernel
theorem dX6_init_56 : decode cX6_init 56 = .ok (.putfield 29, 3) := by decide +kernel
theorem dX6_init_59 : decode cX6_init 59 = .ok (.aload_n 0, 1) := by decide +kernel
theorem dX6_init_60 : decode cX6_init 60 = .ok (.bipush 9, 2) := by decide +kernel
theorem dX6_init_62 : decode cX6_init 62 = .ok (.newarray .int, 2) := by decide +kernel
theorem dX6_init_64 : decode cX6_init 64 = .ok (.putfield 32, 3) := by decide +kernel
theorem dX6_init_67 : decode cX6_init 67 = .ok (.aload_n 0, 1) := by decide +kernel
theorem dX6_init_68 : decode cX6_init 68 = .ok (.bipush 9, 2) := by decide +kernel
theorem dX6_init_70 : decode cX6_init 70 = .ok (.newarray .int, 2) := by decide +kernel
theorem dX6_init_72 : decode cX6_init 72 = .ok (.putfield 35, 3) := by decide +kernel
theorem dX6_init_75 : decode cX6_init 75 = .ok (.aload_n 0, 1) := by decide +kernel
theorem dX6_init_76 : decode cX6_init 76 = .ok (.iconst 5, 1) := by decide +kernel
theorem dX6_init_77 : decode cX6_init 77 = .ok (.newarray .int, 2) := by decide +kernel
theorem dX6_init_79 : decode cX6_init 79 = .ok (.putfield 38, 3) := by decide +kernel
theorem dX6_init_82 : decode cX6_init 82 = .ok (.aload_n 0, 1) := by decide +kernel
theorem dX6_init_83 : decode cX6_init 83 = .ok (.bipush 40, 2) := by decide +kernel
theorem dX6_init_85 : decode cX6_init 85 = .ok (.newarray .int, 2) := by decide +kernel
theorem dX6_init_87 : decode cX6_init 87 = .ok (.putfield 41, 3) := by decide +kernel
theorem dX6_init_90 : decode cX6_init 90 = .ok (.aload_n 0, 1) := by decide +kernel
theorem dX6_init_91 : decode cX6_init 91 = .ok (.iconst 4, 1) := by decide +kernel
theorem dX6_init_92 : decode cX6_init 92 = .ok (.newarray .int, 2) := by decide +kernel
theorem dX6_init_94 : decode cX6_init 94 = .ok (.putfield 44, 3) := by decide +kernel
theorem dX6_init_97 : decode cX6_init 97 = .ok (.aload_n 0, 1) := by decide +kernel
theorem dX6_init_98 : decode cX6_init 98 = .ok (.iconst 4, 1) := by decide +kernel
theorem dX6_init_99 : decode cX6_init 99 = .ok (.newarray .int, 2) := by decide +kernel
theorem dX6_init_101 : decode cX6_init 101 = .ok (.putfield 47, 3) := by decide +kernel
theorem dX6_init_104 : decode cX6_init 104 = .ok (.aload_n 0, 1) := by decide +kernel
theorem dX6_init_105 : decode cX6_init 105 = .ok (.sipush 160, 3) := by decide +kernel
theorem dX6_init_108 : decode cX6_init 108 = .ok (.newarray .int, 2) := by decide +kernel
theorem dX6_init_110 : decode cX6_init 110 = .ok (.putfield 50, 3) := by decide +kernel
theorem dX6_init_113 : decode cX6_init 113 = .ok (.aload_n 0, 1) := by decide +kernel
theorem dX6_init_114 : decode cX6_init 114 = .ok (.bipush 40, 2) := by decide +kernel
theorem dX6_init_116 : decode cX6_init 116 = .ok (.newarray .int, 2) := by decide +kernel
theorem dX6_init_118 : decode cX6_init 118 = .ok (.putfield 53, 3) := by decide +kernel
theorem dX6_init_121 : decode cX6_init 121 = .ok (.aload_n 0, 1) := by decide +kernel
theorem dX6_init_122 : decode cX6_init 122 = .ok (.getfield 7, 3) := by decide +kernel
theorem dX6_init_125 : decode cX6_init 125 = .ok (.iconst 4, 1) := by decide +kernel
theorem dX6_init_126 : decode cX6_init 126 = .ok (.iconst 1, 1) := by decide +kernel
theorem dX6_init_127 : decode cX6_init 127 = .ok (.iastore, 1) := by decide +kernel
theorem dX6_init_128 : decode cX6_init 128 = .ok (.return_, 1) := by decide +kernel
theorem q1517 : (Jvm.Cond.methodLink "ChapterLoanModel" (1 : Nat) ({ cls := "java/lang/Object", name := "<init>", desc := "()V" } : Jvm.MethodName)) ∈ lw_all := lw_g (lw_at lw_m6 233 rfl) rfl
def gModel (cI : ClassId) (n0 : Nat) (g : Nat → va_E) : Nat → va_E := va_up (va_up (va_up (va_up (va_up (va_up (va_up (va_up (va_up (va_up (va_up (va_up (va_up (va_up (va_up (va_up (va_up (va_up (va_up (va_up (va_up (va_up (va_up (va_up (va_up (va_up (va_up (va_up (va_up (va_up (g) 1 (.inl (cI, 342, .inl (fun _ => 0)))) 0 (.inr (0, [.ref (n0 + 1), .null, .null, .int 0, .null, .int 0, .int 0, .int 0, .int 0, .int 0, .int 0, .null, .int 0, .int 0, .null, .null, .null, .int 0, .null, .null, .int 0, .int 0, .null, .null, .null, .null]))) 2 (.inl (cI, 342, .inl (fun _ => 0)))) 0 (.inr (0, [.ref (n0 + 1), .ref (n0 + 2), .null, .int 0, .null, .int 0, .int 0, .int 0, .int 0, .int 0, .int 0, .null, .int 0, .int 0, .null, .null, .null, .int 0, .null, .null, .int 0, .int 0, .null, .null, .null, .null]))) 3 (.inl (cI, 170, .inl (fun _ => 0)))) 0 (.inr (0, [.ref (n0 + 1), .ref (n0 + 2), .ref (n0 + 3), .int 0, .null, .int 0, .int 0, .int 0, .int 0, .int 0, .int 0, .null, .int 0, .int 0, .null, .null, .null, .int 0, .null, .null, .int 0, .int 0, .null, .null, .null, .null]))) 4 (.inl (cI, 6, .inl (fun _ => 0)))) 0 (.inr (0, [.ref (n0 + 1), .ref (n0 + 2), .ref (n0 + 3), .int 0, .ref (n0 + 4), .int 0, .int 0, .int 0, .int 0, .int 0, .int 0, .null, .int 0, .int 0, .null, .null, .null, .int 0, .null, .null, .int 0, .int 0, .null, .null, .null, .null]))) 5 (.inl (cI, 3, .inl (fun _ => 0)))) 0 (.inr (0, [.ref (n0 + 1), .ref (n0 + 2), .ref (n0 + 3), .int 0, .ref (n0 + 4), .int 0, .int 0, .int 0, .int 0, .int 0, .int 0, .ref (n0 + 5), .int 0, .int 0, .null, .null, .null, .int 0, .null, .null, .int 0, .int 0, .null, .null, .null, .null]))) 0 (.inr (0, [.ref (n0 + 1), .ref (n0 + 2), .ref (n0 + 3), .int 0, .ref (n0 + 4), .int 0, .int 0, .int 0, .int 0, .int 0, .int 0, .ref (n0 + 5), .int (-1), .int 0, .null, .null, .null, .int 0, .null, .null, .int 0, .int 0, .null, .null, .null, .null]))) 6 (.inl (cI, 9, .inl (fun _ => 0)))) 0 (.inr (0, [.ref (n0 + 1), .ref (n0 + 2), .ref (n0 + 3), .int 0, .ref (n0 + 4), .int 0, .int 0, .int 0, .int 0, .int 0, .int 0, .ref (n0 + 5), .int (-1), .int 0, .ref (n0 + 6), .null, .null, .int 0, .null, .null, .int 0, .int 0, .null, .null, .null, .null]))) 7 (.inl (cI, 9, .inl (fun _ => 0)))) 0 (.inr (0, [.ref (n0 + 1), .ref (n0 + 2), .ref (n0 + 3), .int 0, .ref (n0 + 4), .int 0, .int 0, .int 0, .int 0, .int 0, .int 0, .ref (n0 + 5), .int (-1), .int 0, .ref (n0 + 6), .ref (n0 + 7), .null, .int 0, .null, .null, .int 0, .int 0, .null, .null, .null, .null]))) 8 (.inl (cI, 9, .inl (fun _ => 0)))) 0 (.inr (0, [.ref (n0 + 1), .ref (n0 + 2), .ref (n0 + 3), .int 0, .ref (n0 + 4), .int 0, .int 0, .int 0, .int 0, .int 0, .int 0, .ref (n0 + 5), .int (-1), .int 0, .ref (n0 + 6), .ref (n0 + 7), .ref (n0 + 8), .int 0, .null, .null, .int 0, .int 0, .null, .null, .null, .null]))) 9 (.inl (cI, 5, .inl (fun _ => 0)))) 0 (.inr (0, [.ref (n0 + 1), .ref (n0 + 2), .ref (n0 + 3), .int 0, .ref (n0 + 4), .int 0, .int 0, .int 0, .int 0, .int 0, .int 0, .ref (n0 + 5), .int (-1), .int 0, .ref (n0 + 6), .ref (n0 + 7), .ref (n0 + 8), .int 0, .ref (n0 + 9), .null, .int 0, .int 0, .null, .null, .null, .null]))) 10 (.inl (cI, 40, .inl (fun _ => 0)))) 0 (.inr (0, [.ref (n0 + 1), .ref (n0 + 2), .ref (n0 + 3), .int 0, .ref (n0 + 4), .int 0, .int 0, .int 0, .int 0, .int 0, .int 0, .ref (n0 + 5), .int (-1), .int 0, .ref (n0 + 6), .ref (n0 + 7), .ref (n0 + 8), .int 0, .ref (n0 + 9), .ref (n0 + 10), .int 0, .int 0, .null, .null, .null, .null]))) 11 (.inl (cI, 4, .inl (fun _ => 0)))) 0 (.inr (0, [.ref (n0 + 1), .ref (n0 + 2), .ref (n0 + 3), .int 0, .ref (n0 + 4), .int 0, .int 0, .int 0, .int 0, .int 0, .int 0, .ref (n0 + 5), .int (-1), .int 0, .ref (n0 + 6), .ref (n0 + 7), .ref (n0 + 8), .int 0, .ref (n0 + 9), .ref (n0 + 10), .int 0, .int 0, .ref (n0 + 11), .null, .null, .null]))) 12 (.inl (cI, 4, .inl (fun _ => 0)))) 0 (.inr (0, [.ref (n0 + 1), .ref (n0 + 2), .ref (n0 + 3), .int 0, .ref (n0 + 4), .int 0, .int 0, .int 0, .int 0, .int 0, .int 0, .ref (n0 + 5), .int (-1), .int 0, .ref (n0 + 6), .ref (n0 + 7), .ref (n0 + 8), .int 0, .ref (n0 + 9), .ref (n0 + 10), .int 0, .int 0, .ref (n0 + 11), .ref (n0 + 12), .null, .null]))) 13 (.inl (cI, 160, .inl (fun _ => 0)))) 0 (.inr (0, [.ref (n0 + 1), .ref (n0 + 2), .ref (n0 + 3), .int 0, .ref (n0 + 4), .int 0, .int 0, .int 0, .int 0, .int 0, .int 0, .ref (n0 + 5), .int (-1), .int 0, .ref (n0 + 6), .ref (n0 + 7), .ref (n0 + 8), .int 0, .ref (n0 + 9), .ref (n0 + 10), .int 0, .int 0, .ref (n0 + 11), .ref (n0 + 12), .ref (n0 + 13), .null]))) 14 (.inl (cI, 40, .inl (fun _ => 0)))) 0 (.inr (0, [.ref (n0 + 1), .ref (n0 + 2), .ref (n0 + 3), .int 0, .ref (n0 + 4), .int 0, .int 0, .int 0, .int 0, .int 0, .int 0, .ref (n0 + 5), .int (-1), .int 0, .ref (n0 + 6), .ref (n0 + 7), .ref (n0 + 8), .int 0, .ref (n0 + 9), .ref (n0 + 10), .int 0, .int 0, .ref (n0 + 11), .ref (n0 + 12), .ref (n0 + 13), .ref (n0 + 14)]))) 1 (.inl (cI, 342, .inl (upd (fun _ => 0) (4 : Int32).toNatClampNeg 1)))
theorem w_nModel {l : Launch} (hg : g 0 = .inr (0, [.null, .null, .null, .int 0, .null, .int 0, .int 0, .int 0, .int 0, .int 0, .int 0, .null, .int 0, .int 0, .null, .null, .null, .int 0, .null, .null, .int 0, .int 0, .null, .null, .null, .null])) : Met l yX6_init (ws_ yX6_init cX6_init 1 none) (rmA 3 14 1143) (nPr D mCl [(cI, .int)] n0 1 g (fun _ => True) [.ref (n0 + 0)]) (nQr D mCl n0 15 (gModel cI n0 g)) 14 1143 (nA n0) := by
  refine nn_of (by decide +kernel) (Nat.le_of_ble_eq_true rfl) (fun p e s m below meth c R args ls K hX hin hr hlk hP hS hl hcs hs0 => ?_)
  have hx := K.1
  have hb := K.2.1
  have hml := K.2.2.1
  have hown : s.vm.findClass RX6 = some m.cls := K.2.2.2.1
  have hts := K.2.2.2.2.1
  have hR := K.2.2.2.2.2.1
  have hl : lv_has ls 1 [(0, .ref (n0 + 0))] := hl
  refine lv_aload_n hx hb dX6_init_0 rfl (lv_at hl 0 rfl) ?_
  refine W.objInit hx hb hown (hts _ q1517) (hts _ q127) (hts _ q128) rfl (by rw [hml]; exact hl.1) rfl dX6_init_1 (by have h1 := hR.1; simp at *; omega) (by have h2 := hR.2; simp at *; omega) ?_
  refine W.eq (g2 := F0 m 4 ls []) rfl ?_
  refine lv_aload_n hx hb dX6_init_4 rfl (lv_at hl 0 rfl) ?_
  refine lv_sipush (v := 342) hx hb dX6_init_5 (by decide) ?_
  refine nn_newa (atype := .int) (j := 0) (L := 342) (x := cI) (N' := 2) (cells' := 1) (slots' := 342) K hP hS q219 rfl (fun _ => rfl) (by decide) rfl (by decide) rfl rfl rfl rfl (by omega) (by omega) dX6_init_8 (fun H hP hS => ?_)
  refine nn_putF (N := 2) (i := 0) (ci := 0) (Cn := RX6) (ref := RX6) (T := TX6) (Nf := 26) (ty0 := tyX6) (fs := [.null, .null, .null, .int 0, .null, .int 0, .int 0, .int 0, .int 0, .int 0, .int 0, .null, .int 0, .int 0, .null, .null, .null, .int 0, .null, .null, .int 0, .int 0, .null, .null, .null, .null]) K hin hP hS (by omega) (by omega) hg rfl in_X6 tyX6_ok nmX6 0 (by decide) q1518 (fun _ h => h) rfl rfl rfl rfl (Nat.le_of_ble_eq_true rfl) rfl dX6_init_10 (fun H locs hP hS => ?_)
  refine lv_aload_n hx hb dX6_init_13 rfl (lv_at hl 0 rfl) ?_
  refine lv_sipush (v := 342) hx hb dX6_init_14 (by decide) ?_
  refine nn_newa (atype := .int) (j := 0) (L := 342) (x := cI) (N' := 3) (cells' := 2) (slots' := 684) K hP hS q219 rfl (fun _ => rfl) (by decide) rfl (by decide) rfl rfl rfl rfl (by omega) (by omega) dX6_init_17 (fun H hP hS => ?_)
  refine nn_putF (N := 3) (i := 0) (ci := 0) (Cn := RX6) (ref := RX6) (T := TX6) (Nf := 26) (ty0 := tyX6) (fs := [.ref (n0 + 1), .null, .null, .int 0, .null, .int 0, .int 0, .int 0, .int 0, .int 0, .int 0, .null, .int 0, .int 0, .null, .null, .null, .int 0, .null, .null, .int 0, .int 0, .null, .null, .null, .null]) K hin hP hS (by omega) (by omega) rfl rfl in_X6 tyX6_ok nmX6 1 (by decide) q1519 (fun _ h => h) rfl rfl rfl rfl (Nat.le_of_ble_eq_true rfl) rfl dX6_init_19 (fun H locs hP hS => ?_)
  refine lv_aload_n hx hb dX6_init_22 rfl (lv_at hl 0 rfl) ?_
  refine lv_sipush (v := 170) hx hb dX6_init_23 (by decide) ?_
  refine nn_newa (atype := .int) (j := 0) (L := 170) (x := cI) (N' := 4) (cells' := 3) (slots' := 854) K hP hS q219 rfl (fun _ => rfl) (by decide) rfl (by decide) rfl rfl rfl rfl (by omega) (by omega) dX6_init_26 (fun H hP hS => ?_)
  refine nn_putF (N := 4) (i := 0) (ci := 0) (Cn := RX6) (ref := RX6) (T := TX6) (Nf := 26) (ty0 := tyX6) (fs := [.ref (n0 + 1), .ref (n0 + 2), .null, .int 0, .null, .int 0, .int 0, .int 0, .int 0, .int 0, .int 0, .null, .int 0, .int 0, .null, .null, .null, .int 0, .null, .null, .int 0, .int 0, .null, .null, .null, .null]) K hin hP hS (by omega) (by omega) rfl rfl in_X6 tyX6_ok nmX6 2 (by decide) q1520 (fun _ h => h) rfl rfl rfl rfl (Nat.le_of_ble_eq_true rfl) rfl dX6_init_28 (fun H locs hP hS => ?_)
  refine lv_aload_n hx hb dX6_init_31 rfl (lv_at hl 0 rfl) ?_
  refine lv_bipush (v := 6) hx hb dX6_init_32 (by decide) ?_
  refine nn_newa (atype := .int) (j := 0) (L := 6) (x := cI) (N' := 5) (cells' := 4) (slots' := 860) K hP hS q219 rfl (fun _ => rfl) (by decide) rfl (by decide) rfl rfl rfl rfl (by omega) (by omega) dX6_init_34 (fun H hP hS => ?_)
  refine nn_putF (N := 5) (i := 0) (ci := 0) (Cn := RX6) (ref := RX6) (T := TX6) (Nf := 26) (ty0 := tyX6) (fs := [.ref (n0 + 1), .ref (n0 + 2), .ref (n0 + 3), .int 0, .null, .int 0, .int 0, .int 0, .int 0, .int 0, .int 0, .null, .int 0, .int 0, .null, .null, .null, .int 0, .null, .null, .int 0, .int 0, .null, .null, .null, .null]) K hin hP hS (by omega) (by omega) rfl rfl in_X6 tyX6_ok nmX6 4 (by decide) q1522 (fun _ h => h) rfl rfl rfl rfl (Nat.le_of_ble_eq_true rfl) rfl dX6_init_36 (fun H locs hP hS => ?_)
  refine lv_aload_n hx hb dX6_init_39 rfl (lv_at hl 0 rfl) ?_
  refine lv_iconst (v := 3) hx hb dX6_init_40 (by decide) ?_
  refine nn_newa (atype := .int) (j := 0) (L := 3) (x := cI) (N' := 6) (cells' := 5) (slots' := 863) K hP hS q219 rfl (fun _ => rfl) (by decide) rfl (by decide) rfl rfl rfl rfl (by omega) (by omega) dX6_init_41 (fun H hP hS => ?_)
  refine nn_putF (N := 6) (i := 0) (ci := 0) (Cn := RX6) (ref := RX6) (T := TX6) (Nf := 26) (ty0 := tyX6) (fs := [.ref (n0 + 1), .ref (n0 + 2), .ref (n0 + 3), .int 0, .ref (n0 + 4), .int 0, .int 0, .int 0, .int 0, .int 0, .int 0, .null, .int 0, .int 0, .null, .null, .null, .int 0, .null, .null, .int 0, .int 0, .null, .null, .null, .null]) K hin hP hS (by omega) (by omega) rfl rfl in_X6 tyX6_ok nmX6 11 (by decide) q1529 (fun _ h => h) rfl rfl rfl rfl (Nat.le_of_ble_eq_true rfl) rfl dX6_init_43 (fun H locs hP hS => ?_)
  refine lv_aload_n hx hb dX6_init_46 rfl (lv_at hl 0 rfl) ?_
  refine lv_iconst (v := -1) hx hb dX6_init_47 (by decide) ?_
  refine nn_put (N := 6) (i := 0) (ci := 0) (Cn := RX6) (ref := RX6) (T := TX6) (Nf := 26) (ty0 := tyX6) (fs := [.ref (n0 + 1), .ref (n0 + 2), .ref (n0 + 3), .int 0, .ref (n0 + 4), .int 0, .int 0, .int 0, .int 0, .int 0, .int 0, .ref (n0 + 5), .int 0, .int 0, .null, .null, .null, .int 0, .null, .null, .int 0, .int 0, .null, .null, .null, .null]) K hP hS (by omega) (by omega) rfl rfl in_X6 tyX6_ok nmX6 12 (by decide) q1530 (fun _ h => h) rfl rfl rfl (Nat.le_of_ble_eq_true rfl) rfl dX6_init_48 (fun H locs hP hS => ?_)
  refine lv_aload_n hx hb dX6_init_51 rfl (lv_at hl 0 rfl) ?_
  refine lv_bipush (v := 9) hx hb dX6_init_52 (by decide) ?_
  refine nn_newa (atype := .int) (j := 0) (L := 9) (x := cI) (N' := 7) (cells' := 6) (slots' := 872) K hP hS q219 rfl (fun _ => rfl) (by decide) rfl (by decide) rfl rfl rfl rfl (by omega) (by omega) dX6_init_54 (fun H hP hS => ?_)
  refine nn_putF (N := 7) (i := 0) (ci := 0) (Cn := RX6) (ref := RX6) (T := TX6) (Nf := 26) (ty0 := tyX6) (fs := [.ref (n0 + 1), .ref (n0 + 2), .ref (n0 + 3), .int 0, .ref (n0 + 4), .int 0, .int 0, .int 0, .int 0, .int 0, .int 0, .ref (n0 + 5), .int (-1), .int 0, .null, .null, .null, .int 0, .null, .null, .int 0, .int 0, .null, .null, .null, .null]) K hin hP hS (by omega) (by omega) rfl rfl in_X6 tyX6_ok nmX6 14 (by decide) q1532 (fun _ h => h) rfl rfl rfl rfl (Nat.le_of_ble_eq_true rfl) rfl dX6_init_56 (fun H locs hP hS => ?_)
  refine lv_aload_n hx hb dX6_init_59 rfl (lv_at hl 0 rfl) ?_
  refine lv_bipush (v := 9) hx hb dX6_init_60 (by decide) ?_
  refine nn_newa (atype := .int) (j := 0) (L := 9) (x := cI) (N' := 8) (cells' := 7) (slots' := 881) K hP hS q219 rfl (fun _ => rfl) (by decide) rfl (by decide) rfl rfl rfl rfl (by omega) (by omega) dX6_init_62 (fun H hP hS => ?_)
  refine nn_putF (N := 8) (i := 0) (ci := 0) (Cn := RX6) (ref := RX6) (T := TX6) (Nf := 26) (ty0 := tyX6) (fs := [.ref (n0 + 1), .ref (n0 + 2), .ref (n0 + 3), .int 0, .ref (n0 + 4), .int 0, .int 0, .int 0, .int 0, .int 0, .int 0, .ref (n0 + 5), .int (-1), .int 0, .ref (n0 + 6), .null, .null, .int 0, .null, .null, .int 0, .int 0, .null, .null, .null, .null]) K hin hP hS (by omega) (by omega) rfl rfl in_X6 tyX6_ok nmX6 15 (by decide) q1533 (fun _ h => h) rfl rfl rfl rfl (Nat.le_of_ble_eq_true rfl) rfl dX6_init_64 (fun H locs hP hS => ?_)
  refine lv_aload_n hx hb dX6_init_67 rfl (lv_at hl 0 rfl) ?_
  refine lv_bipush (v := 9) hx hb dX6_init_68 (by decide) ?_
  refine nn_newa (atype := .int) (j := 0) (L := 9) (x := cI) (N' := 9) (cells' := 8) (slots' := 890) K hP hS q219 rfl (fun _ => rfl) (by decide) rfl (by decide) rfl rfl rfl rfl (by omega) (by omega) dX6_init_70 (fun H hP hS => ?_)
  refine nn_putF (N := 9) (i := 0) (ci := 0) (Cn := RX6) (ref := RX6) (T := TX6) (Nf := 26) (ty0 := tyX6) (fs := [.ref (n0 + 1), .ref (n0 + 2), .ref (n0 + 3), .int 0, .ref (n0 + 4), .int 0, .int 0, .int 0, .int 0, .int 0, .int 0, .ref (n0 + 5), .int (-1), .int 0, .ref (n0 + 6), .ref (n0 + 7), .null, .int 0, .null, .null, .int 0, .int 0, .null, .null, .null, .null]) K hin hP hS (by omega) (by omega) rfl rfl in_X6 tyX6_ok nmX6 16 (by decide) q1534 (fun _ h => h) rfl rfl rfl rfl (Nat.le_of_ble_eq_true rfl) rfl dX6_init_72 (fun H locs hP hS => ?_)
  refine lv_aload_n hx hb dX6_init_75 rfl (lv_at hl 0 rfl) ?_
  refine lv_iconst (v := 5) hx hb dX6_init_76 (by decide) ?_
  refine nn_newa (atype := .int) (j := 0) (L := 5) (x := cI) (N' := 10) (cells' := 9) (slots' := 895) K hP hS q219 rfl (fun _ => rfl) (by decide) rfl (by decide) rfl rfl rfl rfl (by omega) (by omega) dX6_init_77 (fun H hP hS => ?_)
  refine nn_putF (N := 10) (i := 0) (ci := 0) (Cn := RX6) (ref := RX6) (T := TX6) (Nf := 26) (ty0 := tyX6) (fs := [.ref (n0 + 1), .ref (n0 + 2), .ref (n0 + 3), .int 0, .ref (n0 + 4), .int 0, .int 0, .int 0, .int 0, .int 0, .int 0, .ref (n0 + 5), .int (-1), .int 0, .ref (n0 + 6), .ref (n0 + 7), .ref (n0 + 8), .int 0, .null, .null, .int 0, .int 0, .null, .null, .null, .null]) K hin hP hS (by omega) (by omega) rfl rfl in_X6 tyX6_ok nmX6 18 (by decide) q1536 (fun _ h => h) rfl rfl rfl rfl (Nat.le_of_ble_eq_true rfl) rfl dX6_init_79 (fun H locs hP hS => ?_)
  refine lv_aload_n hx hb dX6_init_82 rfl (lv_at hl 0 rfl) ?_
  refine lv_bipush (v := 40) hx hb dX6_init_83 (by decide) ?_
  refine nn_newa (atype := .int) (j := 0) (L := 40) (x := cI) (N' := 11) (cells' := 10) (slots' := 935) K hP hS q219 rfl (fun _ => rfl) (by decide) rfl (by decide) rfl rfl rfl rfl (by omega) (by omega) dX6_init_85 (fun H hP hS => ?_)
  refine nn_putF (N := 11) (i := 0) (ci := 0) (Cn := RX6) (ref := RX6) (T := TX6) (Nf := 26) (ty0 := tyX6) (fs := [.ref (n0 + 1), .ref (n0 + 2), .ref (n0 + 3), .int 0, .ref (n0 + 4), .int 0, .int 0, .int 0, .int 0, .int 0, .int 0, .ref (n0 + 5), .int (-1), .int 0, .ref (n0 + 6), .ref (n0 + 7), .ref (n0 + 8), .int 0, .ref (n0 + 9), .null, .int 0, .int 0, .null, .null, .null, .null]) K hin hP hS (by omega) (by omega) rfl rfl in_X6 tyX6_ok nmX6 19 (by decide) q1537 (fun _ h => h) rfl rfl rfl rfl (Nat.le_of_ble_eq_true rfl) rfl dX6_init_87 (fun H locs hP hS => ?_)
  refine lv_aload_n hx hb dX6_init_90 rfl (lv_at hl 0 rfl) ?_
  refine lv_iconst (v := 4) hx hb dX6_init_91 (by decide) ?_
  refine nn_newa (atype := .int) (j := 0) (L := 4) (x := cI) (N' := 12) (cells' := 11) (slots' := 939) K hP hS q219 rfl (fun _ => rfl) (by decide) rfl (by decide) rfl rfl rfl rfl (by omega) (by omega) dX6_init_92 (fun H hP hS => ?_)
  refine nn_putF (N := 12) (i := 0) (ci := 0) (Cn := RX6) (ref := RX6) (T := TX6) (Nf := 26) (ty0 := tyX6) (fs := [.ref (n0 + 1), .ref (n0 + 2), .ref (n0 + 3), .int 0, .ref (n0 + 4), .int 0, .int 0, .int 0, .int 0, .int 0, .int 0, .ref (n0 + 5), .int (-1), .int 0, .ref (n0 + 6), .ref (n0 + 7), .ref (n0 + 8), .int 0, .ref (n0 + 9), .ref (n0 + 10), .int 0, .int 0, .null, .null, .null, .null]) K hin hP hS (by omega) (by omega) rfl rfl in_X6 tyX6_ok nmX6 22 (by decide) q1540 (fun _ h => h) rfl rfl rfl rfl (Nat.le_of_ble_eq_true rfl) rfl dX6_init_94 (fun H locs hP hS => ?_)
  refine lv_aload_n hx hb dX6_init_97 rfl (lv_at hl 0 rfl) ?_
  refine lv_iconst (v := 4) hx hb dX6_init_98 (by decide) ?_
  refine nn_newa (atype := .int) (j := 0) (L := 4) (x := cI) (N' := 13) (cells' := 12) (slots' := 943) K hP hS q219 rfl (fun _ => rfl) (by decide) rfl (by decide) rfl rfl rfl rfl (by omega) (by omega) dX6_init_99 (fun H hP hS => ?_)
  refine nn_putF (N := 13) (i := 0) (ci := 0) (Cn := RX6) (ref := RX6) (T := TX6) (Nf := 26) (ty0 := tyX6) (fs := [.ref (n0 + 1), .ref (n0 + 2), .ref (n0 + 3), .int 0, .ref (n0 + 4), .int 0, .int 0, .int 0, .int 0, .int 0, .int 0, .ref (n0 + 5), .int (-1), .int 0, .ref (n0 + 6), .ref (n0 + 7), .ref (n0 + 8), .int 0, .ref (n0 + 9), .ref (n0 + 10), .int 0, .int 0, .ref (n0 + 11), .null, .null, .null]) K hin hP hS (by omega) (by omega) rfl rfl in_X6 tyX6_ok nmX6 23 (by decide) q1541 (fun _ h => h) rfl rfl rfl rfl (Nat.le_of_ble_eq_true rfl) rfl dX6_init_101 (fun H locs hP hS => ?_)
  refine lv_aload_n hx hb dX6_init_104 rfl (lv_at hl 0 rfl) ?_
  refine lv_sipush (v := 160) hx hb dX6_init_105 (by decide) ?_
  refine nn_newa (atype := .int) (j := 0) (L := 160) (x := cI) (N' := 14) (cells' := 13) (slots' := 1103) K hP hS q219 rfl (fun _ => rfl) (by decide) rfl (by decide) rfl rfl rfl rfl (by omega) (by omega) dX6_init_108 (fun H hP hS => ?_)
  refine nn_putF (N := 14) (i := 0) (ci := 0) (Cn := RX6) (ref := RX6) (T := TX6) (Nf := 26) (ty0 := tyX6) (fs := [.ref (n0 + 1), .ref (n0 + 2), .ref (n0 + 3), .int 0, .ref (n0 + 4), .int 0, .int 0, .int 0, .int 0, .int 0, .int 0, .ref (n0 + 5), .int (-1), .int 0, .ref (n0 + 6), .ref (n0 + 7), .ref (n0 + 8), .int 0, .ref (n0 + 9), .ref (n0 + 10), .int 0, .int 0, .ref (n0 + 11), .ref (n0 + 12), .null, .null]) K hin hP hS (by omega) (by omega) rfl rfl in_X6 tyX6_ok nmX6 24 (by decide) q1542 (fun _ h => h) rfl rfl rfl rfl (Nat.le_of_ble_eq_true rfl) rfl dX6_init_110 (fun H locs hP hS => ?_)
  refine lv_aload_n hx hb dX6_init_113 rfl (lv_at hl 0 rfl) ?_
  refine lv_bipush (v := 40) hx hb dX6_init_114 (by decide) ?_
  refine nn_newa (atype := .int) (j := 0) (L := 40) (x := cI) (N' := 15) (cells' := 14) (slots' := 1143) K hP hS q219 rfl (fun _ => rfl) (by decide) rfl (by decide) rfl rfl rfl rfl (by omega) (by omega) dX6_init_116 (fun H hP hS => ?_)
  refine nn_putF (N := 15) (i := 0) (ci := 0) (Cn := RX6) (ref := RX6) (T := TX6) (Nf := 26) (ty0 := tyX6) (fs := [.ref (n0 + 1), .ref (n0 + 2), .ref (n0 + 3), .int 0, .ref (n0 + 4), .int 0, .int 0, .int 0, .int 0, .int 0, .int 0, .ref (n0 + 5), .int (-1), .int 0, .ref (n0 + 6), .ref (n0 + 7), .ref (n0 + 8), .int 0, .ref (n0 + 9), .ref (n0 + 10), .int 0, .int 0, .ref (n0 + 11), .ref (n0 + 12), .ref (n0 + 13), .null]) K hin hP hS (by omega) (by omega) rfl rfl in_X6 tyX6_ok nmX6 25 (by decide) q1543 (fun _ h => h) rfl rfl rfl rfl (Nat.le_of_ble_eq_true rfl) rfl dX6_init_118 (fun H locs hP hS => ?_)
  refine lv_aload_n hx hb dX6_init_121 rfl (lv_at hl 0 rfl) ?_
  refine nn_get (i := 0) (ci := 0) (Cn := RX6) (ref := RX6) (T := TX6) (Nf := 26) (fs := [.ref (n0 + 1), .ref (n0 + 2), .ref (n0 + 3), .int 0, .ref (n0 + 4), .int 0, .int 0, .int 0, .int 0, .int 0, .int 0, .ref (n0 + 5), .int (-1), .int 0, .ref (n0 + 6), .ref (n0 + 7), .ref (n0 + 8), .int 0, .ref (n0 + 9), .ref (n0 + 10), .int 0, .int 0, .ref (n0 + 11), .ref (n0 + 12), .ref (n0 + 13), .ref (n0 + 14)]) K hP (by decide) rfl rfl in_X6 0 (by decide) q1518 (fun _ h => h) rfl dX6_init_122 ?_
  refine lv_iconst (v := 4) hx hb dX6_init_125 (by decide) ?_
  refine lv_iconst (v := 1) hx hb dX6_init_126 (by decide) ?_
  refine nn_iast (q0 := 1) (n := 342) (t0 := 0) (x := cI) (f := fun _ => 0) (ii := 4) (v := 1) K hP hS (by omega) (by decide) rfl rfl (by unfold vp_in; decide) rfl dX6_init_127 (fun H locs hP hS => ?_)
  exact nn_vret hx hb hr hlk hP hS dX6_init_128
/-- the model at its start -/
def ms0 : MSt := (fun k => if k = 12 then -1 else 0, fun k j => if k = 1 then (if j = 4 then 1 else 0) else 0)
theorem gM_eq : ∀ k, k < 15 → gModel cI n0 g k = mg cI (fun i => n0 + i) ms0 k := by
  intro k hk
  match k, hk with
  | 0, _ => rfl
  | 1, _ =>
    show Sum.inl (cI, 342, Sum.inl (upd (fun _ => (0 : Int32)) (4 : Int32).toNatClampNeg 1)) = Sum.inl (cI, 342, Sum.inl (ms0.2 1))
    have h : upd (fun _ => (0 : Int32)) (4 : Int32).toNatClampNeg 1 = ms0.2 1 := by
      funext j
      show upd (fun _ => (0 : Int32)) 4 1 j = if j = 4 then 1 else 0
      unfold upd
      rfl
    rw [h]
  | 2, _ => rfl
  | 3, _ => rfl
  | 4, _ => rfl
  | 5, _ => rfl
  | 6, _ => rfl
  | 7, _ => rfl
  | 8, _ => rfl
  | 9, _ => rfl
  | 10, _ => rfl
  | 11, _ => rfl
  | 12, _ => rfl
  | 13, _ => rfl
  | 14, _ => rfl
theorem nW_m (hP : nW D mCl n0 15 (gModel cI n0 g) H) : mW D cI (fun i => n0 + i) ms0 H := kw_P hP.1 gM_eq
theorem kInj_m : kInj 15 (fun i => n0 + i) := fun _ _ _ _ h => Nat.add_left_cancel h
def pmL : List Nat := [2, 3, 4, 5, 6, 7, 9, 10, 11, 12, 13, 14, 15, 16, 18, 19, 21, 8, 17, 20, 22, 23, 24, 25, 26, 27, 29, 30, 31, 32, 33, 34, 35, 36, 38, 39, 41, 28, 37, 40, 42, 43, 44, 45, 46, 47, 49, 50, 51, 52, 53, 54, 55, 56, 58, 59, 61, 48, 57, 60, 0, 1, 62, 63, 64, 66, 67, 68, 65, 69, 70, 71, 72]
/-- the component's keys at their addresses -/
def ad0 (n0 : Nat) (k : Nat) : Nat := if k < 73 then n0 + pmL.getD k 0 else k - 1000
theorem ad0_P : adP (ad0 n0) := fun a => by unfold ad0; rw [if_neg (by omega)]; omega
theorem pm_inj : ∀ i, i < 73 → ∀ j, j < 73 → pmL.getD i 0 = pmL.getD j 0 → i = j := by decide +kernel
theorem pm_lt : ∀ i, i < 73 → pmL.getD i 0 < 73 := by decide +kernel
/-- the component at its start -/
def cs0 (n0 : Nat) : CS := (fun k j => if k < 60 ∧ k % 20 = 0 then (if j = 19 then 1 else if j = 25 then -1 else 0) else 0, fun _ _ => 0, fun k => if k = 68 then (va_up (va_up (va_up (va_up (fun _ => none) 0 (some (n0 + 69))) 1 (some (n0 + 70))) 2 (some (n0 + 71))) 3 (some (n0 + 72))) else fun _ => none, fun _ => .inr (0, []))
theorem gL_eq : ∀ k, k < 73 → gLoan cA n0 g (pmL.getD k 0) = cg cA (ad0 n0) (cs0 n0) k := by
  intro k hk
  match k, hk with
  | 0, _ => rfl
  | 1, _ => rfl
  | 2, _ => rfl
  | 3, _ => rfl
  | 4, _ => rfl
  | 5, _ => rfl
  | 6, _ => rfl
  | 7, _ => rfl
  | 8, _ => rfl
  | 9, _ => rfl
  | 10, _ => rfl
  | 11, _ => rfl
  | 12, _ => rfl
  | 13, _ => rfl
  | 14, _ => rfl
  | 15, _ => rfl
  | 16, _ => rfl
  | 17, _ => rfl
  | 18, _ => rfl
  | 19, _ => rfl
  | 20, _ => rfl
  | 21, _ => rfl
  | 22, _ => rfl
  | 23, _ => rfl
  | 24, _ => rfl
  | 25, _ => rfl
  | 26, _ => rfl
  | 27, _ => rfl
  | 28, _ => rfl
  | 29, _ => rfl
  | 30, _ => rfl
  | 31, _ => rfl
  | 32, _ => rfl
  | 33, _ => rfl
  | 34, _ => rfl
  | 35, _ => rfl
  | 36, _ => rfl
  | 37, _ => rfl
  | 38, _ => rfl
  | 39, _ => rfl
  | 40, _ => rfl
  | 41, _ => rfl
  | 42, _ => rfl
  | 43, _ => rfl
  | 44, _ => rfl
  | 45, _ => rfl
  | 46, _ => rfl
  | 47, _ => rfl
  | 48, _ => rfl
  | 49, _ => rfl
  | 50, _ => rfl
  | 51, _ => rfl
  | 52, _ => rfl
  | 53, _ => rfl
  | 54, _ => rfl
  | 55, _ => rfl
  | 56, _ => rfl
  | 57, _ => rfl
  | 58, _ => rfl
  | 59, _ => rfl
  | 60, _ => rfl
  | 61, _ => rfl
  | 62, _ => rfl
  | 63, _ => rfl
  | 64, _ => rfl
  | 65, _ => rfl
  | 66, _ => rfl
  | 67, _ => rfl
  | 68, _ => rfl
  | 69, _ => rfl
  | 70, _ => rfl
  | 71, _ => rfl
  | 72, _ => rfl
  | k + 73, h => exact absurd h (by omega)
theorem nW_c (hP : nW D cCl n0 73 (gLoan cA n0 g) H) : cW D cA (List.range 73) (ad0 n0) (cs0 n0) H := by
  refine ⟨fun i q hq => ?_, ⟨fun k i a h1 h2 h3 h4 => ?_, fun k ci fs b h1 h2 => ?_, fun j hj => ?_⟩⟩
  · have hi : i < 73 := by
      rcases Nat.lt_or_ge i 73 with h | h
      · exact h
      · have h3 : (kl (List.range 73) (ad0 n0) (cg cA (ad0 n0) (cs0 n0)))[i]? = none := by simp [kl]; omega
        rw [h3] at hq; cases hq
    have h1 : (List.range 73)[i]? = some i := by simp [hi]
    rw [kl_at h1] at hq
    cases hq
    have h2 := hP.1 (pmL.getD i 0) _ (kw_at (pm_lt i hi))
    rw [gL_eq i hi] at h2
    have h3 : ad0 n0 i = n0 + pmL.getD i 0 := if_pos hi
    rw [h3]
    exact h2
  · have h5 : (cs0 n0).2.2.1 k i = none := by
      show (if k = 68 then _ else fun _ => none : Nat → Option Nat) i = none
      rw [if_neg h3]
    rw [h5] at h4
    cases h4
  · have := List.mem_range.mp h1
    omega
  · match j, hj with
    | 0, _ => rfl
    | 1, _ => rfl
    | 2, _ => rfl
    | 3, _ => rfl
theorem klOk_0 {A : Nat → Prop} (hA : ∀ k, k < 73 → A (n0 + k)) : klOk A (List.range 73) (ad0 n0) := by
  have h0 : ∀ k, k < 73 → ad0 n0 k = n0 + pmL.getD k 0 := fun k h => if_pos h
  refine ⟨List.nodup_range, fun i hi j hj h => ?_, fun k hk => ?_, fun k hk => List.mem_range.mpr hk⟩
  · have h1 := List.mem_range.mp hi
    have h2 := List.mem_range.mp hj
    rw [h0 i h1, h0 j h2] at h
    exact pm_inj i h1 j h2 (Nat.add_left_cancel h)
  · have h1 := List.mem_range.mp hk
    rw [h0 k h1]
    exact hA _ (pm_lt k h1)
end
