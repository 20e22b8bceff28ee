/-! ChapterLoan's constructor -/
set_option maxRecDepth 100000
section
variable {p : Program} {l : Launch} {e : Env} {R : Room} {s : State} {m : MethodId} {args : Array Value} {below : List Frame} {meth : Method} {c : Code} {H : Heap} {locs : List Loc} {cells slots d : Nat} {Q : State → Prop} {cc : ByteArray} {pc nL : Nat} {ls : Array Slot} {rest : List Value} {D : va_G} {cl : List vw_C} {tys : List (ClassId × FieldType)} {cA : Nat → ClassId} {own : String} {index : Nat} {n0 N N0 i : Nat} {g : Nat → va_E} {adK adV : Nat → Nat}
theorem nW_one {H1 : Heap} {e1 : va_E} (hP : nW D cl n0 N g H) (hi : i < N) (h1 : va_P D cl [(n0 + i, e1)] H1) (hF : ∀ q, q < H.size → ¬ q = n0 + i → H1[q]? = H[q]?) (hz : H1.size = n0 + N) : nW D cl n0 N (va_up g i e1) H1 := by
  refine ⟨fun k q hq => ?_, hz⟩
  have hk : k < N := by
    rcases Nat.lt_or_ge k N with h | h
    · exact h
    · have h3 : (kw N (fun i => n0 + i) (va_up g i e1))[k]? = none := by simp [kw]; omega
      rw [h3] at hq; cases hq
  rw [kw_at hk] at hq
  cases hq
  by_cases hki : k = i
  · subst hki
    rw [up_eq]
    exact h1 0 _ rfl
  · rw [up_ne hki]
    have h2 := hP.1 k (n0 + k, g k) (kw_at hk)
    exact h2.kept (hF _ h2.lt (by show ¬ n0 + k = n0 + i; omega))
theorem nn_get {ci Nf : Nat} {Cn ref : String} {T : u_T} {fs : List Value} {v : Value} (K : gC p R d s m args c cc nL own D cl tys n0) (hP : nW D cl n0 N g H) (hi : i < N) (he : g i = .inr (ci, fs)) (hcl : cl[ci]? = some (Cn, T, Nf)) (hin : ∀ w ∈ u_ws Cn T Nf, w ∈ lw_all) (j : Nat) (hj : j < Nf) (hl : Cond.fieldLink own index ref (T j).2.1 (T j).2.2.1 ∈ lw_all) (hsame : ∀ x, s.fieldFound? (T j).1 (T j).2.1 (T j).2.2.1 = some x → s.fieldFound? ref (T j).2.1 (T j).2.2.1 = some x) (hv : fs[j]? = some v) (hdg : decode cc pc = .ok (.getfield index, 3))
    (kk : W p l e R s m args below meth c H locs cells slots Q (F0 m (pc + 3) ls (v :: rest))) : W p l e R s m args below meth c H locs cells slots Q (F0 m pc ls (.ref (n0 + i) :: rest)) := by
  obtain ⟨hx, hb, -, hown, hts, -, hK, hA⟩ := K
  exact va_get hx hb hts hin hown hK hP.1 i (by rw [kw_at hi, he]) hcl j hj (hts _ hl) hsame hv hdg kk
theorem nn_astq {q0 t0 qk ci n : Nat} {x : ClassId} {r : vw_C} {vs : List Value} {f : Nat → Option Nat} {ii : Int32} {g' : Nat → va_E} (K : gC p R d s m args c cc nL own D cl tys n0) (hP : nW D cl n0 N g H) (hS : va_S (nA n0) s.heap H locs) (hz : s.heap.size + cells = n0 + N) (h0 : q0 < N) (hk : qk < N) (ha : g q0 = .inl (x, n, .inr (.inr (.inr (.inr f))))) (ht : tys[t0]? = some (x, .object r.1)) (hv : g qk = .inr (ci, vs)) (hc : cl[ci]? = some r) (hin : vp_in ii n) (hg : va_up g q0 (.inl (x, n, .inr (.inr (.inr (.inr (va_up f ii.toNatClampNeg (some (n0 + qk)))))))) = g') (hdg : decode cc pc = .ok (.aastore, 1))
    (kk : ∀ (H1 : Heap) (locs1 : List Loc), nW D cl n0 N g' H1 → va_S (nA n0) s.heap H1 locs1 → W p l e R s m args below meth c H1 locs1 cells slots Q (F0 m (pc + 1) ls rest)) : W p l e R s m args below meth c H locs cells slots Q (F0 m pc ls (.ref (n0 + qk) :: .int ii :: .ref (n0 + q0) :: rest)) := by
  subst hg
  refine va_astq K.1 K.2.1 K.2.2.2.2.2.2.1 hP.1 nW_D (nS_self hS) q0 t0 qk ci (by rw [kw_at h0, ha]) ht (by rw [kw_at hk, hv]) hc hin hdg (fun H1 locs1 h1 _ h3 => W.sizeLe (fun hzz => kk H1 locs1 ⟨?_, ?_⟩ (nS_trans hS h3)))
  · rw [kw_set] at h1
    exact h1
  · have h4 := h3.1
    have h5 := hP.2
    omega
abbrev cX0_init : ByteArray := prog_1_method_6_code
def yX0_init : MethodName := ⟨RX0, "<init>", "()V"⟩
theorem dX0_init_0 : decode cX0_init 0 = .ok (.aload_n 0, 1) := by decide +kernel
theorem dX0_init_1 : decode cX0_init 1 = .ok (.invokespecial 37, 3) := by decide +kernel
theorem dX0_init_4 : decode cX0_init 4 = .ok (.aload_n 0, 1) := by decide +kernel
theorem dX0_init_5 : decode cX0_init 5 = .ok (.new 8, 3) := by decide +kernel
theorem dX0_init_8 : decode cX0_init 8 = .ok (.dup, 1) := by decide +kernel
theorem dX0_init_9 : decode cX0_init 9 = .ok (.invokespecial 42, 3) := by decide +kernel
theorem dX0_init_12 : decode cX0_init 12 = .ok (.putfield 1, 3) := by decide +kernel
theorem dX0_init_15 : decode cX0_init 15 = .ok (.aload_n 0, 1) := by decide +kernel
theorem dX0_init_16 : decode cX0_init 16 = .ok (.new 43, 3) := by decide +kernel
theorem dX0_init_19 : decode cX0_init 19 = .ok (.dup, 1) := by decide +kernel
theorem dX0_init_20 : decode cX0_init 20 = .ok (.invokespecial 45, 3) := by decide +kernel
theorem dX0_init_23 : decode cX0_init 23 = .ok (.putfield 46, 3) := by decide +kernel
theorem dX0_init_26 : decode cX0_init 26 = .ok (.aload_n 0, 1) := by decide +kernel
theorem dX0_init_27 : decode cX0_init 27 = .ok (.new 43, 3) := by decide +kernel
theorem dX0_init_30 : decode cX0_init 30 = .ok (.dup, 1) := by decide +kernel
theorem dX0_init_31 : decode cX0_init 31 = .ok (.invokespecial 45, 3) := by decide +kernel
theorem dX0_init_34 : decode cX0_init 34 = .ok (.putfield 50, 3) := by decide +kernel
theorem dX0_init_37 : decode cX0_init 37 = .ok (.aload_n 0, 1) := by decide +kernel
theorem dX0_init_38 : decode cX0_init 38 = .ok (.new 43, 3) := by decide +kernel
theorem dX0_init_41 : decode cX0_init 41 = .ok (.dup, 1) := by decide +kernel
theorem dX0_init_42 : decode cX0_init 42 = .ok (.invokespecial 45, 3) := by decide +kernel
theorem dX0_init_45 : decode cX0_init 45 = .ok (.putfield 53, 3) := by decide +kernel
theorem dX0_init_48 : decode cX0_init 48 = .ok (.aload_n 0, 1) := by decide +kernel
theorem dX0_init_49 : decode cX0_init 49 = .ok (.new 56, 3) := by decide +kernel
theorem dX0_init_52 : decode cX0_init 52 = .ok (.dup, 1) := by decide +kernel
theorem dX0_init_53 : decode cX0_init 53 = .ok (.invokespecial 58, 3) := by decide +kernel
theorem dX0_init_56 : decode cX0_init 56 = .ok (.putfield 59, 3) := by decide +kernel
theorem dX0_init_59 : decode cX0_init 59 = .ok (.aload_n 0, 1) := by decide +kernel
theorem dX0_init_60 : decode cX0_init 60 = .ok (.bipush 6, 2) := by decide +kernel
theorem dX0_init_62 : decode cX0_init 62 = .ok (.newarray .int, 2) := by decide +kernel
theorem dX0_init_64 : decode cX0_init 64 = .ok (.putfield 63, 3) := by decide +kernel
theorem dX0_init_67 : decode cX0_init 67 = .ok (.aload_n 0, 1) := by decide +kernel
theorem dX0_init_68 : decode cX0_init 68 = .ok (.iconst 4, 1) := by decide +kernel
theorem dX0_init_69 : decode cX0_init 69 = .ok (.anewarray 67, 3) := by decide +kernel
theorem dX0_init_72 : decode cX0_init 72 = .ok (.putfield 69, 3) := by decide +kernel
theorem dX0_init_75 : decode cX0_init 75 = .ok (.aload_n 0, 1) := by decide +kernel
theorem dX0_init_76 : decode cX0_init 76 = .ok (.bipush 8, 2) := by decide +kernel
theorem dX0_init_78 : decode cX0_init 78 = .ok (.newarray .int, 2) := by decide +kernel
theorem dX0_init_80 : decode cX0_init 80 = .ok (.putfield 73, 3) := by decide +kernel
theorem dX0_init_83 : decode cX0_init 83 = .ok (.aload_n 0, 1) := by decide +kernel
theorem dX0_init_84 : decode cX0_init 84 = .ok (.bipush 8, 2) := by decide +kernel
theorem dX0_init_86 : decode cX0_init 86 = .ok (.newarray .int, 2) := by decide +kernel
theorem dX0_init_88 : decode cX0_init 88 = .ok (.putfield 76, 3) := by decide +kernel
theorem dX0_init_91 : decode cX0_init 91 = .ok (.aload_n 0, 1) := by decide +kernel
theorem dX0_init_92 : decode cX0_init 92 = .ok (.iconst 5, 1) := by decide +kernel
theorem dX0_init_93 : decode cX0_init 93 = .ok (.newarray .int, 2) := by decide +kernel
theorem dX0_init_95 : decode cX0_init 95 = .ok (.putfield 79, 3) := by decide +kernel
theorem dX0_init_98 : decode cX0_init 98 = .ok (.iconst 0, 1) := by decide +kernel
theorem dX0_init_99 : decode cX0_init 99 = .ok (.istore_n 1, 1) := by decide +kernel
theorem dX0_init_100 : decode cX0_init 100 = .ok (.iload_n 1, 1) := by decide +kernel
theorem dX0_init_101 : decode cX0_init 101 = .ok (.iconst 4, 1) := by decide +kernel
theorem dX0_init_102 : decode cX0_init 102 = .ok (.if_icmp .ge 22, 3) := by decide +kernel
theorem dX0_init_105 : decode cX0_init 105 = .ok (.aload_n 0, 1) := by decide +kernel
theorem dX0_init_106 : decode cX0_init 106 = .ok (.getfield 69, 3) := by decide +kernel
theorem dX0_init_109 : decode cX0_init 109 = .ok (.iload_n 1, 1) := by decide +kernel
theorem dX0_init_110 : decode cX0_init 110 = .ok (.new 67, 3) := by decide +kernel
theorem dX0_init_113 : decode cX0_init 113 = .ok (.dup, 1) := by decide +kernel
theorem dX0_init_114 : decode cX0_init 114 = .ok (.invokespecial 82, 3) := by decide +kernel
theorem dX0_init_117 : decode cX0_init 117 = .ok (.aastore, 1) := by decide +kernel
theorem dX0_init_118 : decode cX0_init 118 = .ok (.iinc 1 1, 3) := by decide +kernel
theorem dX0_init_121 : decode cX0_init 121 = .ok (.goto (-21), 3) := by decide +kernel
theorem dX0_init_124 : decode cX0_init 124 = .ok (.return_, 1) := by decide +kernel
theorem q126 : (Jvm.Cond.methodLink "ChapterLoan" (37 : Nat) ({ cls := "java/lang/Object", name := "<init>", desc := "()V" } : Jvm.MethodName)) ∈ lw_all := lw_g (lw_at lw_m1 42 rfl) rfl
theorem q130 : (Jvm.Cond.instantiable "ChapterLoan$Finding" (7 : Nat)) ∈ lw_all := lw_g (lw_at lw_m1 46 rfl) rfl
theorem q169 : (Jvm.Cond.methodLink "ChapterLoan" (42 : Nat) ({ cls := "ChapterLoan$Finding", name := "<init>", desc := "()V" } : Jvm.MethodName)) ∈ lw_all := lw_g (lw_at lw_m1 85 rfl) rfl
theorem q170 : (Jvm.Cond.instanceMethod ({ cls := "ChapterLoan$Finding", name := "<init>", desc := "()V" } : Jvm.MethodName)) ∈ lw_all := lw_g (lw_at lw_m1 86 rfl) rfl
theorem q171 : (Jvm.Cond.code ({ cls := "ChapterLoan$Finding", name := "<init>", desc := "()V" } : Jvm.MethodName) prog_8_method_1_code (1 : Nat) (Option.none : Option Jvm.ClassFile.FieldType)) ∈ lw_all := lw_g (lw_at lw_m1 87 rfl) rfl
theorem q198 : (Jvm.Cond.classLink "ChapterLoan" (43 : Nat) "ChapterLoan$Town") ∈ lw_all := lw_g (lw_at lw_m1 114 rfl) rfl
theorem q199 : (Jvm.Cond.instantiable "ChapterLoan$Town" (27 : Nat)) ∈ lw_all := lw_g (lw_at lw_m1 115 rfl) rfl
theorem q202 : (Jvm.Cond.code ({ cls := "ChapterLoan$Town", name := "<init>", desc := "()V" } : Jvm.MethodName) prog_23_method_1_code (1 : Nat) (Option.none : Option Jvm.ClassFile.FieldType)) ∈ lw_all := lw_g (lw_at lw_m1 118 rfl) rfl
theorem q201 : (Jvm.Cond.instanceMethod ({ cls := "ChapterLoan$Town", name := "<init>", desc := "()V" } : Jvm.MethodName)) ∈ lw_all := lw_g (lw_at lw_m1 117 rfl) rfl
theorem q329 : (Jvm.Cond.classLink "ChapterLoan" (56 : Nat) "ChapterLoan$Trace") ∈ lw_all := lw_g (lw_at lw_m2 5 rfl) rfl
theorem q330 : (Jvm.Cond.instantiable "ChapterLoan$Trace" (2 : Nat)) ∈ lw_all := lw_g (lw_at lw_m2 6 rfl) rfl
theorem q333 : (Jvm.Cond.code ({ cls := "ChapterLoan$Trace", name := "<init>", desc := "()V" } : Jvm.MethodName) prog_24_method_1_code (1 : Nat) (Option.none : Option Jvm.ClassFile.FieldType)) ∈ lw_all := lw_g (lw_at lw_m2 9 rfl) rfl
theorem q332 : (Jvm.Cond.instanceMethod ({ cls := "ChapterLoan$Trace", name := "<init>", desc := "()V" } : Jvm.MethodName)) ∈ lw_all := lw_g (lw_at lw_m2 8 rfl) rfl
theorem q344 : (Jvm.Cond.classLink "ChapterLoan" (67 : Nat) "ChapterLoan$Shelf") ∈ lw_all := lw_g (lw_at lw_m2 20 rfl) rfl
theorem q346 : (Jvm.Cond.instantiable "ChapterLoan$Shelf" (1 : Nat)) ∈ lw_all := lw_g (lw_at lw_m2 22 rfl) rfl
theorem q93 : (Jvm.Cond.initialized "ChapterLoan$Shelf") ∈ lw_all := lw_g (lw_at lw_m1 9 rfl) rfl
theorem q349 : (Jvm.Cond.code ({ cls := "ChapterLoan$Shelf", name := "<init>", desc := "()V" } : Jvm.MethodName) prog_19_method_1_code (1 : Nat) (Option.none : Option Jvm.ClassFile.FieldType)) ∈ lw_all := lw_g (lw_at lw_m2 25 rfl) rfl
theorem q348 : (Jvm.Cond.instanceMethod ({ cls := "ChapterLoan$Shelf", name := "<init>", desc := "()V" } : Jvm.MethodName)) ∈ lw_all := lw_g (lw_at lw_m2 24 rfl) rfl
def gLoan (cA : Nat → ClassId) (n0 : Nat) (g : Nat → va_E) : Nat → va_E := va_up (va_up (va_up (va_up (va_up (va_up (va_up (va_up (va_up (va_up (va_up (va_up (va_up (va_up (va_up (va_up (va_up (va_up (va_up (va_up (va_up (va_up (va_up (gT (va_up (va_up (gT (va_up (va_up (gT (va_up (va_up (va_up (va_up (g) 1 (.inr (1, [.null, .null, .null, .null, .null, .int 0, .int 0]))) 1 (.inr (1, [.null, .null, .null, .null, .null, .int 0, .int 0]))) 0 (.inr (0, [.ref (n0 + 1), .null, .null, .null, .int 0, .null, .null, .null, .null, .null, .int 0, .int 0, .null]))) 2 (.inr (2, [.int 0, .null, .null, .null, .null, .null, .int 0, .null, .null, .null, .null, .null, .null, .int 0, .int 0, .null, .null, .null, .null, .int 0, .null, .int 0, .null, .int 0, .null, .int 0, .int 0]))) 2 (tObj n0 3) 3 (tArr cA n0 3) 19) 0 (.inr (0, [.ref (n0 + 1), .ref (n0 + 2), .null, .null, .int 0, .null, .null, .null, .null, .null, .int 0, .int 0, .null]))) 22 (.inr (2, [.int 0, .null, .null, .null, .null, .null, .int 0, .null, .null, .null, .null, .null, .null, .int 0, .int 0, .null, .null, .null, .null, .int 0, .null, .int 0, .null, .int 0, .null, .int 0, .int 0]))) 22 (tObj n0 23) 23 (tArr cA n0 23) 19) 0 (.inr (0, [.ref (n0 + 1), .ref (n0 + 2), .ref (n0 + 22), .null, .int 0, .null, .null, .null, .null, .null, .int 0, .int 0, .null]))) 42 (.inr (2, [.int 0, .null, .null, .null, .null, .null, .int 0, .null, .null, .null, .null, .null, .null, .int 0, .int 0, .null, .null, .null, .null, .int 0, .null, .int 0, .null, .int 0, .null, .int 0, .int 0]))) 42 (tObj n0 43) 43 (tArr cA n0 43) 19) 0 (.inr (0, [.ref (n0 + 1), .ref (n0 + 2), .ref (n0 + 22), .ref (n0 + 42), .int 0, .null, .null, .null, .null, .null, .int 0, .int 0, .null]))) 62 (.inr (4, [.null, .int 0]))) 63 (.inl (cA 0, 40, .inl (fun _ => 0)))) 62 (.inr (4, [.ref (n0 + 63), .int 0]))) 0 (.inr (0, [.ref (n0 + 1), .ref (n0 + 2), .ref (n0 + 22), .ref (n0 + 42), .int 0, .ref (n0 + 62), .null, .null, .null, .null, .int 0, .int 0, .null]))) 64 (.inl (cA 0, 6, .inl (fun _ => 0)))) 0 (.inr (0, [.ref (n0 + 1), .ref (n0 + 2), .ref (n0 + 22), .ref (n0 + 42), .int 0, .ref (n0 + 62), .ref (n0 + 64), .null, .null, .null, .int 0, .int 0, .null]))) 65 (.inl (cA 6, 4, .inr (.inr (.inr (.inr (fun _ => none))))))) 0 (.inr (0, [.ref (n0 + 1), .ref (n0 + 2), .ref (n0 + 22), .ref (n0 + 42), .int 0, .ref (n0 + 62), .ref (n0 + 64), .ref (n0 + 65), .null, .null, .int 0, .int 0, .null]))) 66 (.inl (cA 0, 8, .inl (fun _ => 0)))) 0 (.inr (0, [.ref (n0 + 1), .ref (n0 + 2), .ref (n0 + 22), .ref (n0 + 42), .int 0, .ref (n0 + 62), .ref (n0 + 64), .ref (n0 + 65), .ref (n0 + 66), .null, .int 0, .int 0, .null]))) 67 (.inl (cA 0, 8, .inl (fun _ => 0)))) 0 (.inr (0, [.ref (n0 + 1), .ref (n0 + 2), .ref (n0 + 22), .ref (n0 + 42), .int 0, .ref (n0 + 62), .ref (n0 + 64), .ref (n0 + 65), .ref (n0 + 66), .ref (n0 + 67), .int 0, .int 0, .null]))) 68 (.inl (cA 0, 5, .inl (fun _ => 0)))) 0 (.inr (0, [.ref (n0 + 1), .ref (n0 + 2), .ref (n0 + 22), .ref (n0 + 42), .int 0, .ref (n0 + 62), .ref (n0 + 64), .ref (n0 + 65), .ref (n0 + 66), .ref (n0 + 67), .int 0, .int 0, .ref (n0 + 68)]))) 69 (.inr (5, [.null]))) 65 (.inl (cA 6, 4, .inr (.inr (.inr (.inr (va_up (fun _ => none) 0 (some (n0 + 69))))))))) 70 (.inr (5, [.null]))) 65 (.inl (cA 6, 4, .inr (.inr (.inr (.inr (va_up (va_up (fun _ => none) 0 (some (n0 + 69))) 1 (some (n0 + 70))))))))) 71 (.inr (5, [.null]))) 65 (.inl (cA 6, 4, .inr (.inr (.inr (.inr (va_up (va_up (va_up (fun _ => none) 0 (some (n0 + 69))) 1 (some (n0 + 70))) 2 (some (n0 + 71))))))))) 72 (.inr (5, [.null]))) 65 (.inl (cA 6, 4, .inr (.inr (.inr (.inr (va_up (va_up (va_up (va_up (fun _ => none) 0 (some (n0 + 69))) 1 (some (n0 + 70))) 2 (some (n0 + 71))) 3 (some (n0 + 72))))))))
theorem w_nLoan {l : Launch} (hg : g 0 = .inr (0, [.null, .null, .null, .null, .int 0, .null, .null, .null, .null, .null, .int 0, .int 0, .null])) : Met l yX0_init (ws_ yX0_init cX0_init 2 none) (rmA 8 72 1236) (nPr D cCl (cTys cA) n0 1 g (xX adK adV n0) [.ref (n0 + 0)]) (nQr D cCl n0 73 (gLoan cA n0 g)) 72 1236 (nA n0) := by
  refine nn_of (by decide +kernel) (Nat.le_of_ble_eq_true rfl) (fun p e s m below meth c R args ls K hX hin hr hlk hP hS hl hcs hs0 => ?_)
  have hx := K.1
  have hb := K.2.1
  have hml := K.2.2.1
  have hown : s.vm.findClass RX0 = some m.cls := K.2.2.2.1
  have hts := K.2.2.2.2.1
  have hR := K.2.2.2.2.2.1
  have hl : lv_has ls 2 [(0, .ref (n0 + 0))] := hl
  refine lv_aload_n hx hb dX0_init_0 rfl (lv_at hl 0 rfl) ?_
  refine W.objInit hx hb hown (hts _ q126) (hts _ q127) (hts _ q128) rfl (by rw [hml]; exact hl.1) rfl dX0_init_1 (by have h1 := hR.1; simp at *; omega) (by have h2 := hR.2; simp at *; omega) ?_
  refine W.eq (g2 := F0 m 4 ls []) rfl ?_
  refine lv_aload_n hx hb dX0_init_4 rfl (lv_at hl 0 rfl) ?_
  refine nn_new (ci := 1) (Cn := RX1) (T := TX1) (Nf := 7) (ty0 := tyX1) (fs := [.null, .null, .null, .null, .null, .int 0, .int 0]) (N' := 2) (cells' := 1) (slots' := 7) K hP hS rfl in_X1 tyX1_ok q129 q130 q89 (fun j hj => by match j, hj with | 0, _ => rfl | 1, _ => rfl | 2, _ => rfl | 3, _ => rfl | 4, _ => rfl | 5, _ => rfl | 6, _ => rfl) rfl rfl rfl rfl (by omega) (by omega) dX0_init_5 (fun H hP hS => ?_)
  refine lv_dup hx hb dX0_init_8 rfl ?_
  have hrun := va_runI (locs := []) (p := p) (e := e) (below := below) (meth := meth) (H := H) (cells := 1) (slots := 7) (g := F0 m 9 ls [.ref (n0 + 1), .ref (n0 + 1), .ref (n0 + 0)]) (As := []) (rest := [.ref (n0 + 1), .ref (n0 + 0)]) (b := n0 + 1) ⟨hx, hb, hml, hown, hts⟩ (w_FindingI (l := l) (adK := adK) (adV := adV) (A := nA n0) (D := D) (cA := cA) (a := n0 + 1)) (cwI 0 hts (lw_meth q171) rfl rfl rfl (hts _ q89) (hts _ q169) (hts _ q170) rfl (by decide +kernel) (mr_ hR (Nat.le_of_ble_eq_true rfl) (by decide))) ⟨fun v U g mk q => ⟨q.1, q.2.1, va_K.moved (u := U) (U := U.calling g mk v) (Vm.Alike.refl U.vm) q.2.2.1, sX.calling q.2.2.2.1, q.2.2.2.2⟩, fun U hU hW => ⟨rfl, by
      rw [hU]
      intro j q hq
      have h1 := (List.getElem?_eq_some_iff.mp hq).1
      simp at h1
      subst h1
      cases hq
      exact hP.1 1 _ (kw_at (by decide)), va_K.moved hW.alike K.2.2.2.2.2.2.1, sX.there hX.2.1 hS hU hW, Nat.le_add_right _ _⟩⟩ rfl rfl hl.1 rfl (lv_room (Nat.le_of_ble_eq_true rfl)) dX0_init_9 ⟨by omega, by omega⟩
  intro T hT X
  obtain ⟨v', st₀, t, T', L, h0, X', hL, e1, -, ⟨hv, hw, hz, hk⟩, st⟩ := hrun T hT X
  cases hv
  rw [h0] at hz hk
  have key : W p l e R s m args below meth c T'.heap ([] ++ L) 1 7 (MQ below (nQr D cCl n0 73 (gLoan cA n0 g)) args s 72 1236 (nA n0)) (F0 m 12 ls [.ref (n0 + 1), .ref (n0 + 0)]) := by
    refine W.sizeLe (fun hzz => ?_)
    have hP0 := hP
    have h5 := hP.2
    have h6 : H.size ≤ T'.heap.size := by rw [e1]; exact hz
    have h7 : T'.heap.size = n0 + 2 := by omega
    have hP := nW_one (i := 1) hP (by decide) (show va_P D cCl [(n0 + 1, _)] T'.heap by rw [e1]; exact hw) (fun q g1 g2 => by rw [e1]; exact hk q g1 g2) h7
    have hS : va_S (nA n0) s.heap T'.heap ([] ++ L) := nS_trans hS ⟨by rw [e1]; exact hz, fun q g1 g2 => by rw [e1]; exact hk q g1 (fun h => g2 (by rw [h]; exact Nat.le_add_right _ _)), fun q hq => by have h8 := hL q (by simpa using hq); rw [h8]; exact Nat.le_add_right _ _⟩
    generalize T'.heap = H at hP hS ⊢
    generalize [] ++ L = locs at hS ⊢
    clear h5 h6 h7 e1 hw hz hk st X' h0 hT X hrun hzz hP0 hL
    refine nn_putF (N := 2) (i := 0) (ci := 0) (Cn := RX0) (ref := RX0) (T := TX0) (Nf := 13) (ty0 := tyX0) (fs := [.null, .null, .null, .null, .int 0, .null, .null, .null, .null, .null, .int 0, .int 0, .null]) K hin hP hS (by omega) (by omega) hg rfl in_X0 tyX0_ok nmX0 0 (by decide) q355 (fun _ h => h) rfl rfl rfl rfl (Nat.le_of_ble_eq_true rfl) rfl dX0_init_12 (fun H locs hP hS => ?_)
    refine lv_aload_n hx hb dX0_init_15 rfl (lv_at hl 0 rfl) ?_
    refine nn_new (ci := 2) (Cn := RX2) (T := TX2) (Nf := 27) (ty0 := tyX2) (fs := [.int 0, .null, .null, .null, .null, .null, .int 0, .null, .null, .null, .null, .null, .null, .int 0, .int 0, .null, .null, .null, .null, .int 0, .null, .int 0, .null, .int 0, .null, .int 0, .int 0]) (N' := 3) (cells' := 2) (slots' := 34) K hP hS rfl in_X2 tyX2_ok q198 q199 q90 (fun j hj => by match j, hj with | 0, _ => rfl | 1, _ => rfl | 2, _ => rfl | 3, _ => rfl | 4, _ => rfl | 5, _ => rfl | 6, _ => rfl | 7, _ => rfl | 8, _ => rfl | 9, _ => rfl | 10, _ => rfl | 11, _ => rfl | 12, _ => rfl | 13, _ => rfl | 14, _ => rfl | 15, _ => rfl | 16, _ => rfl | 17, _ => rfl | 18, _ => rfl | 19, _ => rfl | 20, _ => rfl | 21, _ => rfl | 22, _ => rfl | 23, _ => rfl | 24, _ => rfl | 25, _ => rfl | 26, _ => rfl | j + 27, h => exact absurd h (by omega)) rfl rfl rfl rfl (by omega) (by omega) dX0_init_16 (fun H hP hS => ?_)
    refine lv_dup hx hb dX0_init_19 rfl ?_
    refine nn_end (mc := 19) (ms := 357) (cells' := 21) (slots' := 391) hS (va_runIN (As := []) (rest := [.ref (n0 + 2), .ref (n0 + 0)]) (g := F0 m 20 ls [.ref (n0 + 2), .ref (n0 + 2), .ref (n0 + 0)]) (locs := locs) (cells := 2) (slots := 34) (p := p) (e := e) (below := below) (meth := meth) (b := n0 + 2) ⟨hx, hb, hml, hown, hts⟩ (w_nTown (l := l) (adK := adK) (adV := adV) (i := 2) (N := 3) (by decide) rfl) ⟨va_cnB 0 hts (lw_meth q202) rfl rfl rfl (hX.1 _ (List.mem_of_getElem? (i := 8) rfl)) (hts _ q90) (by decide +kernel) (mrA hR (Nat.le_of_ble_eq_true rfl) (by decide)), rfl, hts _ q201⟩ (nn_pre K (fun _ _ _ _ h => xX.calling h) (fun U hU hW => xX.there hX hS hU hW) hP) rfl rfl hl.1 rfl (lv_room (Nat.le_of_ble_eq_true rfl)) dX0_init_20 ⟨by omega, by omega⟩) rfl rfl (fun H locs hP hS => ?_)
    refine nn_putF (N := 22) (i := 0) (ci := 0) (Cn := RX0) (ref := RX0) (T := TX0) (Nf := 13) (ty0 := tyX0) (fs := [.ref (n0 + 1), .null, .null, .null, .int 0, .null, .null, .null, .null, .null, .int 0, .int 0, .null]) K hin hP hS (by omega) (by omega) rfl rfl in_X0 tyX0_ok nmX0 1 (by decide) q356 (fun _ h => h) rfl rfl rfl rfl (Nat.le_of_ble_eq_true rfl) rfl dX0_init_23 (fun H locs hP hS => ?_)
    refine lv_aload_n hx hb dX0_init_26 rfl (lv_at hl 0 rfl) ?_
    refine nn_new (ci := 2) (Cn := RX2) (T := TX2) (Nf := 27) (ty0 := tyX2) (fs := [.int 0, .null, .null, .null, .null, .null, .int 0, .null, .null, .null, .null, .null, .null, .int 0, .int 0, .null, .null, .null, .null, .int 0, .null, .int 0, .null, .int 0, .null, .int 0, .int 0]) (N' := 23) (cells' := 22) (slots' := 418) K hP hS rfl in_X2 tyX2_ok q198 q199 q90 (fun j hj => by match j, hj with | 0, _ => rfl | 1, _ => rfl | 2, _ => rfl | 3, _ => rfl | 4, _ => rfl | 5, _ => rfl | 6, _ => rfl | 7, _ => rfl | 8, _ => rfl | 9, _ => rfl | 10, _ => rfl | 11, _ => rfl | 12, _ => rfl | 13, _ => rfl | 14, _ => rfl | 15, _ => rfl | 16, _ => rfl | 17, _ => rfl | 18, _ => rfl | 19, _ => rfl | 20, _ => rfl | 21, _ => rfl | 22, _ => rfl | 23, _ => rfl | 24, _ => rfl | 25, _ => rfl | 26, _ => rfl | j + 27, h => exact absurd h (by omega)) rfl rfl rfl rfl (by omega) (by omega) dX0_init_27 (fun H hP hS => ?_)
    refine lv_dup hx hb dX0_init_30 rfl ?_
    refine nn_end (mc := 19) (ms := 357) (cells' := 41) (slots' := 775) hS (va_runIN (As := []) (rest := [.ref (n0 + 22), .ref (n0 + 0)]) (g := F0 m 31 ls [.ref (n0 + 22), .ref (n0 + 22), .ref (n0 + 0)]) (locs := locs) (cells := 22) (slots := 418) (p := p) (e := e) (below := below) (meth := meth) (b := n0 + 22) ⟨hx, hb, hml, hown, hts⟩ (w_nTown (l := l) (adK := adK) (adV := adV) (i := 22) (N := 23) (by decide) rfl) ⟨va_cnB 0 hts (lw_meth q202) rfl rfl rfl (hX.1 _ (List.mem_of_getElem? (i := 8) rfl)) (hts _ q90) (by decide +kernel) (mrA hR (Nat.le_of_ble_eq_true rfl) (by decide)), rfl, hts _ q201⟩ (nn_pre K (fun _ _ _ _ h => xX.calling h) (fun U hU hW => xX.there hX hS hU hW) hP) rfl rfl hl.1 rfl (lv_room (Nat.le_of_ble_eq_true rfl)) dX0_init_31 ⟨by omega, by omega⟩) rfl rfl (fun H locs hP hS => ?_)
    refine nn_putF (N := 42) (i := 0) (ci := 0) (Cn := RX0) (ref := RX0) (T := TX0) (Nf := 13) (ty0 := tyX0) (fs := [.ref (n0 + 1), .ref (n0 + 2), .null, .null, .int 0, .null, .null, .null, .null, .null, .int 0, .int 0, .null]) K hin hP hS (by omega) (by omega) rfl rfl in_X0 tyX0_ok nmX0 2 (by decide) q357 (fun _ h => h) rfl rfl rfl rfl (Nat.le_of_ble_eq_true rfl) rfl dX0_init_34 (fun H locs hP hS => ?_)
    refine lv_aload_n hx hb dX0_init_37 rfl (lv_at hl 0 rfl) ?_
    refine nn_new (ci := 2) (Cn := RX2) (T := TX2) (Nf := 27) (ty0 := tyX2) (fs := [.int 0, .null, .null, .null, .null, .null, .int 0, .null, .null, .null, .null, .null, .null, .int 0, .int 0, .null, .null, .null, .null, .int 0, .null, .int 0, .null, .int 0, .null, .int 0, .int 0]) (N' := 43) (cells' := 42) (slots' := 802) K hP hS rfl in_X2 tyX2_ok q198 q199 q90 (fun j hj => by match j, hj with | 0, _ => rfl | 1, _ => rfl | 2, _ => rfl | 3, _ => rfl | 4, _ => rfl | 5, _ => rfl | 6, _ => rfl | 7, _ => rfl | 8, _ => rfl | 9, _ => rfl | 10, _ => rfl | 11, _ => rfl | 12, _ => rfl | 13, _ => rfl | 14, _ => rfl | 15, _ => rfl | 16, _ => rfl | 17, _ => rfl | 18, _ => rfl | 19, _ => rfl | 20, _ => rfl | 21, _ => rfl | 22, _ => rfl | 23, _ => rfl | 24, _ => rfl | 25, _ => rfl | 26, _ => rfl | j + 27, h => exact absurd h (by omega)) rfl rfl rfl rfl (by omega) (by omega) dX0_init_38 (fun H hP hS => ?_)
    refine lv_dup hx hb dX0_init_41 rfl ?_
    refine nn_end (mc := 19) (ms := 357) (cells' := 61) (slots' := 1159) hS (va_runIN (As := []) (rest := [.ref (n0 + 42), .ref (n0 + 0)]) (g := F0 m 42 ls [.ref (n0 + 42), .ref (n0 + 42), .ref (n0 + 0)]) (locs := locs) (cells := 42) (slots := 802) (p := p) (e := e) (below := below) (meth := meth) (b := n0 + 42) ⟨hx, hb, hml, hown, hts⟩ (w_nTown (l := l) (adK := adK) (adV := adV) (i := 42) (N := 43) (by decide) rfl) ⟨va_cnB 0 hts (lw_meth q202) rfl rfl rfl (hX.1 _ (List.mem_of_getElem? (i := 8) rfl)) (hts _ q90) (by decide +kernel) (mrA hR (Nat.le_of_ble_eq_true rfl) (by decide)), rfl, hts _ q201⟩ (nn_pre K (fun _ _ _ _ h => xX.calling h) (fun U hU hW => xX.there hX hS hU hW) hP) rfl rfl hl.1 rfl (lv_room (Nat.le_of_ble_eq_true rfl)) dX0_init_42 ⟨by omega, by omega⟩) rfl rfl (fun H locs hP hS => ?_)
    refine nn_putF (N := 62) (i := 0) (ci := 0) (Cn := RX0) (ref := RX0) (T := TX0) (Nf := 13) (ty0 := tyX0) (fs := [.ref (n0 + 1), .ref (n0 + 2), .ref (n0 + 22), .null, .int 0, .null, .null, .null, .null, .null, .int 0, .int 0, .null]) K hin hP hS (by omega) (by omega) rfl rfl in_X0 tyX0_ok nmX0 3 (by decide) q358 (fun _ h => h) rfl rfl rfl rfl (Nat.le_of_ble_eq_true rfl) rfl dX0_init_45 (fun H locs hP hS => ?_)
    refine lv_aload_n hx hb dX0_init_48 rfl (lv_at hl 0 rfl) ?_
    refine nn_new (ci := 4) (Cn := RX4) (T := TX4) (Nf := 2) (ty0 := tyX4) (fs := [.null, .int 0]) (N' := 63) (cells' := 62) (slots' := 1161) K hP hS rfl in_X4 tyX4_ok q329 q330 q92 (fun j hj => by match j, hj with | 0, _ => rfl | 1, _ => rfl) rfl rfl rfl rfl (by omega) (by omega) dX0_init_49 (fun H hP hS => ?_)
    refine lv_dup hx hb dX0_init_52 rfl ?_
    refine nn_end (mc := 1) (ms := 40) (cells' := 63) (slots' := 1201) hS (va_runIN (As := []) (rest := [.ref (n0 + 62), .ref (n0 + 0)]) (g := F0 m 53 ls [.ref (n0 + 62), .ref (n0 + 62), .ref (n0 + 0)]) (locs := locs) (cells := 62) (slots := 1161) (p := p) (e := e) (below := below) (meth := meth) (b := n0 + 62) ⟨hx, hb, hml, hown, hts⟩ (w_nTrace (l := l) (adK := adK) (adV := adV) (i := 62) (N := 63) (by decide) rfl) ⟨va_cnB 0 hts (lw_meth q333) rfl rfl rfl (hX.1 _ (List.mem_of_getElem? (i := 36) rfl)) (hts _ q92) (by decide +kernel) (mrA hR (Nat.le_of_ble_eq_true rfl) (by decide)), rfl, hts _ q332⟩ (nn_pre K (fun _ _ _ _ h => xX.calling h) (fun U hU hW => xX.there hX hS hU hW) hP) rfl rfl hl.1 rfl (lv_room (Nat.le_of_ble_eq_true rfl)) dX0_init_53 ⟨by omega, by omega⟩) rfl rfl (fun H locs hP hS => ?_)
    refine nn_putF (N := 64) (i := 0) (ci := 0) (Cn := RX0) (ref := RX0) (T := TX0) (Nf := 13) (ty0 := tyX0) (fs := [.ref (n0 + 1), .ref (n0 + 2), .ref (n0 + 22), .ref (n0 + 42), .int 0, .null, .null, .null, .null, .null, .int 0, .int 0, .null]) K hin hP hS (by omega) (by omega) rfl rfl in_X0 tyX0_ok nmX0 5 (by decide) q360 (fun _ h => h) rfl rfl rfl rfl (Nat.le_of_ble_eq_true rfl) rfl dX0_init_56 (fun H locs hP hS => ?_)
    refine lv_aload_n hx hb dX0_init_59 rfl (lv_at hl 0 rfl) ?_
    refine lv_bipush (v := 6) hx hb dX0_init_60 (by decide) ?_
    refine nn_newa (atype := .int) (j := 0) (L := 6) (x := cA 0) (N' := 65) (cells' := 64) (slots' := 1207) K hP hS q219 rfl (fun _ => rfl) (by decide) rfl (by decide) rfl rfl rfl rfl (by omega) (by omega) dX0_init_62 (fun H hP hS => ?_)
    refine nn_putF (N := 65) (i := 0) (ci := 0) (Cn := RX0) (ref := RX0) (T := TX0) (Nf := 13) (ty0 := tyX0) (fs := [.ref (n0 + 1), .ref (n0 + 2), .ref (n0 + 22), .ref (n0 + 42), .int 0, .ref (n0 + 62), .null, .null, .null, .null, .int 0, .int 0, .null]) K hin hP hS (by omega) (by omega) rfl rfl in_X0 tyX0_ok nmX0 6 (by decide) q361 (fun _ h => h) rfl rfl rfl rfl (Nat.le_of_ble_eq_true rfl) rfl dX0_init_64 (fun H locs hP hS => ?_)
    refine lv_aload_n hx hb dX0_init_67 rfl (lv_at hl 0 rfl) ?_
    refine lv_iconst (v := 4) hx hb dX0_init_68 (by decide) ?_
    refine nn_newq (C := "ChapterLoan$Shelf") (j := 6) (L := 4) (x := cA 6) (N' := 66) (cells' := 65) (slots' := 1211) K hP hS q344 hX.2.2.2.2 rfl (by decide) rfl (by decide) rfl rfl rfl rfl (by omega) (by omega) dX0_init_69 (fun H hP hS => ?_)
    refine nn_putF (N := 66) (i := 0) (ci := 0) (Cn := RX0) (ref := RX0) (T := TX0) (Nf := 13) (ty0 := tyX0) (fs := [.ref (n0 + 1), .ref (n0 + 2), .ref (n0 + 22), .ref (n0 + 42), .int 0, .ref (n0 + 62), .ref (n0 + 64), .null, .null, .null, .int 0, .int 0, .null]) K hin hP hS (by omega) (by omega) rfl rfl in_X0 tyX0_ok nmX0 7 (by decide) q362 (fun _ h => h) rfl rfl rfl rfl (Nat.le_of_ble_eq_true rfl) rfl dX0_init_72 (fun H locs hP hS => ?_)
    refine lv_aload_n hx hb dX0_init_75 rfl (lv_at hl 0 rfl) ?_
    refine lv_bipush (v := 8) hx hb dX0_init_76 (by decide) ?_
    refine nn_newa (atype := .int) (j := 0) (L := 8) (x := cA 0) (N' := 67) (cells' := 66) (slots' := 1219) K hP hS q219 rfl (fun _ => rfl) (by decide) rfl (by decide) rfl rfl rfl rfl (by omega) (by omega) dX0_init_78 (fun H hP hS => ?_)
    refine nn_putF (N := 67) (i := 0) (ci := 0) (Cn := RX0) (ref := RX0) (T := TX0) (Nf := 13) (ty0 := tyX0) (fs := [.ref (n0 + 1), .ref (n0 + 2), .ref (n0 + 22), .ref (n0 + 42), .int 0, .ref (n0 + 62), .ref (n0 + 64), .ref (n0 + 65), .null, .null, .int 0, .int 0, .null]) K hin hP hS (by omega) (by omega) rfl rfl in_X0 tyX0_ok nmX0 8 (by decide) q363 (fun _ h => h) rfl rfl rfl rfl (Nat.le_of_ble_eq_true rfl) rfl dX0_init_80 (fun H locs hP hS => ?_)
    refine lv_aload_n hx hb dX0_init_83 rfl (lv_at hl 0 rfl) ?_
    refine lv_bipush (v := 8) hx hb dX0_init_84 (by decide) ?_
    refine nn_newa (atype := .int) (j := 0) (L := 8) (x := cA 0) (N' := 68) (cells' := 67) (slots' := 1227) K hP hS q219 rfl (fun _ => rfl) (by decide) rfl (by decide) rfl rfl rfl rfl (by omega) (by omega) dX0_init_86 (fun H hP hS => ?_)
    refine nn_putF (N := 68) (i := 0) (ci := 0) (Cn := RX0) (ref := RX0) (T := TX0) (Nf := 13) (ty0 := tyX0) (fs := [.ref (n0 + 1), .ref (n0 + 2), .ref (n0 + 22), .ref (n0 + 42), .int 0, .ref (n0 + 62), .ref (n0 + 64), .ref (n0 + 65), .ref (n0 + 66), .null, .int 0, .int 0, .null]) K hin hP hS (by omega) (by omega) rfl rfl in_X0 tyX0_ok nmX0 9 (by decide) q364 (fun _ h => h) rfl rfl rfl rfl (Nat.le_of_ble_eq_true rfl) rfl dX0_init_88 (fun H locs hP hS => ?_)
    refine lv_aload_n hx hb dX0_init_91 rfl (lv_at hl 0 rfl) ?_
    refine lv_iconst (v := 5) hx hb dX0_init_92 (by decide) ?_
    refine nn_newa (atype := .int) (j := 0) (L := 5) (x := cA 0) (N' := 69) (cells' := 68) (slots' := 1232) K hP hS q219 rfl (fun _ => rfl) (by decide) rfl (by decide) rfl rfl rfl rfl (by omega) (by omega) dX0_init_93 (fun H hP hS => ?_)
    refine nn_putF (N := 69) (i := 0) (ci := 0) (Cn := RX0) (ref := RX0) (T := TX0) (Nf := 13) (ty0 := tyX0) (fs := [.ref (n0 + 1), .ref (n0 + 2), .ref (n0 + 22), .ref (n0 + 42), .int 0, .ref (n0 + 62), .ref (n0 + 64), .ref (n0 + 65), .ref (n0 + 66), .ref (n0 + 67), .int 0, .int 0, .null]) K hin hP hS (by omega) (by omega) rfl rfl in_X0 tyX0_ok nmX0 12 (by decide) q367 (fun _ h => h) rfl rfl rfl rfl (Nat.le_of_ble_eq_true rfl) rfl dX0_init_95 (fun H locs hP hS => ?_)
    refine lv_iconst (v := 0) hx hb dX0_init_98 (by decide) ?_
    refine lv_istore_n (lv' := [(1, .int 0), (0, .ref (n0 + 0))]) hx hb dX0_init_99 rfl hl (by decide) rfl (fun ls hl => ?_)
    refine lv_iload_n hx hb dX0_init_100 rfl (lv_at hl 0 rfl) ?_
    refine lv_iconst (v := 4) hx hb dX0_init_101 (by decide) ?_
    refine lv_icmp_ge (tgt := 124) hx hb dX0_init_102 rfl (fun c => absurd c (by decide)) (fun _ => ?_)
    refine lv_aload_n hx hb dX0_init_105 rfl (lv_at hl 1 rfl) ?_
    refine nn_get (i := 0) (ci := 0) (Cn := RX0) (ref := RX0) (T := TX0) (Nf := 13) (fs := [.ref (n0 + 1), .ref (n0 + 2), .ref (n0 + 22), .ref (n0 + 42), .int 0, .ref (n0 + 62), .ref (n0 + 64), .ref (n0 + 65), .ref (n0 + 66), .ref (n0 + 67), .int 0, .int 0, .ref (n0 + 68)]) K hP (by decide) rfl rfl in_X0 7 (by decide) q362 (fun _ h => h) rfl dX0_init_106 ?_
    refine lv_iload_n hx hb dX0_init_109 rfl (lv_at hl 0 rfl) ?_
    refine nn_new (ci := 5) (Cn := RX5) (T := TX5) (Nf := 1) (ty0 := tyX5) (fs := [.null]) (N' := 70) (cells' := 69) (slots' := 1233) K hP hS rfl in_X5 tyX5_ok q344 q346 q93 (fun j hj => by match j, hj with | 0, _ => rfl) rfl rfl rfl rfl (by omega) (by omega) dX0_init_110 (fun H hP hS => ?_)
    refine lv_dup hx hb dX0_init_113 rfl ?_
    refine nn_end (mc := 0) (ms := 0) (cells' := 69) (slots' := 1233) hS (va_runIN (As := []) (rest := [.ref (n0 + 69), .int 0, .ref (n0 + 65)]) (g := F0 m 114 ls [.ref (n0 + 69), .ref (n0 + 69), .int 0, .ref (n0 + 65)]) (locs := locs) (cells := 69) (slots := 1233) (p := p) (e := e) (below := below) (meth := meth) (b := n0 + 69) ⟨hx, hb, hml, hown, hts⟩ (w_nShelf (l := l) (adK := adK) (adV := adV) (i := 69)) ⟨va_cnB 0 hts (lw_meth q349) rfl rfl rfl (hX.1 _ (List.mem_of_getElem? (i := 39) rfl)) (hts _ q93) (by decide +kernel) (mrA hR (Nat.le_of_ble_eq_true rfl) (by decide)), rfl, hts _ q348⟩ (nn_pre K (fun _ _ _ _ h => xX.calling h) (fun U hU hW => xX.there hX hS hU hW) hP) rfl rfl hl.1 rfl (lv_room (Nat.le_of_ble_eq_true rfl)) dX0_init_114 ⟨by omega, by omega⟩) rfl rfl (fun H locs hP hS => ?_)
    refine nn_astq (q0 := 65) (t0 := 6) (qk := 69) (ci := 5) (n := 4) (x := cA 6) (r := (RX5, TX5, 1)) (vs := [.null]) (f := (fun _ => none)) (ii := 0) K hP hS (by omega) (by decide) (by decide) rfl rfl rfl rfl (by unfold vp_in; decide) rfl dX0_init_117 (fun H locs hP hS => ?_)
    refine lv_iinc (v := 1) (lv' := [(1, .int 1), (0, .ref (n0 + 0))]) hx hb dX0_init_118 hl (k := 0) rfl (by decide) (by decide) rfl (fun ls hl => ?_)
    refine lv_goto (tgt := 100) hx hb dX0_init_121 rfl ?_
    refine lv_iload_n hx hb dX0_init_100 rfl (lv_at hl 0 rfl) ?_
    refine lv_iconst (v := 4) hx hb dX0_init_101 (by decide) ?_
    refine lv_icmp_ge (tgt := 124) hx hb dX0_init_102 rfl (fun c => absurd c (by decide)) (fun _ => ?_)
    refine lv_aload_n hx hb dX0_init_105 rfl (lv_at hl 1 rfl) ?_
    refine nn_get (i := 0) (ci := 0) (Cn := RX0) (ref := RX0) (T := TX0) (Nf := 13) (fs := [.ref (n0 + 1), .ref (n0 + 2), .ref (n0 + 22), .ref (n0 + 42), .int 0, .ref (n0 + 62), .ref (n0 + 64), .ref (n0 + 65), .ref (n0 + 66), .ref (n0 + 67), .int 0, .int 0, .ref (n0 + 68)]) K hP (by decide) rfl rfl in_X0 7 (by decide) q362 (fun _ h => h) rfl dX0_init_106 ?_
    refine lv_iload_n hx hb dX0_init_109 rfl (lv_at hl 0 rfl) ?_
    refine nn_new (ci := 5) (Cn := RX5) (T := TX5) (Nf := 1) (ty0 := tyX5) (fs := [.null]) (N' := 71) (cells' := 70) (slots' := 1234) K hP hS rfl in_X5 tyX5_ok q344 q346 q93 (fun j hj => by match j, hj with | 0, _ => rfl) rfl rfl rfl rfl (by omega) (by omega) dX0_init_110 (fun H hP hS => ?_)
    refine lv_dup hx hb dX0_init_113 rfl ?_
    refine nn_end (mc := 0) (ms := 0) (cells' := 70) (slots' := 1234) hS (va_runIN (As := []) (rest := [.ref (n0 + 70), .int 1, .ref (n0 + 65)]) (g := F0 m 114 ls [.ref (n0 + 70), .ref (n0 + 70), .int 1, .ref (n0 + 65)]) (locs := locs) (cells := 70) (slots := 1234) (p := p) (e := e) (below := below) (meth := meth) (b := n0 + 70) ⟨hx, hb, hml, hown, hts⟩ (w_nShelf (l := l) (adK := adK) (adV := adV) (i := 70)) ⟨va_cnB 0 hts (lw_meth q349) rfl rfl rfl (hX.1 _ (List.mem_of_getElem? (i := 39) rfl)) (hts _ q93) (by decide +kernel) (mrA hR (Nat.le_of_ble_eq_true rfl) (by decide)), rfl, hts _ q348⟩ (nn_pre K (fun _ _ _ _ h => xX.calling h) (fun U hU hW => xX.there hX hS hU hW) hP) rfl rfl hl.1 rfl (lv_room (Nat.le_of_ble_eq_true rfl)) dX0_init_114 ⟨by omega, by omega⟩) rfl rfl (fun H locs hP hS => ?_)
    refine nn_astq (q0 := 65) (t0 := 6) (qk := 70) (ci := 5) (n := 4) (x := cA 6) (r := (RX5, TX5, 1)) (vs := [.null]) (f := (va_up (fun _ => none) 0 (some (n0 + 69)))) (ii := 1) K hP hS (by omega) (by decide) (by decide) rfl rfl rfl rfl (by unfold vp_in; decide) rfl dX0_init_117 (fun H locs hP hS => ?_)
    refine lv_iinc (v := 2) (lv' := [(1, .int 2), (0, .ref (n0 + 0))]) hx hb dX0_init_118 hl (k := 0) rfl (by decide) (by decide) rfl (fun ls hl => ?_)
    refine lv_goto (tgt := 100) hx hb dX0_init_121 rfl ?_
    refine lv_iload_n hx hb dX0_init_100 rfl (lv_at hl 0 rfl) ?_
    refine lv_iconst (v := 4) hx hb dX0_init_101 (by decide) ?_
    refine lv_icmp_ge (tgt := 124) hx hb dX0_init_102 rfl (fun c => absurd c (by decide)) (fun _ => ?_)
    refine lv_aload_n hx hb dX0_init_105 rfl (lv_at hl 1 rfl) ?_
    refine nn_get (i := 0) (ci := 0) (Cn := RX0) (ref := RX0) (T := TX0) (Nf := 13) (fs := [.ref (n0 + 1), .ref (n0 + 2), .ref (n0 + 22), .ref (n0 + 42), .int 0, .ref (n0 + 62), .ref (n0 + 64), .ref (n0 + 65), .ref (n0 + 66), .ref (n0 + 67), .int 0, .int 0, .ref (n0 + 68)]) K hP (by decide) rfl rfl in_X0 7 (by decide) q362 (fun _ h => h) rfl dX0_init_106 ?_
    refine lv_iload_n hx hb dX0_init_109 rfl (lv_at hl 0 rfl) ?_
    refine nn_new (ci := 5) (Cn := RX5) (T := TX5) (Nf := 1) (ty0 := tyX5) (fs := [.null]) (N' := 72) (cells' := 71) (slots' := 1235) K hP hS rfl in_X5 tyX5_ok q344 q346 q93 (fun j hj => by match j, hj with | 0, _ => rfl) rfl rfl rfl rfl (by omega) (by omega) dX0_init_110 (fun H hP hS => ?_)
    refine lv_dup hx hb dX0_init_113 rfl ?_
    refine nn_end (mc := 0) (ms := 0) (cells' := 71) (slots' := 1235) hS (va_runIN (As := []) (rest := [.ref (n0 + 71), .int 2, .ref (n0 + 65)]) (g := F0 m 114 ls [.ref (n0 + 71), .ref (n0 + 71), .int 2, .ref (n0 + 65)]) (locs := locs) (cells := 71) (slots := 1235) (p := p) (e := e) (below := below) (meth := meth) (b := n0 + 71) ⟨hx, hb, hml, hown, hts⟩ (w_nShelf (l := l) (adK := adK) (adV := adV) (i := 71)) ⟨va_cnB 0 hts (lw_meth q349) rfl rfl rfl (hX.1 _ (List.mem_of_getElem? (i := 39) rfl)) (hts _ q93) (by decide +kernel) (mrA hR (Nat.le_of_ble_eq_true rfl) (by decide)), rfl, hts _ q348⟩ (nn_pre K (fun _ _ _ _ h => xX.calling h) (fun U hU hW => xX.there hX hS hU hW) hP) rfl rfl hl.1 rfl (lv_room (Nat.le_of_ble_eq_true rfl)) dX0_init_114 ⟨by omega, by omega⟩) rfl rfl (fun H locs hP hS => ?_)
    refine nn_astq (q0 := 65) (t0 := 6) (qk := 71) (ci := 5) (n := 4) (x := cA 6) (r := (RX5, TX5, 1)) (vs := [.null]) (f := (va_up (va_up (fun _ => none) 0 (some (n0 + 69))) 1 (some (n0 + 70)))) (ii := 2) K hP hS (by omega) (by decide) (by decide) rfl rfl rfl rfl (by unfold vp_in; decide) rfl dX0_init_117 (fun H locs hP hS => ?_)
    refine lv_iinc (v := 3) (lv' := [(1, .int 3), (0, .ref (n0 + 0))]) hx hb dX0_init_118 hl (k := 0) rfl (by decide) (by decide) rfl (fun ls hl => ?_)
    refine lv_goto (tgt := 100) hx hb dX0_init_121 rfl ?_
    refine lv_iload_n hx hb dX0_init_100 rfl (lv_at hl 0 rfl) ?_
    refine lv_iconst (v := 4) hx hb dX0_init_101 (by decide) ?_
    refine lv_icmp_ge (tgt := 124) hx hb dX0_init_102 rfl (fun c => absurd c (by decide)) (fun _ => ?_)
    refine lv_aload_n hx hb dX0_init_105 rfl (lv_at hl 1 rfl) ?_
    refine nn_get (i := 0) (ci := 0) (Cn := RX0) (ref := RX0) (T := TX0) (Nf := 13) (fs := [.ref (n0 + 1), .ref (n0 + 2), .ref (n0 + 22), .ref (n0 + 42), .int 0, .ref (n0 + 62), .ref (n0 + 64), .ref (n0 + 65), .ref (n0 + 66), .ref (n0 + 67), .int 0, .int 0, .ref (n0 + 68)]) K hP (by decide) rfl rfl in_X0 7 (by decide) q362 (fun _ h => h) rfl dX0_init_106 ?_
    refine lv_iload_n hx hb dX0_init_109 rfl (lv_at hl 0 rfl) ?_
    refine nn_new (ci := 5) (Cn := RX5) (T := TX5) (Nf := 1) (ty0 := tyX5) (fs := [.null]) (N' := 73) (cells' := 72) (slots' := 1236) K hP hS rfl in_X5 tyX5_ok q344 q346 q93 (fun j hj => by match j, hj with | 0, _ => rfl) rfl rfl rfl rfl (by omega) (by omega) dX0_init_110 (fun H hP hS => ?_)
    refine lv_dup hx hb dX0_init_113 rfl ?_
    refine nn_end (mc := 0) (ms := 0) (cells' := 72) (slots' := 1236) hS (va_runIN (As := []) (rest := [.ref (n0 + 72), .int 3, .ref (n0 + 65)]) (g := F0 m 114 ls [.ref (n0 + 72), .ref (n0 + 72), .int 3, .ref (n0 + 65)]) (locs := locs) (cells := 72) (slots := 1236) (p := p) (e := e) (below := below) (meth := meth) (b := n0 + 72) ⟨hx, hb, hml, hown, hts⟩ (w_nShelf (l := l) (adK := adK) (adV := adV) (i := 72)) ⟨va_cnB 0 hts (lw_meth q349) rfl rfl rfl (hX.1 _ (List.mem_of_getElem? (i := 39) rfl)) (hts _ q93) (by decide +kernel) (mrA hR (Nat.le_of_ble_eq_true rfl) (by decide)), rfl, hts _ q348⟩ (nn_pre K (fun _ _ _ _ h => xX.calling h) (fun U hU hW => xX.there hX hS hU hW) hP) rfl rfl hl.1 rfl (lv_room (Nat.le_of_ble_eq_true rfl)) dX0_init_114 ⟨by omega, by omega⟩) rfl rfl (fun H locs hP hS => ?_)
    refine nn_astq (q0 := 65) (t0 := 6) (qk := 72) (ci := 5) (n := 4) (x := cA 6) (r := (RX5, TX5, 1)) (vs := [.null]) (f := (va_up (va_up (va_up (fun _ => none) 0 (some (n0 + 69))) 1 (some (n0 + 70))) 2 (some (n0 + 71)))) (ii := 3) K hP hS (by omega) (by decide) (by decide) rfl rfl rfl rfl (by unfold vp_in; decide) rfl dX0_init_117 (fun H locs hP hS => ?_)
    refine lv_iinc (v := 4) (lv' := [(1, .int 4), (0, .ref (n0 + 0))]) hx hb dX0_init_118 hl (k := 0) rfl (by decide) (by decide) rfl (fun ls hl => ?_)
    refine lv_goto (tgt := 100) hx hb dX0_init_121 rfl ?_
    refine lv_iload_n hx hb dX0_init_100 rfl (lv_at hl 0 rfl) ?_
    refine lv_iconst (v := 4) hx hb dX0_init_101 (by decide) ?_
    refine lv_icmp_ge (tgt := 124) hx hb dX0_init_102 rfl (fun _ => ?_) (fun c => absurd (by decide) c)
    exact nn_vret hx hb hr hlk hP hS dX0_init_124
  obtain ⟨t2, a1, b1⟩ := key T' rfl X'
  exact ⟨t2, st t2 a1, b1⟩
end
