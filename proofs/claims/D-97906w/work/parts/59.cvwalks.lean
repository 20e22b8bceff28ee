/-! Sheet.row: walks -/
set_option maxRecDepth 100000
section
variable {p : Program} {l : Launch} {e : Env} {R : Room} {s : State} {m : MethodId} {args : Array Value} {below : List Frame} {meth : Method} {c : Code} {H : Heap} {locs : List Loc} {cells slots d : Nat} {Q : State → Prop} {cc : ByteArray} {pc nL : Nat} {ls : Array Slot} {rest : List Value} {D : va_G} {cA : Nat → ClassId} {ks : List Nat} {ad : Nat → Nat} {A : Nat → Prop} {st : CS} {H0 : Heap} {own : String} {index : Nat}
theorem newI_some {cA : Nat → ClassId} {nx : Nat} {st st' : CS} {x : Int32} (h : newI cA nx st x = some st') : (¬ x < 0 ∧ x.toNatClampNeg ≤ 40) ∧ csP st (1000 + nx) (.inl (cA 0, x.toNatClampNeg, .inl (fun _ => 0))) = st' := by
  unfold newI at h
  split at h
  · rename_i hq
    exact ⟨hq, Option.some.inj h⟩
  · cases h
theorem arOf_some {cA : Nat → ClassId} {e : va_E} {n : Nat} {f : Nat → Int32} (h : arOf cA e = some (n, f)) : e = .inl (cA 0, n, .inl f) := by
  unfold arOf at h
  split at h
  · split at h
    · rename_i hq
      cases h
      rw [hq]
    · cases h
  · cases h
abbrev cX21_row : ByteArray := prog_18_method_6_code
def yX21_row : MethodName := ⟨RX21, "row", "()[I"⟩
theorem dX21_row_0 : decode cX21_row 0 = .ok (.aload_n 0, 1) := by decide +kernel
theorem dX21_row_1 : decode cX21_row 1 = .ok (.invokevirtual 7, 3) := by decide +kernel
theorem dX21_row_4 : decode cX21_row 4 = .ok (.newarray .int, 2) := by decide +kernel
theorem dX21_row_6 : decode cX21_row 6 = .ok (.astore_n 1, 1) := by decide +kernel
theorem dX21_row_7 : decode cX21_row 7 = .ok (.iconst 0, 1) := by decide +kernel
theorem dX21_row_8 : decode cX21_row 8 = .ok (.istore_n 2, 1) := by decide +kernel
theorem dX21_row_9 : decode cX21_row 9 = .ok (.iload_n 2, 1) := by decide +kernel
theorem dX21_row_10 : decode cX21_row 10 = .ok (.aload_n 1, 1) := by decide +kernel
theorem dX21_row_11 : decode cX21_row 11 = .ok (.arraylength, 1) := by decide +kernel
theorem dX21_row_12 : decode cX21_row 12 = .ok (.if_icmp .ge 17, 3) := by decide +kernel
theorem dX21_row_15 : decode cX21_row 15 = .ok (.aload_n 1, 1) := by decide +kernel
theorem dX21_row_16 : decode cX21_row 16 = .ok (.iload_n 2, 1) := by decide +kernel
theorem dX21_row_17 : decode cX21_row 17 = .ok (.aload_n 0, 1) := by decide +kernel
theorem dX21_row_18 : decode cX21_row 18 = .ok (.iload_n 2, 1) := by decide +kernel
theorem dX21_row_19 : decode cX21_row 19 = .ok (.invokevirtual 13, 3) := by decide +kernel
theorem dX21_row_22 : decode cX21_row 22 = .ok (.iastore, 1) := by decide +kernel
theorem dX21_row_23 : decode cX21_row 23 = .ok (.iinc 2 1, 3) := by decide +kernel
theorem dX21_row_26 : decode cX21_row 26 = .ok (.goto (-17), 3) := by decide +kernel
theorem dX21_row_29 : decode cX21_row 29 = .ok (.aload_n 1, 1) := by decide +kernel
theorem dX21_row_30 : decode cX21_row 30 = .ok (.areturn, 1) := by decide +kernel
theorem q1482 : (Jvm.Cond.methodLink "ChapterLoan$Sheet" (7 : Nat) ({ cls := "ChapterLoan$Sheet", name := "size", desc := "()I" } : Jvm.MethodName)) ∈ lw_all := lw_g (lw_at lw_m6 198 rfl) rfl
theorem q1483 : (Jvm.Cond.methodLink "ChapterLoan$Sheet" (13 : Nat) ({ cls := "ChapterLoan$Sheet", name := "get", desc := "(I)I" } : Jvm.MethodName)) ∈ lw_all := lw_g (lw_at lw_m6 199 rfl) rfl
theorem w_S_row {l : Launch} {D : va_G} {cA : Nat → ClassId} {ks : List Nat} {ad : Nat → Nat} {A : Nat → Prop} (had : adP ad) (hO : klOk A ks ad) {N : Nat} {st st' : CS} {nx a : Nat} (hla : live ks ad a) (h : S_row nx N cA st a = some st') : Met l yX21_row (ws_ yX21_row cX21_row 3 (some (.array .int))) (rmA 2 1 40) (nPre nx D cA ks ad A st [.ref a]) (nQ nx (some (.ref nx)) D cA ks ad A st') 1 40 A := by
  refine cc_ofA (own := RX21) (by decide) rfl (Nat.le_of_ble_eq_true rfl) (fun p e s m below meth c R args ls C hr hlk hP hS hl hcsA hnx => ?_)
  have hx := C.1
  have hb := C.2.1
  have hO1 : klOk A (ks ++ [1000 + nx]) ad := by
    have h1 := klOk_new had hO hP (C.2.2.2.2.2.2.2.2 _ (Nat.le_refl _))
    rw [hnx] at h1
    exact h1
  have hO0 := hO
  have hla0 := hla
  have hO := hO1
  have hla := live_app (l := [1000 + nx]) hla
  have hcs : 0 + 1 ≤ R.cells ∧ 40 ≤ R.slots := hcsA
  have hl : lv_has ls 3 [(0, .ref a)] := hl
  have L9 : ∀ (n : Nat) (st : CS) (x2 : Int32) (st2 : CS), S_row_L9 N nx a cA n st x2 = some st2 → ∀ (H : Heap) (locs : List Loc), cW D cA (ks ++ [1000 + nx]) ad st H → va_S A s.heap H locs → ∀ ls : Array Slot, lv_has ls 3 [(0, .ref a), (1, .ref nx), (2, .int x2)] → (∀ (H : Heap) (locs : List Loc), cW D cA (ks ++ [1000 + nx]) ad st2 H → va_S A s.heap H locs → ∀ ls : Array Slot, lv_has ls 3 [(1, .ref nx)] → W p l e R s m args below meth c H locs (0 + 1) 40 (MQ below (nQ nx (some (.ref nx)) D cA ks ad A st') args s 1 40 A) (F0 m 29 ls [])) → W p l e R s m args below meth c H locs (0 + 1) 40 (MQ below (nQ nx (some (.ref nx)) D cA ks ad A st') args s 1 40 A) (F0 m 9 ls []) := by
    intro n
    induction n with
    | zero =>
      intro st x2 st2 h
      exact non_some h
    | succ n ih =>
      intro st x2 st2 h H locs hP hS ls hl kx
      rw [S_row_L9] at h
      refine lv_iload_n hx hb dX21_row_9 rfl (lv_at hl 2 rfl) ?_
      refine lv_aload_n hx hb dX21_row_10 rfl (lv_at hl 1 rfl) ?_
      obtain ⟨n4, f5, hf5, h⟩ := bd2_some h
      have hf5 := arOf_some hf5
      refine pl_len (j0 := 0) (j := 0) C hP (live_new had) hf5 rfl dX21_row_11 ?_
      refine lv_icmp_ge (tgt := 29) hx hb dX21_row_12 rfl (fun c6 => ?_) (fun c6 => ?_)
      · have h := if_some_t h c6
        cases h
        exact kx _ _ hP hS ls (lv_sub hl [1] rfl)
      · have h := if_some_f h c6
        refine lv_aload_n hx hb dX21_row_15 rfl (lv_at hl 1 rfl) ?_
        refine lv_iload_n hx hb dX21_row_16 rfl (lv_at hl 2 rfl) ?_
        refine lv_aload_n hx hb dX21_row_17 rfl (lv_at hl 0 rfl) ?_
        refine lv_iload_n hx hb dX21_row_18 rfl (lv_at hl 2 rfl) ?_
        obtain ⟨v7, hv7, h⟩ := bd1_some h
        refine k_S_get C hO hP hS.1 hla hv7 q1483 (Nat.le_of_ble_eq_true rfl) hl.1 (Nat.le_of_ble_eq_true rfl) hcs dX21_row_19 ?_
        obtain ⟨n8, f9, hf9, h⟩ := bd2_some h
        have hf9 := arOf_some hf9
        obtain ⟨g10, hg10, h⟩ := bd1_some h
        refine pl_ist C hO hP hS (live_new had) hf9 hg10 dX21_row_22 (fun H locs hP hS => ?_)
        refine lv_iinc (v := x2 + 1) (lv' := [(2, .int (x2 + 1)), (0, .ref a), (1, .ref nx)]) hx hb dX21_row_23 hl (k := 2) rfl rfl (by decide) rfl (fun ls hl => ?_)
        refine lv_goto (tgt := 9) hx hb dX21_row_26 rfl ?_
        exact ih (csP st (1000 + nx) (.inl (cA 0, n8, .inl g10))) (x2 + 1) _ h _ _ hP hS ls (lv_sub hl [1, 2, 0] rfl) kx
  have hO := hO0
  have hla := hla0
  have hcs : 0 ≤ R.cells ∧ 0 ≤ R.slots := ⟨Nat.zero_le _, Nat.zero_le _⟩
  rw [S_row] at h
  refine lv_aload_n hx hb dX21_row_0 rfl (lv_at hl 0 rfl) ?_
  obtain ⟨v1, hv1, h⟩ := bd1_some h
  refine k_S_size C hO hP hS.1 hla hv1 q1482 (Nat.le_of_ble_eq_true rfl) hl.1 (Nat.le_of_ble_eq_true rfl) hcs dX21_row_1 ?_
  obtain ⟨st2, hst2, h⟩ := bd1_some h
  obtain ⟨⟨h1st2, h2st2⟩, est2⟩ := newI_some hst2
  refine W.size0 (fun hH => ?_)
  have hH := hH.trans hnx
  refine cc_newa (atype := .int) (j := 0) (x := cA 0) (f0 := fun _ => 0) C had hO hP hS q219 rfl (fun _ => rfl) h1st2 rfl (Nat.le_trans (Nat.mul_le_mul h2st2 (show componentBytes (newarray.typeOf .int) ≤ 8 by decide)) (by decide)) (by omega) (by omega) dX21_row_4 (fun H hz1 hO hP hS => ?_)
  rw [hH] at hO hP hz1 ⊢
  rw [est2] at hP
  refine W.widen (k := 0 + 1) (n := 40) (Nat.le_refl _) (by omega) ?_
  have hcs : 0 + 1 ≤ R.cells ∧ 40 ≤ R.slots := hcsA
  have hla := live_app (l := [1000 + nx]) hla
  refine lv_astore_n (lv' := [(1, .ref nx), (0, .ref a)]) hx hb dX21_row_6 rfl hl (by decide) rfl (fun ls hl => ?_)
  refine lv_iconst (v := 0) hx hb dX21_row_7 (by decide) ?_
  refine lv_istore_n (lv' := [(2, .int 0), (1, .ref nx), (0, .ref a)]) hx hb dX21_row_8 rfl hl (by decide) rfl (fun ls hl => ?_)
  obtain ⟨st11, hz12, h⟩ := bd1_some h
  refine L9  N _ 0 _ hz12 _ _ hP hS ls (lv_sub hl [2, 1, 0] rfl) (fun H locs hP hS ls hl => ?_)
  refine lv_aload_n hx hb dX21_row_29 rfl (lv_at hl 0 rfl) ?_
  cases h
  refine W.sizeLe (fun hz => ?_)
  exact W.aret hx hb hr (Or.inr ⟨_, rfl⟩) (Or.inr ⟨_, rfl⟩) (fun t ht _ => ⟨rfl, by rw [ht]; exact hP, hS.F ht, by rw [ht]; have hz3 := ad_lt hP (k := 1000 + nx) (by simp); rw [had] at hz3; omega⟩) hS.2.2 dX21_row_30
end
