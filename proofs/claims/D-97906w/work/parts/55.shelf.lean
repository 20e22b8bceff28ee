/-! shelves written; calls of the sheets' constructors -/
set_option maxRecDepth 100000
section
variable {p : Program} {l : Launch} {e : Env} {R : Room} {s : State} {m : MethodId} {args : Array Value} {below : List Frame} {meth : Method} {c : Code} {H : Heap} {locs : List Loc} {cells slots d : Nat} {Q : State → Prop} {cc : ByteArray} {pc nL : Nat} {ls : Array Slot} {rest : List Value} {D : va_G} {cA : Nat → ClassId} {ks : List Nat} {ad : Nat → Nat} {A : Nat → Prop} {st : CS} {H0 : Heap} {own : String} {index : Nat}
theorem refOk_setN {qp : (Nat → Nat → Option Nat) × (Nat → va_E)} {k j : Nat} (h : refOk ks ad qp) (hk : k ≠ 68) : refOk ks ad (va_up qp.1 k (va_up (qp.1 k) j none), qp.2) := by
  refine ⟨fun k1 i a g1 g2 g3 g4 => ?_, h.2.1, fun i hi => ?_⟩
  · by_cases e : k1 = k
    · subst e
      by_cases ei : i = j
      · subst ei
        simp [va_up] at g4
      · have g5 : qp.1 k1 i = some a := by simpa [va_up, ei] using g4
        exact h.1 k1 i a g1 g2 g3 g5
    · have g5 : qp.1 k1 i = some a := by simpa [va_up, e] using g4
      exact h.1 k1 i a g1 g2 g3 g5
  · have := h.2.2 i hi
    simpa [va_up, Ne.symm hk] using this
/-- a shelf's held -/
theorem sh_put {j : Nat} {r : Option Nat} (C : cC p R d s m args c cc nL RX0 D cA A) (hO : klOk A ks ad) (hP : cW D cA ks ad st H) (hS : va_S A H0 H locs) (hj : j < 4) (hr : ∀ a, r = some a → live ks ad a) (hdg : decode cc pc = .ok (.putfield 98, 3)) (kk : ∀ (H1 : Heap) (locs1 : List Loc), cW D cA ks ad (csQ st (69 + j) (va_up (st.2.2.1 (69 + j)) 0 r)) H1 → va_S A H0 H1 locs1 → W p l e R s m args below meth c H1 locs1 cells slots Q (F0 m (pc + 3) ls rest)) : W p l e R s m args below meth c H locs cells slots Q (F0 m pc ls (va_rf r :: .ref (ad (69 + j)) :: rest)) := by
  refine cc_putN (Cn := RX5) (ref := RX5) (T := TX5) (N := 1) (ty0 := tyX5) (fs := [va_rf (st.2.2.1 (69 + j) 0)]) (st2 := csQ st (69 + j) (va_up (st.2.2.1 (69 + j)) 0 r)) C hO hP hS (hO.2.2.2 (69 + j) (by omega)) (cg_sh hj) rfl in_X5 tyX5_ok nmX5 0 (by decide) (List.mem_of_getElem? (i := 40) rfl) (fun _ h => h) rfl (by cases r <;> rfl) (by cases r <;> rfl) (Nat.le_of_ble_eq_true rfl) (cg_Q ?_) ?_ hdg kk
  · rw [cg_sh hj]
    simp [csQ, va_up]
  · cases r with
    | none => exact refOk_setN hP.2 (by omega)
    | some a => exact refOk_set hP.2 (by omega) (hr a rfl)

theorem q1413 : (Jvm.Cond.code ({ cls := "ChapterLoan$Bytes", name := "<init>", desc := "(I)V" } : Jvm.MethodName) prog_2_method_1_code (2 : Nat) (Option.none : Option Jvm.ClassFile.FieldType)) ∈ lw_all := lw_g (lw_at lw_m6 129 rfl) rfl
theorem q1412 : (Jvm.Cond.instanceMethod ({ cls := "ChapterLoan$Bytes", name := "<init>", desc := "(I)V" } : Jvm.MethodName)) ∈ lw_all := lw_g (lw_at lw_m6 128 rfl) rfl
theorem k_SI0 {a : Nat} {f0 : Value} {x1 : Int32} {st' : CS} {nx : Nat} (C : cC p R d s m args c cc nL own D cA A) (had : adP ad) (hO : klOk A ks ad) (hP : cW D cA ks ad st H) (hS : va_S A s.heap H locs) (hH : H.size = nx) (hla : live ks ad a) (he : st.2.2.2 (1000 + a) = .inr (19, [f0])) (h : S_init 0 cA nx a st x1 = some st') (hl : Cond.methodLink own index yX22_init ∈ lw_all) (hd : 3 + 1 ≤ d) (hsz : ls.size = nL) (hW : (rest.map fun v => v.category).sum ≤ 8) (hcs : cells + 1 ≤ R.cells ∧ slots + 40 ≤ R.slots) (hdg : decode cc pc = .ok (.invokespecial index, 3))
    (kk : ∀ (H1 : Heap) (locs1 : List Loc), klOk A (ks ++ [1000 + nx]) ad → cW D cA (ks ++ [1000 + nx]) ad st' H1 → va_S A s.heap H1 locs1 → H1.size = nx + 1 → W p l e R s m args below meth c H1 locs1 (cells + 1) (slots + 40) Q (F0 m (pc + 3) ls rest)) : W p l e R s m args below meth c H locs cells slots Q (F0 m pc ls (.int x1 :: .ref a :: rest)) := by
  have hO1 : klOk A (ks ++ [1000 + nx]) ad := by
    have h1 := klOk_new had hO hP (C.2.2.2.2.2.2.2.2 _ hS.1)
    rw [hH] at h1
    exact h1
  intro T hT X
  obtain ⟨v, st₀, t, T', L, h0, X', hL, e1, -, ⟨hv, hw, ⟨hz, hk⟩, hn1⟩, st⟩ := (va_runI (As := [.int x1]) (rest := rest) (g := F0 m pc ls (.int x1 :: .ref a :: rest)) (locs := locs) (cells := cells) (slots := slots) (p := p) (e := e) (below := below) (meth := meth) ⟨C.1, C.2.1, C.2.2.1, C.2.2.2.1, C.2.2.2.2.1⟩ (w_SI0 (l := l) (D := D) (cA := cA) (A := A) had hO hla he h) (cwI 1 C.2.2.2.2.1 (lw_meth q1413) rfl rfl rfl (C.2.2.2.2.1 _ q118) (C.2.2.2.2.1 _ hl) (C.2.2.2.2.1 _ q1412) rfl (by decide +kernel) (mrA C.2.2.2.2.2.1 hd (by decide))) ⟨nPre_blind, fun U hU hW => ⟨cc_pre C hP hS.1 U hU hW, by rw [hU]; exact hH⟩⟩ rfl rfl hsz rfl (lv_room hW) hdg hcs) T hT X
  cases hv
  rw [h0] at hz hk
  obtain ⟨t2, a1, b1⟩ := kk T'.heap (locs ++ L) hO1 (by rw [e1]; exact hw)
    ⟨Nat.le_trans hS.1 (by rw [e1]; exact hz), fun q h1 h2 => by rw [e1, hk q (Nat.lt_of_lt_of_le h1 hS.1) h2]; exact hS.2.1 q h1 h2, fun q hq => by
      rcases List.mem_append.mp hq with h | h
      · exact hS.2.2 q h
      · exact hL q h⟩ (by rw [e1]; exact hn1) T' rfl X'
  exact ⟨t2, st t2 a1, b1⟩
theorem q1426 : (Jvm.Cond.code ({ cls := "ChapterLoan$Shorts", name := "<init>", desc := "(I)V" } : Jvm.MethodName) prog_20_method_1_code (2 : Nat) (Option.none : Option Jvm.ClassFile.FieldType)) ∈ lw_all := lw_g (lw_at lw_m6 142 rfl) rfl
theorem q1425 : (Jvm.Cond.instanceMethod ({ cls := "ChapterLoan$Shorts", name := "<init>", desc := "(I)V" } : Jvm.MethodName)) ∈ lw_all := lw_g (lw_at lw_m6 141 rfl) rfl
theorem k_SI1 {a : Nat} {f0 : Value} {x1 : Int32} {st' : CS} {nx : Nat} (C : cC p R d s m args c cc nL own D cA A) (had : adP ad) (hO : klOk A ks ad) (hP : cW D cA ks ad st H) (hS : va_S A s.heap H locs) (hH : H.size = nx) (hla : live ks ad a) (he : st.2.2.2 (1000 + a) = .inr (20, [f0])) (h : S_init 1 cA nx a st x1 = some st') (hl : Cond.methodLink own index yX23_init ∈ lw_all) (hd : 3 + 1 ≤ d) (hsz : ls.size = nL) (hW : (rest.map fun v => v.category).sum ≤ 8) (hcs : cells + 1 ≤ R.cells ∧ slots + 40 ≤ R.slots) (hdg : decode cc pc = .ok (.invokespecial index, 3))
    (kk : ∀ (H1 : Heap) (locs1 : List Loc), klOk A (ks ++ [1000 + nx]) ad → cW D cA (ks ++ [1000 + nx]) ad st' H1 → va_S A s.heap H1 locs1 → H1.size = nx + 1 → W p l e R s m args below meth c H1 locs1 (cells + 1) (slots + 40) Q (F0 m (pc + 3) ls rest)) : W p l e R s m args below meth c H locs cells slots Q (F0 m pc ls (.int x1 :: .ref a :: rest)) := by
  have hO1 : klOk A (ks ++ [1000 + nx]) ad := by
    have h1 := klOk_new had hO hP (C.2.2.2.2.2.2.2.2 _ hS.1)
    rw [hH] at h1
    exact h1
  intro T hT X
  obtain ⟨v, st₀, t, T', L, h0, X', hL, e1, -, ⟨hv, hw, ⟨hz, hk⟩, hn1⟩, st⟩ := (va_runI (As := [.int x1]) (rest := rest) (g := F0 m pc ls (.int x1 :: .ref a :: rest)) (locs := locs) (cells := cells) (slots := slots) (p := p) (e := e) (below := below) (meth := meth) ⟨C.1, C.2.1, C.2.2.1, C.2.2.2.1, C.2.2.2.2.1⟩ (w_SI1 (l := l) (D := D) (cA := cA) (A := A) had hO hla he h) (cwI 1 C.2.2.2.2.1 (lw_meth q1426) rfl rfl rfl (C.2.2.2.2.1 _ q119) (C.2.2.2.2.1 _ hl) (C.2.2.2.2.1 _ q1425) rfl (by decide +kernel) (mrA C.2.2.2.2.2.1 hd (by decide))) ⟨nPre_blind, fun U hU hW => ⟨cc_pre C hP hS.1 U hU hW, by rw [hU]; exact hH⟩⟩ rfl rfl hsz rfl (lv_room hW) hdg hcs) T hT X
  cases hv
  rw [h0] at hz hk
  obtain ⟨t2, a1, b1⟩ := kk T'.heap (locs ++ L) hO1 (by rw [e1]; exact hw)
    ⟨Nat.le_trans hS.1 (by rw [e1]; exact hz), fun q h1 h2 => by rw [e1, hk q (Nat.lt_of_lt_of_le h1 hS.1) h2]; exact hS.2.1 q h1 h2, fun q hq => by
      rcases List.mem_append.mp hq with h | h
      · exact hS.2.2 q h
      · exact hL q h⟩ (by rw [e1]; exact hn1) T' rfl X'
  exact ⟨t2, st t2 a1, b1⟩
theorem q1437 : (Jvm.Cond.code ({ cls := "ChapterLoan$Ints", name := "<init>", desc := "(I)V" } : Jvm.MethodName) prog_10_method_1_code (2 : Nat) (Option.none : Option Jvm.ClassFile.FieldType)) ∈ lw_all := lw_g (lw_at lw_m6 153 rfl) rfl
theorem q1436 : (Jvm.Cond.instanceMethod ({ cls := "ChapterLoan$Ints", name := "<init>", desc := "(I)V" } : Jvm.MethodName)) ∈ lw_all := lw_g (lw_at lw_m6 152 rfl) rfl
theorem k_SI2 {a : Nat} {f0 : Value} {x1 : Int32} {st' : CS} {nx : Nat} (C : cC p R d s m args c cc nL own D cA A) (had : adP ad) (hO : klOk A ks ad) (hP : cW D cA ks ad st H) (hS : va_S A s.heap H locs) (hH : H.size = nx) (hla : live ks ad a) (he : st.2.2.2 (1000 + a) = .inr (21, [f0])) (h : S_init 2 cA nx a st x1 = some st') (hl : Cond.methodLink own index yX24_init ∈ lw_all) (hd : 3 + 1 ≤ d) (hsz : ls.size = nL) (hW : (rest.map fun v => v.category).sum ≤ 8) (hcs : cells + 1 ≤ R.cells ∧ slots + 40 ≤ R.slots) (hdg : decode cc pc = .ok (.invokespecial index, 3))
    (kk : ∀ (H1 : Heap) (locs1 : List Loc), klOk A (ks ++ [1000 + nx]) ad → cW D cA (ks ++ [1000 + nx]) ad st' H1 → va_S A s.heap H1 locs1 → H1.size = nx + 1 → W p l e R s m args below meth c H1 locs1 (cells + 1) (slots + 40) Q (F0 m (pc + 3) ls rest)) : W p l e R s m args below meth c H locs cells slots Q (F0 m pc ls (.int x1 :: .ref a :: rest)) := by
  have hO1 : klOk A (ks ++ [1000 + nx]) ad := by
    have h1 := klOk_new had hO hP (C.2.2.2.2.2.2.2.2 _ hS.1)
    rw [hH] at h1
    exact h1
  intro T hT X
  obtain ⟨v, st₀, t, T', L, h0, X', hL, e1, -, ⟨hv, hw, ⟨hz, hk⟩, hn1⟩, st⟩ := (va_runI (As := [.int x1]) (rest := rest) (g := F0 m pc ls (.int x1 :: .ref a :: rest)) (locs := locs) (cells := cells) (slots := slots) (p := p) (e := e) (below := below) (meth := meth) ⟨C.1, C.2.1, C.2.2.1, C.2.2.2.1, C.2.2.2.2.1⟩ (w_SI2 (l := l) (D := D) (cA := cA) (A := A) had hO hla he h) (cwI 1 C.2.2.2.2.1 (lw_meth q1437) rfl rfl rfl (C.2.2.2.2.1 _ q120) (C.2.2.2.2.1 _ hl) (C.2.2.2.2.1 _ q1436) rfl (by decide +kernel) (mrA C.2.2.2.2.2.1 hd (by decide))) ⟨nPre_blind, fun U hU hW => ⟨cc_pre C hP hS.1 U hU hW, by rw [hU]; exact hH⟩⟩ rfl rfl hsz rfl (lv_room hW) hdg hcs) T hT X
  cases hv
  rw [h0] at hz hk
  obtain ⟨t2, a1, b1⟩ := kk T'.heap (locs ++ L) hO1 (by rw [e1]; exact hw)
    ⟨Nat.le_trans hS.1 (by rw [e1]; exact hz), fun q h1 h2 => by rw [e1, hk q (Nat.lt_of_lt_of_le h1 hS.1) h2]; exact hS.2.1 q h1 h2, fun q hq => by
      rcases List.mem_append.mp hq with h | h
      · exact hS.2.2 q h
      · exact hL q h⟩ (by rw [e1]; exact hn1) T' rfl X'
  exact ⟨t2, st t2 a1, b1⟩
end
