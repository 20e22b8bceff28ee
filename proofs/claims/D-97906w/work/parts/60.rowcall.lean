/-! a call of Sheet.row -/
set_option maxRecDepth 100000
section
variable {p : Program} {l : Launch} {e : Env} {R : Room} {s : State} {m : MethodId} {args : Array Value} {below : List Frame} {meth : Method} {c : Code} {H : Heap} {locs : List Loc} {cells slots d : Nat} {Q : State → Prop} {cc : ByteArray} {pc nL : Nat} {ls : Array Slot} {rest : List Value} {D : va_G} {cA : Nat → ClassId} {ks : List Nat} {ad : Nat → Nat} {A : Nat → Prop} {st : CS} {H0 : Heap} {own : String} {index : Nat}
theorem q1481 : (Jvm.Cond.code ({ cls := "ChapterLoan$Sheet", name := "row", desc := "()[I" } : Jvm.MethodName) prog_18_method_6_code (3 : Nat) (Option.some (Jvm.ClassFile.FieldType.array Jvm.ClassFile.FieldType.int))) ∈ lw_all := lw_g (lw_at lw_m6 197 rfl) rfl
theorem q1476 : (Jvm.Cond.instanceMethod ({ cls := "ChapterLoan$Sheet", name := "row", desc := "()[I" } : Jvm.MethodName)) ∈ lw_all := lw_g (lw_at lw_m6 192 rfl) rfl
theorem q1477 : (Jvm.Cond.sameMethod "ChapterLoan$Sheet" "ChapterLoan$Sheet" "row" "()[I") ∈ lw_all := lw_g (lw_at lw_m6 193 rfl) rfl
theorem q1478 : (Jvm.Cond.selects "ChapterLoan$Bytes" ({ cls := "ChapterLoan$Sheet", name := "row", desc := "()[I" } : Jvm.MethodName) ({ cls := "ChapterLoan$Sheet", name := "row", desc := "()[I" } : Jvm.MethodName)) ∈ lw_all := lw_g (lw_at lw_m6 194 rfl) rfl
theorem q1480 : (Jvm.Cond.selects "ChapterLoan$Shorts" ({ cls := "ChapterLoan$Sheet", name := "row", desc := "()[I" } : Jvm.MethodName) ({ cls := "ChapterLoan$Sheet", name := "row", desc := "()[I" } : Jvm.MethodName)) ∈ lw_all := lw_g (lw_at lw_m6 196 rfl) rfl
theorem q1479 : (Jvm.Cond.selects "ChapterLoan$Ints" ({ cls := "ChapterLoan$Sheet", name := "row", desc := "()[I" } : Jvm.MethodName) ({ cls := "ChapterLoan$Sheet", name := "row", desc := "()[I" } : Jvm.MethodName)) ∈ lw_all := lw_g (lw_at lw_m6 195 rfl) rfl
/-- a call of row -/
theorem k_S_row {N a : Nat} {st' : CS} {nx w b n0 : Nat} {f : Nat → Int32} (C : cC p R d s m args c cc nL own D cA A) (had : adP ad) (hO : klOk A ks ad) (hP : cW D cA ks ad st H) (hS : va_S A s.heap H locs) (hH : H.size = nx) (hla : live ks ad a) (hsh : shOf cA st.2.2.2 a = some (w, b, n0, f)) (h : S_row nx N cA st a = some st') (hl : Cond.methodLink own index yX21_row ∈ lw_all) (hd : 2 + 1 ≤ d) (hsz : ls.size = nL) (hW : (rest.map fun v => v.category).sum ≤ 8) (hcs : cells + 1 ≤ R.cells ∧ slots + 40 ≤ R.slots) (hdg : decode cc pc = .ok (.invokevirtual index, 3))
    (kk : ∀ (H1 : Heap) (locs1 : List Loc), klOk A (ks ++ [1000 + nx]) ad → cW D cA (ks ++ [1000 + nx]) ad st' H1 → va_S A s.heap H1 locs1 → H1.size = nx + 1 → W p l e R s m args below meth c H1 locs1 (cells + 1) (slots + 40) Q (F0 m (pc + 3) ls (.ref nx :: rest))) : W p l e R s m args below meth c H locs cells slots Q (F0 m pc ls (.ref a :: rest)) := by
  have hO1 : klOk A (ks ++ [1000 + nx]) ad := by
    have h1 := klOk_new had hO hP (C.2.2.2.2.2.2.2.2 _ hS.1)
    rw [hH] at h1
    exact h1
  have key : ∀ {q : vw_C}, (∃ cellB : Cell, H[a]? = some cellB ∧ cellB.vm.isStatics = false ∧ s.vm.findClass q.1 = some cellB.cls) → GoodIn lw_all (va_wsU own index q.1 RX21 yX21_row yX21_row (ws_ yX21_row cX21_row 3 (some (.array .int)))) → W p l e R s m args below meth c H locs cells slots Q (F0 m pc ls (.ref a :: rest)) := by
    intro q hrecv hG T hT X
    obtain ⟨v, st₀, t, T', L, h0, X', hL, e1, -, ⟨hv, hw, ⟨hz, hk⟩, hn1⟩, st⟩ := (va_runU (owner := RX21) (x := yX21_row) (n := 0) (As := []) (rest := rest) (g := F0 m pc ls (.ref a :: rest)) (locs := locs) (cells := cells) (slots := slots) (p := p) (e := e) (below := below) (meth := meth) ⟨C.1, C.2.1, C.2.2.1, C.2.2.2.1, C.2.2.2.2.1⟩ (w_S_row (l := l) (D := D) (cA := cA) (A := A) had hO hla h) (va_cwU (C := q.1) (owner := RX21) 0 C.2.2.2.2.1 hG rfl rfl rfl rfl (by decide +kernel) (mrA C.2.2.2.2.2.1 hd (by decide))) ⟨nPre_blind, hrecv, fun U hU hW => ⟨cc_pre C hP hS.1 U hU hW, by rw [hU]; exact hH⟩⟩ rfl rfl hsz rfl (lv_room hW) hdg hcs) T hT X
    cases hv
    rw [h0] at hz hk
    obtain ⟨t2, a1, b1⟩ := kk T'.heap (locs ++ L) hO1 (by rw [e1]; exact hw)
      ⟨Nat.le_trans hS.1 (by rw [e1]; exact hz), fun q h1 h2 => by rw [e1, hk q (Nat.lt_of_lt_of_le h1 hS.1) h2]; exact hS.2.1 q h1 h2, fun q hq => by
        rcases List.mem_append.mp hq with h | h
        · exact hS.2.2 q h
        · exact hL q h⟩ (by rw [e1]; exact hn1) T' rfl X'
    exact ⟨t2, st t2 a1, b1⟩
  rcases shOf_some hsh with ⟨rfl, hpe, hpb⟩ | ⟨rfl, hpe, hpb⟩ | ⟨rfl, hpe, hpb⟩
  · exact key (q := (RX22, TX22, 1)) (tm_recv C hP hla hpe rfl) (lw_U hl q1477 q1478 q1476 q117 q1481)
  · exact key (q := (RX23, TX23, 1)) (tm_recv C hP hla hpe rfl) (lw_U hl q1477 q1480 q1476 q117 q1481)
  · exact key (q := (RX24, TX24, 1)) (tm_recv C hP hla hpe rfl) (lw_U hl q1477 q1479 q1476 q117 q1481)
end
