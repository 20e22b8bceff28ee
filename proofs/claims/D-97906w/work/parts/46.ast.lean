/-! references put into rows; a call of debtorOf; public methods that make an object -/
set_option maxRecDepth 100000
theorem refOk_set {ks : List Nat} {ad : Nat → Nat} {qp : (Nat → Nat → Option Nat) × (Nat → va_E)} {k : Nat} {v : Nat} {j : Nat} (h : refOk ks ad qp) (hk : k ≠ 68) (hv : live ks ad v) : refOk ks ad (va_up qp.1 k (va_up (qp.1 k) j (some v)), qp.2) := by
  refine ⟨fun k1 i a g1 g2 g3 g4 => ?_, h.2.1, fun i hi => ?_⟩
  · by_cases e : k1 = k
    · subst e
      by_cases ei : i = j
      · subst ei
        have : some v = some a := by simpa [va_up] using g4
        cases this
        exact hv
      · have g5 : qp.1 k1 i = some a := by simpa [va_up, ei] using g4
        exact h.1 k1 i a g1 g2 g3 g5
    · have g5 : qp.1 k1 i = some a := by simpa [va_up, e] using g4
      exact h.1 k1 i a g1 g2 g3 g5
  · have := h.2.2 i hi
    simpa [va_up, Ne.symm hk] using this
/-- a public method that makes at most some objects -/
def aQ (r : Option Value) (D : va_G) (cA : Nat → ClassId) (ks : List Nat) (ad : Nat → Nat) (A : Nat → Prop) (st' : CS) : Array Value → State → Outcome → State → Prop := fun _ s0 o t => o = .returned r ∧ va_F A s0 t ∧ ∃ ks' : List Nat, (∀ k ∈ ks, k ∈ ks') ∧ klOk A ks' ad ∧ cW D cA ks' ad st' t.heap
section AST
variable {p : Program} {l : Launch} {e : Env} {R : Room} {s : State} {m : MethodId} {args : Array Value} {below : List Frame} {meth : Method} {c : Code} {H : Heap} {locs : List Loc} {cells slots d : Nat} {Q : State → Prop} {cc : ByteArray} {pc nL : Nat} {ls : Array Slot} {rest : List Value} {D : va_G} {cA : Nat → ClassId} {ks : List Nat} {ad : Nat → Nat} {A : Nat → Prop} {st : CS} {H0 : Heap} {own : String} {index : Nat}
theorem cc_astM (C : cC p R d s m args c cc nL own D cA A) (hO : klOk A ks ad) (hP : cW D cA ks ad st H) (hS : va_S A H0 H locs) (j0 : Nat) {k n v : Nat} {E : String} {f b : Nat → Option Nat} {ca : ClassId} (hk : k ∈ ks) (he : cg cA ad st k = .inl (ca, n, .inr (.inr (.inr (.inr f))))) (hj : (cTys cA)[j0]? = some (ca, .object E)) {i : Int32} (hv : wrq f n i (some v) = some b) (hany : va_Any E s H v) {st2 : CS} (hg : va_up (cg cA ad st) k (.inl (ca, n, .inr (.inr (.inr (.inr b))))) = cg cA ad st2) (hq : refOk ks ad st2.2.2) (hdg : decode cc pc = .ok (.aastore, 1))
    (kk : ∀ (H1 : Heap) (locs1 : List Loc), cW D cA ks ad st2 H1 → va_S A H0 H1 locs1 → W p l e R s m args below meth c H1 locs1 cells slots Q (F0 m (pc + 1) ls rest)) : W p l e R s m args below meth c H locs cells slots Q (F0 m pc ls (.ref v :: .int i :: .ref (ad k) :: rest)) := by
  obtain ⟨hin, rfl⟩ := wrq_some hv
  obtain ⟨q0, hi⟩ := List.getElem?_of_mem hk
  refine va_astqM C.1 C.2.1 C.2.2.2.2.2.2.1 hP.1 (kl_D hO) hS q0 j0 (by rw [kl_at hi, he]) hj hany hin hdg (fun H1 locs1 h1 _ h3 => kk H1 locs1 ?_ h3)
  rw [kl_set hO.1 hi, hg] at h1
  exact ⟨h1, hq⟩
theorem mrA {k kc kn : Nat} (h : d ≤ R.frames ∧ 40 * d ≤ R.locals) (hk : k + 1 ≤ d) {maxL : Nat} (hm : maxL ≤ 21) : (rmA k kc kn).frames + 1 ≤ R.frames ∧ 8 + (maxL + 11) + (rmA k kc kn).locals ≤ R.locals := by
  refine ⟨Nat.le_trans hk h.1, ?_⟩
  show 8 + (maxL + 11) + 40 * k ≤ R.locals
  have := h.2
  omega
theorem nPre_blind {nx : Nat} {As : List Value} : FrameBlind (nPre nx D cA ks ad A st As) := fun a U g mk q => ⟨cc_blind a U g mk q.1, q.2⟩
/-- a call of debtorOf, before anything else is new -/
theorem k_L_debtorOf {a0 a2 a3 : Int32} {st' : CS} {nx : Nat} (C : cC p R d s m args c cc nL RX0 D cA A) (had : adP ad) (hO : klOk A ks ad) (hP : cW D cA ks ad st H) (hS : va_S A s.heap H locs) (hnx : s.heap.size = nx) (h : L_debtorOf (ad 62) nx st a0 a2 a3 = some st') (hl : Cond.methodLink RX0 index yX0_debtorOf ∈ lw_all) (hq1 : Cond.static yX0_debtorOf ∈ lw_all) (hq2 : Cond.initialized RX0 ∈ lw_all) (hq3 : Cond.code yX0_debtorOf cX0_debtorOf 4 (some (.object "ChapterLoan$Debtor")) ∈ lw_all) (hd : 5 + 1 ≤ d) (hsz : ls.size = nL) (hW : (rest.map fun v => v.category).sum ≤ 8) (hcs : 0 + 1 ≤ R.cells ∧ 0 + 3 ≤ R.slots) (hdg : decode cc pc = .ok (.invokestatic index, 3))
    (kk : ∀ (H1 : Heap) (locs1 : List Loc), klOk A (ks ++ [1000 + nx]) ad → cW D cA (ks ++ [1000 + nx]) ad st' H1 → va_S A s.heap H1 locs1 → W p l e R s m args below meth c H1 locs1 (0 + 1) (0 + 3) Q (F0 m (pc + 3) ls (.ref nx :: rest))) : W p l e R s m args below meth c H locs 0 0 Q (F0 m pc ls (.int a3 :: .int a2 :: .ref (ad 62) :: .int a0 :: rest)) := by
  refine W.size0 (fun hz0 => ?_)
  have hO1 : klOk A (ks ++ [1000 + nx]) ad := by
    have h1 := klOk_new had hO hP (C.2.2.2.2.2.2.2.2 _ hS.1)
    rw [hz0, hnx] at h1
    exact h1
  intro T hT X
  obtain ⟨v, st₀, t, T', L, h0, X', hL, e1, ⟨hv, hw, ⟨hz, hk⟩, hn1⟩, st⟩ := (W.runS (As := [.int a0, .ref (ad 62), .int a2, .int a3]) (rest := rest) ⟨C.1, C.2.1, C.2.2.1, C.2.2.2.1, C.2.2.2.2.1⟩ (w_L_debtorOf (l := l) (D := D) (cA := cA) (A := A) had hO h) (va_cwS 4 C.2.2.2.2.1 (lw_S hl hq1 hq2 hq3) rfl rfl rfl (by decide +kernel) (mrA C.2.2.2.2.2.1 hd (by decide))) ⟨nPre_blind, fun U hU hW => ⟨cc_pre C hP hS.1 U hU hW, by rw [hU, hz0]; exact hnx⟩⟩ rfl rfl hsz rfl (lv_room hW) hdg hcs : CallRun p l e R s m args below meth c H locs 0 0 1 3 (F0 m pc ls (.int a3 :: .int a2 :: .ref (ad 62) :: .int a0 :: rest)) rest (nQ nx (some (.ref nx)) D cA ks ad A st' _) A) T hT X
  cases hv
  rw [h0] at hz hk
  obtain ⟨t2, a1, b1⟩ := kk T'.heap (locs ++ L) hO1 (by rw [e1]; exact hw)
    ⟨Nat.le_trans hS.1 (by rw [e1]; exact hz), fun q h1 h2 => by rw [e1, hk q (Nat.lt_of_lt_of_le h1 hS.1) h2]; exact hS.2.1 q h1 h2, fun q hq => by
      rcases List.mem_append.mp hq with h | h
      · exact hS.2.2 q h
      · exact hL q h⟩ T' rfl X'
  exact ⟨t2, st t2 a1, b1⟩
/-- a public method with handlers that makes objects -/
theorem cc_ofHA {y : MethodName} {bytes : ByteArray} {maxL kc kn nx : Nat} {ret : Option FieldType} {As : List Value} {Qc : Array Value → State → Outcome → State → Prop} {hh : List (Nat × Nat × Nat × Nat)} (hy : plainName y.cls = true) (hyc : y.cls = own) (hnl : (lg_sl As).length ≤ maxL)
    (body : ∀ (p : Program) (e : Env) (s : State) (m : MethodId) (below : List Frame) (meth : Method) (c : Code) (R : Room) (args : Array Value) (ls : Array Slot), cC p R d s m args c bytes maxL own D cA A → meth.sig.returnType = ret → meth.locks = false → c.exceptionTable.toList.map xkey = hh → cW D cA ks ad st s.heap → va_S A s.heap s.heap [] → lv_has ls maxL (lv_args 0 As) → (kc ≤ R.cells ∧ kn ≤ R.slots) → s.heap.size = nx →
      W p l e R s m args below meth c s.heap [] 0 0 (MQ below Qc args s kc kn A) (F0 m 0 ls [])) : Met l y (wsW_ y bytes maxL ret hh) (rmA d kc kn) (nPre nx D cA ks ad A st As) Qc kc kn A := by
  refine MetFree.of_bodyS (code := bytes) (maxLocals := maxL) (ret := ret) hy ?_ ?_
  · intro args s m h hn
    obtain ⟨m9, meth, c, hn9, h1, h2, h3, h4, -, h5, h6, -⟩ := Cond.codeWith_spec (atoms_spec (ws := wsW_ y bytes maxL ret hh) h _ List.mem_cons_self)
    cases hn.symm.trans hn9
    exact ⟨meth, c, h1, h2, h3, h4, h5, h6⟩
  · intro p e s m args below meth c s₁ B hml hv _
    obtain ⟨⟨rfl, hP, hK, hN, hA⟩, hnx⟩ := hv
    have hts0 := atoms_spec (ws := wsW_ y bytes maxL ret hh) B.pre
    have hts : ∀ w ∈ lw_all, w.before _ s = true := fun w h => hts0 w (List.mem_cons_of_mem _ h)
    have hown : s.vm.findClass y.cls = some m.cls := findClass_of_methodNamed B.named
    rw [hyc] at hown
    have hh0 : s₁.heap = s.heap := by rw [B.state]; rfl
    obtain ⟨m9, meth', c', hn9, hm', hc', -, -, htab, -, -, -⟩ := Cond.codeWith_spec (hts0 _ List.mem_cons_self)
    cases B.named.symm.trans hn9
    have hcm : c' = c := by
      cases B.method.symm.trans hm'
      cases (Stand.of_body B).code.symm.trans hc'
      rfl
    subst hcm
    have K := body p e s m below meth c' (headSpec (wsW_ y bytes maxL ret hh) (rmA d kc kn)).room As.toArray _ ⟨B.exec, B.bytes, hml, hown, hts, ⟨Nat.le_refl _, Nat.le_refl _⟩, hK, hN, hA⟩ B.returns B.notSynchronized htab hP va_S.rf (lv_entry _ hnl) ⟨Nat.le_refl _, Nat.le_refl _⟩ hnx
    rw [← lg_entry_eq] at K
    obtain ⟨t, a1, oc, b1, b2, b3⟩ := K s₁ hh0 (Stand.of_body B)
    exact ⟨t, oc, a1, b1, b2, b3⟩
end AST
