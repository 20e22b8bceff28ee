/-! the component's methods that may throw its one Finding; methods with handlers -/
set_option maxRecDepth 100000
theorem W.mono {p : Program} {l : Launch} {e : Env} {R : Room} {s : State} {m : MethodId} {args : Array Value} {below : List Frame} {meth : Method} {c : Code} {H : Heap} {locs : List Loc} {cells slots : Nat} {Q Q' : State → Prop} {g : JFrame} (hq : ∀ t, Q t → Q' t) (k : W p l e R s m args below meth c H locs cells slots Q g) : W p l e R s m args below meth c H locs cells slots Q' g := by
  intro T hT X
  obtain ⟨t, h1, h2⟩ := k T hT X
  exact ⟨t, h1, hq t h2⟩
/-- how a call of such a method ends: with an answer, or with the Finding thrown -/
def xOut (ad : Nat → Nat) (o : Option (Option Value)) : Outcome := match o with
  | some r => .returned r
  | none => .threw (ad 61)
def cXQ (o : Option (Option Value)) (D : va_G) (cA : Nat → ClassId) (ks : List Nat) (ad : Nat → Nat) (A : Nat → Prop) (st : CS) : xQt := fun _ s0 oc t L k n => oc = xOut ad o ∧ cW D cA ks ad st t.heap ∧ va_F A s0 t ∧ (∀ q ∈ L, A q.base) ∧ k = 0 ∧ n = 0
abbrev cX (l : Launch) (y : MethodName) (bytes : ByteArray) (maxL : Nat) (ret : Option FieldType) (d : Nat) (D : va_G) (cA : Nat → ClassId) (ks : List Nat) (ad : Nat → Nat) (A : Nat → Prop) (st : CS) (As : List Value) (o : Option (Option Value)) (st' : CS) : Prop :=
  XMet l y (ws_ y bytes maxL ret) (k2_rm d (40 * d)) (cPre D cA ks ad A st As) (cXQ o D cA ks ad A st')
abbrev cWX (p : Program) (l : Launch) (e : Env) (R : Room) (s : State) (m : MethodId) (args : Array Value) (below : List Frame) (meth : Method) (c : Code) (D : va_G) (cA : Nat → ClassId) (ks : List Nat) (ad : Nat → Nat) (A : Nat → Prop) (o : Option (Option Value)) (st' : CS) (H : Heap) (locs : List Loc) (g : JFrame) : Prop := W p l e R s m args below meth c H locs 0 0 (xMQ below (cXQ o D cA ks ad A st') args s) g
section XL
variable {p : Program} {l : Launch} {e : Env} {R : Room} {s : State} {m : MethodId} {args : Array Value} {below : List Frame} {meth : Method} {c : Code} {H : Heap} {locs : List Loc} {cells slots d : Nat} {Q : State → Prop}
variable {cc : ByteArray} {pc nL : Nat} {ls : Array Slot} {rest : List Value} {D : va_G} {cA : Nat → ClassId} {ks : List Nat} {ad : Nat → Nat} {A : Nat → Prop} {st st' : CS} {H0 : Heap} {own : String}
variable {y : MethodName} {bytes : ByteArray} {maxL index n : Nat} {ret : Option FieldType} {As st0 : List Value} {dk : Nat} {o : Option (Option Value)}
theorem cc_ofX (hy : plainName y.cls = true) (hyc : y.cls = own) (hnl : (lg_sl As).length ≤ maxL)
    (body : ∀ (p : Program) (e : Env) (s : State) (m : MethodId) (below : List Frame) (meth : Method) (c : Code) (R : Room) (args : Array Value) (ls : Array Slot), cC p R d s m args c bytes maxL own D cA A → meth.sig.returnType = ret → meth.locks = false → (∀ z ∈ c.exceptionTable.toList, ∀ pc, covers z pc = false) → cW D cA ks ad st s.heap → va_S A s.heap s.heap [] → lv_has ls maxL (lv_args 0 As) → (0 ≤ R.cells ∧ 0 ≤ R.slots) →
      cWX p l e R s m args below meth c D cA ks ad A o st' s.heap [] (F0 m 0 ls [])) : cX l y bytes maxL ret d D cA ks ad A st As o st' := by
  refine MetFree.of_bodyS (code := bytes) (maxLocals := maxL) (ret := ret) hy ?_ ?_
  · intro args s m h hn
    obtain ⟨meth, c, h1, h2, h3, h4, h5, h6, -, -⟩ := Cond.code_spec hn (atoms_spec (ws := ws_ y bytes maxL ret) h _ List.mem_cons_self)
    exact ⟨meth, c, h1, h2, h3, h4, h5, h6⟩
  · intro p e s m args below meth c s₁ B hml hv _
    obtain ⟨rfl, hP, hK, hN, hA⟩ := hv
    have hts0 := atoms_spec (ws := ws_ y bytes maxL ret) B.pre
    have hts : ∀ w ∈ lw_all, w.before _ s = true := fun w h => hts0 w (List.mem_cons_of_mem _ h)
    have hown : s.vm.findClass y.cls = some m.cls := findClass_of_methodNamed B.named
    rw [hyc] at hown
    have hh0 : s₁.heap = s.heap := by rw [B.state]; rfl
    obtain ⟨meth', c', hm', hc', -, -, -, -, hempty, -⟩ := Cond.code_spec B.named (hts0 _ List.mem_cons_self)
    have hcm : c' = c := by
      cases B.method.symm.trans hm'
      cases (Stand.of_body B).code.symm.trans hc'
      rfl
    subst hcm
    have htab : ∀ z ∈ c'.exceptionTable.toList, ∀ pc, covers z pc = false := by
      have h0 : c'.exceptionTable.size = 0 := by simpa [Array.isEmpty] using hempty
      have h1 : c'.exceptionTable.toList = [] := List.eq_nil_of_length_eq_zero (by simpa using h0)
      intro z hz
      rw [h1] at hz
      cases hz
    have K := body p e s m below meth c' (headSpec (ws_ y bytes maxL ret) (k2_rm d (40 * d))).room As.toArray _ ⟨B.exec, B.bytes, hml, hown, hts, ⟨Nat.le_refl _, Nat.le_refl _⟩, hK, hN, hA⟩ B.returns B.notSynchronized htab hP va_S.rf (lv_entry _ hnl) ⟨Nat.zero_le _, Nat.zero_le _⟩
    rw [← lg_entry_eq] at K
    obtain ⟨t, a1, oc, b1, b2, b3⟩ := K s₁ hh0 (Stand.of_body B)
    exact ⟨t, oc, a1, b1, b2, b3⟩
/-- a method with handlers: it returns -/
theorem cc_ofH {r : Option Value} {hh : List (Nat × Nat × Nat × Nat)} (hy : plainName y.cls = true) (hyc : y.cls = own) (hnl : (lg_sl As).length ≤ maxL)
    (body : ∀ (p : Program) (e : Env) (s : State) (m : MethodId) (below : List Frame) (meth : Method) (c : Code) (R : Room) (args : Array Value) (ls : Array Slot), cC p R d s m args c bytes maxL own D cA A → meth.sig.returnType = ret → meth.locks = false → c.exceptionTable.toList.map xkey = hh → cW D cA ks ad st s.heap → va_S A s.heap s.heap [] → lv_has ls maxL (lv_args 0 As) → (0 ≤ R.cells ∧ 0 ≤ R.slots) →
      W p l e R s m args below meth c s.heap [] 0 0 (MQ below (cQ r D cA ks ad A st') args s 0 0 A) (F0 m 0 ls [])) : Met l y (wsW_ y bytes maxL ret hh) (k2_rm d (40 * d)) (cPre D cA ks ad A st As) (cQ r D cA ks ad A st') 0 0 A := by
  refine MetFree.of_bodyS (code := bytes) (maxLocals := maxL) (ret := ret) hy ?_ ?_
  · intro args s m h hn
    obtain ⟨m9, meth, c, hn9, h1, h2, h3, h4, -, h5, h6, -⟩ := Cond.codeWith_spec (atoms_spec (ws := wsW_ y bytes maxL ret hh) h _ List.mem_cons_self)
    cases hn.symm.trans hn9
    exact ⟨meth, c, h1, h2, h3, h4, h5, h6⟩
  · intro p e s m args below meth c s₁ B hml hv _
    obtain ⟨rfl, hP, hK, hN, hA⟩ := hv
    have hts0 := atoms_spec (ws := wsW_ y bytes maxL ret hh) B.pre
    have hts : ∀ w ∈ lw_all, w.before _ s = true := fun w h => hts0 w (List.mem_cons_of_mem _ h)
    have hown : s.vm.findClass y.cls = some m.cls := findClass_of_methodNamed B.named
    rw [hyc] at hown
    have hh0 : s₁.heap = s.heap := by rw [B.state]; rfl
    obtain ⟨m9, meth', c', hn9, hm', hc', -, -, htab, -, -, -⟩ := Cond.codeWith_spec (hts0 _ List.mem_cons_self)
    cases B.named.symm.trans hn9
    have hcm : c' = c := by
      cases B.method.symm.trans hm'
      cases (Stand.of_body B).code.symm.trans hc'
      rfl
    subst hcm
    have K := body p e s m below meth c' (headSpec (wsW_ y bytes maxL ret hh) (k2_rm d (40 * d))).room As.toArray _ ⟨B.exec, B.bytes, hml, hown, hts, ⟨Nat.le_refl _, Nat.le_refl _⟩, hK, hN, hA⟩ B.returns B.notSynchronized htab hP va_S.rf (lv_entry _ hnl) ⟨Nat.zero_le _, Nat.zero_le _⟩
    rw [← lg_entry_eq] at K
    obtain ⟨t, a1, oc, b1, b2, b3⟩ := K s₁ hh0 (Stand.of_body B)
    exact ⟨t, oc, a1, b1, b2, b3⟩
/-- an answer of a method that may throw -/
theorem x_ans {r : Option Value} {g : JFrame} (h : some r = o) (k : W p l e R s m args below meth c H locs 0 0 (MQ below (cQ r D cA ks ad A st') args s 0 0 A) g) : cWX p l e R s m args below meth c D cA ks ad A o st' H locs g := by
  refine W.mono (fun t ht => ?_) k
  obtain ⟨oc, h1, h2, ⟨h3, h4, h5⟩, L, ⟨-, h6, h7⟩, h8⟩ := ht
  exact ⟨oc, h1, h2, L, 0, 0, ⟨h6, h7⟩, by rw [h3, ← h]; rfl, h4, h5, h8, rfl, rfl⟩
/-- the Finding leaves a method that may throw -/
theorem x_out {ls : Array Slot} {rest : List Value} (htab : ∀ z ∈ c.exceptionTable.toList, ∀ pc, covers z pc = false) (hlk : meth.locks = false) (h : (none : Option (Option Value)) = o) (hP : cW D cA ks ad st' H) (hS : va_S A s.heap H locs) : WT p l e R s m args below meth c H locs 0 0 (xMQ below (cXQ o D cA ks ad A st') args s) (ad 61) (F0 m pc ls rest) :=
  WT.out (fun z hz => htab z hz pc) hlk (fun t ht _ => ⟨by rw [← h]; rfl, by rw [ht]; exact hP, hS.F ht, hS.2.2, rfl, rfl⟩)
theorem find_cell (C : cC p R d s m args c cc nL own D cA A) (hO : klOk A ks ad) (hP : cW D cA ks ad st H) : ∃ cell : Cell, H[ad 61]? = some cell ∧ cell.vm.isStatics = false ∧ s.vm.findClass "ChapterLoan$Finding" = some cell.cls := cc_recv C hP (hO.2.2.2 61 (by decide)) rfl (q := (RX1, TX1, 7)) rfl
theorem asg_self (vm : Vm) (c : ClassId) : vm.assignable c c = true := by
  unfold Vm.assignable Vm.assignableAux
  simp [Vm.isSubclass, Vm.isSubclassAux]
/-- the Finding is caught -/
theorem cc_catch {pre post : List (Nat × Nat × Nat × Nat)} {a1 a2 hp : Nat} {ls : Array Slot} {st0 : List Value} (C : cC p R d s m args c cc nL RX0 D cA A) (hO : klOk A ks ad) (hP : cW D cA ks ad st H) (hlk : Cond.classLink RX0 8 "ChapterLoan$Finding" ∈ lw_all) (htab : c.exceptionTable.toList.map xkey = pre ++ (a1, a2, hp, 8) :: post) (hpre : pre.all (fun q => !(decide (q.1 ≤ pc) && decide (pc < q.2.1))) = true) (hc : (decide (a1 ≤ pc) && decide (pc < a2)) = true)
    (k : W p l e R s m args below meth c H locs cells slots Q (F0 m hp ls [.ref (ad 61)])) : WT p l e R s m args below meth c H locs cells slots Q (ad 61) (F0 m pc ls st0) := by
  obtain ⟨cell, h1, h2, h3⟩ := find_cell C hO hP
  exact WT.catch1 C.2.2.2.1 htab hpre hc (by decide) (C.2.2.2.2.1 _ hlk) h3 h1 h2 (asg_self _ _) k
/-- a call of a method that may throw: the answer -/
theorem cc_cXR {b : Addr} {Cn : String} {r : Option Value} (C : cC p R d s m args c cc nL own D cA A) (hP : cW D cA ks ad st H) (hS : va_S A s.heap H locs) (hM : cX l y bytes maxL ret dk D cA ks ad A st (.ref b :: As) (some r) st') (cw : CallW R s args own Cn index y bytes maxL ret (ws_ y bytes maxL ret) (k2_rm dk (40 * dk)) 0 0 n)
    (hrecv : ∃ cellB : Cell, H[b]? = some cellB ∧ cellB.vm.isStatics = false ∧ s.vm.findClass Cn = some cellB.cls) (hn : As.length = n) (hpn : (parseMethodDescriptor y.desc).map (fun d => d.parameters.length) = some n) (hsz : ls.size = nL) (hst : st0 = As.reverse ++ .ref b :: rest) (hW : (rest.map fun v => v.category).sum ≤ 8) (hdg : decode cc pc = .ok (.invokevirtual index, 3)) (hcs : cells ≤ R.cells ∧ slots ≤ R.slots)
    (kk : ∀ (H1 : Heap) (locs1 : List Loc), cW D cA ks ad st' H1 → va_S A s.heap H1 locs1 → W p l e R s m args below meth c H1 locs1 cells slots Q (F0 m (pc + 3) ls (r.toList ++ rest))) : W p l e R s m args below meth c H locs cells slots Q (F0 m pc ls st0) := by
  obtain ⟨⟨hrc, hrs, hfr, hlo, hws, hcw, hcode, hini, hy, hlen, hl⟩, hin, hse⟩ := cw
  have hcd : ∀ U : State, s.WarmedH U.vm → ∀ mk, U.methodNamed? y = some mk → ∃ methY cY, U.vm.method? mk = some methY ∧ methY.code = some cY ∧ cY.maxLocals = maxL ∧ parseMethodDescriptor y.desc = some methY.sig := fun U hU mk hmk => by
    obtain ⟨meth, c, h1, h2, h3, h4, h5, h6, h7, h8⟩ := Cond.code_spec hmk (hws _ hcw #[] U hU)
    exact ⟨meth, c, h1, h2, h4, h8⟩
  refine xcallV (bytes := bytes) (ret := ret) (As := As) (rest := rest) ⟨C.1, C.2.1, C.2.2.1, C.2.2.2.1, C.2.2.2.2.1⟩ hM cc_blind ⟨hfr, hlo⟩ hws hl hin hse (fun a' U hU => word_at hU (Or.inl (by first | rfl | simp [Cond.onTables, Cond.keeps, Cond.steady])) hini) hcd ⟨hy.1, hy.2, hpn⟩ hrecv (cc_pre C hP hS.1) hn hsz hst hW hdg ⟨hcs.1, hcs.2⟩ ?_ ?_
  · rintro v st₁ t H1 L k n' e1 e2 hal ⟨ho, hw, hF, hL, rfl, rfl⟩
    cases ho
    subst e2
    exact kk t.heap (locs ++ L) hw ⟨Nat.le_trans hS.1 (by rw [← e1]; exact hF.1), fun q h1 h2 => by rw [hF.2 q (by rw [e1]; exact Nat.lt_of_lt_of_le h1 hS.1) h2, e1]; exact hS.2.1 q h1 h2, fun q hq => by
      rcases List.mem_append.mp hq with h | h
      · exact hS.2.2 q h
      · exact hL q h⟩
  · rintro x st₁ t H1 L k n' e1 e2 hal ⟨ho, -⟩
    cases ho
/-- a call of a method that may throw: the throw -/
theorem cc_cXT {b : Addr} {Cn : String} (C : cC p R d s m args c cc nL own D cA A) (hP : cW D cA ks ad st H) (hS : va_S A s.heap H locs) (hM : cX l y bytes maxL ret dk D cA ks ad A st (.ref b :: As) none st') (cw : CallW R s args own Cn index y bytes maxL ret (ws_ y bytes maxL ret) (k2_rm dk (40 * dk)) 0 0 n)
    (hrecv : ∃ cellB : Cell, H[b]? = some cellB ∧ cellB.vm.isStatics = false ∧ s.vm.findClass Cn = some cellB.cls) (hn : As.length = n) (hpn : (parseMethodDescriptor y.desc).map (fun d => d.parameters.length) = some n) (hsz : ls.size = nL) (hst : st0 = As.reverse ++ .ref b :: rest) (hW : (rest.map fun v => v.category).sum ≤ 8) (hdg : decode cc pc = .ok (.invokevirtual index, 3)) (hcs : cells ≤ R.cells ∧ slots ≤ R.slots)
    (kk : ∀ (H1 : Heap) (locs1 : List Loc), cW D cA ks ad st' H1 → va_S A s.heap H1 locs1 → WT p l e R s m args below meth c H1 locs1 cells slots Q (ad 61) (F0 m pc ls rest)) : W p l e R s m args below meth c H locs cells slots Q (F0 m pc ls st0) := by
  obtain ⟨⟨hrc, hrs, hfr, hlo, hws, hcw, hcode, hini, hy, hlen, hl⟩, hin, hse⟩ := cw
  have hcd : ∀ U : State, s.WarmedH U.vm → ∀ mk, U.methodNamed? y = some mk → ∃ methY cY, U.vm.method? mk = some methY ∧ methY.code = some cY ∧ cY.maxLocals = maxL ∧ parseMethodDescriptor y.desc = some methY.sig := fun U hU mk hmk => by
    obtain ⟨meth, c, h1, h2, h3, h4, h5, h6, h7, h8⟩ := Cond.code_spec hmk (hws _ hcw #[] U hU)
    exact ⟨meth, c, h1, h2, h4, h8⟩
  refine xcallV (bytes := bytes) (ret := ret) (As := As) (rest := rest) ⟨C.1, C.2.1, C.2.2.1, C.2.2.2.1, C.2.2.2.2.1⟩ hM cc_blind ⟨hfr, hlo⟩ hws hl hin hse (fun a' U hU => word_at hU (Or.inl (by first | rfl | simp [Cond.onTables, Cond.keeps, Cond.steady])) hini) hcd ⟨hy.1, hy.2, hpn⟩ hrecv (cc_pre C hP hS.1) hn hsz hst hW hdg ⟨hcs.1, hcs.2⟩ ?_ ?_
  · rintro v st₁ t H1 L k n' e1 e2 hal ⟨ho, -⟩
    cases ho
  · rintro x st₁ t H1 L k n' e1 e2 hal ⟨ho, hw, hF, hL, rfl, rfl⟩
    cases ho
    subst e2
    exact kk t.heap (locs ++ L) hw ⟨Nat.le_trans hS.1 (by rw [← e1]; exact hF.1), fun q h1 h2 => by rw [hF.2 q (by rw [e1]; exact Nat.lt_of_lt_of_le h1 hS.1) h2, e1]; exact hS.2.1 q h1 h2, fun q hq => by
      rcases List.mem_append.mp hq with h | h
      · exact hS.2.2 q h
      · exact hL q h⟩
end XL
