/-! the law: rows -/
set_option maxRecDepth 100000
section
variable {p : Program} {l : Launch} {e : Env} {R : Room} {s : State} {m : MethodId} {args : Array Value} {below : List Frame} {meth : Method} {c : Code} {H : Heap} {locs : List Loc} {cells slots d : Nat} {Q : State → Prop} {pc nL : Nat} {ls : Array Slot} {rest : List Value} {D D2 : va_G} {cA : Nat → ClassId} {cI : ClassId} {ks : List Nat} {index n0 b L : Nat} {xs : Nat → Int32} {adK adV : Nat → Nat} {cs cs2 : CS} {mst mst2 : MSt}
theorem fc_tr {U : State} {c : Cond} (hc : c.onTables = true) (h : c.before #[] (s.setVm U.vm) = true) : va_Nw c U := by
  have e := Cond.onTables_vm (A := #[]) (A' := #[]) (U := s) (U' := U) U.vm c hc
  have hU : U.setVm U.vm = U := rfl
  rw [hU] at e
  show c.before #[] U = true
  rw [← e]
  exact h
theorem fc_unh {U : State} {x y z : String} (hvm : s.vm.Alike U.vm) (h : va_Nw (.unhidden x y z) s) : va_Nw (.unhidden x y z) U := fc_tr rfl (by rw [Cond.unhidden_setVm hvm]; exact h)
theorem fc_pub {U : State} {x : MethodName} (hvm : s.vm.Alike U.vm) (h : va_Nw (.publicMethod x) s) : va_Nw (.publicMethod x) U := fc_tr rfl (by rw [Cond.publicMethod_setVm hvm]; exact h)
theorem fc_int {U : State} {x : MethodName} (hx : x.cls ≠ "java/lang/invoke/MethodHandle" ∧ x.cls ≠ "java/lang/invoke/VarHandle") (hd : va_Nw (.declares x) s) (hvm : s.vm.Alike U.vm) (h : va_Nw (.interfaceMethod x.cls x.cls x.name x.desc) s) : va_Nw (.interfaceMethod x.cls x.cls x.name x.desc) U := by
  obtain ⟨r, meth, hn, -⟩ := Cond.declares_spec hd
  exact fc_tr rfl (by rw [Cond.interfaceMethod_setVm hvm (r := r) hn hx]; exact h)
theorem vF_moved {U : State} (hN : cN s) (hvm : s.vm.Alike U.vm) (h : vF s) : vF U := List.forall_mem_cons.mpr ⟨fc_int (x := ⟨"ChapterLoan$Owes", "owes", "(I)I"⟩) (by decide) (hN _ (List.mem_of_getElem? (i := 54) rfl)) hvm (h _ (List.mem_of_getElem? (i := 0) rfl)), List.forall_mem_cons.mpr ⟨fc_unh hvm (h _ (List.mem_of_getElem? (i := 1) rfl)), List.forall_mem_cons.mpr ⟨fc_pub hvm (h _ (List.mem_of_getElem? (i := 2) rfl)), List.forall_mem_cons.mpr ⟨fc_unh hvm (h _ (List.mem_of_getElem? (i := 3) rfl)), List.forall_mem_cons.mpr ⟨fc_pub hvm (h _ (List.mem_of_getElem? (i := 4) rfl)), List.forall_mem_cons.mpr ⟨fc_unh hvm (h _ (List.mem_of_getElem? (i := 5) rfl)), List.forall_mem_cons.mpr ⟨fc_unh hvm (h _ (List.mem_of_getElem? (i := 6) rfl)), List.forall_mem_cons.mpr ⟨fc_unh hvm (h _ (List.mem_of_getElem? (i := 7) rfl)), List.forall_mem_cons.mpr ⟨fc_unh hvm (h _ (List.mem_of_getElem? (i := 8) rfl)), List.forall_mem_cons.mpr ⟨fc_unh hvm (h _ (List.mem_of_getElem? (i := 9) rfl)), List.forall_mem_cons.mpr ⟨fc_int (x := ⟨"ChapterLoan$Writes", "writes", "(I)I"⟩) (by decide) (hN _ (List.mem_of_getElem? (i := 62) rfl)) hvm (h _ (List.mem_of_getElem? (i := 10) rfl)), List.forall_mem_cons.mpr ⟨fc_unh hvm (h _ (List.mem_of_getElem? (i := 11) rfl)), List.forall_mem_cons.mpr ⟨fc_pub hvm (h _ (List.mem_of_getElem? (i := 12) rfl)), List.forall_mem_cons.mpr ⟨fc_unh hvm (h _ (List.mem_of_getElem? (i := 13) rfl)), List.forall_mem_cons.mpr ⟨fc_unh hvm (h _ (List.mem_of_getElem? (i := 14) rfl)), List.forall_mem_cons.mpr ⟨fc_unh hvm (h _ (List.mem_of_getElem? (i := 15) rfl)), List.forall_mem_cons.mpr ⟨fc_pub hvm (h _ (List.mem_of_getElem? (i := 16) rfl)), List.forall_mem_cons.mpr ⟨fc_unh hvm (h _ (List.mem_of_getElem? (i := 17) rfl)), List.forall_mem_cons.mpr ⟨fc_unh hvm (h _ (List.mem_of_getElem? (i := 18) rfl)), List.forall_mem_cons.mpr ⟨fc_unh hvm (h _ (List.mem_of_getElem? (i := 19) rfl)), List.forall_mem_cons.mpr ⟨fc_pub hvm (h _ (List.mem_of_getElem? (i := 20) rfl)), List.forall_mem_cons.mpr ⟨fc_int (x := ⟨"ChapterLoan$Reads", "reads", "(I)I"⟩) (by decide) (hN _ (List.mem_of_getElem? (i := 71) rfl)) hvm (h _ (List.mem_of_getElem? (i := 21) rfl)), List.forall_mem_cons.mpr ⟨fc_unh hvm (h _ (List.mem_of_getElem? (i := 22) rfl)), List.forall_mem_cons.mpr ⟨fc_pub hvm (h _ (List.mem_of_getElem? (i := 23) rfl)), List.forall_mem_cons.mpr ⟨fc_unh hvm (h _ (List.mem_of_getElem? (i := 24) rfl)), List.forall_mem_cons.mpr ⟨fc_unh hvm (h _ (List.mem_of_getElem? (i := 25) rfl)), List.forall_mem_cons.mpr ⟨fc_pub hvm (h _ (List.mem_of_getElem? (i := 26) rfl)), List.forall_mem_cons.mpr ⟨fc_unh hvm (h _ (List.mem_of_getElem? (i := 27) rfl)), List.forall_mem_cons.mpr ⟨fc_unh hvm (h _ (List.mem_of_getElem? (i := 28) rfl)), List.forall_mem_cons.mpr ⟨fc_pub hvm (h _ (List.mem_of_getElem? (i := 29) rfl)), List.forall_mem_cons.mpr ⟨fc_unh hvm (h _ (List.mem_of_getElem? (i := 30) rfl)), List.forall_mem_cons.mpr ⟨fc_unh hvm (h _ (List.mem_of_getElem? (i := 31) rfl)), List.forall_mem_cons.mpr ⟨fc_int (x := ⟨"ChapterLoan$Tells", "tells", "(I)I"⟩) (by decide) (hN _ (List.mem_of_getElem? (i := 79) rfl)) hvm (h _ (List.mem_of_getElem? (i := 32) rfl)), List.forall_mem_cons.mpr ⟨fc_unh hvm (h _ (List.mem_of_getElem? (i := 33) rfl)), List.forall_mem_cons.mpr ⟨fc_pub hvm (h _ (List.mem_of_getElem? (i := 34) rfl)), List.forall_mem_cons.mpr ⟨fc_unh hvm (h _ (List.mem_of_getElem? (i := 35) rfl)), List.forall_mem_cons.mpr ⟨fc_unh hvm (h _ (List.mem_of_getElem? (i := 36) rfl)), List.forall_mem_cons.mpr ⟨fc_unh hvm (h _ (List.mem_of_getElem? (i := 37) rfl)), List.forall_mem_cons.mpr ⟨fc_unh hvm (h _ (List.mem_of_getElem? (i := 38) rfl)), List.forall_mem_cons.mpr ⟨fc_pub hvm (h _ (List.mem_of_getElem? (i := 39) rfl)), List.forall_mem_cons.mpr ⟨fc_unh hvm (h _ (List.mem_of_getElem? (i := 40) rfl)), List.forall_mem_cons.mpr ⟨fc_pub hvm (h _ (List.mem_of_getElem? (i := 41) rfl)), List.forall_mem_cons.mpr ⟨fc_unh hvm (h _ (List.mem_of_getElem? (i := 42) rfl)), fun _ h => absurd h List.not_mem_nil⟩⟩⟩⟩⟩⟩⟩⟩⟩⟩⟩⟩⟩⟩⟩⟩⟩⟩⟩⟩⟩⟩⟩⟩⟩⟩⟩⟩⟩⟩⟩⟩⟩⟩⟩⟩⟩⟩⟩⟩⟩⟩⟩
/-- what a call of the component may touch: all that is new, but the model -/
def Ac (n0 : Nat) : Nat → Prop := fun q => n0 ≤ q ∧ ¬ (n0 + 73 ≤ q ∧ q < n0 + 88)
def adm (n0 : Nat) : Nat → Nat := fun i => n0 + 73 + i
def NN : Nat := 1000000
/-- references, and what is reached from them, lie ahead of nx -/
def FR (nx : Nat) (cs : CS) : Prop := ∃ Lv : Nat → Prop, (∀ a, Lv a → a < nx) ∧ (∀ k i a, k < 73 → k ≠ 61 → k ≠ 68 → cs.2.2.1 k i = some a → Lv a) ∧ ∀ a ci fs b, Lv a → cs.2.2.2 (1000 + a) = .inr (ci, fs) → ((14 ≤ ci ∧ ci ≤ 17) ∨ 19 ≤ ci) → Value.ref b ∈ fs → Lv b
theorem FR_of (hP : cW D cA ks (ad0 n0) cs H) : FR H.size cs := by
  refine ⟨fun a => live ks (ad0 n0) a, fun a h => ?_, fun k i a h1 h2 h3 h4 => hP.2.1 k i a h1 h2 h3 h4, fun a ci fs b h1 h2 h3 h4 => hP.2.2.1 (1000 + a) ci fs b h1.1 (by omega) h2 h3 h4⟩
  have h1 := ad_lt hP h.1
  rw [h.2] at h1
  exact h1
/-- what holds all through the law -/
abbrev lK (p : Program) (s : State) (m : MethodId) (args : Array Value) (c : Code) (D D2 : va_G) (cA : Nat → ClassId) (cI : ClassId) (adK adV : Nat → Nat) (n0 b L : Nat) (xs : Nat → Int32) : Prop :=
  p.tables.exec = Jvm.exec ∧ c.code = code ∧ c.maxLocals = 4 ∧ s.vm.findClass "ChapterLoanLaw" = some m.cls ∧ (∀ w ∈ lw_all, w.before args s = true) ∧ va_K D cCl (cTys cA) s ∧ va_K D2 mCl [(cI, .int)] s ∧ cN s ∧ tX adK adV (Ac n0) s ∧ vF s ∧ s.heap.size = n0 ∧ va_X b L xs s s.heap ∧ b < n0 ∧ L ≤ 384
/-- the two worlds -/
abbrev lJ (H0 : Heap) (D D2 : va_G) (cA : Nat → ClassId) (cI : ClassId) (n0 : Nat) (ks : List Nat) (cs : CS) (mst : MSt) (H : Heap) (locs : List Loc) : Prop :=
  klOk (Ac n0) ks (ad0 n0) ∧ cW D cA ks (ad0 n0) cs H ∧ mW D2 cI (adm n0) mst H ∧ va_S (nA n0) H0 H locs ∧ n0 + 88 ≤ H.size
theorem Met.toX {y : MethodName} {ws : List Cond} {rm : Room} {Pc : Array Value → State → Prop} {Qc : Array Value → State → Outcome → State → Prop} {mc ms : Nat} {free : Addr → Prop} (h : Met l y ws rm Pc Qc mc ms free) : XMet l y ws rm Pc (fun a st o t L k n => Qc a st o t ∧ (∀ q ∈ L, free q.base) ∧ k = mc ∧ n = ms) :=
  MetFree.mono h (fun _ _ h => h) (fun _ _ _ _ _ h => h) (fun a s o t _ hq => by
    obtain ⟨h1, L, ⟨-, h2, h3⟩, h4⟩ := hq
    exact ⟨L, mc, ms, ⟨h2, h3⟩, h1, h4, rfl, rfl⟩)
theorem op_c {y : MethodName} {ws : List Cond} {rm : Room} {A : Nat → Prop} {ad : Nat → Nat} {As : List Value} {r : Int32} {nx : Nat} (hO : klOk A ks ad) (hM : Met l y ws rm (cPre D cA ks ad A cs As) (cQ (some (.int r)) D cA ks ad A cs2) 0 0 A) : Met l y ws rm (fun a U => nPre nx D cA ks ad A cs As a U ∧ tX adK adV A U ∧ vF U) (aQ (some (.int r)) D cA ks ad A cs2) 0 0 A :=
  MetFree.mono hM (fun _ _ h => h.1.1) (fun _ _ _ _ _ h => h) (fun a s o t _ hq => ⟨⟨hq.1.1, hq.1.2.2, ks, fun _ h => h, hO, hq.1.2.1⟩, hq.2⟩)
theorem op_v {y : MethodName} {ws : List Cond} {rm : Room} {A : Nat → Prop} {ad : Nat → Nat} {As : List Value} {r : Int32} {nx : Nat} (hO : klOk A ks ad) (hM : Met l y ws rm (fun a U => cPre D cA ks ad A cs As a U ∧ vF U) (cQ (some (.int r)) D cA ks ad A cs2) 0 0 A) : Met l y ws rm (fun a U => nPre nx D cA ks ad A cs As a U ∧ tX adK adV A U ∧ vF U) (aQ (some (.int r)) D cA ks ad A cs2) 0 0 A :=
  MetFree.mono hM (fun _ _ h => ⟨h.1.1, h.2.2⟩) (fun _ _ _ _ _ h => h) (fun a s o t _ hq => ⟨⟨hq.1.1, hq.1.2.2, ks, fun _ h => h, hO, hq.1.2.1⟩, hq.2⟩)
theorem op_n {y : MethodName} {ws : List Cond} {rm : Room} {A : Nat → Prop} {ad : Nat → Nat} {As : List Value} {r : Int32} {nx mc ms : Nat} (hM : Met l y ws rm (nPre nx D cA ks ad A cs As) (aQ (some (.int r)) D cA ks ad A cs2) mc ms A) : Met l y ws rm (fun a U => nPre nx D cA ks ad A cs As a U ∧ tX adK adV A U ∧ vF U) (aQ (some (.int r)) D cA ks ad A cs2) mc ms A :=
  MetFree.mono hM (fun _ _ h => h.1) (fun _ _ _ _ _ h => h) (fun _ _ _ _ _ hq => hq)
theorem op_t {y : MethodName} {ws : List Cond} {rm : Room} {A : Nat → Prop} {ad : Nat → Nat} {As : List Value} {r : Int32} {nx mc ms : Nat} (hM : Met l y ws rm (fun a U => nPre nx D cA ks ad A cs As a U ∧ tX adK adV A U) (aQ (some (.int r)) D cA ks ad A cs2) mc ms A) : Met l y ws rm (fun a U => nPre nx D cA ks ad A cs As a U ∧ tX adK adV A U ∧ vF U) (aQ (some (.int r)) D cA ks ad A cs2) mc ms A :=
  MetFree.mono hM (fun _ _ h => ⟨h.1, h.2.1⟩) (fun _ _ _ _ _ h => h) (fun _ _ _ _ _ hq => hq)
theorem tX.calling {A : Nat → Prop} {U : State} {g : JFrame} {mk : MethodId} {a : Array Value} (h : tX adK adV A U) : tX adK adV A (U.calling g mk a) := ⟨sX.calling h.1, va_Nc.moved (u := U) (U := U.calling g mk a) (Vm.Alike.refl U.vm) h.2⟩
theorem tX.there {A : Nat → Prop} {U : State} (h : tX adK adV A s) (hS : va_S A s.heap H locs) (hU : U.heap = H) (hW : s.WarmedH U.vm) : tX adK adV A U := ⟨sX.there h.1 hS hU hW, va_Nc.moved hW.alike h.2⟩
theorem cd_with {y : MethodName} {bytes : ByteArray} {maxL : Nat} {ret : Option FieldType} {hh : List (Nat × Nat × Nat × Nat)} (hts : ∀ w ∈ lw_all, w.before args s = true) (h : Cond.codeWith y bytes maxL ret hh ∈ lw_all) : ∀ U : State, s.WarmedH U.vm → ∀ mk, U.methodNamed? y = some mk → ∃ methY cY, U.vm.method? mk = some methY ∧ methY.code = some cY ∧ cY.maxLocals = maxL ∧ parseMethodDescriptor y.desc = some methY.sig := fun U hU mk hmk => by
  obtain ⟨m9, meth, c, h0, h1, h2, h3, h4, h5, h6, h7, h8⟩ := Cond.codeWith_spec (word_at (a' := #[]) hU (lw_self _ h).2 (hts _ h))
  cases hmk.symm.trans h0
  exact ⟨meth, c, h1, h2, h4, h8⟩
theorem cd_code {y : MethodName} {bytes : ByteArray} {maxL : Nat} {ret : Option FieldType} (hts : ∀ w ∈ lw_all, w.before args s = true) (h : Cond.code y bytes maxL ret ∈ lw_all) : ∀ U : State, s.WarmedH U.vm → ∀ mk, U.methodNamed? y = some mk → ∃ methY cY, U.vm.method? mk = some methY ∧ methY.code = some cY ∧ cY.maxLocals = maxL ∧ parseMethodDescriptor y.desc = some methY.sig := fun U hU mk hmk => by
  obtain ⟨meth, c, h1, h2, h3, h4, h5, h6, h7, h8⟩ := Cond.code_spec hmk (word_at (a' := #[]) hU (lw_self _ h).2 (hts _ h))
  exact ⟨meth, c, h1, h2, h4, h8⟩
theorem lS_Ac (hz : s.heap.size = n0) (hS : va_S (nA n0) s.heap H locs) : va_S (Ac n0) s.heap H [] := ⟨hS.1, fun q h1 _ => hS.2.1 q h1 (by show ¬ n0 ≤ q; omega), fun q hq => absurd hq List.not_mem_nil⟩
/-- a call of the component -/
theorem lc_op {y : MethodName} {ws : List Cond} {rm : Room} {bytes : ByteArray} {maxL mc ms n : Nat} {ret : Option FieldType} {As st0 : List Value} {r : Int32} (K : lK p s m args c D D2 cA cI adK adV n0 b L xs) (J : lJ s.heap D D2 cA cI n0 ks cs mst H locs) (hM : Met l y ws rm (fun a U => nPre H.size D cA ks (ad0 n0) (Ac n0) cs (.ref (ad0 n0 60) :: As) a U ∧ tX adK adV (Ac n0) U ∧ vF U) (aQ (some (.int r)) D cA ks (ad0 n0) (Ac n0) cs2) mc ms (Ac n0)) (hG : GoodIn lw_all ws)
    (hcd : ∀ U : State, s.WarmedH U.vm → ∀ mk, U.methodNamed? y = some mk → ∃ methY cY, U.vm.method? mk = some methY ∧ methY.code = some cY ∧ cY.maxLocals = maxL ∧ parseMethodDescriptor y.desc = some methY.sig) (hl : Cond.methodLink "ChapterLoanLaw" index y ∈ lw_all) (hin : Cond.instanceMethod y ∈ lw_all) (hse : Cond.selects RX0 y y ∈ lw_all) (hini : Cond.initialized y.cls ∈ lw_all)
    (hd : y.cls ≠ "java/lang/invoke/MethodHandle" ∧ y.cls ≠ "java/lang/invoke/VarHandle" ∧ (parseMethodDescriptor y.desc).map (fun d => d.parameters.length) = some n) (hR : rm.frames + 1 ≤ R.frames ∧ 8 + (maxL + 11) + rm.locals ≤ R.locals) (hrm : cells + rm.cells ≤ R.cells ∧ slots + rm.slots ≤ R.slots) (hn : As.length = n) (hsz : ls.size = 4) (hst : st0 = As.reverse ++ .ref (ad0 n0 60) :: rest) (hW : (rest.map fun v => v.category).sum ≤ 8) (hdg : decode code pc = .ok (.invokevirtual index, 3))
    (kk : ∀ (ks' : List Nat) (H1 : Heap) (locs1 : List Loc), lJ s.heap D D2 cA cI n0 ks' cs2 mst H1 locs1 → W p l e R s m args below meth c H1 locs1 (cells + mc) (slots + ms) Q (F0 m (pc + 3) ls (.int r :: rest))) : W p l e R s m args below meth c H locs cells slots Q (F0 m pc ls st0) := by
  obtain ⟨hx, hb, hml, hown, hts, hK, hK2, hN, hX, hF, hz, -, -, -⟩ := K
  obtain ⟨hO, hP, hM2, hS, h88⟩ := J
  have hS2 := lS_Ac hz hS
  have hrv : ∃ cellB : Cell, H[ad0 n0 60]? = some cellB ∧ cellB.vm.isStatics = false ∧ s.vm.findClass RX0 = some cellB.cls := by
    obtain ⟨i, hi⟩ := List.getElem?_of_mem (hO.2.2.2 60 (by decide))
    exact va_recv (q := (RX0, TX0, 13)) hK hP.1 (ci := 0) (q0 := i) (fs := lfs (ad0 n0) (cs.1 60)) rfl (by rw [kl_at hi]; rfl)
  refine xcallV (bytes := bytes) (ret := ret) (As := As) (rest := rest) (maxL := maxL) ⟨hx, hb, hml, hown, hts⟩ hM.toX (fun a U g mk q => ⟨nPre_blind a U g mk q.1, tX.calling q.2.1, vF_moved (s := U) (U := U.calling g mk a) q.1.1.2.2.2.1 (Vm.Alike.refl U.vm) q.2.2⟩) hR (pay_in hts hG) (hts _ hl) (hts _ hin) (hts _ hse) (fun a' U hU => word_at hU (lw_self _ hini).2 (hts _ hini)) hcd hd hrv (fun U hU hW => ⟨⟨⟨rfl, by rw [hU]; exact hP, va_K.moved hW.alike hK, cN.warm hW hN, fun q h => ⟨by rw [hU] at h; omega, by rw [hU] at h; omega⟩⟩, by rw [hU]⟩, tX.there hX hS2 hU hW, vF_moved hN hW.alike hF⟩) hn hsz hst hW hdg hrm ?_ ?_
  · rintro v st₁ t H1 L2 k n' e1 e2 hal ⟨⟨ho, hF1, ks', h1, h2, h3⟩, hL, rfl, rfl⟩
    cases ho
    subst e2
    refine kk ks' t.heap (locs ++ L2) ⟨h2, h3, ?_, ⟨Nat.le_trans hS.1 (by rw [← e1]; exact hF1.1), fun q g1 g2 => by rw [hF1.2 q (by rw [e1]; exact Nat.lt_of_lt_of_le g1 hS.1) (fun g3 => g2 g3.1), e1]; exact hS.2.1 q g1 g2, fun q hq => by
      rcases List.mem_append.mp hq with h | h
      · exact hS.2.2 q h
      · exact (hL q h).1⟩, by have := hF1.1; rw [e1] at this; omega⟩
    refine va_P.kept hM2 (fun k q hq => ?_)
    have hk : k < 15 := by
      rcases Nat.lt_or_ge k 15 with h | h
      · exact h
      · have h9 : (kw 15 (adm n0) (mg cI (adm n0) mst))[k]? = none := by simp [kw]; omega
        rw [h9] at hq; cases hq
    have hlt := (hM2 k q hq).lt
    rw [kw_at hk] at hq
    cases hq
    rw [hF1.2 _ (by rw [e1]; exact hlt) (fun g => g.2 ⟨by show n0 + 73 ≤ n0 + 73 + k; omega, by show n0 + 73 + k < n0 + 88; omega⟩), e1]
  · rintro x st₁ t H1 L2 k n' e1 e2 hal ⟨⟨ho, -⟩, -⟩
    cases ho
/-- a call of the model -/
theorem lm_op {y : MethodName} {bytes : ByteArray} {maxL n dk : Nat} {ret : Option FieldType} {As st0 : List Value} {r : Int32} (K : lK p s m args c D D2 cA cI adK adV n0 b L xs) (J : lJ s.heap D D2 cA cI n0 ks cs mst H locs) (hM : mV l y bytes maxL ret dk D2 cI (adm n0) mst As (some (.int r)) mst2) (hG : GoodIn lw_all (ws_ y bytes maxL ret)) (hc : Cond.code y bytes maxL ret ∈ lw_all) (hl : Cond.methodLink "ChapterLoanLaw" index y ∈ lw_all) (hin : Cond.instanceMethod y ∈ lw_all) (hse : Cond.selects RX6 y y ∈ lw_all) (hini : Cond.initialized y.cls ∈ lw_all)
    (hd : y.cls ≠ "java/lang/invoke/MethodHandle" ∧ y.cls ≠ "java/lang/invoke/VarHandle" ∧ (parseMethodDescriptor y.desc).map (fun d => d.parameters.length) = some n) (hR : (k2_rm dk (40 * dk)).frames + 1 ≤ R.frames ∧ 8 + (maxL + 11) + (k2_rm dk (40 * dk)).locals ≤ R.locals) (hrm : cells ≤ R.cells ∧ slots ≤ R.slots) (hn : As.length = n) (hsz : ls.size = 4) (hst : st0 = As.reverse ++ .ref (n0 + 73) :: rest) (hW : (rest.map fun v => v.category).sum ≤ 8) (hdg : decode code pc = .ok (.invokevirtual index, 3))
    (kk : ∀ (H1 : Heap) (locs1 : List Loc), lJ s.heap D D2 cA cI n0 ks cs mst2 H1 locs1 → W p l e R s m args below meth c H1 locs1 cells slots Q (F0 m (pc + 3) ls (.int r :: rest))) : W p l e R s m args below meth c H locs cells slots Q (F0 m pc ls st0) := by
  obtain ⟨hx, hb, hml, hown, hts, hK, hK2, hN, hX, hF, hz, -, -, -⟩ := K
  obtain ⟨hO, hP, hM2, hS, h88⟩ := J
  have hrv : ∃ cellB : Cell, H[adm n0 0]? = some cellB ∧ cellB.vm.isStatics = false ∧ s.vm.findClass RX6 = some cellB.cls := mm_recv hK2 hM2
  refine xcallV (bytes := bytes) (ret := ret) (As := As) (rest := rest) (maxL := maxL) (b := adm n0 0) ⟨hx, hb, hml, hown, hts⟩ hM.toX mm_blind hR (pay_in hts hG) (hts _ hl) (hts _ hin) (hts _ hse) (fun a' U hU => word_at hU (lw_self _ hini).2 (hts _ hini)) (cd_code hts hc) hd hrv (fun U hU hW => ⟨rfl, by rw [hU]; exact hM2, va_K.moved hW.alike hK2⟩) hn hsz hst hW hdg hrm ?_ ?_
  · rintro v st₁ t H1 L2 k n' e1 e2 hal ⟨⟨ho, h3, hF1⟩, hL, rfl, rfl⟩
    cases ho
    subst e2
    refine kk t.heap (locs ++ L2) ⟨hO, ⟨va_P.kept hP.1 (fun k q hq => ?_), hP.2⟩, h3, ⟨Nat.le_trans hS.1 (by rw [← e1]; exact hF1.1), fun q g1 g2 => by rw [hF1.2 q (by rw [e1]; exact Nat.lt_of_lt_of_le g1 hS.1) (fun ⟨k, hk, hq⟩ => g2 (by rw [hq]; show n0 ≤ n0 + 73 + k; omega)), e1]; exact hS.2.1 q g1 g2, fun q hq => by
      rcases List.mem_append.mp hq with h | h
      · exact hS.2.2 q h
      · obtain ⟨k, hk, h⟩ := hL q h; rw [h]; show n0 ≤ n0 + 73 + k; omega⟩, by have := hF1.1; rw [e1] at this; omega⟩
    have hlt := (hP.1 k q hq).lt
    have hA := (kl_D hO).2 k q hq
    rw [hF1.2 _ (by rw [e1]; exact hlt) (fun ⟨k, hk, h⟩ => hA.2 (by rw [h]; exact ⟨by show n0 + 73 ≤ n0 + 73 + k; omega, by show n0 + 73 + k < n0 + 88; omega⟩)), e1]
  · rintro x st₁ t H1 L2 k n' e1 e2 hal ⟨⟨ho, -⟩, -⟩
    cases ho
/-- a number of the script -/
theorem sc_ld {k j : Nat} {jj : Int32} (K : lK p s m args c D D2 cA cI adK adV n0 b L xs) (J : lJ s.heap D D2 cA cI n0 ks cs mst H locs) (hj : jj = nI j) (hk : 6 * k + j < L) (hdg : decode code pc = .ok (.iaload, 1)) (kk : W p l e R s m args below meth c H locs cells slots Q (F0 m (pc + 1) ls (.int (xs (6 * k + j)) :: rest))) : W p l e R s m args below meth c H locs cells slots Q (F0 m pc ls (.int (nI (6 * k) + jj) :: .ref b :: rest)) := by
  obtain ⟨hx, hb, -, -, -, -, -, -, -, -, hz, hXX, hbl, hL⟩ := K
  subst hj
  rw [nI_add]
  refine va_sld hx hb hXX (by omega) (show ¬ nA n0 b by show ¬ n0 ≤ b; omega) J.2.2.2.1 (vp_in_nI hk (by omega)) hdg ?_
  rw [nI_clamp (by omega)]
  exact kk
end
