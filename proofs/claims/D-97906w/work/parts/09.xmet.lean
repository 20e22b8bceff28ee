/-! contracts of methods that may throw: a call, the note of a thrown object, its catch, its leaving -/
def xEnd (st t : State) (L : List Loc) (k n : Nat) : Prop := st.WarmedH t.vm ∧ st.sameButNew ({ t with vm := st.vm } : State) L k n
abbrev xQt : Type := Array Value → State → Outcome → State → List Loc → Nat → Nat → Prop
def XMet (l : Launch) (y : MethodName) (ws : List Cond) (rm : Room) (Pc : Array Value → State → Prop) (Qx : xQt) : Prop :=
  MetFree l y (headSpec ws rm) Pc (fun _ _ _ _ _ => True) (fun a st o t => ∃ L k n, xEnd st t L k n ∧ Qx a st o t L k n)
def xMQ (below : List Frame) (Qx : xQt) (a : Array Value) (s : State) : State → Prop := fun t =>
  ∃ o, t.status = .running ∧ Ended t below o ∧ ∃ L k n, xEnd s t L k n ∧ Qx a s o t L k n
section XC
variable {p : Program} {l : Launch} {e : Env} {R : Room} {s : State} {m : MethodId} {args : Array Value} {below : List Frame} {meth : Method} {c : Code} {H : Heap} {locs : List Loc} {cells slots : Nat} {Q : State → Prop}
/-- from the note of the thrown object x over the frame g -/
def WT (p : Program) (l : Launch) (e : Env) (R : Room) (s : State) (m : MethodId) (args : Array Value) (below : List Frame) (meth : Method) (c : Code) (H : Heap) (locs : List Loc) (cells slots : Nat) (Q : State → Prop) (x : Addr) (g : JFrame) : Prop :=
  ∀ T : State, T.heap = H → Stand p l e R s m args below meth c T locs cells slots → ∃ t, Steps p.tables e below ((T.setTop g).pushFrame (.throwing x)) t ∧ Q t
theorem xcall {y : MethodName} {S : Spec} {P : Array Value → State → Prop} {Qf : Array Value → State → Outcome → State → Prop} {U : State} {a : Array Value} {E : Outcome → State → List Loc → Nat → Nat → Prop}
    (hM : MetFree l y S P (fun _ _ _ _ _ => True) Qf) (X : Stand p l e R s m args below meth c U locs cells slots) {g : JFrame} (hg : g.method = m) (hsize : g.locals.size = c.maxLocals) {ig : Instr} {len : Nat} (hdg : decode c.code g.pc = .ok (ig, len))
    {W maxL : Nat} (hW : 2 * g.monitorRoom + (g.stack.map fun v => v.category).sum ≤ W) {mk : MethodId} (hn : U.methodNamed? y = some mk) {methY : Method} {cY : Code} (hmY : U.vm.method? mk = some methY) (hcY : methY.code = some cY) (hlY : cY.maxLocals = maxL)
    (hini : (Cond.initialized y.cls).before a U = true) (hframes : S.room.frames + 1 ≤ R.frames) (hlocals : W + (maxL + 11) + S.room.locals ≤ R.locals) (hpre : S.pre.before a U = true) (hcells : cells + S.room.cells ≤ R.cells) (hslots : slots + S.room.slots ≤ R.slots)
    (hP : P a (U.calling g mk a)) (hQ : ∀ o t, Qf a (U.calling g mk a) o t → ∃ L k n, xEnd (U.calling g mk a) t L k n ∧ E o t L k n) :
    ∃ o t L k n U', E o t L k n ∧ U'.heap = t.heap ∧ U'.vm = t.vm ∧ Stand p l e R s m args below meth c U' (locs ++ L) (cells + k) (slots + n) ∧
      (∀ v, o = .returned v → Steps p.tables e below (doInvoke e (U.setTop g) [] mk a).1 (U'.setTop { g with pc := g.pc + len, stack := v.toList ++ g.stack })) ∧
      (∀ x, o = .threw x → Steps p.tables e below (doInvoke e (U.setTop g) [] mk a).1 ((U'.setTop g).pushFrame (.throwing x))) := by
  obtain ⟨kY, hkY, -⟩ := className_of_methodNamed hn
  have hinitY : kY.init = .initialized := Cond.initialized_spec (findClass_of_methodNamed hn) hkY hini
  have h : At U g.method c below := by rw [hg]; exact X.here
  have happ : S.appliesLoose y e.platform (U.calling g mk a) = true :=
    Spec.appliesLoose_calling (g := g) h hdg hn hkY hinitY
      (X.room_calling (g := g) (R' := S.room) hsize hmY hcY hframes (by rw [hlY]; omega) hcells hslots) hpre
  obtain ⟨mid, hmid⟩ := h.above
  have hfr : (U.setTop g).frames = (.java g :: mid) ++ below := by rw [State.frames_setTop' g h.top, hmid]; rfl
  obtain ⟨o, s₂, hsteps, -, hend, hq⟩ := Steps.callFree hM p X.admits X.cas X.clock (acts := []) hfr happ hP trivial
  have hq' : Qf a (U.calling g mk a) o s₂ := hq
  rw [State.frames_setTop' g h.top] at hend
  obtain ⟨L, k, n, ⟨hW₂, e2, q2, q3, q4, q5, q6⟩, hE⟩ := hQ _ _ hq'
  have e3 : s₂ = ({ (U.calling g mk a).setFrames s₂.frames with heap := s₂.heap, slotsUsed := s₂.slotsUsed } : State).setVm s₂.vm := by
    have : s₂ = ({ s₂ with vm := (U.calling g mk a).vm } : State).setVm s₂.vm := rfl
    rw [e2] at this
    exact this
  have hW' : U.WarmedH s₂.vm := hW₂
  obtain ⟨g₀, hg0⟩ := Option.isSome_iff_exists.mp h.top
  obtain ⟨r, hr⟩ := State.topJava?_eq_some.mp hg0
  have hr' : (({ U with heap := s₂.heap, slotsUsed := s₂.slotsUsed } : State).setVm s₂.vm).frames = .java g₀ :: r := hr
  have hsame : U.sameButNew ({ U with heap := s₂.heap, slotsUsed := s₂.slotsUsed } : State) L k n := by
    refine ⟨?_, q2, q3, q4, q5, q6⟩
    obtain ⟨t, ht, -⟩ := State.frames_cons hr
    show ({ U with heap := s₂.heap, slotsUsed := s₂.slotsUsed } : State) = { U.setFrames U.frames with heap := s₂.heap, slotsUsed := s₂.slotsUsed }
    rw [State.setFrames_self ht]
  subst hg
  refine ⟨o, s₂, L, k, n, (({ U with heap := s₂.heap, slotsUsed := s₂.slotsUsed } : State).setVm s₂.vm), hE, rfl, rfl,
    ⟨X.admits, X.cas, X.clock, X.frames, X.room, X.hears, X.method, X.code, (X.here.setHeapUsed s₂.heap s₂.slotsUsed).setVm hW'.alike, X.tail, State.WarmedH.trans X.warmed hW', X.limits, X.bytes, X.same.trans (hsame.setVm s.vm)⟩, ?_, ?_⟩
  · intro v ho
    subst ho
    obtain ⟨c₂, i₂, len₂, hc₂, hd₂, hf₂⟩ := hend
    have hcc : c₂ = c := by
      have h1 : s₂.code? g.method = U.code? g.method := by
        rw [State.code?_eq, State.code?_eq, hW'.alike.method?]
      exact Option.some.inj (hc₂.symm.trans (h1.trans h.code))
    subst hcc
    have hlen : len₂ = len := by rw [hdg] at hd₂; cases hd₂; rfl
    subst hlen
    have hs₂ : s₂ = (({ U with heap := s₂.heap, slotsUsed := s₂.slotsUsed } : State).setVm s₂.vm).setTop { g with pc := g.pc + len₂, stack := v.toList ++ g.stack } := by
      refine e3.trans ?_
      rw [hf₂, State.calling_eq h.top, State.setFrames_setFrames, State.setTop_of_frames _ hr', hr]
      rfl
    rw [← hs₂]
    exact hsteps
  · intro x ho
    subst ho
    have hf₂ : s₂.frames = .throwing x :: .java g :: U.frames.tail := hend
    have hs₂ : s₂ = ((({ U with heap := s₂.heap, slotsUsed := s₂.slotsUsed } : State).setVm s₂.vm).setTop g).pushFrame (.throwing x) := by
      refine e3.trans ?_
      rw [hf₂, State.calling_eq h.top, State.setFrames_setFrames, State.pushFrame, State.frames_setTop _ hr', State.setTop_of_frames _ hr', State.setFrames_setFrames, hr]
      rfl
    rw [← hs₂]
    exact hsteps
/-- a call through an object of a method that may throw -/
theorem xcallV {y : MethodName} {ws : List Cond} {rm : Room} {Pc : Array Value → State → Prop} {Qx : xQt} {cc bytes : ByteArray} {nL maxL index n : Nat} {ret : Option FieldType} {own C : String} {b : Addr} {As rest : List Value} {Ts : List Cond}
    (S : CallFix p m c cc nL s args Ts own) (hM : XMet l y ws rm Pc Qx) (hbl : FrameBlind Pc)
    (hR : rm.frames + 1 ≤ R.frames ∧ 8 + (maxL + 11) + rm.locals ≤ R.locals) (hws : ∀ w ∈ ws, ∀ (a' : Array Value) (U : State), s.WarmedH U.vm → w.before a' U = true)
    (hl : (Cond.methodLink own index y).before args s = true) (hin : (Cond.instanceMethod y).before args s = true) (hse : (Cond.selects C y y).before args s = true) (hini : ∀ a' (U : State), s.WarmedH U.vm → (Cond.initialized y.cls).before a' U = true)
    (hcode : ∀ U : State, s.WarmedH U.vm → ∀ mk, U.methodNamed? y = some mk → ∃ methY cY, U.vm.method? mk = some methY ∧ methY.code = some cY ∧ cY.maxLocals = maxL ∧ parseMethodDescriptor y.desc = some methY.sig)
    (hd : y.cls ≠ "java/lang/invoke/MethodHandle" ∧ y.cls ≠ "java/lang/invoke/VarHandle" ∧ (parseMethodDescriptor y.desc).map (fun d => d.parameters.length) = some n)
    (hrecv : ∃ cellB : Cell, H[b]? = some cellB ∧ cellB.vm.isStatics = false ∧ s.vm.findClass C = some cellB.cls) (hPc : ∀ U : State, U.heap = H → s.WarmedH U.vm → Pc (Value.ref b :: As).toArray U)
    {pc : Nat} {ls : Array Slot} {st0 : List Value} (hn : As.length = n) (hsz : ls.size = nL) (hst : st0 = As.reverse ++ .ref b :: rest) (hW : (rest.map fun v => v.category).sum ≤ 8) (hdg : decode cc pc = .ok (.invokevirtual index, 3)) (hcs : cells + rm.cells ≤ R.cells ∧ slots + rm.slots ≤ R.slots)
    (kr : ∀ (v : Option Value) (st₁ t : State) (H1 : Heap) (L : List Loc) (k n : Nat), st₁.heap = H → t.heap = H1 → s.vm.Alike t.vm → Qx (Value.ref b :: As).toArray st₁ (.returned v) t L k n → W p l e R s m args below meth c H1 (locs ++ L) (cells + k) (slots + n) Q (F0 m (pc + 3) ls (v.toList ++ rest)))
    (kt : ∀ (x : Addr) (st₁ t : State) (H1 : Heap) (L : List Loc) (k n : Nat), st₁.heap = H → t.heap = H1 → s.vm.Alike t.vm → Qx (Value.ref b :: As).toArray st₁ (.threw x) t L k n → WT p l e R s m args below meth c H1 (locs ++ L) (cells + k) (slots + n) Q x (F0 m pc ls rest)) :
    W p l e R s m args below meth c H locs cells slots Q (F0 m pc ls st0) := by
  obtain ⟨hx, hb, hml, ho, -⟩ := S
  obtain ⟨cellB, hcB, hoB, hclB⟩ := hrecv
  intro T hT X
  obtain ⟨mk, methM, hnamed, hmethM, hstM, habM⟩ := Cond.instanceMethod_spec hin
  obtain ⟨c2, r2, m2, q1, q2, q3, q4, kP, hkP, hkPi⟩ := Cond.selects_spec hse
  cases hclB.symm.trans q1
  cases (State.methodFound?_of_named hnamed ⟨hd.1, hd.2.1⟩).symm.trans q2
  cases hnamed.symm.trans q3
  have hselP : selectMethod e.platform s.vm cellB.cls mk = .method mk := by rw [Launch.admits_selectMethod X.admits]; exact q4
  obtain ⟨methY, cY, hmY, hcY, hlY, hsig⟩ := hcode s (State.WarmedH.refl s) mk hnamed
  cases hmethM.symm.trans hmY
  have hlen : As.length = methM.sig.parameters.length := by
    have h2 := hd.2.2
    rw [hsig] at h2
    rw [hn]
    exact (Option.some.inj h2).symm
  obtain ⟨vm₁, X₁, hstep₁⟩ := X.invokevirtual hx ho hl hnamed hmethM hstM hkP hkPi ⟨hd.1, hd.2.1⟩ (a := b) (cell := cellB) (by rw [hT]; exact hcB)
    (fun z h => by rw [h] at hoB; cases hoB) hselP hmethM habM hkP hkPi (g := F0 m pc ls st0) rfl (argsL := As) (rest := rest) hlen hst (by rw [hb]; exact hdg)
  obtain ⟨methY', cY', hmY', hcY', hlY', -⟩ := hcode (T.setVm vm₁) X₁.warmed mk (X₁.named hnamed)
  obtain ⟨o, t, L, k, n', U', hE, e1, e2, X', hret, hthr⟩ := xcall (E := fun o t L k n => Qx (Value.ref b :: As).toArray ((T.setVm vm₁).calling (F0 m pc ls rest) mk (Value.ref b :: As).toArray) o t L k n) hM X₁ (g := F0 m pc ls rest) rfl (hsz.trans hml.symm) (by rw [hb]; exact hdg) (W := 8) (maxL := maxL) (lv_room hW) (X₁.named hnamed) hmY' hcY' hlY'
    (hini _ _ X₁.warmed) hR.1 hR.2 (atoms_intro fun w hw => hws w hw _ _ X₁.warmed) hcs.1 hcs.2 (hbl _ _ _ _ (hPc (T.setVm vm₁) hT X₁.warmed)) (fun o t hq => hq)
  have hal : s.vm.Alike t.vm := by rw [← e2]; exact X'.warmed.alike
  cases o with
  | returned v =>
    obtain ⟨t2, a1, b1⟩ := kr v ((T.setVm vm₁).calling (F0 m pc ls rest) mk (Value.ref b :: As).toArray) t U'.heap L k n' hT e1.symm hal hE U' rfl X'
    exact ⟨t2, hstep₁ _ fun acts => by rw [doInvoke_state]; exact (hret v rfl).trans a1, b1⟩
  | threw x =>
    obtain ⟨t2, a1, b1⟩ := kt x ((T.setVm vm₁).calling (F0 m pc ls rest) mk (Value.ref b :: As).toArray) t U'.heap L k n' hT e1.symm hal hE U' rfl X'
    exact ⟨t2, hstep₁ _ fun acts => by rw [doInvoke_state]; exact (hthr x rfl).trans a1, b1⟩
/-- the object leaves the method: no entry of its table covers the place -/
theorem WT.out {Qx : xQt} {x : Addr} {pc : Nat} {ls : Array Slot} {rest : List Value} (hout : ∀ z ∈ c.exceptionTable.toList, covers z pc = false) (hlk : meth.locks = false) (hq : ∀ t : State, t.heap = H → s.WarmedH t.vm → Qx args s (.threw x) t locs cells slots) :
    WT p l e R s m args below meth c H locs cells slots (xMQ below Qx args s) x (F0 m pc ls rest) := by
  intro T hT X
  obtain ⟨h1, h2, h3, h4, h5⟩ := X.leaveThrown x (g := F0 m pc ls rest) rfl rfl rfl hout
  exact ⟨_, h1, .threw x, h2, h3, locs, cells, slots, ⟨h4, h5⟩, hq _ hT h4⟩
/-- athrow -/
theorem W.athrow {x : Addr} {cc : ByteArray} {pc : Nat} {ls : Array Slot} {rest : List Value} (hx : p.tables.exec = Jvm.exec) (hb : c.code = cc) (hdg : decode cc pc = .ok (.athrow, 1))
    (k : WT p l e R s m args below meth c H locs cells slots Q x (F0 m pc ls rest)) : W p l e R s m args below meth c H locs cells slots Q (F0 m pc ls (.ref x :: rest)) := by
  intro T hT X
  obtain ⟨t, h1, h2⟩ := k T hT X
  refine ⟨t, ?_, h2⟩
  jvm_step X.here [hx, hb, hdg, athrow.wp_sem]
  exact h1
/-- what the search gives, and the tables that it leaves -/
def xFinds (e : Env) (s : State) (f : JFrame) (a : Addr) (h : Handler) (vm' : Vm) : Prop :=
  ∀ (Q : Handler → Jvm.Pre) (E : Jvm.CtlPost) (d : Bool) (acts : List Action), Sem.wp (findHandler f a) Q E e d acts s ↔ Q h d acts (s.setVm vm')
theorem xgo_link {Q : Handler → Jvm.Pre} {E : Jvm.CtlPost} {e : Env} {d : Bool} {acts : List Action} {s : State} {f : JFrame} {a : Addr} {x : ExceptionTableEntry} {t : List ExceptionTableEntry} {c : ClassId} {cell : Cell} (hx : covers x f.pc = true) (h0 : x.catchType ≠ 0)
    (hl : s.vm.ClassLinks e.platform f.method.cls x.catchType c) (hcell : s.heap[a]? = some cell) (hobj : ∀ k, cell.vm ≠ .statics k)
    (hk : ∃ k, s.vm.classes[cell.cls]? = some k) (hc : ∃ k, s.vm.classes[c]? = some k) :
    Sem.wp (findHandler.go f a (x :: t)) Q E e d acts s ↔ (if s.vm.assignable cell.cls c = true then Q (.found x.handlerPc) d acts (s.setVm (s.vm.noted f.method.cls x.catchType (.cls c))) else Sem.wp (findHandler.go f a t) Q E e d acts (s.setVm (s.vm.noted f.method.cls x.catchType (.cls c)))) := by
  simp only [covers] at hx
  obtain ⟨ha, ht⟩ := (resolveClass_links e.toSetting hl).op (op := VmOp.resolveClass f.method.cls x.catchType) rfl
  have hal : s.vm.Alike (s.vm.noted f.method.cls x.catchType (.cls c)) := (Vm.Alike.refl s.vm).noted _ _ _
  obtain ⟨k1, hk1⟩ := hk
  obtain ⟨k2, hk2⟩ := hc
  obtain ⟨k1', hk1', -⟩ := hal.2.2 _ _ hk1
  obtain ⟨k2', hk2', -⟩ := hal.2.2 _ _ hk2
  by_cases hfit : s.vm.assignable cell.cls c = true
  · have hfit' : (s.vm.noted f.method.cls x.catchType (.cls c)).assignable cell.cls c = true := by rw [hal.assignable]; exact hfit
    simp [findHandler.go, hx, h0, ha, ht, hcell, hobj, hk1', hk2', hfit', hfit, VmOp.dirties, VmOp.acts]
  · have hfit' : ¬ (s.vm.noted f.method.cls x.catchType (.cls c)).assignable cell.cls c = true := by rw [hal.assignable]; exact hfit
    simp [findHandler.go, hx, h0, ha, ht, hcell, hobj, hk1', hk2', hfit', hfit, VmOp.dirties, VmOp.acts]
theorem xstep_catch {e : Env} {s : State} {a : Addr} {f : JFrame} {r : List Frame} {pc : Nat} {vm' : Vm} (hfind : xFinds e s f a (.found pc) vm') :
    (stepThrowing e s a (.java f :: r)).Is ((s.setVm vm').setFrames (.java { f with pc := pc, stack := [.ref a] } :: r)) [] := by
  simp only [stepThrowing, searchFrame, vmDo]
  generalize hr : Sem.go _ e false [] s = res
  obtain ⟨as, rfl, ha⟩ := Sem.eq_ok_of hr (a := Handler.found pc) (s' := s.setVm vm') (acts' := []) (by simp [hfind _ _ _ _])
  exact ⟨rfl, ha⟩
theorem xcaught {tb : Tables} {e : Env} {s target : State} {g : JFrame} {c : Code} {below : List Frame} {a : Addr} (h : At s g.method c below) {pc : Nat} {vm' : Vm}
    (hfind : xFinds e ((s.setTop g).pushFrame (.throwing a)) g a (.found pc) vm') (hrest : Steps tb e below ((s.setVm vm').setTop { g with pc := pc, stack := [.ref a] }) target) :
    Steps tb e below ((s.setTop g).pushFrame (.throwing a)) target := by
  obtain ⟨hgo, hw⟩ := h.throwing a
  refine Steps.head hgo hw ?_
  rw [stepThread_throwing (frames_entered h.top _), (xstep_catch (s := (s.setTop g).pushFrame (.throwing a)) hfind).1]
  obtain ⟨g₀, hg⟩ := Option.isSome_iff_exists.mp h.top
  obtain ⟨r, hr⟩ := State.topJava?_eq_some.mp hg
  have hr' : (s.setVm vm').frames = .java g₀ :: r := hr
  rw [State.setTop_of_frames _ hr'] at hrest
  have e1 : ∀ (u : State) (F G : List Frame), ((u.setFrames F).setVm vm').setFrames G = (u.setVm vm').setFrames G := by
    intro u F G
    have h1 : (u.setFrames F).setVm vm' = (u.setVm vm').setFrames F := rfl
    rw [h1, State.setFrames_setFrames]
  rw [hr, List.tail_cons, State.pushFrame, e1, State.setTop_of_frames _ hr, e1]
  exact hrest
theorem xgo_skip {Q : Handler → Jvm.Pre} {E : Jvm.CtlPost} {e : Env} {d : Bool} {acts : List Action} {s : State} {f : JFrame} {a : Addr} : ∀ (ps t : List ExceptionTableEntry), (∀ y ∈ ps, covers y f.pc = false) → (Sem.wp (findHandler.go f a (ps ++ t)) Q E e d acts s ↔ Sem.wp (findHandler.go f a t) Q E e d acts s)
  | [], _, _ => Iff.rfl
  | y :: ys, t, h => by
    rw [List.cons_append, W.findHandler_go_skip (h y List.mem_cons_self)]
    exact xgo_skip ys t (fun z hz => h z (List.mem_cons_of_mem _ hz))
end XC
