/-! the component's contracts: starts, ends, calls -/
set_option maxRecDepth 100000
abbrev cPre (D : va_G) (cA : Nat → ClassId) (ks : List Nat) (ad : Nat → Nat) (A : Nat → Prop) (st : CS) (As : List Value) : Array Value → State → Prop := va_Pc As (fun U => cW D cA ks ad st U.heap ∧ va_K D cCl (cTys cA) U ∧ cN U ∧ ∀ q, U.heap.size ≤ q → A q)
def cQ (r : Option Value) (D : va_G) (cA : Nat → ClassId) (ks : List Nat) (ad : Nat → Nat) (A : Nat → Prop) (st : CS) : Array Value → State → Outcome → State → Prop := fun _ s0 o t => o = .returned r ∧ cW D cA ks ad st t.heap ∧ va_F A s0 t
abbrev cR (l : Launch) (y : MethodName) (bytes : ByteArray) (maxL : Nat) (ret : Option FieldType) (d : Nat) (D : va_G) (cA : Nat → ClassId) (ks : List Nat) (ad : Nat → Nat) (A : Nat → Prop) (st : CS) (As : List Value) (r : Int32) : Prop :=
  Met l y (ws_ y bytes maxL ret) (k2_rm d (40 * d)) (cPre D cA ks ad A st As) (QcRead r) 0 0 (fun _ => False)
abbrev cV (l : Launch) (y : MethodName) (bytes : ByteArray) (maxL : Nat) (ret : Option FieldType) (d : Nat) (D : va_G) (cA : Nat → ClassId) (ks : List Nat) (ad : Nat → Nat) (A : Nat → Prop) (st : CS) (As : List Value) (r : Option Value) (st' : CS) : Prop :=
  Met l y (ws_ y bytes maxL ret) (k2_rm d (40 * d)) (cPre D cA ks ad A st As) (cQ r D cA ks ad A st') 0 0 A
abbrev cWV (p : Program) (l : Launch) (e : Env) (R : Room) (s : State) (m : MethodId) (args : Array Value) (below : List Frame) (meth : Method) (c : Code) (D : va_G) (cA : Nat → ClassId) (ks : List Nat) (ad : Nat → Nat) (A : Nat → Prop) (r : Option Value) (st' : CS) (H : Heap) (locs : List Loc) (g : JFrame) : Prop := W p l e R s m args below meth c H locs 0 0 (MQ below (cQ r D cA ks ad A st') args s 0 0 A) g
section CMET
variable {p : Program} {l : Launch} {e : Env} {R : Room} {s : State} {m : MethodId} {args : Array Value} {below : List Frame} {meth : Method} {c : Code} {H : Heap} {locs : List Loc} {cells slots d : Nat} {Q : State → Prop}
variable {cc : ByteArray} {pc nL : Nat} {ls : Array Slot} {rest : List Value} {D : va_G} {cA : Nat → ClassId} {ks : List Nat} {ad : Nat → Nat} {A : Nat → Prop} {st st' : CS} {H0 : Heap} {own : String}
variable {y : MethodName} {bytes : ByteArray} {maxL index n : Nat} {ret : Option FieldType} {As st0 : List Value} {dk : Nat}
theorem cc_blind : FrameBlind (cPre D cA ks ad A st As) := fun a U g mk q => ⟨q.1, q.2.1, va_K.moved (u := U) (U := U.calling g mk a) (Vm.Alike.refl U.vm) q.2.2.1, cN.same (s := U) (U := U.calling g mk a) rfl q.2.2.2.1, q.2.2.2.2⟩
theorem cc_pre (C : cC p R d s m args c cc nL own D cA A) (hP : cW D cA ks ad st H) (hS : s.heap.size ≤ H.size) : ∀ U : State, U.heap = H → s.WarmedH U.vm → cPre D cA ks ad A st As As.toArray U :=
  fun U hU hW => ⟨rfl, by rw [hU]; exact hP, va_K.moved hW.alike C.2.2.2.2.2.2.1, cN.warm hW C.2.2.2.2.2.2.2.1, fun q h => C.2.2.2.2.2.2.2.2 q (Nat.le_trans hS (by rw [← hU]; exact h))⟩
theorem cc_recv (C : cC p R d s m args c cc nL own D cA A) (hP : cW D cA ks ad st H) {k ci : Nat} {fs : List Value} (hk : k ∈ ks) (he : cg cA ad st k = .inr (ci, fs)) {q : vw_C} (hcl : cCl[ci]? = some q) : ∃ cellB : Cell, H[ad k]? = some cellB ∧ cellB.vm.isStatics = false ∧ s.vm.findClass q.1 = some cellB.cls := by
  obtain ⟨i, hi⟩ := List.getElem?_of_mem hk
  exact va_recv (q := q) C.2.2.2.2.2.2.1 hP.1 (ci := ci) (q0 := i) (fs := fs) hcl (by rw [kl_at hi, he])
theorem cc_ofR {r : Int32} (hy : plainName y.cls = true) (hyc : y.cls = own) (hnl : (lg_sl As).length ≤ maxL)
    (body : ∀ (p : Program) (e : Env) (s : State) (m : MethodId) (below : List Frame) (meth : Method) (c : Code) (R : Room) (args : Array Value) (ls : Array Slot), cC p R d s m args c bytes maxL own D cA A → meth.sig.returnType = ret → meth.locks = false → cW D cA ks ad st s.heap → lv_has ls maxL (lv_args 0 As) → (0 ≤ R.cells ∧ 0 ≤ R.slots) →
      W p l e R s m args below meth c s.heap [] 0 0 (MQ below (QcRead r) args s 0 0 (fun _ => False)) (F0 m 0 ls [])) : cR l y bytes maxL ret d D cA ks ad A st As r := by
  refine Met.ofW (cc := bytes) (maxL := maxL) (ret := ret) hy rfl ?_
  intro p e s m args below meth c s₁ B hml hv
  obtain ⟨rfl, hP, hK, hN, hA⟩ := hv
  have hts := atoms_spec (ws := ws_ y bytes maxL ret) B.pre
  have hts : ∀ w ∈ lw_all, w.before _ s = true := fun w h => hts w (List.mem_cons_of_mem _ h)
  have hown : s.vm.findClass y.cls = some m.cls := findClass_of_methodNamed B.named
  rw [hyc] at hown
  rw [lg_entry_eq]
  exact body p e s m below meth c _ _ _ ⟨B.exec, B.bytes, hml, hown, hts, ⟨Nat.le_refl _, Nat.le_refl _⟩, hK, hN, hA⟩ B.returns B.notSynchronized hP (lv_entry _ hnl) ⟨Nat.zero_le _, Nat.zero_le _⟩
theorem cc_ofV {r : Option Value} (hy : plainName y.cls = true) (hyc : y.cls = own) (hnl : (lg_sl As).length ≤ maxL)
    (body : ∀ (p : Program) (e : Env) (s : State) (m : MethodId) (below : List Frame) (meth : Method) (c : Code) (R : Room) (args : Array Value) (ls : Array Slot), cC p R d s m args c bytes maxL own D cA A → meth.sig.returnType = ret → meth.locks = false → cW D cA ks ad st s.heap → va_S A s.heap s.heap [] → lv_has ls maxL (lv_args 0 As) → (0 ≤ R.cells ∧ 0 ≤ R.slots) →
      W p l e R s m args below meth c s.heap [] 0 0 (MQ below (cQ r D cA ks ad A st') args s 0 0 A) (F0 m 0 ls [])) : cV l y bytes maxL ret d D cA ks ad A st As r st' := by
  refine Met.ofW (cc := bytes) (maxL := maxL) (ret := ret) hy rfl ?_
  intro p e s m args below meth c s₁ B hml hv
  obtain ⟨rfl, hP, hK, hN, hA⟩ := hv
  have hts := atoms_spec (ws := ws_ y bytes maxL ret) B.pre
  have hts : ∀ w ∈ lw_all, w.before _ s = true := fun w h => hts w (List.mem_cons_of_mem _ h)
  have hown : s.vm.findClass y.cls = some m.cls := findClass_of_methodNamed B.named
  rw [hyc] at hown
  rw [lg_entry_eq]
  exact body p e s m below meth c _ _ _ ⟨B.exec, B.bytes, hml, hown, hts, ⟨Nat.le_refl _, Nat.le_refl _⟩, hK, hN, hA⟩ B.returns B.notSynchronized hP va_S.rf (lv_entry _ hnl) ⟨Nat.zero_le _, Nat.zero_le _⟩
theorem cc_viret {v r : Int32} (hx : p.tables.exec = Jvm.exec) (hb : c.code = cc) (hr : meth.sig.returnType = some .int) (hlk : meth.locks = false) (h : some (v, st) = some (r, st')) (hP : cW D cA ks ad st H) (hS : va_S A s.heap H locs) (hdg : decode cc pc = .ok (.ireturn, 1)) : cWV p l e R s m args below meth c D cA ks ad A (some (.int r)) st' H locs (F0 m pc ls [.int v]) := by
  cases h
  exact W.iret hx hb hr (fun t ht _ => ⟨rfl, by rw [ht]; exact hP, hS.F ht⟩) hS.2.2 hdg
theorem cc_vzret {v r : Int32} (hx : p.tables.exec = Jvm.exec) (hb : c.code = cc) (hr : meth.sig.returnType = some .boolean) (hlk : meth.locks = false) (hz : narrow .boolean (.int v) = .int v) (h : some (v, st) = some (r, st')) (hP : cW D cA ks ad st H) (hS : va_S A s.heap H locs) (hdg : decode cc pc = .ok (.ireturn, 1)) : cWV p l e R s m args below meth c D cA ks ad A (some (.int r)) st' H locs (F0 m pc ls [.int v]) := by
  cases h
  exact W.zret hx hb hr hz (fun t ht _ => ⟨rfl, by rw [ht]; exact hP, hS.F ht⟩) hS.2.2 hdg
theorem cc_vret (hx : p.tables.exec = Jvm.exec) (hb : c.code = cc) (hr : meth.sig.returnType = none) (hlk : meth.locks = false) (h : some st = some st') (hP : cW D cA ks ad st H) (hS : va_S A s.heap H locs) (hdg : decode cc pc = .ok (.return_, 1)) : cWV p l e R s m args below meth c D cA ks ad A none st' H locs (F0 m pc ls []) := by
  cases h
  exact W.vret hx hb hr (fun t ht _ => ⟨rfl, by rw [ht]; exact hP, hS.F ht⟩) hS.2.2 hdg
/-- calls through an object of the class that declares the method -/
theorem cc_cR {r : Int32} {b : Addr} {Cn : String} (C : cC p R d s m args c cc nL own D cA A) (hP : cW D cA ks ad st H) (hsz0 : s.heap.size ≤ H.size) (hM : cR l y bytes maxL ret dk D cA ks ad A st (.ref b :: As) r) (cw : CallW R s args own Cn index y bytes maxL ret (ws_ y bytes maxL ret) (k2_rm dk (40 * dk)) 0 0 n)
    (hrecv : ∃ cellB : Cell, H[b]? = some cellB ∧ cellB.vm.isStatics = false ∧ s.vm.findClass Cn = some cellB.cls) (hn : As.length = n) (hsz : ls.size = nL) (hst : st0 = As.reverse ++ .ref b :: rest) (hW : (rest.map fun v => v.category).sum ≤ 8) (hdg : decode cc pc = .ok (.invokevirtual index, 3)) (hcs : cells ≤ R.cells ∧ slots ≤ R.slots)
    (kk : W p l e R s m args below meth c H locs cells slots Q (F0 m (pc + 3) ls (.int r :: rest))) : W p l e R s m args below meth c H locs cells slots Q (F0 m pc ls st0) :=
  W.callR (W.runV (As := As) (rest := rest) ⟨C.1, C.2.1, C.2.2.1, C.2.2.2.1, C.2.2.2.2.1⟩ hM cw ⟨cc_blind, hrecv, cc_pre C hP hsz0⟩ rfl hn hsz hst (lv_room hW) hdg hcs) kk
theorem cc_end {r : Option Value} {a : Array Value} (hS : va_S A H0 H locs) (hr : CallRun p l e R s m args below meth c H locs cells slots 0 0 (F0 m pc ls st0) rest (cQ r D cA ks ad A st' a) A)
    (kk : ∀ (H1 : Heap) (locs1 : List Loc), cW D cA ks ad st' H1 → va_S A H0 H1 locs1 → W p l e R s m args below meth c H1 locs1 cells slots Q (F0 m (pc + 3) ls (r.toList ++ rest))) : W p l e R s m args below meth c H locs cells slots Q (F0 m pc ls st0) := by
  intro T hT X
  obtain ⟨v, st₀, t, T', L, h0, X', hL, e1, ⟨hv, hw, hz, hk⟩, st⟩ := hr T hT X
  cases hv
  rw [h0] at hz hk
  obtain ⟨t2, a1, b1⟩ := kk T'.heap (locs ++ L) (by rw [e1]; exact hw)
    ⟨Nat.le_trans hS.1 (by rw [e1]; exact hz), fun q h1 h2 => by rw [e1, hk q (Nat.lt_of_lt_of_le h1 hS.1) h2]; exact hS.2.1 q h1 h2, fun q hq => by
      rcases List.mem_append.mp hq with h | h
      · exact hS.2.2 q h
      · exact hL q h⟩ T' rfl X'
  exact ⟨t2, st t2 a1, b1⟩
theorem cc_cV {r : Option Value} {b : Addr} {Cn : String} (C : cC p R d s m args c cc nL own D cA A) (hP : cW D cA ks ad st H) (hS : va_S A s.heap H locs) (hM : cV l y bytes maxL ret dk D cA ks ad A st (.ref b :: As) r st') (cw : CallW R s args own Cn index y bytes maxL ret (ws_ y bytes maxL ret) (k2_rm dk (40 * dk)) 0 0 n)
    (hrecv : ∃ cellB : Cell, H[b]? = some cellB ∧ cellB.vm.isStatics = false ∧ s.vm.findClass Cn = some cellB.cls) (hn : As.length = n) (hsz : ls.size = nL) (hst : st0 = As.reverse ++ .ref b :: rest) (hW : (rest.map fun v => v.category).sum ≤ 8) (hdg : decode cc pc = .ok (.invokevirtual index, 3)) (hcs : cells ≤ R.cells ∧ slots ≤ R.slots)
    (kk : ∀ (H1 : Heap) (locs1 : List Loc), cW D cA ks ad st' H1 → va_S A s.heap H1 locs1 → W p l e R s m args below meth c H1 locs1 cells slots Q (F0 m (pc + 3) ls (r.toList ++ rest))) : W p l e R s m args below meth c H locs cells slots Q (F0 m pc ls st0) :=
  cc_end hS (W.runV (locs := locs) (cells := cells) (slots := slots) (p := p) (e := e) (below := below) (meth := meth) (As := As) (rest := rest) (g := F0 m pc ls st0) ⟨C.1, C.2.1, C.2.2.1, C.2.2.2.1, C.2.2.2.2.1⟩ hM cw ⟨cc_blind, hrecv, cc_pre C hP hS.1⟩ rfl hn hsz hst (lv_room hW) hdg hcs) kk
end CMET
