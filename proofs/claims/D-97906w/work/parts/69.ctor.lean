/-! constructors: rows; Facts, Trace, Shelf, Town -/
set_option maxRecDepth 100000
section
variable {p : Program} {l : Launch} {e : Env} {R : Room} {s : State} {m : MethodId} {args : Array Value} {below : List Frame} {meth : Method} {c : Code} {H : Heap} {locs : List Loc} {cells slots d : Nat} {Q : State → Prop} {cc : ByteArray} {pc nL : Nat} {ls : Array Slot} {rest : List Value} {D : va_G} {cl : List vw_C} {tys : List (ClassId × FieldType)} {cA : Nat → ClassId} {own : String} {index : Nat} {n0 N N0 i : Nat} {g : Nat → va_E} {adK adV : Nat → Nat}
/-- all cells made since n0, in a row -/
def nA (n0 : Nat) : Nat → Prop := fun q => n0 ≤ q
def nW (D : va_G) (cl : List vw_C) (n0 N : Nat) (g : Nat → va_E) (H : Heap) : Prop := va_P D cl (kw N (fun i => n0 + i) g) H ∧ H.size = n0 + N
theorem nW_D : va_D (nA n0) (kw N (fun i => n0 + i) g) := by
  have h := kw_D (N := N) (ad := fun i => n0 + i) (g := g) (fun i j _ _ h => Nat.add_left_cancel h)
  refine ⟨h.1, fun k q hq => ?_⟩
  obtain ⟨j, -, hj⟩ := h.2 k q hq
  rw [hj]
  exact Nat.le_add_right _ _
abbrev gC (p : Program) (R : Room) (d : Nat) (s : State) (m : MethodId) (args : Array Value) (c : Code) (cc : ByteArray) (nL : Nat) (own : String) (D : va_G) (cl : List vw_C) (tys : List (ClassId × FieldType)) (n0 : Nat) : Prop :=
  p.tables.exec = Jvm.exec ∧ c.code = cc ∧ c.maxLocals = nL ∧ s.vm.findClass own = some m.cls ∧ (∀ w ∈ lw_all, w.before args s = true) ∧ (d ≤ R.frames ∧ 40 * d ≤ R.locals) ∧ va_K D cl tys s ∧ n0 ≤ s.heap.size
theorem nW_new {H1 : Heap} {e1 : va_E} (hP : nW D cl n0 N g H) (ho : ∀ x, x < H.size → H1[x]? = H[x]?) (hz : H1.size = H.size + 1) (he : va_at D cl (H.size, e1) H1) : nW D cl n0 (N + 1) (va_up g N e1) H1 := by
  refine ⟨fun k q hq => ?_, by rw [hz, hP.2]; omega⟩
  by_cases hk : k < N
  · rw [kw_at (by omega)] at hq
    cases hq
    have h1 := hP.1 k (n0 + k, g k) (kw_at hk)
    have h2 : va_up g N e1 k = g k := by simp [va_up, Nat.ne_of_lt hk]
    rw [h2]
    exact h1.kept (ho _ h1.lt)
  · have hk2 : k < N + 1 := by
      rcases Nat.lt_or_ge k (N + 1) with h | h
      · exact h
      · have h3 : (kw (N + 1) (fun i => n0 + i) (va_up g N e1))[k]? = none := by simp [kw]; omega
        rw [h3] at hq; cases hq
    have hkN : k = N := by omega
    subst hkN
    rw [kw_at (by omega)] at hq
    cases hq
    rw [hP.2] at he
    simpa [va_up] using he
theorem nn_new {ci Nf N' cells' slots' : Nat} {Cn : String} {T : u_T} {ty0 : Nat → FieldType} {fs : List Value} {g' : Nat → va_E} (K : gC p R d s m args c cc nL own D cl tys n0) (hP : nW D cl n0 N g H) (hS : va_S (nA n0) s.heap H locs) (hcl : cl[ci]? = some (Cn, T, Nf)) (hin : ∀ w ∈ u_ws Cn T Nf, w ∈ lw_all) (hty : ∀ k, k < Nf → parseFieldDescriptor (T k).2.2.1 = some (ty0 k)) (hl : Cond.classLink own index Cn ∈ lw_all) (hinst : Cond.instantiable Cn Nf ∈ lw_all) (hini : Cond.initialized Cn ∈ lw_all) (hfs : ∀ j, j < Nf → defaultValue (ty0 j) = vp_V fs j) (hN : N' = N + 1) (hc' : cells' = cells + 1) (hs' : slots' = slots + Nf) (hg : va_up g N (.inr (ci, fs)) = g') (hcells : cells' ≤ R.cells) (hslots : slots' ≤ R.slots) (hdg : decode cc pc = .ok (.new index, 3))
    (kk : ∀ H1 : Heap, nW D cl n0 N' g' H1 → va_S (nA n0) s.heap H1 locs → W p l e R s m args below meth c H1 locs cells' slots' Q (F0 m (pc + 3) ls (.ref (n0 + N) :: rest))) : W p l e R s m args below meth c H locs cells slots Q (F0 m pc ls rest) := by
  subst hN; subst hc'; subst hs'; subst hg
  obtain ⟨hx, hb, -, hown, hts, -, hK, hA⟩ := K
  have hKn := hK.1 ci _ hcl
  refine W.newcK hx hb hown (hts _ hl) (hts _ hinst) (hts _ hini) rfl hdg hcells hslots hKn.2.1 rfl fun H1 kC hkC e1 z1 o1 => ?_
  have hH := hP.2
  rw [hH]
  exact kk H1 (nW_new hP o1 z1 ⟨_, hcl, (u_born ty0 hts hin hKn hkC e1 hty).to hfs⟩) ⟨Nat.le_trans hS.1 (by omega), fun x h1 h2 => (o1 x (Nat.lt_of_lt_of_le h1 hS.1)).trans (hS.2.1 x h1 h2), hS.2.2⟩
theorem nn_newa {atype : ArrayType} {j L N' cells' slots' : Nat} {x : ClassId} {n : Int32} {g' : Nat → va_E} (K : gC p R d s m args c cc nL own D cl tys n0) (hP : nW D cl n0 N g H) (hS : va_S (nA n0) s.heap H locs) (harr : Cond.arrayClass (newarray.typeOf atype) ∈ lw_all) (hj : tys[j]? = some (x, newarray.typeOf atype)) (ha : ∀ y : ClassId, vp_cell y (L, .inl (fun _ => 0)) = arrV y L (fun _ => defaultValue (newarray.typeOf atype))) (hn : ¬ n < 0) (hL : n.toNatClampNeg = L) (hbytes : L * componentBytes (newarray.typeOf atype) ≤ 536870912) (hN : N' = N + 1) (hc' : cells' = cells + 1) (hs' : slots' = slots + L) (hg : va_up g N (.inl (x, L, .inl (fun _ => 0))) = g') (hcells : cells' ≤ R.cells) (hslots : slots' ≤ R.slots) (hdg : decode cc pc = .ok (.newarray atype, 2))
    (kk : ∀ H1 : Heap, nW D cl n0 N' g' H1 → va_S (nA n0) s.heap H1 locs → W p l e R s m args below meth c H1 locs cells' slots' Q (F0 m (pc + 2) ls (.ref (n0 + N) :: rest))) : W p l e R s m args below meth c H locs cells slots Q (F0 m pc ls (.int n :: rest)) := by
  subst hN; subst hc'; subst hs'; subst hg
  obtain ⟨hx, hb, -, hown, hts, -, hK, hA⟩ := K
  refine va_newaK hx hb (hts _ harr) rfl hdg rfl hn hL hbytes hcells hslots rfl fun H1 cA' e1 z1 o1 hAr hNm => ?_
  have hra := (hK.2 j _ hj).2
  have hxe : cA' = x := by
    have h1 : s.vm.findClass ("[" ++ (newarray.typeOf atype).toString) = some x := by cases atype <;> exact hra
    exact Option.some.inj (hNm.symm.trans h1)
  subst hxe
  have hH := hP.2
  rw [hH]
  refine kk H1 (nW_new hP o1 z1 ?_) ⟨Nat.le_trans hS.1 (by omega), fun q h1 h2 => (o1 q (Nat.lt_of_lt_of_le h1 hS.1)).trans (hS.2.1 q h1 h2), hS.2.2⟩
  show H1[H.size]? = some (vp_cell _ _)
  rw [ha]
  exact e1
theorem nn_newq {j L N' cells' slots' : Nat} {C : String} {x : ClassId} {n : Int32} {g' : Nat → va_E} (K : gC p R d s m args c cc nL own D cl tys n0) (hP : nW D cl n0 N g H) (hS : va_S (nA n0) s.heap H locs) (hl : Cond.classLink own index C ∈ lw_all) (hov : va_AO C s) (hj : tys[j]? = some (x, .object C)) (hn : ¬ n < 0) (hL : n.toNatClampNeg = L) (hbytes : L * 4 ≤ 536870912) (hN : N' = N + 1) (hc' : cells' = cells + 1) (hs' : slots' = slots + L) (hg : va_up g N (.inl (x, L, .inr (.inr (.inr (.inr (fun _ => none)))))) = g') (hcells : cells' ≤ R.cells) (hslots : slots' ≤ R.slots) (hdg : decode cc pc = .ok (.anewarray index, 3))
    (kk : ∀ H1 : Heap, nW D cl n0 N' g' H1 → va_S (nA n0) s.heap H1 locs → W p l e R s m args below meth c H1 locs cells' slots' Q (F0 m (pc + 3) ls (.ref (n0 + N) :: rest))) : W p l e R s m args below meth c H locs cells slots Q (F0 m pc ls (.int n :: rest)) := by
  subst hN; subst hc'; subst hs'; subst hg; subst hL
  obtain ⟨hx, hb, -, hown, hts, -, hK, hA⟩ := K
  refine W.anew hx hb hown (hts _ hl) (va_AO.use hov) rfl hdg rfl hn hbytes hcells hslots fun cA' kA comp f1 f2 f3 f4 => ?_
  generalize hH1 : H.push ({ cls := cA', slots := Array.replicate n.toNatClampNeg .null, vm := .none } : Cell) = H1
  have z1 : H1.size = H.size + 1 := by rw [← hH1, Array.size_push]
  have e1 : H1[H.size]? = some (arrV cA' n.toNatClampNeg (fun _ => .null)) := by rw [← hH1, Array.getElem?_push_size, ← arrV_new]
  have o1 : ∀ q : Nat, q < H.size → H1[q]? = H[q]? := fun q hq => by rw [← hH1, Array.getElem?_push, if_neg (Nat.ne_of_lt hq)]
  obtain ⟨kA', comp', h1, h2, h3, h4⟩ := (hK.2 j _ hj).2
  have hxe : cA' = x := Option.some.inj (f1.symm.trans h4)
  subst hxe
  have hH := hP.2
  rw [hH]
  refine kk H1 (nW_new hP o1 z1 ?_) ⟨Nat.le_trans hS.1 (by omega), fun q h1 h2 => (o1 q (Nat.lt_of_lt_of_le h1 hS.1)).trans (hS.2.1 q h1 h2), hS.2.2⟩
  show H1[H.size]? = some (vp_cell _ _)
  rw [vp_cell_q]
  exact e1
theorem nS_self (hS : va_S (nA n0) s.heap H locs) : va_S (nA n0) H H locs := ⟨Nat.le_refl _, fun _ _ _ => rfl, hS.2.2⟩
theorem nS_trans {H1 : Heap} {locs1 : List Loc} (hS : va_S (nA n0) s.heap H locs) (h : va_S (nA n0) H H1 locs1) : va_S (nA n0) s.heap H1 locs1 := ⟨Nat.le_trans hS.1 h.1, fun q h1 h2 => (h.2.1 q (Nat.lt_of_lt_of_le h1 hS.1) h2).trans (hS.2.1 q h1 h2), h.2.2⟩
theorem nn_putF {ci Nf : Nat} {Cn ref : String} {T : u_T} {ty0 : Nat → FieldType} {fs : List Value} {v : Value} {g' : Nat → va_E} (K : gC p R d s m args c cc nL own D cl tys n0) (hnm2 : meth.name = "<init>") (hP : nW D cl n0 N g H) (hS : va_S (nA n0) s.heap H locs) (hz : s.heap.size + cells = n0 + N) (hi : i < N) (he : g i = .inr (ci, fs)) (hcl : cl[ci]? = some (Cn, T, Nf)) (hin : ∀ w ∈ u_ws Cn T Nf, w ∈ lw_all) (hty : ∀ k, k < Nf → parseFieldDescriptor (T k).2.2.1 = some (ty0 k)) (hnm : ∀ a, a < Nf → ∀ b, b < Nf → a ≠ b → (T a).2.1 ≠ (T b).2.1) (j : Nat) (hj : j < Nf) (hl : Cond.fieldLink own index ref (T j).2.1 (T j).2.2.1 ∈ lw_all) (hsame : ∀ x, s.fieldFound? (T j).1 (T j).2.1 (T j).2.2.1 = some x → s.fieldFound? ref (T j).2.1 (T j).2.2.1 = some x) (hfin : (T j).2.2.2 = true) (hdecl : (T j).1 = own) (hn : narrow (ty0 j) v = v) (hf : fits (ty0 j) v = true) (hlen : j < fs.length) (hg : va_up g i (.inr (ci, fs.set j v)) = g') (hdg : decode cc pc = .ok (.putfield index, 3))
    (kk : ∀ (H1 : Heap) (locs1 : List Loc), nW D cl n0 N g' H1 → va_S (nA n0) s.heap H1 locs1 → W p l e R s m args below meth c H1 locs1 cells slots Q (F0 m (pc + 3) ls rest)) : W p l e R s m args below meth c H locs cells slots Q (F0 m pc ls (v :: .ref (n0 + i) :: rest)) := by
  subst hg
  obtain ⟨hx, hb, -, hown, hts, -, hK, hA⟩ := K
  refine va_putF hx hb hts hin ty0 hty hnm hown hK hP.1 nW_D (nS_self hS) i (by rw [kw_at hi, he]) hcl j hj (hts _ hl) hsame hfin hnm2 hdecl (hty j hj) hn hf hlen hdg (fun H1 locs1 h1 _ h3 => W.sizeLe (fun hzz => kk H1 locs1 ⟨?_, ?_⟩ (nS_trans hS h3)))
  · rw [kw_set] at h1
    exact h1
  · have h4 := h3.1
    have h5 := hP.2
    omega
theorem nn_put {ci Nf : Nat} {Cn ref : String} {T : u_T} {ty0 : Nat → FieldType} {fs : List Value} {v : Value} {g' : Nat → va_E} (K : gC p R d s m args c cc nL own D cl tys n0) (hP : nW D cl n0 N g H) (hS : va_S (nA n0) s.heap H locs) (hz : s.heap.size + cells = n0 + N) (hi : i < N) (he : g i = .inr (ci, fs)) (hcl : cl[ci]? = some (Cn, T, Nf)) (hin : ∀ w ∈ u_ws Cn T Nf, w ∈ lw_all) (hty : ∀ k, k < Nf → parseFieldDescriptor (T k).2.2.1 = some (ty0 k)) (hnm : ∀ a, a < Nf → ∀ b, b < Nf → a ≠ b → (T a).2.1 ≠ (T b).2.1) (j : Nat) (hj : j < Nf) (hl : Cond.fieldLink own index ref (T j).2.1 (T j).2.2.1 ∈ lw_all) (hsame : ∀ x, s.fieldFound? (T j).1 (T j).2.1 (T j).2.2.1 = some x → s.fieldFound? ref (T j).2.1 (T j).2.2.1 = some x) (hfin : (T j).2.2.2 = false) (hn : narrow (ty0 j) v = v) (hf : fits (ty0 j) v = true) (hlen : j < fs.length) (hg : va_up g i (.inr (ci, fs.set j v)) = g') (hdg : decode cc pc = .ok (.putfield index, 3))
    (kk : ∀ (H1 : Heap) (locs1 : List Loc), nW D cl n0 N g' H1 → va_S (nA n0) s.heap H1 locs1 → W p l e R s m args below meth c H1 locs1 cells slots Q (F0 m (pc + 3) ls rest)) : W p l e R s m args below meth c H locs cells slots Q (F0 m pc ls (v :: .ref (n0 + i) :: rest)) := by
  subst hg
  obtain ⟨hx, hb, -, hown, hts, -, hK, hA⟩ := K
  refine va_put hx hb hts hin ty0 hty hnm hown hK hP.1 nW_D (nS_self hS) i (by rw [kw_at hi, he]) hcl j hj (hts _ hl) hsame hfin (hty j hj) hn hf hlen hdg (fun H1 locs1 h1 _ h3 => W.sizeLe (fun hzz => kk H1 locs1 ⟨?_, ?_⟩ (nS_trans hS h3)))
  · rw [kw_set] at h1
    exact h1
  · have h4 := h3.1
    have h5 := hP.2
    omega
/-- contracts of constructors -/
abbrev nPr (D : va_G) (cl : List vw_C) (tys : List (ClassId × FieldType)) (n0 N : Nat) (g : Nat → va_E) (Xp : State → Prop) (As : List Value) : Array Value → State → Prop := va_Pc As (fun U => nW D cl n0 N g U.heap ∧ va_K D cl tys U ∧ Xp U)
def nQr (D : va_G) (cl : List vw_C) (n0 N : Nat) (g : Nat → va_E) : Array Value → State → Outcome → State → Prop := fun _ s0 o t => o = .returned none ∧ nW D cl n0 N g t.heap ∧ va_F (nA n0) s0 t
theorem nn_of {y : MethodName} {bytes : ByteArray} {maxL kc kn dk N1 : Nat} {g1 : Nat → va_E} {Xp : State → Prop} {As : List Value} (hy : plainFor y = true) (hnl : (lg_sl As).length ≤ maxL)
    (body : ∀ (p : Program) (e : Env) (s : State) (m : MethodId) (below : List Frame) (meth : Method) (c : Code) (R : Room) (args : Array Value) (ls : Array Slot), gC p R dk s m args c bytes maxL y.cls D cl tys n0 → Xp s → meth.name = y.name → meth.sig.returnType = none → meth.locks = false → nW D cl n0 N g s.heap → va_S (nA n0) s.heap s.heap [] → lv_has ls maxL (lv_args 0 As) → (kc ≤ R.cells ∧ kn ≤ R.slots) → s.heap.size = n0 + N →
      W p l e R s m args below meth c s.heap [] 0 0 (MQ below (nQr D cl n0 N1 g1) args s kc kn (nA n0)) (F0 m 0 ls [])) : Met l y (ws_ y bytes maxL none) (rmA dk kc kn) (nPr D cl tys n0 N g Xp As) (nQr D cl n0 N1 g1) kc kn (nA n0) := by
  refine Met_ofWF (cc := bytes) (maxL := maxL) (ret := none) hy rfl ?_
  intro p e s m args below meth c s₁ B hml hv
  obtain ⟨rfl, hP, hK, hX⟩ := hv
  have hts := atoms_spec (ws := ws_ y bytes maxL none) B.pre
  have hts : ∀ w ∈ lw_all, w.before _ s = true := fun w h => hts w (List.mem_cons_of_mem _ h)
  have hown : s.vm.findClass y.cls = some m.cls := findClass_of_methodNamed B.named
  have hz := hP.2
  rw [lg_entry_eq]
  exact body p e s m below meth c _ _ _ ⟨B.exec, B.bytes, hml, hown, hts, ⟨Nat.le_refl _, Nat.le_refl _⟩, hK, by omega⟩ hX (name_of_methodNamed B.named B.method).1 B.returns B.notSynchronized hP va_S.rf (lv_entry _ hnl) ⟨Nat.le_refl _, Nat.le_refl _⟩ hz
theorem nn_vret {N1 : Nat} {g1 : Nat → va_E} (hx : p.tables.exec = Jvm.exec) (hb : c.code = cc) (hr : meth.sig.returnType = none) (hlk : meth.locks = false) (hP : nW D cl n0 N1 g1 H) (hS : va_S (nA n0) s.heap H locs) (hdg : decode cc pc = .ok (.return_, 1)) : W p l e R s m args below meth c H locs cells slots (MQ below (nQr D cl n0 N1 g1) args s cells slots (nA n0)) (F0 m pc ls []) :=
  W.vret hx hb hr (fun t ht _ => ⟨rfl, by rw [ht]; exact hP, hS.F ht⟩) hS.2.2 hdg
/-- behind a call of such a constructor -/
theorem nn_end {N1 mc ms cells' slots' : Nat} {g1 : Nat → va_E} {a : Array Value} {st0 : List Value} (hS : va_S (nA n0) s.heap H locs) (hr : va_Run p l e R s m args below meth c H locs cells slots mc ms (F0 m pc ls st0) rest (nQr D cl n0 N1 g1 a) (nA n0)) (hc' : cells' = cells + mc) (hs' : slots' = slots + ms)
    (kk : ∀ (H1 : Heap) (locs1 : List Loc), nW D cl n0 N1 g1 H1 → va_S (nA n0) s.heap H1 locs1 → W p l e R s m args below meth c H1 locs1 cells' slots' Q (F0 m (pc + 3) ls rest)) : W p l e R s m args below meth c H locs cells slots Q (F0 m pc ls st0) := by
  subst hc'; subst hs'
  intro T hT X
  obtain ⟨v, st₀, t, T', L, h0, X', hL, e1, -, ⟨hv, hw, hz, hk⟩, st⟩ := hr T hT X
  cases hv
  rw [h0] at hz hk
  obtain ⟨t2, a1, b1⟩ := kk T'.heap (locs ++ L) (by rw [e1]; exact hw)
    (nS_trans hS ⟨by rw [e1]; exact hz, fun q h1 h2 => by rw [e1]; exact hk q h1 h2, fun q hq => by
      rcases List.mem_append.mp hq with h | h
      · exact hS.2.2 q h
      · exact hL q h⟩) T' rfl X'
  exact ⟨t2, st t2 a1, b1⟩
theorem nn_pre {Xp : State → Prop} {As : List Value} (K : gC p R d s m args c cc nL own D cl tys n0) (hb : ∀ (U : State) (g : JFrame) (mk : MethodId) (a : Array Value), Xp U → Xp (U.calling g mk a)) (hX : ∀ U : State, U.heap = H → s.WarmedH U.vm → Xp U) (hP : nW D cl n0 N g H) : PreS s H (nPr D cl tys n0 N g Xp As) As :=
  ⟨fun v U g mk q => ⟨q.1, q.2.1, va_K.moved (u := U) (U := U.calling g mk v) (Vm.Alike.refl U.vm) q.2.2.1, hb U g mk v q.2.2.2⟩, fun U hU hW => ⟨rfl, by rw [hU]; exact hP, va_K.moved hW.alike K.2.2.2.2.2.2.1, hX U hU hW⟩⟩
/-- a cell with arrays made behind it -/
def gT (g : Nat → va_E) (i : Nat) (o : va_E) (N : Nat) (arr : Nat → va_E) (k : Nat) : Nat → va_E := fun j => if j = i then o else if N ≤ j ∧ j < N + k then arr (j - N) else g j
theorem gT_0 {o : va_E} {arr : Nat → va_E} (h : g i = o) : gT g i o N arr 0 = g := by
  funext j
  unfold gT
  by_cases hj : j = i
  · rw [if_pos hj, hj, h]
  · rw [if_neg hj, if_neg (by omega)]
theorem gT_i {o : va_E} {arr : Nat → va_E} {k : Nat} : gT g i o N arr k i = o := if_pos rfl
theorem gT_ne {o : va_E} {arr : Nat → va_E} {k j : Nat} (hj : j ≠ i) (h : ¬ (N ≤ j ∧ j < N + k)) : gT g i o N arr k j = g j := by unfold gT; rw [if_neg hj, if_neg h]
theorem gT_at {o : va_E} {arr : Nat → va_E} {k j : Nat} (hi : i < N) (h : j < k) : gT g i o N arr k (N + j) = arr j := by
  unfold gT
  rw [if_neg (by omega), if_pos (by omega)]
  congr 1
  omega
theorem up_ne {f : Nat → va_E} {k j : Nat} {x : va_E} (h : j ≠ k) : va_up f k x j = f j := by simp [va_up, h]
theorem up_eq {f : Nat → va_E} {k : Nat} {x : va_E} : va_up f k x k = x := by simp [va_up]
theorem gT_step {o o' : va_E} {arr : Nat → va_E} {k : Nat} (hi : i < N) : va_up (va_up (gT g i o N arr k) (N + k) (arr k)) i o' = gT g i o' N arr (k + 1) := by
  funext j
  by_cases hj : j = i
  · subst hj; rw [up_eq, gT_i]
  · rw [up_ne hj]
    by_cases hk : j = N + k
    · subst hk; rw [up_eq, gT_at hi (Nat.lt_succ_self _)]
    · rw [up_ne hk]
      unfold gT
      rw [if_neg hj, if_neg hj]
      by_cases h1 : N ≤ j ∧ j < N + k
      · rw [if_pos h1, if_pos (by omega)]
      · rw [if_neg h1, if_neg (by omega)]
theorem gT_put {o o' : va_E} {arr : Nat → va_E} {k : Nat} : va_up (gT g i o N arr k) i o' = gT g i o' N arr k := by
  funext j
  by_cases hj : j = i
  · subst hj; rw [up_eq, gT_i]
  · rw [up_ne hj]
    unfold gT
    rw [if_neg hj, if_neg hj]
theorem gT_two {o o' x : va_E} {arr : Nat → va_E} {k : Nat} (hi : i < N) : va_up (va_up (va_up (va_up (gT g i o N arr k) (N + k) x) (N + (k + 1)) (arr (k + 1))) (N + k) (arr k)) i o' = gT g i o' N arr (k + 2) := by
  funext j
  by_cases hj : j = i
  · subst hj; rw [up_eq, gT_i]
  · rw [up_ne hj]
    by_cases hk : j = N + k
    · subst hk; rw [up_eq, gT_at hi (by omega)]
    · rw [up_ne hk]
      by_cases hk2 : j = N + (k + 1)
      · subst hk2; rw [up_eq, gT_at hi (by omega)]
      · rw [up_ne hk2, up_ne hk]
        unfold gT
        rw [if_neg hj, if_neg hj]
        by_cases h1 : N ≤ j ∧ j < N + k
        · rw [if_pos h1, if_pos (by omega)]
        · rw [if_neg h1, if_neg (by omega)]
/-- what the component's constructors need beside the world -/
def xX (adK adV : Nat → Nat) (n0 : Nat) (U : State) : Prop := cN U ∧ sX adK adV (nA n0) U ∧ va_AO "ChapterLoan$Debtor" U ∧ va_AO "ChapterLoan$Term" U ∧ va_AO "ChapterLoan$Shelf" U
theorem xX.calling {U : State} {g : JFrame} {mk : MethodId} {a : Array Value} (h : xX adK adV n0 U) : xX adK adV n0 (U.calling g mk a) :=
  ⟨cN.same (s := U) (U := U.calling g mk a) rfl h.1, sX.calling h.2.1, va_AO.moved (u := U) (U := U.calling g mk a) (Vm.Alike.refl U.vm) h.2.2.1, va_AO.moved (u := U) (U := U.calling g mk a) (Vm.Alike.refl U.vm) h.2.2.2.1, va_AO.moved (u := U) (U := U.calling g mk a) (Vm.Alike.refl U.vm) h.2.2.2.2⟩
theorem xX.there {U : State} (h : xX adK adV n0 s) (hS : va_S (nA n0) s.heap H locs) (hU : U.heap = H) (hW : s.WarmedH U.vm) : xX adK adV n0 U :=
  ⟨cN.warm hW h.1, sX.there h.2.1 hS hU hW, va_AO.moved hW.alike h.2.2.1, va_AO.moved hW.alike h.2.2.2.1, va_AO.moved hW.alike h.2.2.2.2⟩
abbrev cX3_init : ByteArray := prog_5_method_1_code
def yX3_init : MethodName := ⟨RX3, "<init>", "()V"⟩
theorem dX3_init_0 : decode cX3_init 0 = .ok (.aload_n 0, 1) := by decide +kernel
theorem dX3_init_1 : decode cX3_init 1 = .ok (.invokespecial 1, 3) := by decide +kernel
theorem dX3_init_4 : decode cX3_init 4 = .ok (.aload_n 0, 1) := by decide +kernel
theorem dX3_init_5 : decode cX3_init 5 = .ok (.sipush 128, 3) := by decide +kernel
theorem dX3_init_8 : decode cX3_init 8 = .ok (.newarray .int, 2) := by decide +kernel
theorem dX3_init_10 : decode cX3_init 10 = .ok (.putfield 7, 3) := by decide +kernel
theorem dX3_init_13 : decode cX3_init 13 = .ok (.return_, 1) := by decide +kernel
theorem q213 : (Jvm.Cond.methodLink "ChapterLoan$Facts" (1 : Nat) ({ cls := "java/lang/Object", name := "<init>", desc := "()V" } : Jvm.MethodName)) ∈ lw_all := lw_g (lw_at lw_m1 129 rfl) rfl
theorem w_nFacts {l : Launch} (hi : i < N) (hg : g i = .inr (3, [.null])) : Met l yX3_init (ws_ yX3_init cX3_init 1 none) (rmA 2 1 128) (nPr D cCl (cTys cA) n0 N g (xX adK adV n0) [.ref (n0 + i)]) (nQr D cCl n0 (N + 1) (va_up (va_up g N (.inl (cA 0, 128, .inl (fun _ => 0)))) i (.inr (3, [.ref (n0 + N)])))) 1 128 (nA n0) := by
  refine nn_of (by decide +kernel) (Nat.le_of_ble_eq_true rfl) (fun p e s m below meth c R args ls K hX hin hr hlk hP hS hl hcs hs0 => ?_)
  have hx := K.1
  have hb := K.2.1
  have hml := K.2.2.1
  have hown : s.vm.findClass RX3 = some m.cls := K.2.2.2.1
  have hts := K.2.2.2.2.1
  have hR := K.2.2.2.2.2.1
  have hl : lv_has ls 1 [(0, .ref (n0 + i))] := hl
  refine lv_aload_n hx hb dX3_init_0 rfl (lv_at hl 0 rfl) ?_
  refine W.objInit hx hb hown (hts _ q213) (hts _ q127) (hts _ q128) rfl (by rw [hml]; exact hl.1) rfl dX3_init_1 (by have h1 := hR.1; simp at *; omega) (by have h2 := hR.2; simp at *; omega) ?_
  refine W.eq (g2 := F0 m 4 ls []) rfl ?_
  refine lv_aload_n hx hb dX3_init_4 rfl (lv_at hl 0 rfl) ?_
  refine lv_sipush (v := 128) hx hb dX3_init_5 (by decide) ?_
  refine nn_newa (atype := .int) (j := 0) (L := 128) (x := cA 0) (N' := N + 1) (cells' := 1) (slots' := 128) (g' := _) K hP hS q219 rfl (fun _ => rfl) (by decide) rfl (by decide) rfl rfl rfl rfl (by omega) (by omega) dX3_init_8 (fun H hP hS => ?_)
  refine nn_putF (i := i) (ci := 3) (Cn := RX3) (ref := RX3) (T := TX3) (Nf := 1) (ty0 := tyX3) (fs := [.null]) K hin hP hS (by omega) (by omega) ((up_ne (by omega)).trans hg) rfl in_X3 tyX3_ok nmX3 0 (by decide) q214 (fun _ h => h) rfl rfl rfl rfl (Nat.le_of_ble_eq_true rfl) rfl dX3_init_10 (fun H locs hP hS => ?_)
  exact nn_vret hx hb hr hlk hP hS dX3_init_13
abbrev cX4_init : ByteArray := prog_24_method_1_code
def yX4_init : MethodName := ⟨RX4, "<init>", "()V"⟩
theorem dX4_init_0 : decode cX4_init 0 = .ok (.aload_n 0, 1) := by decide +kernel
theorem dX4_init_1 : decode cX4_init 1 = .ok (.invokespecial 3, 3) := by decide +kernel
theorem dX4_init_4 : decode cX4_init 4 = .ok (.aload_n 0, 1) := by decide +kernel
theorem dX4_init_5 : decode cX4_init 5 = .ok (.bipush 40, 2) := by decide +kernel
theorem dX4_init_7 : decode cX4_init 7 = .ok (.newarray .int, 2) := by decide +kernel
theorem dX4_init_9 : decode cX4_init 9 = .ok (.putfield 9, 3) := by decide +kernel
theorem dX4_init_12 : decode cX4_init 12 = .ok (.return_, 1) := by decide +kernel
theorem q334 : (Jvm.Cond.methodLink "ChapterLoan$Trace" (3 : Nat) ({ cls := "java/lang/Object", name := "<init>", desc := "()V" } : Jvm.MethodName)) ∈ lw_all := lw_g (lw_at lw_m2 10 rfl) rfl
theorem w_nTrace {l : Launch} (hi : i < N) (hg : g i = .inr (4, [.null, .int 0])) : Met l yX4_init (ws_ yX4_init cX4_init 1 none) (rmA 2 1 40) (nPr D cCl (cTys cA) n0 N g (xX adK adV n0) [.ref (n0 + i)]) (nQr D cCl n0 (N + 1) (va_up (va_up g N (.inl (cA 0, 40, .inl (fun _ => 0)))) i (.inr (4, [.ref (n0 + N), .int 0])))) 1 40 (nA n0) := by
  refine nn_of (by decide +kernel) (Nat.le_of_ble_eq_true rfl) (fun p e s m below meth c R args ls K hX hin hr hlk hP hS hl hcs hs0 => ?_)
  have hx := K.1
  have hb := K.2.1
  have hml := K.2.2.1
  have hown : s.vm.findClass RX4 = some m.cls := K.2.2.2.1
  have hts := K.2.2.2.2.1
  have hR := K.2.2.2.2.2.1
  have hl : lv_has ls 1 [(0, .ref (n0 + i))] := hl
  refine lv_aload_n hx hb dX4_init_0 rfl (lv_at hl 0 rfl) ?_
  refine W.objInit hx hb hown (hts _ q334) (hts _ q127) (hts _ q128) rfl (by rw [hml]; exact hl.1) rfl dX4_init_1 (by have h1 := hR.1; simp at *; omega) (by have h2 := hR.2; simp at *; omega) ?_
  refine W.eq (g2 := F0 m 4 ls []) rfl ?_
  refine lv_aload_n hx hb dX4_init_4 rfl (lv_at hl 0 rfl) ?_
  refine lv_bipush (v := 40) hx hb dX4_init_5 (by decide) ?_
  refine nn_newa (atype := .int) (j := 0) (L := 40) (x := cA 0) (N' := N + 1) (cells' := 1) (slots' := 40) (g' := _) K hP hS q219 rfl (fun _ => rfl) (by decide) rfl (by decide) rfl rfl rfl rfl (by omega) (by omega) dX4_init_7 (fun H hP hS => ?_)
  refine nn_putF (i := i) (ci := 4) (Cn := RX4) (ref := RX4) (T := TX4) (Nf := 2) (ty0 := tyX4) (fs := [.null, .int 0]) K hin hP hS (by omega) (by omega) ((up_ne (by omega)).trans hg) rfl in_X4 tyX4_ok nmX4 0 (by decide) q335 (fun _ h => h) rfl rfl rfl rfl (Nat.le_of_ble_eq_true rfl) rfl dX4_init_9 (fun H locs hP hS => ?_)
  exact nn_vret hx hb hr hlk hP hS dX4_init_12
abbrev cX5_init : ByteArray := prog_19_method_1_code
def yX5_init : MethodName := ⟨RX5, "<init>", "()V"⟩
theorem dX5_init_0 : decode cX5_init 0 = .ok (.aload_n 0, 1) := by decide +kernel
theorem dX5_init_1 : decode cX5_init 1 = .ok (.invokespecial 1, 3) := by decide +kernel
theorem dX5_init_4 : decode cX5_init 4 = .ok (.return_, 1) := by decide +kernel
theorem q350 : (Jvm.Cond.methodLink "ChapterLoan$Shelf" (1 : Nat) ({ cls := "java/lang/Object", name := "<init>", desc := "()V" } : Jvm.MethodName)) ∈ lw_all := lw_g (lw_at lw_m2 26 rfl) rfl
theorem w_nShelf {l : Launch} : Met l yX5_init (ws_ yX5_init cX5_init 1 none) (rmA 2 0 0) (nPr D cCl (cTys cA) n0 N g (xX adK adV n0) [.ref (n0 + i)]) (nQr D cCl n0 N g) 0 0 (nA n0) := by
  refine nn_of (by decide +kernel) (Nat.le_of_ble_eq_true rfl) (fun p e s m below meth c R args ls K hX hin hr hlk hP hS hl hcs hs0 => ?_)
  have hx := K.1
  have hb := K.2.1
  have hml := K.2.2.1
  have hown : s.vm.findClass RX5 = some m.cls := K.2.2.2.1
  have hts := K.2.2.2.2.1
  have hR := K.2.2.2.2.2.1
  have hl : lv_has ls 1 [(0, .ref (n0 + i))] := hl
  refine lv_aload_n hx hb dX5_init_0 rfl (lv_at hl 0 rfl) ?_
  refine W.objInit hx hb hown (hts _ q350) (hts _ q127) (hts _ q128) rfl (by rw [hml]; exact hl.1) rfl dX5_init_1 (by have h1 := hR.1; simp at *; omega) (by have h2 := hR.2; simp at *; omega) ?_
  refine W.eq (g2 := F0 m 4 ls []) rfl ?_
  exact nn_vret hx hb hr hlk hP hS dX5_init_4
abbrev cX2_init : ByteArray := prog_23_method_1_code
def yX2_init : MethodName := ⟨RX2, "<init>", "()V"⟩
theorem dX2_init_0 : decode cX2_init 0 = .ok (.aload_n 0, 1) := by decide +kernel
theorem dX2_init_1 : decode cX2_init 1 = .ok (.invokespecial 3, 3) := by decide +kernel
theorem dX2_init_4 : decode cX2_init 4 = .ok (.aload_n 0, 1) := by decide +kernel
theorem dX2_init_5 : decode cX2_init 5 = .ok (.bipush 8, 2) := by decide +kernel
theorem dX2_init_7 : decode cX2_init 7 = .ok (.newarray .int, 2) := by decide +kernel
theorem dX2_init_9 : decode cX2_init 9 = .ok (.putfield 9, 3) := by decide +kernel
theorem dX2_init_12 : decode cX2_init 12 = .ok (.aload_n 0, 1) := by decide +kernel
theorem dX2_init_13 : decode cX2_init 13 = .ok (.bipush 8, 2) := by decide +kernel
theorem dX2_init_15 : decode cX2_init 15 = .ok (.newarray .int, 2) := by decide +kernel
theorem dX2_init_17 : decode cX2_init 17 = .ok (.putfield 15, 3) := by decide +kernel
theorem dX2_init_20 : decode cX2_init 20 = .ok (.aload_n 0, 1) := by decide +kernel
theorem dX2_init_21 : decode cX2_init 21 = .ok (.bipush 8, 2) := by decide +kernel
theorem dX2_init_23 : decode cX2_init 23 = .ok (.newarray .int, 2) := by decide +kernel
theorem dX2_init_25 : decode cX2_init 25 = .ok (.putfield 18, 3) := by decide +kernel
theorem dX2_init_28 : decode cX2_init 28 = .ok (.aload_n 0, 1) := by decide +kernel
theorem dX2_init_29 : decode cX2_init 29 = .ok (.bipush 8, 2) := by decide +kernel
theorem dX2_init_31 : decode cX2_init 31 = .ok (.newarray .int, 2) := by decide +kernel
theorem dX2_init_33 : decode cX2_init 33 = .ok (.putfield 21, 3) := by decide +kernel
theorem dX2_init_36 : decode cX2_init 36 = .ok (.aload_n 0, 1) := by decide +kernel
theorem dX2_init_37 : decode cX2_init 37 = .ok (.bipush 8, 2) := by decide +kernel
theorem dX2_init_39 : decode cX2_init 39 = .ok (.newarray .int, 2) := by decide +kernel
theorem dX2_init_41 : decode cX2_init 41 = .ok (.putfield 24, 3) := by decide +kernel
theorem dX2_init_44 : decode cX2_init 44 = .ok (.aload_n 0, 1) := by decide +kernel
theorem dX2_init_45 : decode cX2_init 45 = .ok (.iconst 4, 1) := by decide +kernel
theorem dX2_init_46 : decode cX2_init 46 = .ok (.anewarray 27, 3) := by decide +kernel
theorem dX2_init_49 : decode cX2_init 49 = .ok (.putfield 29, 3) := by decide +kernel
theorem dX2_init_52 : decode cX2_init 52 = .ok (.aload_n 0, 1) := by decide +kernel
theorem dX2_init_53 : decode cX2_init 53 = .ok (.iconst 4, 1) := by decide +kernel
theorem dX2_init_54 : decode cX2_init 54 = .ok (.newarray .int, 2) := by decide +kernel
theorem dX2_init_56 : decode cX2_init 56 = .ok (.putfield 33, 3) := by decide +kernel
theorem dX2_init_59 : decode cX2_init 59 = .ok (.aload_n 0, 1) := by decide +kernel
theorem dX2_init_60 : decode cX2_init 60 = .ok (.iconst 4, 1) := by decide +kernel
theorem dX2_init_61 : decode cX2_init 61 = .ok (.newarray .boolean, 2) := by decide +kernel
theorem dX2_init_63 : decode cX2_init 63 = .ok (.putfield 36, 3) := by decide +kernel
theorem dX2_init_66 : decode cX2_init 66 = .ok (.aload_n 0, 1) := by decide +kernel
theorem dX2_init_67 : decode cX2_init 67 = .ok (.iconst 4, 1) := by decide +kernel
theorem dX2_init_68 : decode cX2_init 68 = .ok (.newarray .int, 2) := by decide +kernel
theorem dX2_init_70 : decode cX2_init 70 = .ok (.putfield 40, 3) := by decide +kernel
theorem dX2_init_73 : decode cX2_init 73 = .ok (.aload_n 0, 1) := by decide +kernel
theorem dX2_init_74 : decode cX2_init 74 = .ok (.bipush 32, 2) := by decide +kernel
theorem dX2_init_76 : decode cX2_init 76 = .ok (.newarray .int, 2) := by decide +kernel
theorem dX2_init_78 : decode cX2_init 78 = .ok (.putfield 43, 3) := by decide +kernel
theorem dX2_init_81 : decode cX2_init 81 = .ok (.aload_n 0, 1) := by decide +kernel
theorem dX2_init_82 : decode cX2_init 82 = .ok (.bipush 32, 2) := by decide +kernel
theorem dX2_init_84 : decode cX2_init 84 = .ok (.newarray .int, 2) := by decide +kernel
theorem dX2_init_86 : decode cX2_init 86 = .ok (.putfield 46, 3) := by decide +kernel
theorem dX2_init_89 : decode cX2_init 89 = .ok (.aload_n 0, 1) := by decide +kernel
theorem dX2_init_90 : decode cX2_init 90 = .ok (.bipush 12, 2) := by decide +kernel
theorem dX2_init_92 : decode cX2_init 92 = .ok (.newarray .int, 2) := by decide +kernel
theorem dX2_init_94 : decode cX2_init 94 = .ok (.putfield 49, 3) := by decide +kernel
theorem dX2_init_97 : decode cX2_init 97 = .ok (.aload_n 0, 1) := by decide +kernel
theorem dX2_init_98 : decode cX2_init 98 = .ok (.bipush 12, 2) := by decide +kernel
theorem dX2_init_100 : decode cX2_init 100 = .ok (.newarray .int, 2) := by decide +kernel
theorem dX2_init_102 : decode cX2_init 102 = .ok (.putfield 52, 3) := by decide +kernel
theorem dX2_init_105 : decode cX2_init 105 = .ok (.aload_n 0, 1) := by decide +kernel
theorem dX2_init_106 : decode cX2_init 106 = .ok (.bipush 12, 2) := by decide +kernel
theorem dX2_init_108 : decode cX2_init 108 = .ok (.newarray .int, 2) := by decide +kernel
theorem dX2_init_110 : decode cX2_init 110 = .ok (.putfield 55, 3) := by decide +kernel
theorem dX2_init_113 : decode cX2_init 113 = .ok (.aload_n 0, 1) := by decide +kernel
theorem dX2_init_114 : decode cX2_init 114 = .ok (.iconst 2, 1) := by decide +kernel
theorem dX2_init_115 : decode cX2_init 115 = .ok (.anewarray 58, 3) := by decide +kernel
theorem dX2_init_118 : decode cX2_init 118 = .ok (.putfield 60, 3) := by decide +kernel
theorem dX2_init_121 : decode cX2_init 121 = .ok (.aload_n 0, 1) := by decide +kernel
theorem dX2_init_122 : decode cX2_init 122 = .ok (.iconst 1, 1) := by decide +kernel
theorem dX2_init_123 : decode cX2_init 123 = .ok (.putfield 64, 3) := by decide +kernel
theorem dX2_init_126 : decode cX2_init 126 = .ok (.aload_n 0, 1) := by decide +kernel
theorem dX2_init_127 : decode cX2_init 127 = .ok (.bipush 50, 2) := by decide +kernel
theorem dX2_init_129 : decode cX2_init 129 = .ok (.newarray .byte, 2) := by decide +kernel
theorem dX2_init_131 : decode cX2_init 131 = .ok (.putfield 68, 3) := by decide +kernel
theorem dX2_init_134 : decode cX2_init 134 = .ok (.aload_n 0, 1) := by decide +kernel
theorem dX2_init_135 : decode cX2_init 135 = .ok (.bipush 20, 2) := by decide +kernel
theorem dX2_init_137 : decode cX2_init 137 = .ok (.newarray .int, 2) := by decide +kernel
theorem dX2_init_139 : decode cX2_init 139 = .ok (.putfield 72, 3) := by decide +kernel
theorem dX2_init_142 : decode cX2_init 142 = .ok (.aload_n 0, 1) := by decide +kernel
theorem dX2_init_143 : decode cX2_init 143 = .ok (.new 75, 3) := by decide +kernel
theorem dX2_init_146 : decode cX2_init 146 = .ok (.dup, 1) := by decide +kernel
theorem dX2_init_147 : decode cX2_init 147 = .ok (.invokespecial 77, 3) := by decide +kernel
theorem dX2_init_150 : decode cX2_init 150 = .ok (.putfield 78, 3) := by decide +kernel
theorem dX2_init_153 : decode cX2_init 153 = .ok (.aload_n 0, 1) := by decide +kernel
theorem dX2_init_154 : decode cX2_init 154 = .ok (.iconst (-1), 1) := by decide +kernel
theorem dX2_init_155 : decode cX2_init 155 = .ok (.putfield 82, 3) := by decide +kernel
theorem dX2_init_158 : decode cX2_init 158 = .ok (.return_, 1) := by decide +kernel
def tArr (cA : Nat → ClassId) (n0 N : Nat) (k : Nat) : va_E := match k with
  | 0 => .inl (cA 0, 8, .inl (fun _ => 0))
  | 1 => .inl (cA 0, 8, .inl (fun _ => 0))
  | 2 => .inl (cA 0, 8, .inl (fun _ => 0))
  | 3 => .inl (cA 0, 8, .inl (fun _ => 0))
  | 4 => .inl (cA 0, 8, .inl (fun _ => 0))
  | 5 => .inl (cA 4, 4, .inr (.inr (.inr (.inr (fun _ => none)))))
  | 6 => .inl (cA 0, 4, .inl (fun _ => 0))
  | 7 => .inl (cA 1, 4, .inl (fun _ => 0))
  | 8 => .inl (cA 0, 4, .inl (fun _ => 0))
  | 9 => .inl (cA 0, 32, .inl (fun _ => 0))
  | 10 => .inl (cA 0, 32, .inl (fun _ => 0))
  | 11 => .inl (cA 0, 12, .inl (fun _ => 0))
  | 12 => .inl (cA 0, 12, .inl (fun _ => 0))
  | 13 => .inl (cA 0, 12, .inl (fun _ => 0))
  | 14 => .inl (cA 5, 2, .inr (.inr (.inr (.inr (fun _ => none)))))
  | 15 => .inl (cA 2, 50, .inl (fun _ => 0))
  | 16 => .inl (cA 0, 20, .inl (fun _ => 0))
  | 17 => .inr (3, [.ref (n0 + (N + 18))])
  | _ => .inl (cA 0, 128, .inl (fun _ => 0))
theorem q203 : (Jvm.Cond.methodLink "ChapterLoan$Town" (3 : Nat) ({ cls := "java/lang/Object", name := "<init>", desc := "()V" } : Jvm.MethodName)) ∈ lw_all := lw_g (lw_at lw_m1 119 rfl) rfl
theorem q204 : (Jvm.Cond.classLink "ChapterLoan$Town" (27 : Nat) "ChapterLoan$Debtor") ∈ lw_all := lw_g (lw_at lw_m1 120 rfl) rfl
theorem q220 : (Jvm.Cond.arrayClass Jvm.ClassFile.FieldType.boolean) ∈ lw_all := lw_g (lw_at lw_m1 136 rfl) rfl
theorem q206 : (Jvm.Cond.classLink "ChapterLoan$Town" (58 : Nat) "ChapterLoan$Term") ∈ lw_all := lw_g (lw_at lw_m1 122 rfl) rfl
theorem q208 : (Jvm.Cond.classLink "ChapterLoan$Town" (75 : Nat) "ChapterLoan$Facts") ∈ lw_all := lw_g (lw_at lw_m1 124 rfl) rfl
theorem q209 : (Jvm.Cond.instantiable "ChapterLoan$Facts" (1 : Nat)) ∈ lw_all := lw_g (lw_at lw_m1 125 rfl) rfl
theorem q212 : (Jvm.Cond.code ({ cls := "ChapterLoan$Facts", name := "<init>", desc := "()V" } : Jvm.MethodName) prog_5_method_1_code (1 : Nat) (Option.none : Option Jvm.ClassFile.FieldType)) ∈ lw_all := lw_g (lw_at lw_m1 128 rfl) rfl
theorem q211 : (Jvm.Cond.instanceMethod ({ cls := "ChapterLoan$Facts", name := "<init>", desc := "()V" } : Jvm.MethodName)) ∈ lw_all := lw_g (lw_at lw_m1 127 rfl) rfl
def tObj (n0 N : Nat) : va_E := .inr (2, [.int 0, .ref (n0 + (N + 0)), .ref (n0 + (N + 1)), .ref (n0 + (N + 2)), .ref (n0 + (N + 3)), .ref (n0 + (N + 4)), .int 0, .ref (n0 + (N + 5)), .ref (n0 + (N + 6)), .ref (n0 + (N + 7)), .ref (n0 + (N + 8)), .ref (n0 + (N + 9)), .ref (n0 + (N + 10)), .int 0, .int 0, .ref (n0 + (N + 11)), .ref (n0 + (N + 12)), .ref (n0 + (N + 13)), .ref (n0 + (N + 14)), .int 1, .ref (n0 + (N + 15)), .int 0, .ref (n0 + (N + 16)), .int 0, .ref (n0 + (N + 17)), .int (-1), .int 0])
theorem w_nTown {l : Launch} (hi : i < N) (hg : g i = .inr (2, [.int 0, .null, .null, .null, .null, .null, .int 0, .null, .null, .null, .null, .null, .null, .int 0, .int 0, .null, .null, .null, .null, .int 0, .null, .int 0, .null, .int 0, .null, .int 0, .int 0])) : Met l yX2_init (ws_ yX2_init cX2_init 1 none) (rmA 5 19 357) (nPr D cCl (cTys cA) n0 N g (xX adK adV n0) [.ref (n0 + i)]) (nQr D cCl n0 (N + 19) (gT g i (tObj n0 N) N (tArr cA n0 N) 19)) 19 357 (nA n0) := by
  refine nn_of (by decide +kernel) (Nat.le_of_ble_eq_true rfl) (fun p e s m below meth c R args ls K hX hin hr hlk hP hS hl hcs hs0 => ?_)
  have hx := K.1
  have hb := K.2.1
  have hml := K.2.2.1
  have hown : s.vm.findClass RX2 = some m.cls := K.2.2.2.1
  have hts := K.2.2.2.2.1
  have hR := K.2.2.2.2.2.1
  have hl : lv_has ls 1 [(0, .ref (n0 + i))] := hl
  refine lv_aload_n hx hb dX2_init_0 rfl (lv_at hl 0 rfl) ?_
  refine W.objInit hx hb hown (hts _ q203) (hts _ q127) (hts _ q128) rfl (by rw [hml]; exact hl.1) rfl dX2_init_1 (by have h1 := hR.1; simp at *; omega) (by have h2 := hR.2; simp at *; omega) ?_
  refine W.eq (g2 := F0 m 4 ls []) rfl ?_
  have hP : nW D cCl n0 (N + 0) (gT g i (.inr (2, [.int 0, .null, .null, .null, .null, .null, .int 0, .null, .null, .null, .null, .null, .null, .int 0, .int 0, .null, .null, .null, .null, .int 0, .null, .int 0, .null, .int 0, .null, .int 0, .int 0])) N (tArr cA n0 N) 0) s.heap := by rw [gT_0 hg]; exact hP
  refine lv_aload_n hx hb dX2_init_4 rfl (lv_at hl 0 rfl) ?_
  refine lv_bipush (v := 8) hx hb dX2_init_5 (by decide) ?_
  refine nn_newa (atype := .int) (j := 0) (L := 8) (x := cA 0) (N' := N + 1) (cells' := 1) (slots' := 8) (g' := va_up (gT g i (.inr (2, [.int 0, .null, .null, .null, .null, .null, .int 0, .null, .null, .null, .null, .null, .null, .int 0, .int 0, .null, .null, .null, .null, .int 0, .null, .int 0, .null, .int 0, .null, .int 0, .int 0])) N (tArr cA n0 N) 0) (N + 0) (tArr cA n0 N 0)) K hP hS q219 rfl (fun _ => rfl) (by decide) rfl (by decide) rfl rfl rfl rfl (by omega) (by omega) dX2_init_7 (fun H hP hS => ?_)
  refine nn_putF (N := N + 1) (i := i) (ci := 2) (Cn := RX2) (ref := RX2) (T := TX2) (Nf := 27) (ty0 := tyX2) (fs := [.int 0, .null, .null, .null, .null, .null, .int 0, .null, .null, .null, .null, .null, .null, .int 0, .int 0, .null, .null, .null, .null, .int 0, .null, .int 0, .null, .int 0, .null, .int 0, .int 0]) (g' := gT g i (.inr (2, [.int 0, .ref (n0 + (N + 0)), .null, .null, .null, .null, .int 0, .null, .null, .null, .null, .null, .null, .int 0, .int 0, .null, .null, .null, .null, .int 0, .null, .int 0, .null, .int 0, .null, .int 0, .int 0])) N (tArr cA n0 N) 1) K hin hP hS (by omega) (by omega) ((up_ne (by omega)).trans gT_i) rfl in_X2 tyX2_ok nmX2 1 (by decide) q224 (fun _ h => h) rfl rfl rfl rfl (Nat.le_of_ble_eq_true rfl) (gT_step hi) dX2_init_9 (fun H locs hP hS => ?_)
  refine lv_aload_n hx hb dX2_init_12 rfl (lv_at hl 0 rfl) ?_
  refine lv_bipush (v := 8) hx hb dX2_init_13 (by decide) ?_
  refine nn_newa (atype := .int) (j := 0) (L := 8) (x := cA 0) (N' := N + 2) (cells' := 2) (slots' := 16) (g' := va_up (gT g i (.inr (2, [.int 0, .ref (n0 + (N + 0)), .null, .null, .null, .null, .int 0, .null, .null, .null, .null, .null, .null, .int 0, .int 0, .null, .null, .null, .null, .int 0, .null, .int 0, .null, .int 0, .null, .int 0, .int 0])) N (tArr cA n0 N) 1) (N + 1) (tArr cA n0 N 1)) K hP hS q219 rfl (fun _ => rfl) (by decide) rfl (by decide) rfl rfl rfl rfl (by omega) (by omega) dX2_init_15 (fun H hP hS => ?_)
  refine nn_putF (N := N + 2) (i := i) (ci := 2) (Cn := RX2) (ref := RX2) (T := TX2) (Nf := 27) (ty0 := tyX2) (fs := [.int 0, .ref (n0 + (N + 0)), .null, .null, .null, .null, .int 0, .null, .null, .null, .null, .null, .null, .int 0, .int 0, .null, .null, .null, .null, .int 0, .null, .int 0, .null, .int 0, .null, .int 0, .int 0]) (g' := gT g i (.inr (2, [.int 0, .ref (n0 + (N + 0)), .ref (n0 + (N + 1)), .null, .null, .null, .int 0, .null, .null, .null, .null, .null, .null, .int 0, .int 0, .null, .null, .null, .null, .int 0, .null, .int 0, .null, .int 0, .null, .int 0, .int 0])) N (tArr cA n0 N) 2) K hin hP hS (by omega) (by omega) ((up_ne (by omega)).trans gT_i) rfl in_X2 tyX2_ok nmX2 2 (by decide) q226 (fun _ h => h) rfl rfl rfl rfl (Nat.le_of_ble_eq_true rfl) (gT_step hi) dX2_init_17 (fun H locs hP hS => ?_)
  refine lv_aload_n hx hb dX2_init_20 rfl (lv_at hl 0 rfl) ?_
  refine lv_bipush (v := 8) hx hb dX2_init_21 (by decide) ?_
  refine nn_newa (atype := .int) (j := 0) (L := 8) (x := cA 0) (N' := N + 3) (cells' := 3) (slots' := 24) (g' := va_up (gT g i (.inr (2, [.int 0, .ref (n0 + (N + 0)), .ref (n0 + (N + 1)), .null, .null, .null, .int 0, .null, .null, .null, .null, .null, .null, .int 0, .int 0, .null, .null, .null, .null, .int 0, .null, .int 0, .null, .int 0, .null, .int 0, .int 0])) N (tArr cA n0 N) 2) (N + 2) (tArr cA n0 N 2)) K hP hS q219 rfl (fun _ => rfl) (by decide) rfl (by decide) rfl rfl rfl rfl (by omega) (by omega) dX2_init_23 (fun H hP hS => ?_)
  refine nn_putF (N := N + 3) (i := i) (ci := 2) (Cn := RX2) (ref := RX2) (T := TX2) (Nf := 27) (ty0 := tyX2) (fs := [.int 0, .ref (n0 + (N + 0)), .ref (n0 + (N + 1)), .null, .null, .null, .int 0, .null, .null, .null, .null, .null, .null, .int 0, .int 0, .null, .null, .null, .null, .int 0, .null, .int 0, .null, .int 0, .null, .int 0, .int 0]) (g' := gT g i (.inr (2, [.int 0, .ref (n0 + (N + 0)), .ref (n0 + (N + 1)), .ref (n0 + (N + 2)), .null, .null, .int 0, .null, .null, .null, .null, .null, .null, .int 0, .int 0, .null, .null, .null, .null, .int 0, .null, .int 0, .null, .int 0, .null, .int 0, .int 0])) N (tArr cA n0 N) 3) K hin hP hS (by omega) (by omega) ((up_ne (by omega)).trans gT_i) rfl in_X2 tyX2_ok nmX2 3 (by decide) q228 (fun _ h => h) rfl rfl rfl rfl (Nat.le_of_ble_eq_true rfl) (gT_step hi) dX2_init_25 (fun H locs hP hS => ?_)
  refine lv_aload_n hx hb dX2_init_28 rfl (lv_at hl 0 rfl) ?_
  refine lv_bipush (v := 8) hx hb dX2_init_29 (by decide) ?_
  refine nn_newa (atype := .int) (j := 0) (L := 8) (x := cA 0) (N' := N + 4) (cells' := 4) (slots' := 32) (g' := va_up (gT g i (.inr (2, [.int 0, .ref (n0 + (N + 0)), .ref (n0 + (N + 1)), .ref (n0 + (N + 2)), .null, .null, .int 0, .null, .null, .null, .null, .null, .null, .int 0, .int 0, .null, .null, .null, .null, .int 0, .null, .int 0, .null, .int 0, .null, .int 0, .int 0])) N (tArr cA n0 N) 3) (N + 3) (tArr cA n0 N 3)) K hP hS q219 rfl (fun _ => rfl) (by decide) rfl (by decide) rfl rfl rfl rfl (by omega) (by omega) dX2_init_31 (fun H hP hS => ?_)
  refine nn_putF (N := N + 4) (i := i) (ci := 2) (Cn := RX2) (ref := RX2) (T := TX2) (Nf := 27) (ty0 := tyX2) (fs := [.int 0, .ref (n0 + (N + 0)), .ref (n0 + (N + 1)), .ref (n0 + (N + 2)), .null, .null, .int 0, .null, .null, .null, .null, .null, .null, .int 0, .int 0, .null, .null, .null, .null, .int 0, .null, .int 0, .null, .int 0, .null, .int 0, .int 0]) (g' := gT g i (.inr (2, [.int 0, .ref (n0 + (N + 0)), .ref (n0 + (N + 1)), .ref (n0 + (N + 2)), .ref (n0 + (N + 3)), .null, .int 0, .null, .null, .null, .null, .null, .null, .int 0, .int 0, .null, .null, .null, .null, .int 0, .null, .int 0, .null, .int 0, .null, .int 0, .int 0])) N (tArr cA n0 N) 4) K hin hP hS (by omega) (by omega) ((up_ne (by omega)).trans gT_i) rfl in_X2 tyX2_ok nmX2 4 (by decide) q230 (fun _ h => h) rfl rfl rfl rfl (Nat.le_of_ble_eq_true rfl) (gT_step hi) dX2_init_33 (fun H locs hP hS => ?_)
  refine lv_aload_n hx hb dX2_init_36 rfl (lv_at hl 0 rfl) ?_
  refine lv_bipush (v := 8) hx hb dX2_init_37 (by decide) ?_
  refine nn_newa (atype := .int) (j := 0) (L := 8) (x := cA 0) (N' := N + 5) (cells' := 5) (slots' := 40) (g' := va_up (gT g i (.inr (2, [.int 0, .ref (n0 + (N + 0)), .ref (n0 + (N + 1)), .ref (n0 + (N + 2)), .ref (n0 + (N + 3)), .null, .int 0, .null, .null, .null, .null, .null, .null, .int 0, .int 0, .null, .null, .null, .null, .int 0, .null, .int 0, .null, .int 0, .null, .int 0, .int 0])) N (tArr cA n0 N) 4) (N + 4) (tArr cA n0 N 4)) K hP hS q219 rfl (fun _ => rfl) (by decide) rfl (by decide) rfl rfl rfl rfl (by omega) (by omega) dX2_init_39 (fun H hP hS => ?_)
  refine nn_putF (N := N + 5) (i := i) (ci := 2) (Cn := RX2) (ref := RX2) (T := TX2) (Nf := 27) (ty0 := tyX2) (fs := [.int 0, .ref (n0 + (N + 0)), .ref (n0 + (N + 1)), .ref (n0 + (N + 2)), .ref (n0 + (N + 3)), .null, .int 0, .null, .null, .null, .null, .null, .null, .int 0, .int 0, .null, .null, .null, .null, .int 0, .null, .int 0, .null, .int 0, .null, .int 0, .int 0]) (g' := gT g i (.inr (2, [.int 0, .ref (n0 + (N + 0)), .ref (n0 + (N + 1)), .ref (n0 + (N + 2)), .ref (n0 + (N + 3)), .ref (n0 + (N + 4)), .int 0, .null, .null, .null, .null, .null, .null, .int 0, .int 0, .null, .null, .null, .null, .int 0, .null, .int 0, .null, .int 0, .null, .int 0, .int 0])) N (tArr cA n0 N) 5) K hin hP hS (by omega) (by omega) ((up_ne (by omega)).trans gT_i) rfl in_X2 tyX2_ok nmX2 5 (by decide) q232 (fun _ h => h) rfl rfl rfl rfl (Nat.le_of_ble_eq_true rfl) (gT_step hi) dX2_init_41 (fun H locs hP hS => ?_)
  refine lv_aload_n hx hb dX2_init_44 rfl (lv_at hl 0 rfl) ?_
  refine lv_iconst (v := 4) hx hb dX2_init_45 (by decide) ?_
  refine nn_newq (C := "ChapterLoan$Debtor") (j := 4) (L := 4) (x := cA 4) (N' := N + 6) (cells' := 6) (slots' := 44) (g' := va_up (gT g i (.inr (2, [.int 0, .ref (n0 + (N + 0)), .ref (n0 + (N + 1)), .ref (n0 + (N + 2)), .ref (n0 + (N + 3)), .ref (n0 + (N + 4)), .int 0, .null, .null, .null, .null, .null, .null, .int 0, .int 0, .null, .null, .null, .null, .int 0, .null, .int 0, .null, .int 0, .null, .int 0, .int 0])) N (tArr cA n0 N) 5) (N + 5) (tArr cA n0 N 5)) K hP hS q204 hX.2.2.1 rfl (by decide) rfl (by decide) rfl rfl rfl rfl (by omega) (by omega) dX2_init_46 (fun H hP hS => ?_)
  refine nn_putF (N := N + 6) (i := i) (ci := 2) (Cn := RX2) (ref := RX2) (T := TX2) (Nf := 27) (ty0 := tyX2) (fs := [.int 0, .ref (n0 + (N + 0)), .ref (n0 + (N + 1)), .ref (n0 + (N + 2)), .ref (n0 + (N + 3)), .ref (n0 + (N + 4)), .int 0, .null, .null, .null, .null, .null, .null, .int 0, .int 0, .null, .null, .null, .null, .int 0, .null, .int 0, .null, .int 0, .null, .int 0, .int 0]) (g' := gT g i (.inr (2, [.int 0, .ref (n0 + (N + 0)), .ref (n0 + (N + 1)), .ref (n0 + (N + 2)), .ref (n0 + (N + 3)), .ref (n0 + (N + 4)), .int 0, .ref (n0 + (N + 5)), .null, .null, .null, .null, .null, .int 0, .int 0, .null, .null, .null, .null, .int 0, .null, .int 0, .null, .int 0, .null, .int 0, .int 0])) N (tArr cA n0 N) 6) K hin hP hS (by omega) (by omega) ((up_ne (by omega)).trans gT_i) rfl in_X2 tyX2_ok nmX2 7 (by decide) q236 (fun _ h => h) rfl rfl rfl rfl (Nat.le_of_ble_eq_true rfl) (gT_step hi) dX2_init_49 (fun H locs hP hS => ?_)
  refine lv_aload_n hx hb dX2_init_52 rfl (lv_at hl 0 rfl) ?_
  refine lv_iconst (v := 4) hx hb dX2_init_53 (by decide) ?_
  refine nn_newa (atype := .int) (j := 0) (L := 4) (x := cA 0) (N' := N + 7) (cells' := 7) (slots' := 48) (g' := va_up (gT g i (.inr (2, [.int 0, .ref (n0 + (N + 0)), .ref (n0 + (N + 1)), .ref (n0 + (N + 2)), .ref (n0 + (N + 3)), .ref (n0 + (N + 4)), .int 0, .ref (n0 + (N + 5)), .null, .null, .null, .null, .null, .int 0, .int 0, .null, .null, .null, .null, .int 0, .null, .int 0, .null, .int 0, .null, .int 0, .int 0])) N (tArr cA n0 N) 6) (N + 6) (tArr cA n0 N 6)) K hP hS q219 rfl (fun _ => rfl) (by decide) rfl (by decide) rfl rfl rfl rfl (by omega) (by omega) dX2_init_54 (fun H hP hS => ?_)
  refine nn_putF (N := N + 7) (i := i) (ci := 2) (Cn := RX2) (ref := RX2) (T := TX2) (Nf := 27) (ty0 := tyX2) (fs := [.int 0, .ref (n0 + (N + 0)), .ref (n0 + (N + 1)), .ref (n0 + (N + 2)), .ref (n0 + (N + 3)), .ref (n0 + (N + 4)), .int 0, .ref (n0 + (N + 5)), .null, .null, .null, .null, .null, .int 0, .int 0, .null, .null, .null, .null, .int 0, .null, .int 0, .null, .int 0, .null, .int 0, .int 0]) (g' := gT g i (.inr (2, [.int 0, .ref (n0 + (N + 0)), .ref (n0 + (N + 1)), .ref (n0 + (N + 2)), .ref (n0 + (N + 3)), .ref (n0 + (N + 4)), .int 0, .ref (n0 + (N + 5)), .ref (n0 + (N + 6)), .null, .null, .null, .null, .int 0, .int 0, .null, .null, .null, .null, .int 0, .null, .int 0, .null, .int 0, .null, .int 0, .int 0])) N (tArr cA n0 N) 7) K hin hP hS (by omega) (by omega) ((up_ne (by omega)).trans gT_i) rfl in_X2 tyX2_ok nmX2 8 (by decide) q238 (fun _ h => h) rfl rfl rfl rfl (Nat.le_of_ble_eq_true rfl) (gT_step hi) dX2_init_56 (fun H locs hP hS => ?_)
  refine lv_aload_n hx hb dX2_init_59 rfl (lv_at hl 0 rfl) ?_
  refine lv_iconst (v := 4) hx hb dX2_init_60 (by decide) ?_
  refine nn_newa (atype := .boolean) (j := 1) (L := 4) (x := cA 1) (N' := N + 8) (cells' := 8) (slots' := 52) (g' := va_up (gT g i (.inr (2, [.int 0, .ref (n0 + (N + 0)), .ref (n0 + (N + 1)), .ref (n0 + (N + 2)), .ref (n0 + (N + 3)), .ref (n0 + (N + 4)), .int 0, .ref (n0 + (N + 5)), .ref (n0 + (N + 6)), .null, .null, .null, .null, .int 0, .int 0, .null, .null, .null, .null, .int 0, .null, .int 0, .null, .int 0, .null, .int 0, .int 0])) N (tArr cA n0 N) 7) (N + 7) (tArr cA n0 N 7)) K hP hS q220 rfl (fun _ => rfl) (by decide) rfl (by decide) rfl rfl rfl rfl (by omega) (by omega) dX2_init_61 (fun H hP hS => ?_)
  refine nn_putF (N := N + 8) (i := i) (ci := 2) (Cn := RX2) (ref := RX2) (T := TX2) (Nf := 27) (ty0 := tyX2) (fs := [.int 0, .ref (n0 + (N + 0)), .ref (n0 + (N + 1)), .ref (n0 + (N + 2)), .ref (n0 + (N + 3)), .ref (n0 + (N + 4)), .int 0, .ref (n0 + (N + 5)), .ref (n0 + (N + 6)), .null, .null, .null, .null, .int 0, .int 0, .null, .null, .null, .null, .int 0, .null, .int 0, .null, .int 0, .null, .int 0, .int 0]) (g' := gT g i (.inr (2, [.int 0, .ref (n0 + (N + 0)), .ref (n0 + (N + 1)), .ref (n0 + (N + 2)), .ref (n0 + (N + 3)), .ref (n0 + (N + 4)), .int 0, .ref (n0 + (N + 5)), .ref (n0 + (N + 6)), .ref (n0 + (N + 7)), .null, .null, .null, .int 0, .int 0, .null, .null, .null, .null, .int 0, .null, .int 0, .null, .int 0, .null, .int 0, .int 0])) N (tArr cA n0 N) 8) K hin hP hS (by omega) (by omega) ((up_ne (by omega)).trans gT_i) rfl in_X2 tyX2_ok nmX2 9 (by decide) q240 (fun _ h => h) rfl rfl rfl rfl (Nat.le_of_ble_eq_true rfl) (gT_step hi) dX2_init_63 (fun H locs hP hS => ?_)
  refine lv_aload_n hx hb dX2_init_66 rfl (lv_at hl 0 rfl) ?_
  refine lv_iconst (v := 4) hx hb dX2_init_67 (by decide) ?_
  refine nn_newa (atype := .int) (j := 0) (L := 4) (x := cA 0) (N' := N + 9) (cells' := 9) (slots' := 56) (g' := va_up (gT g i (.inr (2, [.int 0, .ref (n0 + (N + 0)), .ref (n0 + (N + 1)), .ref (n0 + (N + 2)), .ref (n0 + (N + 3)), .ref (n0 + (N + 4)), .int 0, .ref (n0 + (N + 5)), .ref (n0 + (N + 6)), .ref (n0 + (N + 7)), .null, .null, .null, .int 0, .int 0, .null, .null, .null, .null, .int 0, .null, .int 0, .null, .int 0, .null, .int 0, .int 0])) N (tArr cA n0 N) 8) (N + 8) (tArr cA n0 N 8)) K hP hS q219 rfl (fun _ => rfl) (by decide) rfl (by decide) rfl rfl rfl rfl (by omega) (by omega) dX2_init_68 (fun H hP hS => ?_)
  refine nn_putF (N := N + 9) (i := i) (ci := 2) (Cn := RX2) (ref := RX2) (T := TX2) (Nf := 27) (ty0 := tyX2) (fs := [.int 0, .ref (n0 + (N + 0)), .ref (n0 + (N + 1)), .ref (n0 + (N + 2)), .ref (n0 + (N + 3)), .ref (n0 + (N + 4)), .int 0, .ref (n0 + (N + 5)), .ref (n0 + (N + 6)), .ref (n0 + (N + 7)), .null, .null, .null, .int 0, .int 0, .null, .null, .null, .null, .int 0, .null, .int 0, .null, .int 0, .null, .int 0, .int 0]) (g' := gT g i (.inr (2, [.int 0, .ref (n0 + (N + 0)), .ref (n0 + (N + 1)), .ref (n0 + (N + 2)), .ref (n0 + (N + 3)), .ref (n0 + (N + 4)), .int 0, .ref (n0 + (N + 5)), .ref (n0 + (N + 6)), .ref (n0 + (N + 7)), .ref (n0 + (N + 8)), .null, .null, .int 0, .int 0, .null, .null, .null, .null, .int 0, .null, .int 0, .null, .int 0, .null, .int 0, .int 0])) N (tArr cA n0 N) 9) K hin hP hS (by omega) (by omega) ((up_ne (by omega)).trans gT_i) rfl in_X2 tyX2_ok nmX2 10 (by decide) q242 (fun _ h => h) rfl rfl rfl rfl (Nat.le_of_ble_eq_true rfl) (gT_step hi) dX2_init_70 (fun H locs hP hS => ?_)
  refine lv_aload_n hx hb dX2_init_73 rfl (lv_at hl 0 rfl) ?_
  refine lv_bipush (v := 32) hx hb dX2_init_74 (by decide) ?_
  refine nn_newa (atype := .int) (j := 0) (L := 32) (x := cA 0) (N' := N + 10) (cells' := 10) (slots' := 88) (g' := va_up (gT g i (.inr (2, [.int 0, .ref (n0 + (N + 0)), .ref (n0 + (N + 1)), .ref (n0 + (N + 2)), .ref (n0 + (N + 3)), .ref (n0 + (N + 4)), .int 0, .ref (n0 + (N + 5)), .ref (n0 + (N + 6)), .ref (n0 + (N + 7)), .ref (n0 + (N + 8)), .null, .null, .int 0, .int 0, .null, .null, .null, .null, .int 0, .null, .int 0, .null, .int 0, .null, .int 0, .int 0])) N (tArr cA n0 N) 9) (N + 9) (tArr cA n0 N 9)) K hP hS q219 rfl (fun _ => rfl) (by decide) rfl (by decide) rfl rfl rfl rfl (by omega) (by omega) dX2_init_76 (fun H hP hS => ?_)
  refine nn_putF (N := N + 10) (i := i) (ci := 2) (Cn := RX2) (ref := RX2) (T := TX2) (Nf := 27) (ty0 := tyX2) (fs := [.int 0, .ref (n0 + (N + 0)), .ref (n0 + (N + 1)), .ref (n0 + (N + 2)), .ref (n0 + (N + 3)), .ref (n0 + (N + 4)), .int 0, .ref (n0 + (N + 5)), .ref (n0 + (N + 6)), .ref (n0 + (N + 7)), .ref (n0 + (N + 8)), .null, .null, .int 0, .int 0, .null, .null, .null, .null, .int 0, .null, .int 0, .null, .int 0, .null, .int 0, .int 0]) (g' := gT g i (.inr (2, [.int 0, .ref (n0 + (N + 0)), .ref (n0 + (N + 1)), .ref (n0 + (N + 2)), .ref (n0 + (N + 3)), .ref (n0 + (N + 4)), .int 0, .ref (n0 + (N + 5)), .ref (n0 + (N + 6)), .ref (n0 + (N + 7)), .ref (n0 + (N + 8)), .ref (n0 + (N + 9)), .null, .int 0, .int 0, .null, .null, .null, .null, .int 0, .null, .int 0, .null, .int 0, .null, .int 0, .int 0])) N (tArr cA n0 N) 10) K hin hP hS (by omega) (by omega) ((up_ne (by omega)).trans gT_i) rfl in_X2 tyX2_ok nmX2 11 (by decide) q244 (fun _ h => h) rfl rfl rfl rfl (Nat.le_of_ble_eq_true rfl) (gT_step hi) dX2_init_78 (fun H locs hP hS => ?_)
  refine lv_aload_n hx hb dX2_init_81 rfl (lv_at hl 0 rfl) ?_
  refine lv_bipush (v := 32) hx hb dX2_init_82 (by decide) ?_
  refine nn_newa (atype := .int) (j := 0) (L := 32) (x := cA 0) (N' := N + 11) (cells' := 11) (slots' := 120) (g' := va_up (gT g i (.inr (2, [.int 0, .ref (n0 + (N + 0)), .ref (n0 + (N + 1)), .ref (n0 + (N + 2)), .ref (n0 + (N + 3)), .ref (n0 + (N + 4)), .int 0, .ref (n0 + (N + 5)), .ref (n0 + (N + 6)), .ref (n0 + (N + 7)), .ref (n0 + (N + 8)), .ref (n0 + (N + 9)), .null, .int 0, .int 0, .null, .null, .null, .null, .int 0, .null, .int 0, .null, .int 0, .null, .int 0, .int 0])) N (tArr cA n0 N) 10) (N + 10) (tArr cA n0 N 10)) K hP hS q219 rfl (fun _ => rfl) (by decide) rfl (by decide) rfl rfl rfl rfl (by omega) (by omega) dX2_init_84 (fun H hP hS => ?_)
  refine nn_putF (N := N + 11) (i := i) (ci := 2) (Cn := RX2) (ref := RX2) (T := TX2) (Nf := 27) (ty0 := tyX2) (fs := [.int 0, .ref (n0 + (N + 0)), .ref (n0 + (N + 1)), .ref (n0 + (N + 2)), .ref (n0 + (N + 3)), .ref (n0 + (N + 4)), .int 0, .ref (n0 + (N + 5)), .ref (n0 + (N + 6)), .ref (n0 + (N + 7)), .ref (n0 + (N + 8)), .ref (n0 + (N + 9)), .null, .int 0, .int 0, .null, .null, .null, .null, .int 0, .null, .int 0, .null, .int 0, .null, .int 0, .int 0]) (g' := gT g i (.inr (2, [.int 0, .ref (n0 + (N + 0)), .ref (n0 + (N + 1)), .ref (n0 + (N + 2)), .ref (n0 + (N + 3)), .ref (n0 + (N + 4)), .int 0, .ref (n0 + (N + 5)), .ref (n0 + (N + 6)), .ref (n0 + (N + 7)), .ref (n0 + (N + 8)), .ref (n0 + (N + 9)), .ref (n0 + (N + 10)), .int 0, .int 0, .null, .null, .null, .null, .int 0, .null, .int 0, .null, .int 0, .null, .int 0, .int 0])) N (tArr cA n0 N) 11) K hin hP hS (by omega) (by omega) ((up_ne (by omega)).trans gT_i) rfl in_X2 tyX2_ok nmX2 12 (by decide) q245 (fun _ h => h) rfl rfl rfl rfl (Nat.le_of_ble_eq_true rfl) (gT_step hi) dX2_init_86 (fun H locs hP hS => ?_)
  refine lv_aload_n hx hb dX2_init_89 rfl (lv_at hl 0 rfl) ?_
  refine lv_bipush (v := 12) hx hb dX2_init_90 (by decide) ?_
  refine nn_newa (atype := .int) (j := 0) (L := 12) (x := cA 0) (N' := N + 12) (cells' := 12) (slots' := 132) (g' := va_up (gT g i (.inr (2, [.int 0, .ref (n0 + (N + 0)), .ref (n0 + (N + 1)), .ref (n0 + (N + 2)), .ref (n0 + (N + 3)), .ref (n0 + (N + 4)), .int 0, .ref (n0 + (N + 5)), .ref (n0 + (N + 6)), .ref (n0 + (N + 7)), .ref (n0 + (N + 8)), .ref (n0 + (N + 9)), .ref (n0 + (N + 10)), .int 0, .int 0, .null, .null, .null, .null, .int 0, .null, .int 0, .null, .int 0, .null, .int 0, .int 0])) N (tArr cA n0 N) 11) (N + 11) (tArr cA n0 N 11)) K hP hS q219 rfl (fun _ => rfl) (by decide) rfl (by decide) rfl rfl rfl rfl (by omega) (by omega) dX2_init_92 (fun H hP hS => ?_)
  refine nn_putF (N := N + 12) (i := i) (ci := 2) (Cn := RX2) (ref := RX2) (T := TX2) (Nf := 27) (ty0 := tyX2) (fs := [.int 0, .ref (n0 + (N + 0)), .ref (n0 + (N + 1)), .ref (n0 + (N + 2)), .ref (n0 + (N + 3)), .ref (n0 + (N + 4)), .int 0, .ref (n0 + (N + 5)), .ref (n0 + (N + 6)), .ref (n0 + (N + 7)), .ref (n0 + (N + 8)), .ref (n0 + (N + 9)), .ref (n0 + (N + 10)), .int 0, .int 0, .null, .null, .null, .null, .int 0, .null, .int 0, .null, .int 0, .null, .int 0, .int 0]) (g' := gT g i (.inr (2, [.int 0, .ref (n0 + (N + 0)), .ref (n0 + (N + 1)), .ref (n0 + (N + 2)), .ref (n0 + (N + 3)), .ref (n0 + (N + 4)), .int 0, .ref (n0 + (N + 5)), .ref (n0 + (N + 6)), .ref (n0 + (N + 7)), .ref (n0 + (N + 8)), .ref (n0 + (N + 9)), .ref (n0 + (N + 10)), .int 0, .int 0, .ref (n0 + (N + 11)), .null, .null, .null, .int 0, .null, .int 0, .null, .int 0, .null, .int 0, .int 0])) N (tArr cA n0 N) 12) K hin hP hS (by omega) (by omega) ((up_ne (by omega)).trans gT_i) rfl in_X2 tyX2_ok nmX2 15 (by decide) q251 (fun _ h => h) rfl rfl rfl rfl (Nat.le_of_ble_eq_true rfl) (gT_step hi) dX2_init_94 (fun H locs hP hS => ?_)
  refine lv_aload_n hx hb dX2_init_97 rfl (lv_at hl 0 rfl) ?_
  refine lv_bipush (v := 12) hx hb dX2_init_98 (by decide) ?_
  refine nn_newa (atype := .int) (j := 0) (L := 12) (x := cA 0) (N' := N + 13) (cells' := 13) (slots' := 144) (g' := va_up (gT g i (.inr (2, [.int 0, .ref (n0 + (N + 0)), .ref (n0 + (N + 1)), .ref (n0 + (N + 2)), .ref (n0 + (N + 3)), .ref (n0 + (N + 4)), .int 0, .ref (n0 + (N + 5)), .ref (n0 + (N + 6)), .ref (n0 + (N + 7)), .ref (n0 + (N + 8)), .ref (n0 + (N + 9)), .ref (n0 + (N + 10)), .int 0, .int 0, .ref (n0 + (N + 11)), .null, .null, .null, .int 0, .null, .int 0, .null, .int 0, .null, .int 0, .int 0])) N (tArr cA n0 N) 12) (N + 12) (tArr cA n0 N 12)) K hP hS q219 rfl (fun _ => rfl) (by decide) rfl (by decide) rfl rfl rfl rfl (by omega) (by omega) dX2_init_100 (fun H hP hS => ?_)
  refine nn_putF (N := N + 13) (i := i) (ci := 2) (Cn := RX2) (ref := RX2) (T := TX2) (Nf := 27) (ty0 := tyX2) (fs := [.int 0, .ref (n0 + (N + 0)), .ref (n0 + (N + 1)), .ref (n0 + (N + 2)), .ref (n0 + (N + 3)), .ref (n0 + (N + 4)), .int 0, .ref (n0 + (N + 5)), .ref (n0 + (N + 6)), .ref (n0 + (N + 7)), .ref (n0 + (N + 8)), .ref (n0 + (N + 9)), .ref (n0 + (N + 10)), .int 0, .int 0, .ref (n0 + (N + 11)), .null, .null, .null, .int 0, .null, .int 0, .null, .int 0, .null, .int 0, .int 0]) (g' := gT g i (.inr (2, [.int 0, .ref (n0 + (N + 0)), .ref (n0 + (N + 1)), .ref (n0 + (N + 2)), .ref (n0 + (N + 3)), .ref (n0 + (N + 4)), .int 0, .ref (n0 + (N + 5)), .ref (n0 + (N + 6)), .ref (n0 + (N + 7)), .ref (n0 + (N + 8)), .ref (n0 + (N + 9)), .ref (n0 + (N + 10)), .int 0, .int 0, .ref (n0 + (N + 11)), .ref (n0 + (N + 12)), .null, .null, .int 0, .null, .int 0, .null, .int 0, .null, .int 0, .int 0])) N (tArr cA n0 N) 13) K hin hP hS (by omega) (by omega) ((up_ne (by omega)).trans gT_i) rfl in_X2 tyX2_ok nmX2 16 (by decide) q253 (fun _ h => h) rfl rfl rfl rfl (Nat.le_of_ble_eq_true rfl) (gT_step hi) dX2_init_102 (fun H locs hP hS => ?_)
  refine lv_aload_n hx hb dX2_init_105 rfl (lv_at hl 0 rfl) ?_
  refine lv_bipush (v := 12) hx hb dX2_init_106 (by decide) ?_
  refine nn_newa (atype := .int) (j := 0) (L := 12) (x := cA 0) (N' := N + 14) (cells' := 14) (slots' := 156) (g' := va_up (gT g i (.inr (2, [.int 0, .ref (n0 + (N + 0)), .ref (n0 + (N + 1)), .ref (n0 + (N + 2)), .ref (n0 + (N + 3)), .ref (n0 + (N + 4)), .int 0, .ref (n0 + (N + 5)), .ref (n0 + (N + 6)), .ref (n0 + (N + 7)), .ref (n0 + (N + 8)), .ref (n0 + (N + 9)), .ref (n0 + (N + 10)), .int 0, .int 0, .ref (n0 + (N + 11)), .ref (n0 + (N + 12)), .null, .null, .int 0, .null, .int 0, .null, .int 0, .null, .int 0, .int 0])) N (tArr cA n0 N) 13) (N + 13) (tArr cA n0 N 13)) K hP hS q219 rfl (fun _ => rfl) (by decide) rfl (by decide) rfl rfl rfl rfl (by omega) (by omega) dX2_init_108 (fun H hP hS => ?_)
  refine nn_putF (N := N + 14) (i := i) (ci := 2) (Cn := RX2) (ref := RX2) (T := TX2) (Nf := 27) (ty0 := tyX2) (fs := [.int 0, .ref (n0 + (N + 0)), .ref (n0 + (N + 1)), .ref (n0 + (N + 2)), .ref (n0 + (N + 3)), .ref (n0 + (N + 4)), .int 0, .ref (n0 + (N + 5)), .ref (n0 + (N + 6)), .ref (n0 + (N + 7)), .ref (n0 + (N + 8)), .ref (n0 + (N + 9)), .ref (n0 + (N + 10)), .int 0, .int 0, .ref (n0 + (N + 11)), .ref (n0 + (N + 12)), .null, .null, .int 0, .null, .int 0, .null, .int 0, .null, .int 0, .int 0]) (g' := gT g i (.inr (2, [.int 0, .ref (n0 + (N + 0)), .ref (n0 + (N + 1)), .ref (n0 + (N + 2)), .ref (n0 + (N + 3)), .ref (n0 + (N + 4)), .int 0, .ref (n0 + (N + 5)), .ref (n0 + (N + 6)), .ref (n0 + (N + 7)), .ref (n0 + (N + 8)), .ref (n0 + (N + 9)), .ref (n0 + (N + 10)), .int 0, .int 0, .ref (n0 + (N + 11)), .ref (n0 + (N + 12)), .ref (n0 + (N + 13)), .null, .int 0, .null, .int 0, .null, .int 0, .null, .int 0, .int 0])) N (tArr cA n0 N) 14) K hin hP hS (by omega) (by omega) ((up_ne (by omega)).trans gT_i) rfl in_X2 tyX2_ok nmX2 17 (by decide) q255 (fun _ h => h) rfl rfl rfl rfl (Nat.le_of_ble_eq_true rfl) (gT_step hi) dX2_init_110 (fun H locs hP hS => ?_)
  refine lv_aload_n hx hb dX2_init_113 rfl (lv_at hl 0 rfl) ?_
  refine lv_iconst (v := 2) hx hb dX2_init_114 (by decide) ?_
  refine nn_newq (C := "ChapterLoan$Term") (j := 5) (L := 2) (x := cA 5) (N' := N + 15) (cells' := 15) (slots' := 158) (g' := va_up (gT g i (.inr (2, [.int 0, .ref (n0 + (N + 0)), .ref (n0 + (N + 1)), .ref (n0 + (N + 2)), .ref (n0 + (N + 3)), .ref (n0 + (N + 4)), .int 0, .ref (n0 + (N + 5)), .ref (n0 + (N + 6)), .ref (n0 + (N + 7)), .ref (n0 + (N + 8)), .ref (n0 + (N + 9)), .ref (n0 + (N + 10)), .int 0, .int 0, .ref (n0 + (N + 11)), .ref (n0 + (N + 12)), .ref (n0 + (N + 13)), .null, .int 0, .null, .int 0, .null, .int 0, .null, .int 0, .int 0])) N (tArr cA n0 N) 14) (N + 14) (tArr cA n0 N 14)) K hP hS q206 hX.2.2.2.1 rfl (by decide) rfl (by decide) rfl rfl rfl rfl (by omega) (by omega) dX2_init_115 (fun H hP hS => ?_)
  refine nn_putF (N := N + 15) (i := i) (ci := 2) (Cn := RX2) (ref := RX2) (T := TX2) (Nf := 27) (ty0 := tyX2) (fs := [.int 0, .ref (n0 + (N + 0)), .ref (n0 + (N + 1)), .ref (n0 + (N + 2)), .ref (n0 + (N + 3)), .ref (n0 + (N + 4)), .int 0, .ref (n0 + (N + 5)), .ref (n0 + (N + 6)), .ref (n0 + (N + 7)), .ref (n0 + (N + 8)), .ref (n0 + (N + 9)), .ref (n0 + (N + 10)), .int 0, .int 0, .ref (n0 + (N + 11)), .ref (n0 + (N + 12)), .ref (n0 + (N + 13)), .null, .int 0, .null, .int 0, .null, .int 0, .null, .int 0, .int 0]) (g' := gT g i (.inr (2, [.int 0, .ref (n0 + (N + 0)), .ref (n0 + (N + 1)), .ref (n0 + (N + 2)), .ref (n0 + (N + 3)), .ref (n0 + (N + 4)), .int 0, .ref (n0 + (N + 5)), .ref (n0 + (N + 6)), .ref (n0 + (N + 7)), .ref (n0 + (N + 8)), .ref (n0 + (N + 9)), .ref (n0 + (N + 10)), .int 0, .int 0, .ref (n0 + (N + 11)), .ref (n0 + (N + 12)), .ref (n0 + (N + 13)), .ref (n0 + (N + 14)), .int 0, .null, .int 0, .null, .int 0, .null, .int 0, .int 0])) N (tArr cA n0 N) 15) K hin hP hS (by omega) (by omega) ((up_ne (by omega)).trans gT_i) rfl in_X2 tyX2_ok nmX2 18 (by decide) q257 (fun _ h => h) rfl rfl rfl rfl (Nat.le_of_ble_eq_true rfl) (gT_step hi) dX2_init_118 (fun H locs hP hS => ?_)
  refine lv_aload_n hx hb dX2_init_121 rfl (lv_at hl 0 rfl) ?_
  refine lv_iconst (v := 1) hx hb dX2_init_122 (by decide) ?_
  refine nn_put (N := N + 15) (i := i) (ci := 2) (Cn := RX2) (ref := RX2) (T := TX2) (Nf := 27) (ty0 := tyX2) (fs := [.int 0, .ref (n0 + (N + 0)), .ref (n0 + (N + 1)), .ref (n0 + (N + 2)), .ref (n0 + (N + 3)), .ref (n0 + (N + 4)), .int 0, .ref (n0 + (N + 5)), .ref (n0 + (N + 6)), .ref (n0 + (N + 7)), .ref (n0 + (N + 8)), .ref (n0 + (N + 9)), .ref (n0 + (N + 10)), .int 0, .int 0, .ref (n0 + (N + 11)), .ref (n0 + (N + 12)), .ref (n0 + (N + 13)), .ref (n0 + (N + 14)), .int 0, .null, .int 0, .null, .int 0, .null, .int 0, .int 0]) (g' := gT g i (.inr (2, [.int 0, .ref (n0 + (N + 0)), .ref (n0 + (N + 1)), .ref (n0 + (N + 2)), .ref (n0 + (N + 3)), .ref (n0 + (N + 4)), .int 0, .ref (n0 + (N + 5)), .ref (n0 + (N + 6)), .ref (n0 + (N + 7)), .ref (n0 + (N + 8)), .ref (n0 + (N + 9)), .ref (n0 + (N + 10)), .int 0, .int 0, .ref (n0 + (N + 11)), .ref (n0 + (N + 12)), .ref (n0 + (N + 13)), .ref (n0 + (N + 14)), .int 1, .null, .int 0, .null, .int 0, .null, .int 0, .int 0])) N (tArr cA n0 N) 15) K hP hS (by omega) (by omega) gT_i rfl in_X2 tyX2_ok nmX2 19 (by decide) q259 (fun _ h => h) rfl rfl rfl (Nat.le_of_ble_eq_true rfl) gT_put dX2_init_123 (fun H locs hP hS => ?_)
  refine lv_aload_n hx hb dX2_init_126 rfl (lv_at hl 0 rfl) ?_
  refine lv_bipush (v := 50) hx hb dX2_init_127 (by decide) ?_
  refine nn_newa (atype := .byte) (j := 2) (L := 50) (x := cA 2) (N' := N + 16) (cells' := 16) (slots' := 208) (g' := va_up (gT g i (.inr (2, [.int 0, .ref (n0 + (N + 0)), .ref (n0 + (N + 1)), .ref (n0 + (N + 2)), .ref (n0 + (N + 3)), .ref (n0 + (N + 4)), .int 0, .ref (n0 + (N + 5)), .ref (n0 + (N + 6)), .ref (n0 + (N + 7)), .ref (n0 + (N + 8)), .ref (n0 + (N + 9)), .ref (n0 + (N + 10)), .int 0, .int 0, .ref (n0 + (N + 11)), .ref (n0 + (N + 12)), .ref (n0 + (N + 13)), .ref (n0 + (N + 14)), .int 1, .null, .int 0, .null, .int 0, .null, .int 0, .int 0])) N (tArr cA n0 N) 15) (N + 15) (tArr cA n0 N 15)) K hP hS q221 rfl (fun _ => rfl) (by decide) rfl (by decide) rfl rfl rfl rfl (by omega) (by omega) dX2_init_129 (fun H hP hS => ?_)
  refine nn_putF (N := N + 16) (i := i) (ci := 2) (Cn := RX2) (ref := RX2) (T := TX2) (Nf := 27) (ty0 := tyX2) (fs := [.int 0, .ref (n0 + (N + 0)), .ref (n0 + (N + 1)), .ref (n0 + (N + 2)), .ref (n0 + (N + 3)), .ref (n0 + (N + 4)), .int 0, .ref (n0 + (N + 5)), .ref (n0 + (N + 6)), .ref (n0 + (N + 7)), .ref (n0 + (N + 8)), .ref (n0 + (N + 9)), .ref (n0 + (N + 10)), .int 0, .int 0, .ref (n0 + (N + 11)), .ref (n0 + (N + 12)), .ref (n0 + (N + 13)), .ref (n0 + (N + 14)), .int 1, .null, .int 0, .null, .int 0, .null, .int 0, .int 0]) (g' := gT g i (.inr (2, [.int 0, .ref (n0 + (N + 0)), .ref (n0 + (N + 1)), .ref (n0 + (N + 2)), .ref (n0 + (N + 3)), .ref (n0 + (N + 4)), .int 0, .ref (n0 + (N + 5)), .ref (n0 + (N + 6)), .ref (n0 + (N + 7)), .ref (n0 + (N + 8)), .ref (n0 + (N + 9)), .ref (n0 + (N + 10)), .int 0, .int 0, .ref (n0 + (N + 11)), .ref (n0 + (N + 12)), .ref (n0 + (N + 13)), .ref (n0 + (N + 14)), .int 1, .ref (n0 + (N + 15)), .int 0, .null, .int 0, .null, .int 0, .int 0])) N (tArr cA n0 N) 16) K hin hP hS (by omega) (by omega) ((up_ne (by omega)).trans gT_i) rfl in_X2 tyX2_ok nmX2 20 (by decide) q261 (fun _ h => h) rfl rfl rfl rfl (Nat.le_of_ble_eq_true rfl) (gT_step hi) dX2_init_131 (fun H locs hP hS => ?_)
  refine lv_aload_n hx hb dX2_init_134 rfl (lv_at hl 0 rfl) ?_
  refine lv_bipush (v := 20) hx hb dX2_init_135 (by decide) ?_
  refine nn_newa (atype := .int) (j := 0) (L := 20) (x := cA 0) (N' := N + 17) (cells' := 17) (slots' := 228) (g' := va_up (gT g i (.inr (2, [.int 0, .ref (n0 + (N + 0)), .ref (n0 + (N + 1)), .ref (n0 + (N + 2)), .ref (n0 + (N + 3)), .ref (n0 + (N + 4)), .int 0, .ref (n0 + (N + 5)), .ref (n0 + (N + 6)), .ref (n0 + (N + 7)), .ref (n0 + (N + 8)), .ref (n0 + (N + 9)), .ref (n0 + (N + 10)), .int 0, .int 0, .ref (n0 + (N + 11)), .ref (n0 + (N + 12)), .ref (n0 + (N + 13)), .ref (n0 + (N + 14)), .int 1, .ref (n0 + (N + 15)), .int 0, .null, .int 0, .null, .int 0, .int 0])) N (tArr cA n0 N) 16) (N + 16) (tArr cA n0 N 16)) K hP hS q219 rfl (fun _ => rfl) (by decide) rfl (by decide) rfl rfl rfl rfl (by omega) (by omega) dX2_init_137 (fun H hP hS => ?_)
  refine nn_putF (N := N + 17) (i := i) (ci := 2) (Cn := RX2) (ref := RX2) (T := TX2) (Nf := 27) (ty0 := tyX2) (fs := [.int 0, .ref (n0 + (N + 0)), .ref (n0 + (N + 1)), .ref (n0 + (N + 2)), .ref (n0 + (N + 3)), .ref (n0 + (N + 4)), .int 0, .ref (n0 + (N + 5)), .ref (n0 + (N + 6)), .ref (n0 + (N + 7)), .ref (n0 + (N + 8)), .ref (n0 + (N + 9)), .ref (n0 + (N + 10)), .int 0, .int 0, .ref (n0 + (N + 11)), .ref (n0 + (N + 12)), .ref (n0 + (N + 13)), .ref (n0 + (N + 14)), .int 1, .ref (n0 + (N + 15)), .int 0, .null, .int 0, .null, .int 0, .int 0]) (g' := gT g i (.inr (2, [.int 0, .ref (n0 + (N + 0)), .ref (n0 + (N + 1)), .ref (n0 + (N + 2)), .ref (n0 + (N + 3)), .ref (n0 + (N + 4)), .int 0, .ref (n0 + (N + 5)), .ref (n0 + (N + 6)), .ref (n0 + (N + 7)), .ref (n0 + (N + 8)), .ref (n0 + (N + 9)), .ref (n0 + (N + 10)), .int 0, .int 0, .ref (n0 + (N + 11)), .ref (n0 + (N + 12)), .ref (n0 + (N + 13)), .ref (n0 + (N + 14)), .int 1, .ref (n0 + (N + 15)), .int 0, .ref (n0 + (N + 16)), .int 0, .null, .int 0, .int 0])) N (tArr cA n0 N) 17) K hin hP hS (by omega) (by omega) ((up_ne (by omega)).trans gT_i) rfl in_X2 tyX2_ok nmX2 22 (by decide) q265 (fun _ h => h) rfl rfl rfl rfl (Nat.le_of_ble_eq_true rfl) (gT_step hi) dX2_init_139 (fun H locs hP hS => ?_)
  refine lv_aload_n hx hb dX2_init_142 rfl (lv_at hl 0 rfl) ?_
  refine nn_new (ci := 3) (Cn := RX3) (T := TX3) (Nf := 1) (ty0 := tyX3) (fs := [.null]) (N' := N + 18) (cells' := 18) (slots' := 229) (g' := _) K hP hS rfl in_X3 tyX3_ok q208 q209 q91 (fun j hj => by match j, hj with | 0, _ => rfl) rfl rfl rfl rfl (by omega) (by omega) dX2_init_143 (fun H hP hS => ?_)
  refine lv_dup hx hb dX2_init_146 rfl ?_
  refine nn_end (mc := 1) (ms := 128) (cells' := 19) (slots' := 357) hS (va_runIN (As := []) (rest := [.ref (n0 + (N + 17)), .ref (n0 + i)]) (g := F0 m 147 ls [.ref (n0 + (N + 17)), .ref (n0 + (N + 17)), .ref (n0 + i)]) (locs := locs) (cells := 18) (slots := 229) (p := p) (e := e) (below := below) (meth := meth) (b := n0 + (N + 17)) ⟨hx, hb, hml, hown, hts⟩ (w_nFacts (l := l) (adK := adK) (adV := adV) (i := N + 17) (N := N + 18) (by omega) up_eq) ⟨va_cnB 0 hts (lw_meth q212) rfl rfl rfl (hX.1 _ (List.mem_of_getElem? (i := 9) rfl)) (hts _ q91) (by decide +kernel) (mrA hR (Nat.le_of_ble_eq_true rfl) (by decide)), rfl, hts _ q211⟩ (nn_pre K (fun _ _ _ _ h => xX.calling h) (fun U hU hW => xX.there hX hS hU hW) hP) rfl rfl hl.1 rfl (lv_room (Nat.le_of_ble_eq_true rfl)) dX2_init_147 ⟨by omega, by omega⟩) rfl rfl (fun H locs hP hS => ?_)
  refine nn_putF (N := N + 19) (i := i) (ci := 2) (Cn := RX2) (ref := RX2) (T := TX2) (Nf := 27) (ty0 := tyX2) (fs := [.int 0, .ref (n0 + (N + 0)), .ref (n0 + (N + 1)), .ref (n0 + (N + 2)), .ref (n0 + (N + 3)), .ref (n0 + (N + 4)), .int 0, .ref (n0 + (N + 5)), .ref (n0 + (N + 6)), .ref (n0 + (N + 7)), .ref (n0 + (N + 8)), .ref (n0 + (N + 9)), .ref (n0 + (N + 10)), .int 0, .int 0, .ref (n0 + (N + 11)), .ref (n0 + (N + 12)), .ref (n0 + (N + 13)), .ref (n0 + (N + 14)), .int 1, .ref (n0 + (N + 15)), .int 0, .ref (n0 + (N + 16)), .int 0, .null, .int 0, .int 0]) (g' := gT g i (.inr (2, [.int 0, .ref (n0 + (N + 0)), .ref (n0 + (N + 1)), .ref (n0 + (N + 2)), .ref (n0 + (N + 3)), .ref (n0 + (N + 4)), .int 0, .ref (n0 + (N + 5)), .ref (n0 + (N + 6)), .ref (n0 + (N + 7)), .ref (n0 + (N + 8)), .ref (n0 + (N + 9)), .ref (n0 + (N + 10)), .int 0, .int 0, .ref (n0 + (N + 11)), .ref (n0 + (N + 12)), .ref (n0 + (N + 13)), .ref (n0 + (N + 14)), .int 1, .ref (n0 + (N + 15)), .int 0, .ref (n0 + (N + 16)), .int 0, .ref (n0 + (N + 17)), .int 0, .int 0])) N (tArr cA n0 N) 19) K hin hP hS (by omega) (by omega) ((up_ne (by omega)).trans ((up_ne (by omega)).trans ((up_ne (by omega)).trans gT_i))) rfl in_X2 tyX2_ok nmX2 24 (by decide) q269 (fun _ h => h) rfl rfl rfl rfl (Nat.le_of_ble_eq_true rfl) (gT_two hi) dX2_init_150 (fun H locs hP hS => ?_)
  refine lv_aload_n hx hb dX2_init_153 rfl (lv_at hl 0 rfl) ?_
  refine lv_iconst (v := -1) hx hb dX2_init_154 (by decide) ?_
  refine nn_put (N := N + 19) (i := i) (ci := 2) (Cn := RX2) (ref := RX2) (T := TX2) (Nf := 27) (ty0 := tyX2) (fs := [.int 0, .ref (n0 + (N + 0)), .ref (n0 + (N + 1)), .ref (n0 + (N + 2)), .ref (n0 + (N + 3)), .ref (n0 + (N + 4)), .int 0, .ref (n0 + (N + 5)), .ref (n0 + (N + 6)), .ref (n0 + (N + 7)), .ref (n0 + (N + 8)), .ref (n0 + (N + 9)), .ref (n0 + (N + 10)), .int 0, .int 0, .ref (n0 + (N + 11)), .ref (n0 + (N + 12)), .ref (n0 + (N + 13)), .ref (n0 + (N + 14)), .int 1, .ref (n0 + (N + 15)), .int 0, .ref (n0 + (N + 16)), .int 0, .ref (n0 + (N + 17)), .int 0, .int 0]) (g' := gT g i (.inr (2, [.int 0, .ref (n0 + (N + 0)), .ref (n0 + (N + 1)), .ref (n0 + (N + 2)), .ref (n0 + (N + 3)), .ref (n0 + (N + 4)), .int 0, .ref (n0 + (N + 5)), .ref (n0 + (N + 6)), .ref (n0 + (N + 7)), .ref (n0 + (N + 8)), .ref (n0 + (N + 9)), .ref (n0 + (N + 10)), .int 0, .int 0, .ref (n0 + (N + 11)), .ref (n0 + (N + 12)), .ref (n0 + (N + 13)), .ref (n0 + (N + 14)), .int 1, .ref (n0 + (N + 15)), .int 0, .ref (n0 + (N + 16)), .int 0, .ref (n0 + (N + 17)), .int (-1), .int 0])) N (tArr cA n0 N) 19) K hP hS (by omega) (by omega) gT_i rfl in_X2 tyX2_ok nmX2 25 (by decide) q270 (fun _ h => h) rfl rfl rfl (Nat.le_of_ble_eq_true rfl) gT_put dX2_init_155 (fun H locs hP hS => ?_)
  exact nn_vret hx hb hr hlk hP hS dX2_init_158
end
