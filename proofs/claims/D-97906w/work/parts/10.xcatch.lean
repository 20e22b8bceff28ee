/-! the catch -/
def xkey (h : ExceptionTableEntry) : Nat × Nat × Nat × Nat := (h.startPc, h.endPc, h.handlerPc, h.catchType)
theorem xsplit {l : List ExceptionTableEntry} {pre rest : List (Nat × Nat × Nat × Nat)} {q : Nat × Nat × Nat × Nat} (h : l.map xkey = pre ++ q :: rest) : ∃ l1 z l2, l = l1 ++ z :: l2 ∧ l1.map xkey = pre ∧ xkey z = q ∧ l2.map xkey = rest := by
  obtain ⟨l1, l2, e1, e2, e3⟩ := List.map_eq_append_iff.mp h
  obtain ⟨z, l3, e4, e5, e6⟩ := List.map_eq_cons_iff.mp e3
  exact ⟨l1, z, l3, by rw [e1, e4], e2, e5, e6⟩
theorem xskip {l : List ExceptionTableEntry} {pre : List (Nat × Nat × Nat × Nat)} {pc : Nat} (h : l.map xkey = pre) (hp : pre.all (fun q => !(decide (q.1 ≤ pc) && decide (pc < q.2.1))) = true) : ∀ y ∈ l, covers y pc = false := by
  intro y hy
  have h1 := List.all_eq_true.mp hp (xkey y) (by rw [← h]; exact List.mem_map_of_mem hy)
  rw [Bool.not_eq_true'] at h1
  exact h1
section XK
variable {p : Program} {l : Launch} {e : Env} {R : Room} {s : State} {m : MethodId} {args : Array Value} {below : List Frame} {meth : Method} {c : Code} {H : Heap} {locs : List Loc} {cells slots : Nat} {Q : State → Prop}
/-- caught by the first entry that covers the place -/
theorem WT.catch1 {own nm : String} {pre rest : List (Nat × Nat × Nat × Nat)} {a1 a2 hp ct pc : Nat} {ls : Array Slot} {st0 : List Value} {x : Addr} {cell : Cell} {cT : ClassId} (hown : s.vm.findClass own = some m.cls) (htab : c.exceptionTable.toList.map xkey = pre ++ (a1, a2, hp, ct) :: rest) (hpre : pre.all (fun q => !(decide (q.1 ≤ pc) && decide (pc < q.2.1))) = true) (hc : (decide (a1 ≤ pc) && decide (pc < a2)) = true) (h0 : ct ≠ 0)
    (hlink : (Cond.classLink own ct nm).before args s = true) (hcT : s.vm.findClass nm = some cT) (hcell : H[x]? = some cell) (hobj : cell.vm.isStatics = false) (hfit : s.vm.assignable cell.cls cT = true)
    (k : W p l e R s m args below meth c H locs cells slots Q (F0 m hp ls [.ref x])) : WT p l e R s m args below meth c H locs cells slots Q x (F0 m pc ls st0) := by
  intro T hT X
  obtain ⟨l1, z, l2, e1, e2, e3, -⟩ := xsplit htab
  have hz1 : z.handlerPc = hp := congrArg (fun q => q.2.2.1) e3
  have hz2 : z.catchType = ct := congrArg (fun q => q.2.2.2) e3
  have hz3 : covers z pc = true := by
    have ha : z.startPc = a1 := congrArg (fun q => q.1) e3
    have hb : z.endPc = a2 := congrArg (fun q => q.2.1) e3
    simpa [covers, ha, hb] using hc
  subst hz1; subst hz2
  have hpl : e.platform.magicAccessors = ({} : Platform).magicAccessors := by rw [X.admits.platform]
  obtain ⟨c', hc', hcl⟩ := Cond.classLink_spec hown hlink e.platform hpl
  cases hcT.symm.trans hc'
  obtain ⟨dk, _, _, kt, hd, _, _, _, _, hkt, _, hopen⟩ := hcl.here
  have hcl₀ := X.warmed.classLinks hcl
  have hW' : s.WarmedH (T.vm.noted m.cls z.catchType (.cls cT)) := X.warmed.noted hd hopen (State.rightAt_cls hcl)
  have hal := X.warmed.alike
  obtain ⟨kt', hkt', -⟩ := hal.2.2 _ _ hkt
  have hfit' : T.vm.assignable cell.cls cT = true := by rw [hal.assignable]; exact hfit
  obtain ⟨t, h1, h2⟩ := k (T.setVm (T.vm.noted m.cls z.catchType (.cls cT))) hT (X.noted hW')
  refine ⟨t, ?_, h2⟩
  refine xcaught X.here (pc := z.handlerPc) (vm' := T.vm.noted m.cls z.catchType (.cls cT)) ?_ h1
  intro Q E d acts
  rw [W.findHandler_eq (meth := meth) (code := c) X.method' X.code, e1, xgo_skip l1 (z :: l2) (xskip e2 hpre),
    xgo_link (e := e) (f := F0 m pc ls st0) (c := cT) (cell := cell) (s := (T.setTop (F0 m pc ls st0)).pushFrame (.throwing x)) hz3 h0 hcl₀ (by rw [← hT] at hcell; exact hcell) (VmData.ne_statics_of hobj) (Vm.classAt_of_assignable hfit' ⟨kt', hkt'⟩) ⟨kt', hkt'⟩]
  exact (iff_of_eq (if_pos hfit'))
/-- caught by the second entry that covers the place: the first one names a class that the object isn't of -/
theorem WT.catch2 {own nm nm1 : String} {pre mid rest : List (Nat × Nat × Nat × Nat)} {a1 a2 hp ct b1 b2 hp1 ct1 pc : Nat} {ls : Array Slot} {st0 : List Value} {x : Addr} {cell : Cell} {cT cT1 : ClassId} (hown : s.vm.findClass own = some m.cls) (htab : c.exceptionTable.toList.map xkey = pre ++ (b1, b2, hp1, ct1) :: (mid ++ (a1, a2, hp, ct) :: rest)) (hpre : pre.all (fun q => !(decide (q.1 ≤ pc) && decide (pc < q.2.1))) = true) (hmid : mid.all (fun q => !(decide (q.1 ≤ pc) && decide (pc < q.2.1))) = true) (hc1 : (decide (b1 ≤ pc) && decide (pc < b2)) = true) (h01 : ct1 ≠ 0) (hc : (decide (a1 ≤ pc) && decide (pc < a2)) = true) (h0 : ct ≠ 0)
    (hlink1 : (Cond.classLink own ct1 nm1).before args s = true) (hcT1 : s.vm.findClass nm1 = some cT1) (hno : s.vm.assignable cell.cls cT1 = false)
    (hlink : (Cond.classLink own ct nm).before args s = true) (hcT : s.vm.findClass nm = some cT) (hcell : H[x]? = some cell) (hobj : cell.vm.isStatics = false) (hfit : s.vm.assignable cell.cls cT = true)
    (k : W p l e R s m args below meth c H locs cells slots Q (F0 m hp ls [.ref x])) : WT p l e R s m args below meth c H locs cells slots Q x (F0 m pc ls st0) := by
  intro T hT X
  obtain ⟨l1, y, l2, e1, e2, e3, e4⟩ := xsplit htab
  obtain ⟨l3, z, l4, f1, f2, f3, -⟩ := xsplit e4
  have hz1 : z.handlerPc = hp := congrArg (fun q => q.2.2.1) f3
  have hz2 : z.catchType = ct := congrArg (fun q => q.2.2.2) f3
  have hy2 : y.catchType = ct1 := congrArg (fun q => q.2.2.2) e3
  have hz3 : covers z pc = true := by
    have ha : z.startPc = a1 := congrArg (fun q => q.1) f3
    have hb : z.endPc = a2 := congrArg (fun q => q.2.1) f3
    simpa [covers, ha, hb] using hc
  have hy3 : covers y pc = true := by
    have ha : y.startPc = b1 := congrArg (fun q => q.1) e3
    have hb : y.endPc = b2 := congrArg (fun q => q.2.1) e3
    simpa [covers, ha, hb] using hc1
  subst hz1; subst hz2; subst hy2
  have hpl : e.platform.magicAccessors = ({} : Platform).magicAccessors := by rw [X.admits.platform]
  obtain ⟨c1', hc1', hcl1⟩ := Cond.classLink_spec hown hlink1 e.platform hpl
  cases hcT1.symm.trans hc1'
  obtain ⟨dk1, _, _, kt1, hd1, _, _, _, _, hkt1, _, hopen1⟩ := hcl1.here
  have hcl1₀ := X.warmed.classLinks hcl1
  have hW1 : s.WarmedH (T.vm.noted m.cls y.catchType (.cls cT1)) := X.warmed.noted hd1 hopen1 (State.rightAt_cls hcl1)
  obtain ⟨c', hc', hcl⟩ := Cond.classLink_spec hown hlink e.platform hpl
  cases hcT.symm.trans hc'
  obtain ⟨dk, _, _, kt, hd, _, _, _, _, hkt, _, hopen⟩ := hcl.here
  have hal := X.warmed.alike
  obtain ⟨kt1', hkt1', -⟩ := hal.2.2 _ _ hkt1
  obtain ⟨ktT, hktT, -⟩ := hal.2.2 _ _ hkt
  have hfitT : T.vm.assignable cell.cls cT = true := by rw [hal.assignable]; exact hfit
  have hnoT : T.vm.assignable cell.cls cT1 = false := by rw [hal.assignable]; exact hno
  have hcl₀ := hW1.classLinks hcl
  have hW' : s.WarmedH ((T.vm.noted m.cls y.catchType (.cls cT1)).noted m.cls z.catchType (.cls cT)) := hW1.noted hd hopen (State.rightAt_cls hcl)
  have hal1 := hW1.alike
  obtain ⟨kt', hkt', -⟩ := hal1.2.2 _ _ hkt
  have hfit' : (T.vm.noted m.cls y.catchType (.cls cT1)).assignable cell.cls cT = true := by rw [hal1.assignable]; exact hfit
  obtain ⟨t, h1, h2⟩ := k (T.setVm ((T.vm.noted m.cls y.catchType (.cls cT1)).noted m.cls z.catchType (.cls cT))) hT (X.noted hW')
  refine ⟨t, ?_, h2⟩
  refine xcaught X.here (pc := z.handlerPc) (vm' := (T.vm.noted m.cls y.catchType (.cls cT1)).noted m.cls z.catchType (.cls cT)) ?_ h1
  intro Q E d acts
  rw [W.findHandler_eq (meth := meth) (code := c) X.method' X.code, e1, xgo_skip l1 (y :: l2) (xskip e2 hpre),
    xgo_link (e := e) (f := F0 m pc ls st0) (c := cT1) (cell := cell) (s := (T.setTop (F0 m pc ls st0)).pushFrame (.throwing x)) hy3 h01 hcl1₀ (by rw [← hT] at hcell; exact hcell) (VmData.ne_statics_of hobj) (Vm.classAt_of_assignable hfitT ⟨ktT, hktT⟩) ⟨kt1', hkt1'⟩]
  refine (iff_of_eq (if_neg (by show ¬ T.vm.assignable cell.cls cT1 = true; rw [hnoT]; decide))).trans ?_
  rw [f1, xgo_skip l3 (z :: l4) (xskip f2 hmid)]
  refine (xgo_link (e := e) (f := F0 m pc ls st0) (c := cT) (cell := cell) (s := ((T.setTop (F0 m pc ls st0)).pushFrame (.throwing x)).setVm (T.vm.noted m.cls y.catchType (.cls cT1))) hz3 h0 hcl₀ (by rw [← hT] at hcell; exact hcell) (VmData.ne_statics_of hobj) (Vm.classAt_of_assignable hfit' ⟨kt', hkt'⟩) ⟨kt', hkt'⟩).trans ?_
  exact (iff_of_eq (if_pos hfit'))
end XK
