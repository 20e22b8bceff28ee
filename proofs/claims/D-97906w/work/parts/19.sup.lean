/-! super.m(..) where the superclass inherits m -/
section SUP
variable {p : Program} {l : Launch} {e : Env} {R : Room} {s : State} {m : MethodId} {args : Array Value} {below : List Frame} {meth : Method} {c : Code} {H : Heap} {locs : List Loc} {cells slots d : Nat} {Q : State → Prop}
theorem sub_one {vm : Vm} {a b : ClassId} {k kb : Class} (h : vm.classes[a]? = some k) (hs : k.super = some b) (hb : vm.classes[b]? = some kb) : vm.isSubclass a b = true := by
  have ha : a < vm.classes.size := (Array.getElem?_eq_some_iff.mp h).1
  have hb : b < vm.classes.size := (Array.getElem?_eq_some_iff.mp hb).1
  by_cases hab : a = b
  · subst hab; simp [Vm.isSubclass, Vm.isSubclassAux]
  · obtain ⟨n, hn⟩ : ∃ n, vm.classes.size = n + 1 := ⟨vm.classes.size - 1, (Nat.sub_add_cancel (Nat.zero_lt_of_lt ha)).symm⟩
    simp [Vm.isSubclass, Vm.isSubclassAux, hn, h, hs, hab]
theorem runSUO {x y : MethodName} {bytes cc : ByteArray} {maxL nL mc ms n index : Nat} {ret : Option FieldType} {ws : List Cond} {rm : Room} {Pc : Array Value → State → Prop} {Qc : Array Value → State → Outcome → State → Prop} {free : Addr → Prop} {Ts ws' : List Cond} {own C : String} {cC : ClassId} {b : Addr} {As rest : List Value} {g : JFrame}
    (hat : ClassAt s C cC) (S : CallFix p m c cc nL s args Ts own) (hM : Met l y ws rm Pc Qc mc ms free) (hG : GoodIn Ts ws) (hw : ws = Cond.code y bytes maxL ret :: ws') (hrc : rm.cells = mc) (hrs : rm.slots = ms) (hR : rm.frames + 1 ≤ R.frames ∧ 8 + (maxL + 11) + rm.locals ≤ R.locals)
    (h1 : Cond.methodLink own index x ∈ Ts) (h2 : Cond.sameMethod x.cls y.cls x.name x.desc ∈ Ts) (h3 : Cond.superclass own x.cls ∈ Ts) (h4 : Cond.superclass x.cls y.cls ∈ Ts) (h5 : Cond.instanceMethod y ∈ Ts) (h6 : Cond.initialized y.cls ∈ Ts)
    (hxy : x.name = y.name ∧ x.desc = y.desc ∧ y.name ≠ "<init>" ∧ (parseMethodDescriptor y.desc).map (fun d => d.parameters.length) = some n) (hp : PreV s H C b Pc As)
    (hg : g.method = m) (hn : As.length = n) (hsize : g.locals.size = nL) (hstack : g.stack = As.reverse ++ .ref b :: rest) (hW : 2 * g.monitorRoom + (rest.map fun v => v.category).sum ≤ 8) (hdg : decode cc g.pc = .ok (.invokespecial index, 3)) (hf : cells + mc ≤ R.cells ∧ slots + ms ≤ R.slots) :
    va_Run p l e R s m args below meth c H locs cells slots mc ms g rest (Qc (Value.ref b :: As).toArray) (free) := by
  obtain ⟨hx, hb, hml, ho, ht⟩ := S
  have hcw : Cond.code y bytes maxL ret ∈ ws := by rw [hw]; exact List.mem_cons_self
  have hcode := ht _ (hG _ hcw).1
  have hini := ht _ h6
  have hK : Back l R p e below s args y 3 8 (PreOf R mc ms Pc) (PostOf Qc mc ms free) := back_of (bytes := bytes) (maxL := maxL) (ret := ret) hM hp.1 hrc hrs hR.1 hR.2 (pay_in ht hG) hcw (fun a' U hW => word_at hW (Or.inl (by first | rfl | simp [Cond.onTables, Cond.keeps, Cond.steady])) hini)
  obtain ⟨-, ⟨cellB, hcB, hoB, hclB⟩, hPc⟩ := hp
  obtain ⟨hfc, kB, hkB, -⟩ := hat
  cases hfc.symm.trans hclB
  obtain ⟨mk, methM, hnamed, hmethM, hstM, habM⟩ := Cond.instanceMethod_spec (ht _ h5)
  obtain ⟨methM', cM, hmethM', -, -, -, -, -, -, hsigM⟩ := Cond.code_spec hnamed hcode
  cases hmethM.symm.trans hmethM'
  obtain ⟨ps, dk, kp, hps, hdk, hkp, hsuper, -, -, hnid⟩ := Cond.superclass_spec ho (ht _ h3)
  obtain ⟨ps2, dk2, kp2, hps2, hdk2, hkp2, hsuper2, -, -, -⟩ := Cond.superclass_spec hps (ht _ h4)
  have hpm : ps2 = mk.cls := Option.some.inj (hps2.symm.trans (findClass_of_methodNamed hnamed))
  subst hpm
  have hn2 : s.methodNamed? ⟨y.cls, x.name, x.desc⟩ = some mk := by rw [hxy.1, hxy.2.1]; exact hnamed
  have hlen : As.length = methM.sig.parameters.length := by
    have h2 := hxy.2.2.2
    rw [hsigM] at h2
    rw [hn]
    exact (Option.some.inj h2).symm
  intro T hT X
  obtain ⟨vm₁, X₁, hstep₁⟩ := X.invokespecialUp hx ho (ht _ h1) (ht _ h2) hn2 hmethM hstM habM (by rw [hxy.1]; exact hxy.2.2.1) hdk hnid hps hsuper (sub_one hdk2 hsuper2 hkp2) (a := b) (cell := cellB) (by rw [hT]; exact hcB)
    (fun z h => by rw [h] at hoB; cases hoB) hkB (g := g) hg (argsL := As) (rest := rest) hlen hstack (by rw [hb]; exact hdg)
  obtain ⟨v, ⟨U', l2, c2, s2⟩, X', ⟨g', mk', t, L, e1, e2, hq, h1', hL, h2', h3'⟩, hsteps⟩ := hK m meth c ⟨T.setVm vm₁, locs, cells, slots⟩ { g with stack := rest } (.invokespecial index) mk (Value.ref b :: As).toArray X₁ hg (hsize.trans hml.symm) (by rw [hb]; exact hdg) hW (X₁.named hnamed) ⟨hf.1, hf.2, hPc (T.setVm vm₁) hT X₁.warmed⟩
  dsimp only [Pt.U, Pt.locs, Pt.cells, Pt.slots] at X' e1 e2 h1' h2' h3' hsteps
  subst h1'; subst h2'; subst h3'
  exact ⟨v, (T.setVm vm₁).calling g' mk' (Value.ref b :: As).toArray, t, U', L, hT, X', hL, e1, e2, hq, fun target h => hstep₁ _ (by rw [doInvoke_state]; exact hsteps.trans h)⟩
end SUP
