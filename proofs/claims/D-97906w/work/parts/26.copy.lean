/-! System.arraycopy over the component's rows -/
set_option maxRecDepth 100000
theorem clamp0 : (0 : Int32).toNatClampNeg = 0 := by decide
section CPY
variable {p : Program} {l : Launch} {e : Env} {R : Room} {s : State} {m : MethodId} {args : Array Value} {below : List Frame} {meth : Method} {c : Code} {H : Heap} {locs : List Loc} {cells slots d : Nat} {Q : State → Prop}
variable {cc : ByteArray} {pc nL : Nat} {ls : Array Slot} {rest : List Value} {D : va_G} {cA : Nat → ClassId} {ks : List Nat} {ad : Nat → Nat} {A : Nat → Prop} {st st2 : CS} {H0 : Heap} {own : String} {index : Nat}
theorem cc_cpn (C : cC p R d s m args c cc nL own D cA A) (hO : klOk A ks ad) (hP : cW D cA ks ad st H) (hS : va_S A H0 H locs) (j0 : Nat) {k0 k1 n0 n1 : Nat} {ty : FieldType} {f g : Nat → Int32} {ca : ClassId} (hj : (cTys cA)[j0]? = some (ca, ty)) (hprim : refKind ty = false) (hk0 : k0 ∈ ks) (hk1 : k1 ∈ ks) (he0 : cg cA ad st k0 = .inl (ca, n0, .inl f)) (he1 : cg cA ad st k1 = .inl (ca, n1, .inl g)) {n : Int32} {nn : Nat} (hn : ¬ n < 0 ∧ n.toNatClampNeg = nn) (h4 : nn ≤ n0 ∧ nn ≤ n1) (hfit : ∀ i, i < nn → fits ty (.int (f i)) = true) (hg : va_up (cg cA ad st) k1 (.inl (ca, n1, .inl (va_cpy f g 0 0 nn))) = cg cA ad st2) (hq : refOk ks ad st2.2.2)
    (hl : Cond.methodLink own index arraycopyName ∈ lw_all) (hnat : Cond.native arraycopyName ∈ lw_all) (hstat : Cond.static arraycopyName ∈ lw_all) (hini : Cond.initialized "java/lang/System" ∈ lw_all) (hd : 5 ≤ d) (hsz : ls.size = nL) (hW : (rest.map fun v => v.category).sum ≤ 8) (hdg : decode cc pc = .ok (.invokestatic index, 3))
    (kk : ∀ (H1 : Heap) (locs1 : List Loc), cW D cA ks ad st2 H1 → va_S A H0 H1 locs1 → W p l e R s m args below meth c H1 locs1 cells slots Q (F0 m (pc + 3) ls rest)) : W p l e R s m args below meth c H locs cells slots Q (F0 m pc ls (.int n :: .int 0 :: .ref (ad k1) :: .int 0 :: .ref (ad k0) :: rest)) := by
  obtain ⟨hx, hb, hml, hown, hts, hR, hK, -⟩ := C
  obtain ⟨i0, hi0⟩ := List.getElem?_of_mem hk0
  obtain ⟨i1, hi1⟩ := List.getElem?_of_mem hk1
  have hR2 := hR.2
  have hR1 := hR.1
  refine va_copyi hx hb (hml.trans hsz.symm) hown (hts _ hl) (hts _ hnat) (hts _ hstat) (hts _ hini) hK hP.1 (kl_D hO) hS i0 i1 j0 j0 (by rw [kl_at hi0, he0]) (by rw [kl_at hi1, he1]) hj hj hprim (sp := 0) (dp := 0) (by decide) (by decide) hn.1 (by rw [clamp0, hn.2]; omega) (by rw [clamp0, hn.2]; omega) (fun i hi => by rw [clamp0, Nat.zero_add]; exact hfit i (by rw [← hn.2]; exact hi)) (by omega)
    (by have : nativeFrameWords "java/lang/System" "arraycopy" 5 + 11 ≤ 100 := by decide
        omega) hdg (fun H1 locs1 h1 _ h3 => kk H1 locs1 ?_ h3)
  rw [kl_set hO.1 hi1, clamp0, hn.2, hg] at h1
  exact ⟨h1, hq⟩
theorem cc_cpq (C : cC p R d s m args c cc nL own D cA A) (hO : klOk A ks ad) (hP : cW D cA ks ad st H) (hS : va_S A H0 H locs) (j0 : Nat) {k0 k1 n0 n1 : Nat} {E : String} {f g : Nat → Option Nat} {ca : ClassId} (hj : (cTys cA)[j0]? = some (ca, .object E)) (hk0 : k0 ∈ ks) (hk1 : k1 ∈ ks) (he0 : cg cA ad st k0 = .inl (ca, n0, .inr (.inr (.inr (.inr f))))) (he1 : cg cA ad st k1 = .inl (ca, n1, .inr (.inr (.inr (.inr g))))) {n : Int32} {nn : Nat} (hn : ¬ n < 0 ∧ n.toNatClampNeg = nn) (h4 : nn ≤ n0 ∧ nn ≤ n1) (hel : ∀ i : Nat, i < nn → ∀ y : Nat, f i = some y → va_Any E s H y) (hg : va_up (cg cA ad st) k1 (.inl (ca, n1, .inr (.inr (.inr (.inr (va_cpy f g 0 0 nn)))))) = cg cA ad st2) (hq : refOk ks ad st2.2.2)
    (hl : Cond.methodLink own index arraycopyName ∈ lw_all) (hnat : Cond.native arraycopyName ∈ lw_all) (hstat : Cond.static arraycopyName ∈ lw_all) (hini : Cond.initialized "java/lang/System" ∈ lw_all) (hd : 5 ≤ d) (hsz : ls.size = nL) (hW : (rest.map fun v => v.category).sum ≤ 8) (hdg : decode cc pc = .ok (.invokestatic index, 3))
    (kk : ∀ (H1 : Heap) (locs1 : List Loc), cW D cA ks ad st2 H1 → va_S A H0 H1 locs1 → W p l e R s m args below meth c H1 locs1 cells slots Q (F0 m (pc + 3) ls rest)) : W p l e R s m args below meth c H locs cells slots Q (F0 m pc ls (.int n :: .int 0 :: .ref (ad k1) :: .int 0 :: .ref (ad k0) :: rest)) := by
  obtain ⟨hx, hb, hml, hown, hts, hR, hK, -⟩ := C
  obtain ⟨i0, hi0⟩ := List.getElem?_of_mem hk0
  obtain ⟨i1, hi1⟩ := List.getElem?_of_mem hk1
  have hR2 := hR.2
  have hR1 := hR.1
  refine va_copyM hx hb (hml.trans hsz.symm) hown (hts _ hl) (hts _ hnat) (hts _ hstat) (hts _ hini) hK hP.1 (kl_D hO) hS i0 i1 j0 j0 (by rw [kl_at hi0, he0]) (by rw [kl_at hi1, he1]) hj hj (sp := 0) (dp := 0) (by decide) (by decide) hn.1 (by rw [clamp0, hn.2]; omega) (by rw [clamp0, hn.2]; omega) (fun i hi y hy => hel i (by rw [← hn.2]; exact hi) y (by rw [clamp0, Nat.zero_add] at hy; exact hy)) (by omega)
    (by have : nativeFrameWords "java/lang/System" "arraycopy" 5 + 11 ≤ 100 := by decide
        omega) hdg (fun H1 locs1 h1 _ h3 => kk H1 locs1 ?_ h3)
  rw [kl_set hO.1 hi1, clamp0, hn.2, hg] at h1
  exact ⟨h1, hq⟩
/-- an object of the pool that can stand in a row of the class E -/
theorem pool_any {E : String} {a ci : Nat} {fs : List Value} {q : vw_C} (C : cC p R d s m args c cc nL own D cA A) (hP : cW D cA ks ad st H) (hl : live ks ad a) (he : st.2.2.2 (1000 + a) = .inr (ci, fs)) (hq : cCl[ci]? = some q) (hE : q.1 = E ∨ Cond.castable q.1 E ∈ lw_nest) : va_Any E s H a := by
  obtain ⟨i, hi⟩ := List.getElem?_of_mem hl.1
  have h := va_rAny (E := E) (a := ad (1000 + a)) (q0 := i) (fs := fs) C.2.2.2.2.2.2.1 hP.1 (by rw [kl_at hi, cg_pool, he]) hq (fun comp c0 h1 h2 => by
    rcases hE with e | h3
    · subst e
      cases h1.symm.trans h2
      unfold Vm.assignable Vm.assignableAux
      simp [Vm.isSubclass, Vm.isSubclassAux]
    · obtain ⟨c', t', a1, a2, a3⟩ := Cond.castable_spec (C.2.2.2.2.2.2.2.1 _ h3)
      cases h2.symm.trans a1
      cases h1.symm.trans a2
      exact a3)
  rw [hl.2] at h
  exact h
end CPY
def cpz (ty : FieldType) (f g : Nat → Int32) (n : Nat) : Option (Nat → Int32) := if (List.range n).all (fun i => fits ty (.int (f i))) = true then some (va_cpy f g 0 0 n) else none
theorem cpz_some {ty : FieldType} {f g b : Nat → Int32} {n : Nat} (h : cpz ty f g n = some b) : (∀ i, i < n → fits ty (.int (f i)) = true) ∧ va_cpy f g 0 0 n = b := by
  unfold cpz at h
  split at h
  · rename_i hq
    exact ⟨fun i hi => List.all_eq_true.mp hq i (List.mem_range.mpr hi), Option.some.inj h⟩
  · cases h
def allq (ok : Nat → Bool) (f : Nat → Option Nat) (n : Nat) : Bool := (List.range n).all (fun i => match f i with | none => true | some y => ok y)
def cpq (ok : Nat → Bool) (f g : Nat → Option Nat) (n : Nat) : Option (Nat → Option Nat) := if allq ok f n = true then some (va_cpy f g 0 0 n) else none
theorem cpq_some {ok : Nat → Bool} {f g b : Nat → Option Nat} {n : Nat} (h : cpq ok f g n = some b) : (∀ i, i < n → ∀ y, f i = some y → ok y = true) ∧ va_cpy f g 0 0 n = b := by
  unfold cpq at h
  split at h
  · rename_i hq
    refine ⟨fun i hi y hy => ?_, Option.some.inj h⟩
    have h2 := List.all_eq_true.mp hq i (List.mem_range.mpr hi)
    simp only [hy] at h2
    exact h2
  · cases h
def isDeb (P : Nat → va_E) (a : Nat) : Bool := (dvOf (P (1000 + a))).isSome
def isTm (P : Nat → va_E) (a : Nat) : Bool := (tmOf (P (1000 + a))).isSome
