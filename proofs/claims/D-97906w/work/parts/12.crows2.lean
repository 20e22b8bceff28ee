/-! the component's rows -/
set_option maxRecDepth 100000
abbrev cTys (cA : Nat → ClassId) : List (ClassId × FieldType) := [(cA 0, .int), (cA 1, .boolean), (cA 2, .byte), (cA 3, .short), (cA 4, .object "ChapterLoan$Debtor"), (cA 5, .object "ChapterLoan$Term"), (cA 6, .object "ChapterLoan$Shelf")]
def cW (D : va_G) (cA : Nat → ClassId) (ks : List Nat) (ad : Nat → Nat) (st : CS) (H : Heap) : Prop := va_P D cCl (kl ks ad (cg cA ad st)) H ∧ refOk ks ad st.2.2
/-- what holds all through a walk in a class 'own' of the component -/
abbrev cC (p : Program) (R : Room) (d : Nat) (s : State) (m : MethodId) (args : Array Value) (c : Code) (cc : ByteArray) (nL : Nat) (own : String) (D : va_G) (cA : Nat → ClassId) (A : Nat → Prop) : Prop :=
  p.tables.exec = Jvm.exec ∧ c.code = cc ∧ c.maxLocals = nL ∧ s.vm.findClass own = some m.cls ∧ (∀ w ∈ lw_all, w.before args s = true) ∧ (d ≤ R.frames ∧ 40 * d ≤ R.locals) ∧ va_K D cCl (cTys cA) s ∧ cN s ∧ (∀ q, s.heap.size ≤ q → A q)
/-- a reference read out of a row -/
def rdq (a : Nat → Option Nat) (n : Nat) (i : Int32) : Option (Option Nat) := if i < 0 ∨ n ≤ i.toNatClampNeg then none else some (a i.toNatClampNeg)
theorem rdq_some {a : Nat → Option Nat} {n : Nat} {i : Int32} {v : Option Nat} (h : rdq a n i = some v) : vp_in i n ∧ v = a i.toNatClampNeg := by
  unfold rdq at h
  split at h
  · cases h
  · rename_i hq
    exact ⟨hq, (Option.some.inj h).symm⟩
def wrq (a : Nat → Option Nat) (n : Nat) (i : Int32) (v : Option Nat) : Option (Nat → Option Nat) := if i < 0 ∨ n ≤ i.toNatClampNeg then none else some (va_up a i.toNatClampNeg v)
theorem wrq_some {a b : Nat → Option Nat} {n : Nat} {i : Int32} {v : Option Nat} (h : wrq a n i v = some b) : vp_in i n ∧ b = va_up a i.toNatClampNeg v := by
  unfold wrq at h
  split at h
  · cases h
  · rename_i hq
    exact ⟨hq, (Option.some.inj h).symm⟩
theorem cg_t0 {cA : Nat → ClassId} {ad : Nat → Nat} {st : CS} {t : Nat} (ht : t < 3) : cg cA ad st (20 * t) = .inr (2, tfs ad (20 * t) (st.1 (20 * t))) := cg_t (t := t) 0 ht (by decide)
theorem cg_At {cA : Nat → ClassId} {ad : Nat → Nat} {st : CS} {t : Nat} {b : Nat → Int32} (j : Nat) (ht : t < 3) (hj : j < 20) : va_up (cg cA ad st) (20 * t + j) (tcell cA ad (20 * t + j) j (st.1 (20 * t + j)) b (st.2.2.1 (20 * t + j))) = cg cA ad (csA st (20 * t + j) b) := by
  refine cg_A ?_
  rw [cg_t j ht hj]
  simp [csA, va_up]
theorem cg_Qt {cA : Nat → ClassId} {ad : Nat → Nat} {st : CS} {t : Nat} {b : Nat → Option Nat} (j : Nat) (ht : t < 3) (hj : j < 20) : va_up (cg cA ad st) (20 * t + j) (tcell cA ad (20 * t + j) j (st.1 (20 * t + j)) (st.2.1 (20 * t + j)) b) = cg cA ad (csQ st (20 * t + j) b) := by
  refine cg_Q ?_
  rw [cg_t j ht hj]
  simp [csQ, va_up]
theorem cg_Ft {cA : Nat → ClassId} {ad : Nat → Nat} {st : CS} {t : Nat} {j : Nat} {x : Int32} (ht : t < 3) (h : (tfs ad (20 * t) (st.1 (20 * t))).set j (.int x) = tfs ad (20 * t) (va_up (st.1 (20 * t)) j x)) : va_up (cg cA ad st) (20 * t) (.inr (2, (tfs ad (20 * t) (st.1 (20 * t))).set j (.int x))) = cg cA ad (csF st (20 * t) j x) := by
  refine cg_F ?_
  rw [cg_t0 ht, h]
  simp [csF, va_up]
theorem tk_ {t : Nat} (j : Nat) (ht : t < 3) (hj : j < 20) : 20 * t + j < 73 := by omega
theorem tk0 {t : Nat} (ht : t < 3) : 20 * t < 73 := by omega
section CROWS
variable {p : Program} {l : Launch} {e : Env} {R : Room} {s : State} {m : MethodId} {args : Array Value} {below : List Frame} {meth : Method} {c : Code} {H : Heap} {locs : List Loc} {cells slots d : Nat} {Q : State → Prop}
variable {cc : ByteArray} {pc nL : Nat} {ls : Array Slot} {rest : List Value} {D : va_G} {cA : Nat → ClassId} {ks : List Nat} {ad : Nat → Nat} {A : Nat → Prop} {st : CS} {H0 : Heap} {own : String}
theorem cc_get (C : cC p R d s m args c cc nL own D cA A) (hP : cW D cA ks ad st H) {k ci : Nat} {fs : List Value} (hk : k ∈ ks) (he : cg cA ad st k = .inr (ci, fs)) {Cn ref : String} {T : u_T} {N : Nat} (hcl : cCl[ci]? = some (Cn, T, N)) (hin : ∀ w ∈ u_ws Cn T N, w ∈ lw_all) (j : Nat) (hj : j < N) {index : Nat} (hl : Cond.fieldLink own index ref (T j).2.1 (T j).2.2.1 ∈ lw_all) (hsame : ∀ x, s.fieldFound? (T j).1 (T j).2.1 (T j).2.2.1 = some x → s.fieldFound? ref (T j).2.1 (T j).2.2.1 = some x) {v : Value} (hv : fs[j]? = some v) (hdg : decode cc pc = .ok (.getfield index, 3))
    (kk : W p l e R s m args below meth c H locs cells slots Q (F0 m (pc + 3) ls (v :: rest))) : W p l e R s m args below meth c H locs cells slots Q (F0 m pc ls (.ref (ad k) :: rest)) := by
  obtain ⟨hx, hb, -, hown, hts, -, hK, -⟩ := C
  obtain ⟨i, hi⟩ := List.getElem?_of_mem hk
  exact va_get hx hb hts hin hown hK hP.1 i (by rw [kl_at hi, he]) hcl j hj (hts _ hl) hsame hv hdg kk
theorem cc_getN (C : cC p R d s m args c cc nL own D cA A) (hP : cW D cA ks ad st H) {k ci : Nat} {fs : List Value} (hk : k ∈ ks) (he : cg cA ad st k = .inr (ci, fs)) {Cn ref host : String} {T : u_T} {N : Nat} (hcl : cCl[ci]? = some (Cn, T, N)) (hin : ∀ w ∈ u_ws Cn T N, w ∈ lw_all) (j : Nat) (hj : j < N) {index : Nat} (hl : Cond.fieldLinkNest own index ref (T j).2.1 (T j).2.2.1 host ∈ lw_nest) (hsame : ∀ x, s.fieldFound? (T j).1 (T j).2.1 (T j).2.2.1 = some x → s.fieldFound? ref (T j).2.1 (T j).2.2.1 = some x) {v : Value} (hv : fs[j]? = some v) (hdg : decode cc pc = .ok (.getfield index, 3))
    (kk : W p l e R s m args below meth c H locs cells slots Q (F0 m (pc + 3) ls (v :: rest))) : W p l e R s m args below meth c H locs cells slots Q (F0 m pc ls (.ref (ad k) :: rest)) := by
  obtain ⟨hx, hb, -, hown, hts, -, hK, hN, -⟩ := C
  obtain ⟨i, hi⟩ := List.getElem?_of_mem hk
  exact va_getN hx hb hts hin hown hK hP.1 i (by rw [kl_at hi, he]) hcl j hj (va_Nw.use rfl (hN _ hl)) hsame hv hdg kk
theorem cc_put (C : cC p R d s m args c cc nL own D cA A) (hO : klOk A ks ad) (hP : cW D cA ks ad st H) (hS : va_S A H0 H locs) {k ci : Nat} {fs : List Value} (hk : k ∈ ks) (he : cg cA ad st k = .inr (ci, fs)) {Cn ref : String} {T : u_T} {N : Nat} (hcl : cCl[ci]? = some (Cn, T, N)) (hin : ∀ w ∈ u_ws Cn T N, w ∈ lw_all) {ty0 : Nat → FieldType} (hty : ∀ k, k < N → parseFieldDescriptor (T k).2.2.1 = some (ty0 k)) (hnm : ∀ a, a < N → ∀ b, b < N → a ≠ b → (T a).2.1 ≠ (T b).2.1) (j : Nat) (hj : j < N) {index : Nat} (hl : Cond.fieldLink own index ref (T j).2.1 (T j).2.2.1 ∈ lw_all) (hsame : ∀ x, s.fieldFound? (T j).1 (T j).2.1 (T j).2.2.1 = some x → s.fieldFound? ref (T j).2.1 (T j).2.2.1 = some x) (hfin : (T j).2.2.2 = false) {v : Value} (hn : narrow (ty0 j) v = v) (hf : fits (ty0 j) v = true) (hlen : j < fs.length) {st2 : CS} (hg : va_up (cg cA ad st) k (.inr (ci, fs.set j v)) = cg cA ad st2) (hq : refOk ks ad st2.2.2) (hdg : decode cc pc = .ok (.putfield index, 3))
    (kk : ∀ (H1 : Heap) (locs1 : List Loc), cW D cA ks ad st2 H1 → va_S A H0 H1 locs1 → W p l e R s m args below meth c H1 locs1 cells slots Q (F0 m (pc + 3) ls rest)) : W p l e R s m args below meth c H locs cells slots Q (F0 m pc ls (v :: .ref (ad k) :: rest)) := by
  obtain ⟨hx, hb, -, hown, hts, -, hK, -⟩ := C
  obtain ⟨i, hi⟩ := List.getElem?_of_mem hk
  refine va_put hx hb hts hin ty0 hty hnm hown hK hP.1 (kl_D hO) hS i (by rw [kl_at hi, he]) hcl j hj (hts _ hl) hsame hfin (hty j hj) hn hf hlen hdg (fun H1 locs1 h1 _ h3 => kk H1 locs1 ?_ h3)
  rw [kl_set hO.1 hi, hg] at h1
  exact ⟨h1, hq⟩
theorem cc_putN (C : cC p R d s m args c cc nL own D cA A) (hO : klOk A ks ad) (hP : cW D cA ks ad st H) (hS : va_S A H0 H locs) {k ci : Nat} {fs : List Value} (hk : k ∈ ks) (he : cg cA ad st k = .inr (ci, fs)) {Cn ref host : String} {T : u_T} {N : Nat} (hcl : cCl[ci]? = some (Cn, T, N)) (hin : ∀ w ∈ u_ws Cn T N, w ∈ lw_all) {ty0 : Nat → FieldType} (hty : ∀ k, k < N → parseFieldDescriptor (T k).2.2.1 = some (ty0 k)) (hnm : ∀ a, a < N → ∀ b, b < N → a ≠ b → (T a).2.1 ≠ (T b).2.1) (j : Nat) (hj : j < N) {index : Nat} (hl : Cond.fieldLinkNest own index ref (T j).2.1 (T j).2.2.1 host ∈ lw_nest) (hsame : ∀ x, s.fieldFound? (T j).1 (T j).2.1 (T j).2.2.1 = some x → s.fieldFound? ref (T j).2.1 (T j).2.2.1 = some x) (hfin : (T j).2.2.2 = false) {v : Value} (hn : narrow (ty0 j) v = v) (hf : fits (ty0 j) v = true) (hlen : j < fs.length) {st2 : CS} (hg : va_up (cg cA ad st) k (.inr (ci, fs.set j v)) = cg cA ad st2) (hq : refOk ks ad st2.2.2) (hdg : decode cc pc = .ok (.putfield index, 3))
    (kk : ∀ (H1 : Heap) (locs1 : List Loc), cW D cA ks ad st2 H1 → va_S A H0 H1 locs1 → W p l e R s m args below meth c H1 locs1 cells slots Q (F0 m (pc + 3) ls rest)) : W p l e R s m args below meth c H locs cells slots Q (F0 m pc ls (v :: .ref (ad k) :: rest)) := by
  obtain ⟨hx, hb, -, hown, hts, -, hK, hN, -⟩ := C
  obtain ⟨i, hi⟩ := List.getElem?_of_mem hk
  refine va_putN hx hb hts hin ty0 hty hnm hown hK hP.1 (kl_D hO) hS i (by rw [kl_at hi, he]) hcl j hj (va_Nw.use rfl (hN _ hl)) hsame hfin (hty j hj) hn hf hlen hdg (fun H1 locs1 h1 _ h3 => kk H1 locs1 ?_ h3)
  rw [kl_set hO.1 hi, hg] at h1
  exact ⟨h1, hq⟩
theorem cc_ild (C : cC p R d s m args c cc nL own D cA A) (hP : cW D cA ks ad st H) {k n : Nat} {a : Nat → Int32} (hk : k ∈ ks) (he : cg cA ad st k = .inl (cA 0, n, .inl a)) {i v : Int32} (hv : rd a n i = some v) (hdg : decode cc pc = .ok (.iaload, 1))
    (kk : W p l e R s m args below meth c H locs cells slots Q (F0 m (pc + 1) ls (.int v :: rest))) : W p l e R s m args below meth c H locs cells slots Q (F0 m pc ls (.int i :: .ref (ad k) :: rest)) := by
  obtain ⟨hin, rfl⟩ := rd_some hv
  obtain ⟨j, hj⟩ := List.getElem?_of_mem hk
  exact va_iald C.1 C.2.1 C.2.2.2.2.2.2.1 hP.1 j 0 (by rw [kl_at hj, he]) rfl hin hdg kk
theorem cc_zld (C : cC p R d s m args c cc nL own D cA A) (hP : cW D cA ks ad st H) {k n : Nat} {a : Nat → Int32} (hk : k ∈ ks) (he : cg cA ad st k = .inl (cA 1, n, .inl a)) {i v : Int32} (hv : rd a n i = some v) (hdg : decode cc pc = .ok (.baload, 1))
    (kk : W p l e R s m args below meth c H locs cells slots Q (F0 m (pc + 1) ls (.int v :: rest))) : W p l e R s m args below meth c H locs cells slots Q (F0 m pc ls (.int i :: .ref (ad k) :: rest)) := by
  obtain ⟨hin, rfl⟩ := rd_some hv
  obtain ⟨j, hj⟩ := List.getElem?_of_mem hk
  exact va_zald C.1 C.2.1 C.2.2.2.2.2.2.1 hP.1 j 1 (by rw [kl_at hj, he]) rfl hin hdg kk
theorem cc_bld (C : cC p R d s m args c cc nL own D cA A) (hP : cW D cA ks ad st H) {k n : Nat} {a : Nat → Int32} (hk : k ∈ ks) (he : cg cA ad st k = .inl (cA 2, n, .inl a)) {i v : Int32} (hv : rd a n i = some v) (hdg : decode cc pc = .ok (.baload, 1))
    (kk : W p l e R s m args below meth c H locs cells slots Q (F0 m (pc + 1) ls (.int v :: rest))) : W p l e R s m args below meth c H locs cells slots Q (F0 m pc ls (.int i :: .ref (ad k) :: rest)) := by
  obtain ⟨hin, rfl⟩ := rd_some hv
  obtain ⟨j, hj⟩ := List.getElem?_of_mem hk
  exact va_bald C.1 C.2.1 C.2.2.2.2.2.2.1 hP.1 j 2 (by rw [kl_at hj, he]) rfl hin hdg kk
theorem cc_sld (C : cC p R d s m args c cc nL own D cA A) (hP : cW D cA ks ad st H) {k n : Nat} {a : Nat → Int32} (hk : k ∈ ks) (he : cg cA ad st k = .inl (cA 3, n, .inl a)) {i v : Int32} (hv : rd a n i = some v) (hdg : decode cc pc = .ok (.saload, 1))
    (kk : W p l e R s m args below meth c H locs cells slots Q (F0 m (pc + 1) ls (.int v :: rest))) : W p l e R s m args below meth c H locs cells slots Q (F0 m pc ls (.int i :: .ref (ad k) :: rest)) := by
  obtain ⟨hin, rfl⟩ := rd_some hv
  obtain ⟨j, hj⟩ := List.getElem?_of_mem hk
  exact va_sald C.1 C.2.1 C.2.2.2.2.2.2.1 hP.1 j 3 (by rw [kl_at hj, he]) rfl hin hdg kk
theorem cc_ist (C : cC p R d s m args c cc nL own D cA A) (hO : klOk A ks ad) (hP : cW D cA ks ad st H) (hS : va_S A H0 H locs) {k n : Nat} {a b : Nat → Int32} (hk : k ∈ ks) (he : cg cA ad st k = .inl (cA 0, n, .inl a)) {i x : Int32} (hv : wr a n i x = some b) {st2 : CS} (hg : va_up (cg cA ad st) k (.inl (cA 0, n, .inl b)) = cg cA ad st2) (hq : refOk ks ad st2.2.2) (hdg : decode cc pc = .ok (.iastore, 1))
    (kk : ∀ (H1 : Heap) (locs1 : List Loc), cW D cA ks ad st2 H1 → va_S A H0 H1 locs1 → W p l e R s m args below meth c H1 locs1 cells slots Q (F0 m (pc + 1) ls rest)) : W p l e R s m args below meth c H locs cells slots Q (F0 m pc ls (.int x :: .int i :: .ref (ad k) :: rest)) := by
  obtain ⟨hin, rfl⟩ := wr_some hv
  obtain ⟨j, hj⟩ := List.getElem?_of_mem hk
  refine va_iast C.1 C.2.1 C.2.2.2.2.2.2.1 hP.1 (kl_D hO) hS j 0 (by rw [kl_at hj, he]) rfl hin hdg (fun H1 locs1 h1 _ h3 => kk H1 locs1 ?_ h3)
  rw [kl_set hO.1 hj, hg] at h1
  exact ⟨h1, hq⟩
theorem cc_zst (C : cC p R d s m args c cc nL own D cA A) (hO : klOk A ks ad) (hP : cW D cA ks ad st H) (hS : va_S A H0 H locs) {k n : Nat} {a b : Nat → Int32} (hk : k ∈ ks) (he : cg cA ad st k = .inl (cA 1, n, .inl a)) {i x : Int32} (hz : vp_nar .boolean x = x) (hv : wr a n i x = some b) {st2 : CS} (hg : va_up (cg cA ad st) k (.inl (cA 1, n, .inl b)) = cg cA ad st2) (hq : refOk ks ad st2.2.2) (hdg : decode cc pc = .ok (.bastore, 1))
    (kk : ∀ (H1 : Heap) (locs1 : List Loc), cW D cA ks ad st2 H1 → va_S A H0 H1 locs1 → W p l e R s m args below meth c H1 locs1 cells slots Q (F0 m (pc + 1) ls rest)) : W p l e R s m args below meth c H locs cells slots Q (F0 m pc ls (.int x :: .int i :: .ref (ad k) :: rest)) := by
  obtain ⟨hin, rfl⟩ := wr_some hv
  obtain ⟨j, hj⟩ := List.getElem?_of_mem hk
  refine va_zast C.1 C.2.1 C.2.2.2.2.2.2.1 hP.1 (kl_D hO) hS j 1 (by rw [kl_at hj, he]) rfl hin hdg (fun H1 locs1 h1 _ h3 => kk H1 locs1 ?_ h3)
  rw [hz, kl_set hO.1 hj, hg] at h1
  exact ⟨h1, hq⟩
theorem cc_bst (C : cC p R d s m args c cc nL own D cA A) (hO : klOk A ks ad) (hP : cW D cA ks ad st H) (hS : va_S A H0 H locs) {k n : Nat} {a b : Nat → Int32} (hk : k ∈ ks) (he : cg cA ad st k = .inl (cA 2, n, .inl a)) {i x : Int32} (hv : wr a n i (vp_nar .byte x) = some b) {st2 : CS} (hg : va_up (cg cA ad st) k (.inl (cA 2, n, .inl b)) = cg cA ad st2) (hq : refOk ks ad st2.2.2) (hdg : decode cc pc = .ok (.bastore, 1))
    (kk : ∀ (H1 : Heap) (locs1 : List Loc), cW D cA ks ad st2 H1 → va_S A H0 H1 locs1 → W p l e R s m args below meth c H1 locs1 cells slots Q (F0 m (pc + 1) ls rest)) : W p l e R s m args below meth c H locs cells slots Q (F0 m pc ls (.int x :: .int i :: .ref (ad k) :: rest)) := by
  obtain ⟨hin, rfl⟩ := wr_some hv
  obtain ⟨j, hj⟩ := List.getElem?_of_mem hk
  refine va_bast C.1 C.2.1 C.2.2.2.2.2.2.1 hP.1 (kl_D hO) hS j 2 (by rw [kl_at hj, he]) rfl hin hdg (fun H1 locs1 h1 _ h3 => kk H1 locs1 ?_ h3)
  rw [kl_set hO.1 hj, hg] at h1
  exact ⟨h1, hq⟩
theorem cc_sst (C : cC p R d s m args c cc nL own D cA A) (hO : klOk A ks ad) (hP : cW D cA ks ad st H) (hS : va_S A H0 H locs) {k n : Nat} {a b : Nat → Int32} (hk : k ∈ ks) (he : cg cA ad st k = .inl (cA 3, n, .inl a)) {i x : Int32} (hv : wr a n i (vp_nar .short x) = some b) {st2 : CS} (hg : va_up (cg cA ad st) k (.inl (cA 3, n, .inl b)) = cg cA ad st2) (hq : refOk ks ad st2.2.2) (hdg : decode cc pc = .ok (.sastore, 1))
    (kk : ∀ (H1 : Heap) (locs1 : List Loc), cW D cA ks ad st2 H1 → va_S A H0 H1 locs1 → W p l e R s m args below meth c H1 locs1 cells slots Q (F0 m (pc + 1) ls rest)) : W p l e R s m args below meth c H locs cells slots Q (F0 m pc ls (.int x :: .int i :: .ref (ad k) :: rest)) := by
  obtain ⟨hin, rfl⟩ := wr_some hv
  obtain ⟨j, hj⟩ := List.getElem?_of_mem hk
  refine va_sast C.1 C.2.1 C.2.2.2.2.2.2.1 hP.1 (kl_D hO) hS j 3 (by rw [kl_at hj, he]) rfl hin hdg (fun H1 locs1 h1 _ h3 => kk H1 locs1 ?_ h3)
  rw [kl_set hO.1 hj, hg] at h1
  exact ⟨h1, hq⟩
theorem cc_ald (C : cC p R d s m args c cc nL own D cA A) (hP : cW D cA ks ad st H) {k n : Nat} {a : Nat → Option Nat} (j0 : Nat) (hk : k ∈ ks) {x : ClassId} (he : cg cA ad st k = .inl (x, n, .inr (.inr (.inr (.inr a))))) {Cn : String} (hj : (cTys cA)[j0]? = some (x, .object Cn)) {i : Int32} {v : Option Nat} (hv : rdq a n i = some v) (hdg : decode cc pc = .ok (.aaload, 1))
    (kk : W p l e R s m args below meth c H locs cells slots Q (F0 m (pc + 1) ls (va_rf v :: rest))) : W p l e R s m args below meth c H locs cells slots Q (F0 m pc ls (.int i :: .ref (ad k) :: rest)) := by
  obtain ⟨hin, rfl⟩ := rdq_some hv
  obtain ⟨j, hj2⟩ := List.getElem?_of_mem hk
  exact va_aldq C.1 C.2.1 C.2.2.2.2.2.2.1 hP.1 j j0 (by rw [kl_at hj2, he]) hj hin hdg kk
end CROWS
