/-! the reader: walks -/
set_option maxRecDepth 100000
section
variable {p : Program} {l : Launch} {e : Env} {R : Room} {s : State} {m : MethodId} {args : Array Value} {below : List Frame} {meth : Method} {c : Code} {H : Heap} {locs : List Loc} {cells slots d : Nat} {Q : State → Prop} {cc : ByteArray} {pc nL : Nat} {ls : Array Slot} {rest : List Value} {D : va_G} {cA : Nat → ClassId} {ks : List Nat} {ad : Nat → Nat} {A : Nat → Prop} {st : CS} {H0 : Heap} {own : String} {index : Nat} {adK adV : Nat → Nat} {i ra M nx0 : Nat} {sz : Int32} {ks0 : List Nat} {z : PS}
theorem q879 : (Jvm.Cond.fieldLink "ChapterLoan$Reader" (27 : Nat) "ChapterLoan$Reader" "at" "I") ∈ lw_all := lw_g (lw_at lw_m4 75 rfl) rfl
theorem q880 : (Jvm.Cond.fieldLink "ChapterLoan$Reader" (83 : Nat) "ChapterLoan$Reader" "open" "I") ∈ lw_all := lw_g (lw_at lw_m4 76 rfl) rfl
/-- the component's state with the reader in it -/
def wS (adK ad : Nat → Nat) (i ra : Nat) (sz : Int32) (z : PS) : CS := csP z.1 (1000 + ra) (.inr (18, [.ref (adK i), .ref (ad 14), .int sz, .int z.2.2.1, .int z.2.2.2]))
theorem csP_comm {st : CS} {k1 k2 : Nat} {e1 e2 : va_E} (h : k1 ≠ k2) : csP (csP st k1 e1) k2 e2 = csP (csP st k2 e2) k1 e1 := by
  unfold csP
  have : va_up (va_up st.2.2.2 k1 e1) k2 e2 = va_up (va_up st.2.2.2 k2 e2) k1 e1 := by
    funext j
    by_cases h1 : j = k1
    · subst h1; simp [va_up, h]
    · by_cases h2 : j = k2
      · subst h2; simp [va_up, h1]
      · simp [va_up, h1, h2]
  rw [this]
theorem wS_new {e1 : va_E} (h : ra ≠ z.2.1) : csP (wS adK ad i ra sz z) (1000 + z.2.1) e1 = wS adK ad i ra sz (zNew z e1) := csP_comm (by omega)
theorem wS_put {e1 : va_E} {a : Nat} (h : ra ≠ a) : csP (wS adK ad i ra sz z) (1000 + a) e1 = wS adK ad i ra sz (zPut z a e1) := csP_comm (by omega)
theorem wS_ne {a : Nat} (h : a ≠ ra) : (wS adK ad i ra sz z).2.2.2 (1000 + a) = z.1.2.2.2 (1000 + a) := csP_ne (by omega)
theorem zPut_new {e1 e2 : va_E} : zPut (zNew z e1) z.2.1 e2 = zNew z e2 := by
  unfold zPut zNew
  simp only [csP_csP]
def pO (o : Option (Option Nat)) (n : Nat) : Outcome := match o with
  | none => .threw (n - 1)
  | some none => .returned none
  | some (some a) => .returned (some (.ref a))
def pL (ks : List Nat) (ad : Nat → Nat) (o : Option (Option Nat)) (n : Nat) : Prop := match o with
  | none => live ks ad (n - 1)
  | some none => True
  | some (some a) => live ks ad a
/-- what holds of the world at a place of a reading's walk -/
abbrev rI (D : va_G) (cA : Nat → ClassId) (ad : Nat → Nat) (A : Nat → Prop) (adK : Nat → Nat) (i ra : Nat) (sz : Int32) (H0 : Heap) (M nx0 : Nat) (ks0 ks : List Nat) (z : PS) (H : Heap) (locs : List Loc) : Prop :=
  klOk A ks ad ∧ live ks ad ra ∧ cW D cA ks ad (wS adK ad i ra sz z) H ∧ va_S A H0 H locs ∧ H.size = z.2.1 ∧ nx0 ≤ z.2.1 ∧ z.2.1 ≤ M ∧ ∀ x ∈ ks0, x ∈ ks
/-- what holds all through it -/
abbrev rC (p : Program) (R : Room) (d : Nat) (s : State) (m : MethodId) (args : Array Value) (c : Code) (cc : ByteArray) (nL : Nat) (own : String) (D : va_G) (cA : Nat → ClassId) (A : Nat → Prop) (adK adV ad : Nat → Nat) (M nx0 : Nat) : Prop :=
  cC p R d s m args c cc nL own D cA A ∧ sX adK adV A s ∧ adP ad ∧ s.heap.size = nx0 ∧ (M - nx0 ≤ R.cells ∧ 7 * (M - nx0) ≤ R.slots)
abbrev pPre (adK adV : Nat → Nat) (i ra : Nat) (sz : Int32) (D : va_G) (cA : Nat → ClassId) (ks : List Nat) (ad : Nat → Nat) (A : Nat → Prop) (z : PS) (As : List Value) : Array Value → State → Prop := fun a U => cPre D cA ks ad A (wS adK ad i ra sz z) As a U ∧ U.heap.size = z.2.1 ∧ sX adK adV A U
def pQ (adK : Nat → Nat) (i ra : Nat) (sz : Int32) (M : Nat) (D : va_G) (cA : Nat → ClassId) (ks : List Nat) (ad : Nat → Nat) (A : Nat → Prop) (o : Option (Option Nat)) (z z' : PS) : xQt := fun _ s0 oc t L k n => oc = pO o z'.2.1 ∧ va_F A s0 t ∧ (∀ q ∈ L, A q.base) ∧ t.heap.size = z'.2.1 ∧ z.2.1 ≤ z'.2.1 ∧ z'.2.1 ≤ M ∧ k = z'.2.1 - z.2.1 ∧ n = 7 * (z'.2.1 - z.2.1) ∧ ∃ ks', (∀ x ∈ ks, x ∈ ks') ∧ klOk A ks' ad ∧ cW D cA ks' ad (wS adK ad i ra sz z') t.heap ∧ pL ks' ad o z'.2.1
abbrev pX (l : Launch) (y : MethodName) (bytes : ByteArray) (maxL : Nat) (ret : Option FieldType) (d : Nat) (adK adV : Nat → Nat) (i ra : Nat) (sz : Int32) (M : Nat) (D : va_G) (cA : Nat → ClassId) (ks : List Nat) (ad : Nat → Nat) (A : Nat → Prop) (z : PS) (As : List Value) (o : Option (Option Nat)) (z' : PS) : Prop :=
  XMet l y (ws_ y bytes maxL ret) (rmA d (M - z.2.1) (7 * (M - z.2.1))) (pPre adK adV i ra sz D cA ks ad A z As) (pQ adK i ra sz M D cA ks ad A o z z')
theorem pp_of {y : MethodName} {bytes : ByteArray} {maxL : Nat} {ret : Option FieldType} {As : List Value} {o : Option (Option Nat)} {z' : PS} (hy : plainName y.cls = true) (hyc : y.cls = RX16) (hnl : (lg_sl As).length ≤ maxL) (had : adP ad) (hO : klOk A ks ad) (hra : live ks ad ra) (hM0 : z.2.1 ≤ M)
    (body : ∀ (p : Program) (e : Env) (s : State) (m : MethodId) (below : List Frame) (meth : Method) (c : Code) (R : Room) (args : Array Value) (ls : Array Slot), rC p R d s m args c bytes maxL RX16 D cA A adK adV ad M z.2.1 → meth.sig.returnType = ret → meth.locks = false → (∀ z ∈ c.exceptionTable.toList, ∀ pc, covers z pc = false) → rI D cA ad A adK i ra sz s.heap M z.2.1 ks ks z s.heap [] → lv_has ls maxL (lv_args 0 As) →
      W p l e R s m args below meth c s.heap [] (z.2.1 - z.2.1) (7 * (z.2.1 - z.2.1)) (xMQ below (pQ adK i ra sz M D cA ks ad A o z z') args s) (F0 m 0 ls [])) : pX l y bytes maxL ret d adK adV i ra sz M D cA ks ad A z As o z' := by
  refine MetFree.of_bodyS (code := bytes) (maxLocals := maxL) (ret := ret) hy ?_ ?_
  · intro args s m h hn
    obtain ⟨meth, c, h1, h2, h3, h4, h5, h6, -, -⟩ := Cond.code_spec hn (atoms_spec (ws := ws_ y bytes maxL ret) h _ List.mem_cons_self)
    exact ⟨meth, c, h1, h2, h3, h4, h5, h6⟩
  · intro p e s m args below meth c s₁ B hml hv _
    obtain ⟨⟨rfl, hP, hK, hN, hA⟩, hnx, hX⟩ := hv
    have hts0 := atoms_spec (ws := ws_ y bytes maxL ret) B.pre
    have hts : ∀ w ∈ lw_all, w.before _ s = true := fun w h => hts0 w (List.mem_cons_of_mem _ h)
    have hown : s.vm.findClass y.cls = some m.cls := findClass_of_methodNamed B.named
    rw [hyc] at hown
    have hh0 : s₁.heap = s.heap := by rw [B.state]; rfl
    obtain ⟨meth', c', hm', hc', -, -, -, -, hempty, -⟩ := Cond.code_spec B.named (hts0 _ List.mem_cons_self)
    have hcm : c' = c := by
      cases B.method.symm.trans hm'
      cases (Stand.of_body B).code.symm.trans hc'
      rfl
    subst hcm
    have htab : ∀ z ∈ c'.exceptionTable.toList, ∀ pc, covers z pc = false := by
      have h0 : c'.exceptionTable.size = 0 := by simpa [Array.isEmpty] using hempty
      have h1 : c'.exceptionTable.toList = [] := List.eq_nil_of_length_eq_zero (by simpa using h0)
      intro z hz
      rw [h1] at hz
      cases hz
    have K := body p e s m below meth c' (headSpec (ws_ y bytes maxL ret) (rmA d (M - z.2.1) (7 * (M - z.2.1)))).room As.toArray _ ⟨⟨B.exec, B.bytes, hml, hown, hts, ⟨Nat.le_refl _, Nat.le_refl _⟩, hK, hN, hA⟩, hX, had, hnx, ⟨Nat.le_refl _, Nat.le_refl _⟩⟩ B.returns B.notSynchronized htab ⟨hO, hra, hP, va_S.rf, hnx, Nat.le_refl _, hM0, fun _ h => h⟩ (lv_entry _ hnl)
    rw [← lg_entry_eq, Nat.sub_self, Nat.mul_zero] at K
    obtain ⟨t, a1, oc, b1, b2, b3⟩ := K s₁ hh0 (Stand.of_body B)
    exact ⟨t, oc, a1, b1, b2, b3⟩
theorem WT.widen {x : Addr} {g : JFrame} {k n : Nat} (h1 : cells ≤ k) (h2 : slots ≤ n) (kk : WT p l e R s m args below meth c H locs k n Q x g) : WT p l e R s m args below meth c H locs cells slots Q x g := fun T hT X => kk T hT (stand_widen X h1 h2)
theorem rI.lt (K : rC p R d s m args c cc nL own D cA A adK adV ad M nx0) (J : rI D cA ad A adK i ra sz s.heap M nx0 ks0 ks z H locs) : ra < z.2.1 := by
  have h := ad_lt J.2.2.1 J.2.1.1
  rw [J.2.1.2, J.2.2.2.2.1] at h
  exact h
theorem rr_get {v : Value} {name ds : String} (K : rC p R d s m args c cc nL RX16 D cA A adK adV ad M nx0) (J : rI D cA ad A adK i ra sz s.heap M nx0 ks0 ks z H locs) (j : Nat) (hj : j < 5) (hT : TX16 j = (RX16, name, ds, (TX16 j).2.2.2)) (hl : Cond.fieldLink RX16 index RX16 name ds ∈ lw_all) (hv : [Value.ref (adK i), .ref (ad 14), .int sz, .int z.2.2.1, .int z.2.2.2][j]? = some v) (hdg : decode cc pc = .ok (.getfield index, 3)) (kk : W p l e R s m args below meth c H locs cells slots Q (F0 m (pc + 3) ls (v :: rest))) : W p l e R s m args below meth c H locs cells slots Q (F0 m pc ls (.ref ra :: rest)) :=
  tm_get K.1 J.2.2.1 J.2.1 csP_at (Cn := RX16) (ref := RX16) (T := TX16) (N := 5) rfl in_X16 j hj (by rw [hT]; exact hl) (by rw [hT]; exact fun _ h => h) hv hdg kk
theorem rI.moved {H1 : Heap} {locs1 : List Loc} {z1 : PS} (J : rI D cA ad A adK i ra sz s.heap M nx0 ks0 ks z H locs) (hz : z1.2.1 = z.2.1) (hP : cW D cA ks ad (wS adK ad i ra sz z1) H1) (hS : va_S A H H1 locs1) (hs : H1.size ≤ z.2.1) : rI D cA ad A adK i ra sz s.heap M nx0 ks0 ks z1 H1 locs1 :=
  ⟨J.1, J.2.1, hP, ⟨Nat.le_trans J.2.2.2.1.1 hS.1, fun q h1 h2 => (hS.2.1 q (Nat.lt_of_lt_of_le h1 J.2.2.2.1.1) h2).trans (J.2.2.2.1.2.1 q h1 h2), hS.2.2⟩, by have h1 := hS.1; have h2 := J.2.2.2.2.1; omega, by rw [hz]; exact J.2.2.2.2.2.1, by rw [hz]; exact J.2.2.2.2.2.2.1, J.2.2.2.2.2.2.2⟩
theorem rr_bound (K : rC p R d s m args c cc nL own D cA A adK adV ad M nx0) (hn : nx0 ≤ z.2.1) {Q : State → Prop} {g : JFrame} (kk : H.size ≤ z.2.1 → W p l e R s m args below meth c H locs (z.2.1 - nx0) (7 * (z.2.1 - nx0)) Q g) : W p l e R s m args below meth c H locs (z.2.1 - nx0) (7 * (z.2.1 - nx0)) Q g := W.sizeLe (fun hz => kk (by have h1 := K.2.2.2.1; omega))
theorem rI.self (J : rI D cA ad A adK i ra sz s.heap M nx0 ks0 ks z H locs) : va_S A H H locs := ⟨Nat.le_refl _, fun _ _ _ => rfl, J.2.2.2.1.2.2⟩
theorem rr_pat {x : Int32} (K : rC p R d s m args c cc nL RX16 D cA A adK adV ad M nx0) (J : rI D cA ad A adK i ra sz s.heap M nx0 ks0 ks z H locs) (hdg : decode cc pc = .ok (.putfield 27, 3)) (kk : ∀ (H1 : Heap) (locs1 : List Loc), rI D cA ad A adK i ra sz s.heap M nx0 ks0 ks (z.1, z.2.1, x, z.2.2.2) H1 locs1 → W p l e R s m args below meth c H1 locs1 (z.2.1 - nx0) (7 * (z.2.1 - nx0)) Q (F0 m (pc + 3) ls rest)) : W p l e R s m args below meth c H locs (z.2.1 - nx0) (7 * (z.2.1 - nx0)) Q (F0 m pc ls (.int x :: .ref ra :: rest)) := by
  refine pl_put (ci := 18) (Cn := RX16) (ref := RX16) (T := TX16) (N := 5) (ty0 := tyX16) (fs := [.ref (adK i), .ref (ad 14), .int sz, .int z.2.2.1, .int z.2.2.2]) K.1 J.1 J.2.2.1 J.self J.2.1 csP_at rfl in_X16 tyX16_ok nmX16 3 (by decide) q879 (fun _ h => h) rfl rfl rfl (Nat.le_of_ble_eq_true rfl) (fun b h => by omega) hdg (fun H1 locs1 hP hS => ?_)
  refine rr_bound K J.2.2.2.2.2.1 (fun hz => kk H1 locs1 (J.moved rfl ?_ hS hz))
  unfold wS at hP
  rw [csP_csP] at hP
  exact hP
theorem rr_pop {x : Int32} (K : rC p R d s m args c cc nL RX16 D cA A adK adV ad M nx0) (J : rI D cA ad A adK i ra sz s.heap M nx0 ks0 ks z H locs) (hdg : decode cc pc = .ok (.putfield 83, 3)) (kk : ∀ (H1 : Heap) (locs1 : List Loc), rI D cA ad A adK i ra sz s.heap M nx0 ks0 ks (z.1, z.2.1, z.2.2.1, x) H1 locs1 → W p l e R s m args below meth c H1 locs1 (z.2.1 - nx0) (7 * (z.2.1 - nx0)) Q (F0 m (pc + 3) ls rest)) : W p l e R s m args below meth c H locs (z.2.1 - nx0) (7 * (z.2.1 - nx0)) Q (F0 m pc ls (.int x :: .ref ra :: rest)) := by
  refine pl_put (ci := 18) (Cn := RX16) (ref := RX16) (T := TX16) (N := 5) (ty0 := tyX16) (fs := [.ref (adK i), .ref (ad 14), .int sz, .int z.2.2.1, .int z.2.2.2]) K.1 J.1 J.2.2.1 J.self J.2.1 csP_at rfl in_X16 tyX16_ok nmX16 4 (by decide) q880 (fun _ h => h) rfl rfl rfl (Nat.le_of_ble_eq_true rfl) (fun b h => by omega) hdg (fun H1 locs1 hP hS => ?_)
  refine rr_bound K J.2.2.2.2.2.1 (fun hz => kk H1 locs1 (J.moved rfl ?_ hS hz))
  unfold wS at hP
  rw [csP_csP] at hP
  exact hP
theorem rr_new {ci N : Nat} {Cn : String} {T : u_T} {ty0 : Nat → FieldType} {fs : List Value} (K : rC p R d s m args c cc nL RX16 D cA A adK adV ad M nx0) (J : rI D cA ad A adK i ra sz s.heap M nx0 ks0 ks z H locs) (hlt : z.2.1 < M) (hcl : cCl[ci]? = some (Cn, T, N)) (hin : ∀ w ∈ u_ws Cn T N, w ∈ lw_all) (hty : ∀ k, k < N → parseFieldDescriptor (T k).2.2.1 = some (ty0 k)) (hl : Cond.classLink RX16 index Cn ∈ lw_all) (hinst : Cond.instantiable Cn N ∈ lw_all) (hini : Cond.initialized Cn ∈ lw_all) (hfs : ∀ j, j < N → defaultValue (ty0 j) = vp_V fs j) (hnr : ∀ b, Value.ref b ∉ fs) (hN : N ≤ 7) (hdg : decode cc pc = .ok (.new index, 3))
    (kk : ∀ H1 : Heap, rI D cA ad A adK i ra sz s.heap M nx0 ks0 (ks ++ [1000 + z.2.1]) (zNew z (.inr (ci, fs))) H1 locs → live (ks ++ [1000 + z.2.1]) ad z.2.1 → W p l e R s m args below meth c H1 locs ((zNew z (.inr (ci, fs))).2.1 - nx0) (7 * ((zNew z (.inr (ci, fs))).2.1 - nx0)) Q (F0 m (pc + 3) ls (.ref z.2.1 :: rest))) : W p l e R s m args below meth c H locs (z.2.1 - nx0) (7 * (z.2.1 - nx0)) Q (F0 m pc ls rest) := by
  have hlt2 := rI.lt K J
  obtain ⟨hO, hra, hP, hS, hH, hn0, hM0, hsub⟩ := J
  have hc := K.2.2.2.2
  refine cc_new K.1 K.2.2.1 hO hP hS hcl hin hty hl hinst hini hfs hnr (by omega) (by omega) hdg (fun H1 hz1 hO1 hP1 hS1 => ?_)
  rw [hH] at hO1 hP1 hz1
  rw [wS_new (by omega)] at hP1
  rw [hH]
  refine W.widen (k := (zNew z (.inr (ci, fs))).2.1 - nx0) (n := 7 * ((zNew z (.inr (ci, fs))).2.1 - nx0)) (by show _ ≤ z.2.1 + 1 - nx0; omega) (by show _ ≤ 7 * (z.2.1 + 1 - nx0); omega) ?_
  exact kk H1 ⟨hO1, live_app hra, hP1, hS1, hz1, Nat.le_trans hn0 (Nat.le_succ _), hlt, fun x hx => List.mem_append_left _ (hsub x hx)⟩ (live_new K.2.2.1)
/-- a call that writes, with the heap's size kept from below -/
theorem cc_end2 {r : Option Value} {a : Array Value} {st' : CS} {st0 : List Value} (hS : va_S A H H locs) (hr : CallRun p l e R s m args below meth c H locs cells slots 0 0 (F0 m pc ls st0) rest (cQ r D cA ks ad A st' a) A)
    (kk : ∀ (H1 : Heap) (locs1 : List Loc), cW D cA ks ad st' H1 → va_S A H H1 locs1 → W p l e R s m args below meth c H1 locs1 cells slots Q (F0 m (pc + 3) ls (r.toList ++ rest))) : W p l e R s m args below meth c H locs cells slots Q (F0 m pc ls st0) := by
  intro T hT X
  obtain ⟨v, st₀, t, T', L, h0, X', hL, e1, ⟨hv, hw, hz, hk⟩, st⟩ := hr T hT X
  cases hv
  rw [h0] at hz hk
  obtain ⟨t2, a1, b1⟩ := kk T'.heap (locs ++ L) (by rw [e1]; exact hw)
    ⟨by rw [e1]; exact hz, fun q h1 h2 => by rw [e1]; exact hk q h1 h2, fun q hq => by
      rcases List.mem_append.mp hq with h | h
      · exact hS.2.2 q h
      · exact hL q h⟩ T' rfl X'
  exact ⟨t2, st t2 a1, b1⟩
theorem rr_init {y : MethodName} {bytes : ByteArray} {maxL n dk b : Nat} {As st0 : List Value} {e1 : va_E} (K : rC p R d s m args c cc nL RX16 D cA A adK adV ad M nx0) (J : rI D cA ad A adK i ra sz s.heap M nx0 ks0 ks z H locs) (hb : ra ≠ b) (hM : cV l y bytes maxL none dk D cA ks ad A (wS adK ad i ra sz z) (.ref b :: As) none (csP (wS adK ad i ra sz z) (1000 + b) e1)) (cw : CallB R s args RX16 index y bytes maxL none (ws_ y bytes maxL none) (k2_rm dk (40 * dk)) 0 0 n ∧ y.name = "<init>" ∧ (Cond.instanceMethod y).before args s = true)
    (hn : As.length = n) (hsz : ls.size = nL) (hst : st0 = As.reverse ++ .ref b :: rest) (hW : (rest.map fun v => v.category).sum ≤ 8) (hdg : decode cc pc = .ok (.invokespecial index, 3))
    (kk : ∀ (H1 : Heap) (locs1 : List Loc), rI D cA ad A adK i ra sz s.heap M nx0 ks0 ks (zPut z b e1) H1 locs1 → W p l e R s m args below meth c H1 locs1 (z.2.1 - nx0) (7 * (z.2.1 - nx0)) Q (F0 m (pc + 3) ls rest)) : W p l e R s m args below meth c H locs (z.2.1 - nx0) (7 * (z.2.1 - nx0)) Q (F0 m pc ls st0) := by
  have hc := K.2.2.2.2
  have hM0 := J.2.2.2.2.2.2.1
  refine cc_end2 J.self (run_of (va_runI (locs := locs) (p := p) (e := e) (below := below) (meth := meth) (g := F0 m pc ls st0) (As := As) (rest := rest) ⟨K.1.1, K.1.2.1, K.1.2.2.1, K.1.2.2.2.1, K.1.2.2.2.2.1⟩ hM cw ⟨cc_blind, cc_pre K.1 J.2.2.1 J.2.2.2.1.1⟩ rfl hn hsz hst (lv_room hW) hdg ⟨by omega, by omega⟩)) (fun H1 locs1 hP hS => ?_)
  refine rr_bound K J.2.2.2.2.2.1 (fun hz => kk H1 locs1 (J.moved rfl ?_ hS hz))
  rw [wS_put hb] at hP
  exact hP
/-- the reader itself, as a receiver -/
theorem rr_recv (K : rC p R d s m args c cc nL own D cA A adK adV ad M nx0) (J : rI D cA ad A adK i ra sz s.heap M nx0 ks0 ks z H locs) : ∃ cellB : Cell, H[ra]? = some cellB ∧ cellB.vm.isStatics = false ∧ s.vm.findClass RX16 = some cellB.cls := tm_recv K.1 J.2.2.1 J.2.1 csP_at (q := (RX16, TX16, 5)) rfl
/-- a call of the reader's own method that may throw -/
theorem pp_call {y : MethodName} {bytes : ByteArray} {maxL n dk : Nat} {ret : Option FieldType} {As st0 : List Value} {o : Option (Option Nat)} {z2 : PS} (K : rC p R d s m args c cc nL own D cA A adK adV ad M nx0) (J : rI D cA ad A adK i ra sz s.heap M nx0 ks0 ks z H locs) (hM : pX l y bytes maxL ret dk adK adV i ra sz M D cA ks ad A z (.ref ra :: As) o z2) (cw : CallW R s args own RX16 index y bytes maxL ret (ws_ y bytes maxL ret) (rmA dk (M - z.2.1) (7 * (M - z.2.1))) (M - z.2.1) (7 * (M - z.2.1)) n)
    (hn : As.length = n) (hpn : (parseMethodDescriptor y.desc).map (fun d => d.parameters.length) = some n) (hsz : ls.size = nL) (hst : st0 = As.reverse ++ .ref ra :: rest) (hW : (rest.map fun v => v.category).sum ≤ 8) (hdg : decode cc pc = .ok (.invokevirtual index, 3))
    (kr : ∀ v, o = some v → ∀ (ks2 : List Nat) (H1 : Heap) (locs1 : List Loc), rI D cA ad A adK i ra sz s.heap M nx0 ks0 ks2 z2 H1 locs1 → (∀ x ∈ ks, x ∈ ks2) → pL ks2 ad o z2.2.1 → W p l e R s m args below meth c H1 locs1 (z2.2.1 - nx0) (7 * (z2.2.1 - nx0)) Q (F0 m (pc + 3) ls ((v.map Value.ref).toList ++ rest)))
    (kt : o = none → ∀ (ks2 : List Nat) (H1 : Heap) (locs1 : List Loc), rI D cA ad A adK i ra sz s.heap M nx0 ks0 ks2 z2 H1 locs1 → pL ks2 ad o z2.2.1 → WT p l e R s m args below meth c H1 locs1 (z2.2.1 - nx0) (7 * (z2.2.1 - nx0)) Q (z2.2.1 - 1) (F0 m pc ls rest)) : W p l e R s m args below meth c H locs (z.2.1 - nx0) (7 * (z.2.1 - nx0)) Q (F0 m pc ls st0) := by
  obtain ⟨⟨hrc, hrs, hfr, hlo, hws, hcw, hcode, hini, hy, hlen, hl⟩, hin, hse⟩ := cw
  have hcd : ∀ U : State, s.WarmedH U.vm → ∀ mk, U.methodNamed? y = some mk → ∃ methY cY, U.vm.method? mk = some methY ∧ methY.code = some cY ∧ cY.maxLocals = maxL ∧ parseMethodDescriptor y.desc = some methY.sig := fun U hU mk hmk => by
    obtain ⟨meth, c, h1, h2, h3, h4, h5, h6, h7, h8⟩ := Cond.code_spec hmk (hws _ hcw #[] U hU)
    exact ⟨meth, c, h1, h2, h4, h8⟩
  have hrv := rr_recv K J
  obtain ⟨hO, hra, hP, hS, hH, hn0, hM0, hsub⟩ := J
  have hc := K.2.2.2.2
  have C := K.1
  have key : ∀ (st₁ t : State) (H1 : Heap) (L : List Loc) (ks2 : List Nat), st₁.heap = H → t.heap = H1 → va_F A st₁ t → (∀ q ∈ L, A q.base) → t.heap.size = z2.2.1 → z.2.1 ≤ z2.2.1 → z2.2.1 ≤ M → (∀ x ∈ ks, x ∈ ks2) → klOk A ks2 ad → cW D cA ks2 ad (wS adK ad i ra sz z2) t.heap → rI D cA ad A adK i ra sz s.heap M nx0 ks0 ks2 z2 H1 (locs ++ L) := by
    intro st₁ t H1 L ks2 e1 e2 hF hL h4 h5 h6 h7 h8 h9
    subst e2
    exact ⟨h8, ⟨h7 _ hra.1, hra.2⟩, h9, ⟨Nat.le_trans hS.1 (by rw [← e1]; exact hF.1), fun q g1 g2 => by rw [hF.2 q (by rw [e1]; exact Nat.lt_of_lt_of_le g1 hS.1) g2, e1]; exact hS.2.1 q g1 g2, fun q hq => by
      rcases List.mem_append.mp hq with h | h
      · exact hS.2.2 q h
      · exact hL q h⟩, h4, Nat.le_trans hn0 h5, h6, fun x hx => h7 x (hsub x hx)⟩
  refine xcallV (bytes := bytes) (ret := ret) (As := As) (rest := rest) ⟨C.1, C.2.1, C.2.2.1, C.2.2.2.1, C.2.2.2.2.1⟩ hM (fun a U g mk q => ⟨cc_blind a U g mk q.1, q.2.1, sX.calling q.2.2⟩) ⟨hfr, hlo⟩ hws hl hin hse (fun a' U hU => word_at hU (Or.inl (by first | rfl | simp [Cond.onTables, Cond.keeps, Cond.steady])) hini) hcd ⟨hy.1, hy.2, hpn⟩ hrv (fun U hU hW => ⟨cc_pre C hP hS.1 U hU hW, by rw [hU]; exact hH, sX.there K.2.1 hS hU hW⟩) hn hsz hst hW hdg ⟨by show z.2.1 - nx0 + (M - z.2.1) ≤ _; omega, by show 7 * (z.2.1 - nx0) + 7 * (M - z.2.1) ≤ _; omega⟩ ?_ ?_
  · rintro v st₁ t H1 L k n' e1 e2 hal ⟨ho, hF, hL, h4, h5, h6, rfl, rfl, ks2, h7, h8, h9, h10⟩
    cases o with
    | none => cases ho
    | some v2 =>
      have hv : v = v2.map Value.ref := by
        cases v2 with
        | none => cases ho; rfl
        | some a => cases ho; rfl
      subst hv
      refine W.widen (k := z2.2.1 - nx0) (n := 7 * (z2.2.1 - nx0)) (by omega) (by omega) ?_
      exact kr v2 rfl ks2 H1 (locs ++ L) (key st₁ t H1 L ks2 e1 e2 hF hL h4 h5 h6 h7 h8 h9) h7 h10
  · rintro x st₁ t H1 L k n' e1 e2 hal ⟨ho, hF, hL, h4, h5, h6, rfl, rfl, ks2, h7, h8, h9, h10⟩
    cases o with
    | some v2 => cases v2 <;> cases ho
    | none =>
      cases ho
      refine WT.widen (k := z2.2.1 - nx0) (n := 7 * (z2.2.1 - nx0)) (by omega) (by omega) ?_
      exact kt rfl ks2 H1 (locs ++ L) (key st₁ t H1 L ks2 e1 e2 hF hL h4 h5 h6 h7 h8 h9) h10
/-- ends -/
theorem pp_out {o : Option (Option Nat)} {z0 z' : PS} {ls : Array Slot} {rest : List Value} (hn : nx0 = z0.2.1) (ho : o = none) (htab : ∀ z ∈ c.exceptionTable.toList, ∀ pc, covers z pc = false) (hlk : meth.locks = false) (J : rI D cA ad A adK i ra sz s.heap M nx0 ks0 ks z' H locs) (hL : pL ks ad o z'.2.1) : WT p l e R s m args below meth c H locs (z'.2.1 - nx0) (7 * (z'.2.1 - nx0)) (xMQ below (pQ adK i ra sz M D cA ks0 ad A o z0 z') args s) (z'.2.1 - 1) (F0 m pc ls rest) := by
  subst hn
  refine WT.out (fun z hz => htab z hz pc) hlk (fun t ht _ => ⟨by rw [ho]; rfl, ?_⟩)
  obtain ⟨hO, hra, hP, hS, hH, hn0, hM0, hsub⟩ := J
  exact ⟨hS.F ht, hS.2.2, by rw [ht]; exact hH, hn0, hM0, rfl, rfl, ks, hsub, hO, by rw [ht]; exact hP, hL⟩
theorem pp_end {Qc : Array Value → State → Outcome → State → Prop} {Qx : xQt} {g : JFrame} (hq : ∀ (oc : Outcome) (t : State) (L : List Loc), Qc args s oc t → (∀ q ∈ L, A q.base) → Qx args s oc t L cells slots) (k : W p l e R s m args below meth c H locs cells slots (MQ below Qc args s cells slots A) g) : W p l e R s m args below meth c H locs cells slots (xMQ below Qx args s) g := by
  refine W.mono (fun t ht => ?_) k
  obtain ⟨oc, h1, h2, h3, L, ⟨-, h6, h7⟩, h8⟩ := ht
  exact ⟨oc, h1, h2, L, cells, slots, ⟨h6, h7⟩, hq oc t L h3 h8⟩
theorem pp_aret {z0 z' : PS} {t : Nat} {ls : Array Slot} (hx : p.tables.exec = Jvm.exec) (hb : c.code = cc) (hr : meth.sig.returnType = some (.object "ChapterLoan$Term")) (hlk : meth.locks = false) (hn : nx0 = z0.2.1) (J : rI D cA ad A adK i ra sz s.heap M nx0 ks0 ks z' H locs) (ht : live ks ad t) (hdg : decode cc pc = .ok (.areturn, 1)) : W p l e R s m args below meth c H locs (z'.2.1 - nx0) (7 * (z'.2.1 - nx0)) (xMQ below (pQ adK i ra sz M D cA ks0 ad A (some (some t)) z0 z') args s) (F0 m pc ls [.ref t]) := by
  subst hn
  obtain ⟨hO, hra, hP, hS, hH, hn0, hM0, hsub⟩ := J
  refine pp_end (Qc := fun _ s0 oc t' => oc = .returned (some (.ref t)) ∧ va_F A s0 t' ∧ t'.heap.size = z'.2.1 ∧ cW D cA ks ad (wS adK ad i ra sz z') t'.heap) (fun oc t' L h3 h8 => ⟨h3.1, h3.2.1, h8, h3.2.2.1, hn0, hM0, rfl, rfl, ks, hsub, hO, h3.2.2.2, ht⟩) ?_
  exact W.aret hx hb hr (Or.inl ⟨_, rfl⟩) (Or.inr ⟨_, rfl⟩) (fun t' ht' _ => ⟨rfl, hS.F ht', by rw [ht']; exact hH, by rw [ht']; exact hP⟩) hS.2.2 hdg
theorem pp_vret {z0 z' : PS} {ls : Array Slot} (hx : p.tables.exec = Jvm.exec) (hb : c.code = cc) (hr : meth.sig.returnType = none) (hlk : meth.locks = false) (hn : nx0 = z0.2.1) (J : rI D cA ad A adK i ra sz s.heap M nx0 ks0 ks z' H locs) (hdg : decode cc pc = .ok (.return_, 1)) : W p l e R s m args below meth c H locs (z'.2.1 - nx0) (7 * (z'.2.1 - nx0)) (xMQ below (pQ adK i ra sz M D cA ks0 ad A (some none) z0 z') args s) (F0 m pc ls []) := by
  subst hn
  obtain ⟨hO, hra, hP, hS, hH, hn0, hM0, hsub⟩ := J
  refine pp_end (Qc := fun _ s0 oc t' => oc = .returned none ∧ va_F A s0 t' ∧ t'.heap.size = z'.2.1 ∧ cW D cA ks ad (wS adK ad i ra sz z') t'.heap) (fun oc t' L h3 h8 => ⟨h3.1, h3.2.1, h8, h3.2.2.1, hn0, hM0, rfl, rfl, ks, hsub, hO, h3.2.2.2, trivial⟩) ?_
  exact W.vret hx hb hr (fun t' ht' _ => ⟨rfl, hS.F ht', by rw [ht']; exact hH, by rw [ht']; exact hP⟩) hS.2.2 hdg
theorem isTwo_eq {e : va_E} (h : isTwo e = true) : e = .inr (17, [.int 0, .null, .null]) := by
  unfold isTwo at h
  split at h
  · rfl
  · cases h
theorem R_two_some {f : PS → Option (Option Nat × PS)} {sg : Int32} {t : Nat} {o : Option Nat} {z' : PS} (h : R_two M f z sg t = some (o, z')) : z.2.1 < M ∧ ∃ ob zb, f (zNew z (.inr (17, [.int 0, .null, .null]))) = some (ob, zb) ∧ ((ob = none ∧ o = none ∧ z' = zb) ∨ ∃ b, ob = some b ∧ zb.1.2.2.2 (1000 + z.2.1) = .inr (17, [.int 0, .null, .null]) ∧ o = some z.2.1 ∧ z' = zPut zb z.2.1 (.inr (17, [.int sg, .ref t, .ref b]))) := by
  unfold R_two at h
  split at h
  · rename_i hlt
    obtain ⟨ob, zb, h1, h2⟩ := bd2_some h
    refine ⟨hlt, ob, zb, h1, ?_⟩
    cases ob with
    | none => rw [onx_none] at h2; cases h2; exact Or.inl ⟨rfl, rfl, rfl⟩
    | some b =>
      rw [onx_some] at h2
      split at h2
      · rename_i hq
        cases h2
        exact Or.inr ⟨b, rfl, isTwo_eq hq, rfl, rfl⟩
      · cases h2
  · cases h
abbrev cX16_look : ByteArray := prog_14_method_3_code
def yX16_look : MethodName := ⟨RX16, "look", "()I"⟩
theorem dX16_look_0 : decode cX16_look 0 = .ok (.aload_n 0, 1) := by decide +kernel
theorem dX16_look_1 : decode cX16_look 1 = .ok (.getfield 27, 3) := by decide +kernel
theorem dX16_look_4 : decode cX16_look 4 = .ok (.aload_n 0, 1) := by decide +kernel
theorem dX16_look_5 : decode cX16_look 5 = .ok (.getfield 19, 3) := by decide +kernel
theorem dX16_look_8 : decode cX16_look 8 = .ok (.if_icmp .ge 19, 3) := by decide +kernel
theorem dX16_look_11 : decode cX16_look 11 = .ok (.aload_n 0, 1) := by decide +kernel
theorem dX16_look_12 : decode cX16_look 12 = .ok (.getfield 15, 3) := by decide +kernel
theorem dX16_look_15 : decode cX16_look 15 = .ok (.aload_n 0, 1) := by decide +kernel
theorem dX16_look_16 : decode cX16_look 16 = .ok (.getfield 27, 3) := by decide +kernel
theorem dX16_look_19 : decode cX16_look 19 = .ok (.baload, 1) := by decide +kernel
theorem dX16_look_20 : decode cX16_look 20 = .ok (.sipush 255, 3) := by decide +kernel
theorem dX16_look_23 : decode cX16_look 23 = .ok (.iand, 1) := by decide +kernel
theorem dX16_look_24 : decode cX16_look 24 = .ok (.goto 4, 3) := by decide +kernel
theorem dX16_look_27 : decode cX16_look 27 = .ok (.iconst (-1), 1) := by decide +kernel
theorem dX16_look_28 : decode cX16_look 28 = .ok (.ireturn, 1) := by decide +kernel
abbrev cX16_fault : ByteArray := prog_14_method_4_code
def yX16_fault : MethodName := ⟨RX16, "fault", "(Z)V"⟩
theorem dX16_fault_0 : decode cX16_fault 0 = .ok (.iload_n 1, 1) := by decide +kernel
theorem dX16_fault_1 : decode cX16_fault 1 = .ok (.ifCond .ne 15, 3) := by decide +kernel
theorem dX16_fault_4 : decode cX16_fault 4 = .ok (.new 34, 3) := by decide +kernel
theorem dX16_fault_7 : decode cX16_fault 7 = .ok (.dup, 1) := by decide +kernel
theorem dX16_fault_8 : decode cX16_fault 8 = .ok (.aload_n 0, 1) := by decide +kernel
theorem dX16_fault_9 : decode cX16_fault 9 = .ok (.getfield 27, 3) := by decide +kernel
theorem dX16_fault_12 : decode cX16_fault 12 = .ok (.invokespecial 36, 3) := by decide +kernel
theorem dX16_fault_15 : decode cX16_fault 15 = .ok (.athrow, 1) := by decide +kernel
theorem dX16_fault_16 : decode cX16_fault 16 = .ok (.return_, 1) := by decide +kernel
abbrev cX16_isOne : ByteArray := prog_14_method_5_code
def yX16_isOne : MethodName := ⟨RX16, "isOne", "(Ljava/lang/String;)Z"⟩
theorem dX16_isOne_0 : decode cX16_isOne 0 = .ok (.aload_n 0, 1) := by decide +kernel
theorem dX16_isOne_1 : decode cX16_isOne 1 = .ok (.invokevirtual 39, 3) := by decide +kernel
theorem dX16_isOne_4 : decode cX16_isOne 4 = .ok (.ifCond .lt 18, 3) := by decide +kernel
theorem dX16_isOne_7 : decode cX16_isOne 7 = .ok (.aload_n 1, 1) := by decide +kernel
theorem dX16_isOne_8 : decode cX16_isOne 8 = .ok (.aload_n 0, 1) := by decide +kernel
theorem dX16_isOne_9 : decode cX16_isOne 9 = .ok (.invokevirtual 39, 3) := by decide +kernel
theorem dX16_isOne_12 : decode cX16_isOne 12 = .ok (.invokevirtual 43, 3) := by decide +kernel
theorem dX16_isOne_15 : decode cX16_isOne 15 = .ok (.ifCond .lt 7, 3) := by decide +kernel
theorem dX16_isOne_18 : decode cX16_isOne 18 = .ok (.iconst 1, 1) := by decide +kernel
theorem dX16_isOne_19 : decode cX16_isOne 19 = .ok (.goto 4, 3) := by decide +kernel
theorem dX16_isOne_22 : decode cX16_isOne 22 = .ok (.iconst 0, 1) := by decide +kernel
theorem dX16_isOne_23 : decode cX16_isOne 23 = .ok (.ireturn, 1) := by decide +kernel
abbrev cX16_either : ByteArray := prog_14_method_6_code
def yX16_either : MethodName := ⟨RX16, "either", "()LChapterLoan$Term;"⟩
theorem dX16_either_0 : decode cX16_either 0 = .ok (.aload_n 0, 1) := by decide +kernel
theorem dX16_either_1 : decode cX16_either 1 = .ok (.invokevirtual 49, 3) := by decide +kernel
theorem dX16_either_4 : decode cX16_either 4 = .ok (.astore_n 1, 1) := by decide +kernel
theorem dX16_either_5 : decode cX16_either 5 = .ok (.aload_n 0, 1) := by decide +kernel
theorem dX16_either_6 : decode cX16_either 6 = .ok (.ldc 52, 2) := by decide +kernel
theorem dX16_either_8 : decode cX16_either 8 = .ok (.invokevirtual 54, 3) := by decide +kernel
theorem dX16_either_11 : decode cX16_either 11 = .ok (.ifCond .eq 31, 3) := by decide +kernel
theorem dX16_either_14 : decode cX16_either 14 = .ok (.aload_n 0, 1) := by decide +kernel
theorem dX16_either_15 : decode cX16_either 15 = .ok (.dup, 1) := by decide +kernel
theorem dX16_either_16 : decode cX16_either 16 = .ok (.getfield 27, 3) := by decide +kernel
theorem dX16_either_19 : decode cX16_either 19 = .ok (.iconst 1, 1) := by decide +kernel
theorem dX16_either_20 : decode cX16_either 20 = .ok (.iadd, 1) := by decide +kernel
theorem dX16_either_21 : decode cX16_either 21 = .ok (.putfield 27, 3) := by decide +kernel
theorem dX16_either_24 : decode cX16_either 24 = .ok (.new 58, 3) := by decide +kernel
theorem dX16_either_27 : decode cX16_either 27 = .ok (.dup, 1) := by decide +kernel
theorem dX16_either_28 : decode cX16_either 28 = .ok (.bipush 124, 2) := by decide +kernel
theorem dX16_either_30 : decode cX16_either 30 = .ok (.aload_n 1, 1) := by decide +kernel
theorem dX16_either_31 : decode cX16_either 31 = .ok (.aload_n 0, 1) := by decide +kernel
theorem dX16_either_32 : decode cX16_either 32 = .ok (.invokevirtual 49, 3) := by decide +kernel
theorem dX16_either_35 : decode cX16_either 35 = .ok (.invokespecial 60, 3) := by decide +kernel
theorem dX16_either_38 : decode cX16_either 38 = .ok (.astore_n 1, 1) := by decide +kernel
theorem dX16_either_39 : decode cX16_either 39 = .ok (.goto (-34), 3) := by decide +kernel
theorem dX16_either_42 : decode cX16_either 42 = .ok (.aload_n 1, 1) := by decide +kernel
theorem dX16_either_43 : decode cX16_either 43 = .ok (.areturn, 1) := by decide +kernel
abbrev cX16_both : ByteArray := prog_14_method_7_code
def yX16_both : MethodName := ⟨RX16, "both", "()LChapterLoan$Term;"⟩
theorem dX16_both_0 : decode cX16_both 0 = .ok (.aload_n 0, 1) := by decide +kernel
theorem dX16_both_1 : decode cX16_both 1 = .ok (.invokevirtual 63, 3) := by decide +kernel
theorem dX16_both_4 : decode cX16_both 4 = .ok (.astore_n 1, 1) := by decide +kernel
theorem dX16_both_5 : decode cX16_both 5 = .ok (.aload_n 0, 1) := by decide +kernel
theorem dX16_both_6 : decode cX16_both 6 = .ok (.ldc 66, 2) := by decide +kernel
theorem dX16_both_8 : decode cX16_both 8 = .ok (.invokevirtual 54, 3) := by decide +kernel
theorem dX16_both_11 : decode cX16_both 11 = .ok (.ifCond .eq 31, 3) := by decide +kernel
theorem dX16_both_14 : decode cX16_both 14 = .ok (.aload_n 0, 1) := by decide +kernel
theorem dX16_both_15 : decode cX16_both 15 = .ok (.dup, 1) := by decide +kernel
theorem dX16_both_16 : decode cX16_both 16 = .ok (.getfield 27, 3) := by decide +kernel
theorem dX16_both_19 : decode cX16_both 19 = .ok (.iconst 1, 1) := by decide +kernel
theorem dX16_both_20 : decode cX16_both 20 = .ok (.iadd, 1) := by decide +kernel
theorem dX16_both_21 : decode cX16_both 21 = .ok (.putfield 27, 3) := by decide +kernel
theorem dX16_both_24 : decode cX16_both 24 = .ok (.new 58, 3) := by decide +kernel
theorem dX16_both_27 : decode cX16_both 27 = .ok (.dup, 1) := by decide +kernel
theorem dX16_both_28 : decode cX16_both 28 = .ok (.bipush 38, 2) := by decide +kernel
theorem dX16_both_30 : decode cX16_both 30 = .ok (.aload_n 1, 1) := by decide +kernel
theorem dX16_both_31 : decode cX16_both 31 = .ok (.aload_n 0, 1) := by decide +kernel
theorem dX16_both_32 : decode cX16_both 32 = .ok (.invokevirtual 63, 3) := by decide +kernel
theorem dX16_both_35 : decode cX16_both 35 = .ok (.invokespecial 60, 3) := by decide +kernel
theorem dX16_both_38 : decode cX16_both 38 = .ok (.astore_n 1, 1) := by decide +kernel
theorem dX16_both_39 : decode cX16_both 39 = .ok (.goto (-34), 3) := by decide +kernel
theorem dX16_both_42 : decode cX16_both 42 = .ok (.aload_n 1, 1) := by decide +kernel
theorem dX16_both_43 : decode cX16_both 43 = .ok (.areturn, 1) := by decide +kernel
abbrev cX16_relation : ByteArray := prog_14_method_8_code
def yX16_relation : MethodName := ⟨RX16, "relation", "()LChapterLoan$Term;"⟩
theorem dX16_relation_0 : decode cX16_relation 0 = .ok (.aload_n 0, 1) := by decide +kernel
theorem dX16_relation_1 : decode cX16_relation 1 = .ok (.invokevirtual 68, 3) := by decide +kernel
theorem dX16_relation_4 : decode cX16_relation 4 = .ok (.astore_n 1, 1) := by decide +kernel
theorem dX16_relation_5 : decode cX16_relation 5 = .ok (.aload_n 0, 1) := by decide +kernel
theorem dX16_relation_6 : decode cX16_relation 6 = .ok (.ldc 71, 2) := by decide +kernel
theorem dX16_relation_8 : decode cX16_relation 8 = .ok (.invokevirtual 54, 3) := by decide +kernel
theorem dX16_relation_11 : decode cX16_relation 11 = .ok (.ifCond .ne 5, 3) := by decide +kernel
theorem dX16_relation_14 : decode cX16_relation 14 = .ok (.aload_n 1, 1) := by decide +kernel
theorem dX16_relation_15 : decode cX16_relation 15 = .ok (.areturn, 1) := by decide +kernel
theorem dX16_relation_16 : decode cX16_relation 16 = .ok (.aload_n 0, 1) := by decide +kernel
theorem dX16_relation_17 : decode cX16_relation 17 = .ok (.invokevirtual 39, 3) := by decide +kernel
theorem dX16_relation_20 : decode cX16_relation 20 = .ok (.istore_n 2, 1) := by decide +kernel
theorem dX16_relation_21 : decode cX16_relation 21 = .ok (.aload_n 0, 1) := by decide +kernel
theorem dX16_relation_22 : decode cX16_relation 22 = .ok (.dup, 1) := by decide +kernel
theorem dX16_relation_23 : decode cX16_relation 23 = .ok (.getfield 27, 3) := by decide +kernel
theorem dX16_relation_26 : decode cX16_relation 26 = .ok (.iconst 1, 1) := by decide +kernel
theorem dX16_relation_27 : decode cX16_relation 27 = .ok (.iadd, 1) := by decide +kernel
theorem dX16_relation_28 : decode cX16_relation 28 = .ok (.putfield 27, 3) := by decide +kernel
theorem dX16_relation_31 : decode cX16_relation 31 = .ok (.new 58, 3) := by decide +kernel
theorem dX16_relation_34 : decode cX16_relation 34 = .ok (.dup, 1) := by decide +kernel
theorem dX16_relation_35 : decode cX16_relation 35 = .ok (.iload_n 2, 1) := by decide +kernel
theorem dX16_relation_36 : decode cX16_relation 36 = .ok (.aload_n 1, 1) := by decide +kernel
theorem dX16_relation_37 : decode cX16_relation 37 = .ok (.aload_n 0, 1) := by decide +kernel
theorem dX16_relation_38 : decode cX16_relation 38 = .ok (.invokevirtual 68, 3) := by decide +kernel
theorem dX16_relation_41 : decode cX16_relation 41 = .ok (.invokespecial 60, 3) := by decide +kernel
theorem dX16_relation_44 : decode cX16_relation 44 = .ok (.areturn, 1) := by decide +kernel
abbrev cX16_sum : ByteArray := prog_14_method_9_code
def yX16_sum : MethodName := ⟨RX16, "sum", "()LChapterLoan$Term;"⟩
theorem dX16_sum_0 : decode cX16_sum 0 = .ok (.aload_n 0, 1) := by decide +kernel
theorem dX16_sum_1 : decode cX16_sum 1 = .ok (.invokevirtual 73, 3) := by decide +kernel
theorem dX16_sum_4 : decode cX16_sum 4 = .ok (.astore_n 1, 1) := by decide +kernel
theorem dX16_sum_5 : decode cX16_sum 5 = .ok (.aload_n 0, 1) := by decide +kernel
theorem dX16_sum_6 : decode cX16_sum 6 = .ok (.ldc 76, 2) := by decide +kernel
theorem dX16_sum_8 : decode cX16_sum 8 = .ok (.invokevirtual 54, 3) := by decide +kernel
theorem dX16_sum_11 : decode cX16_sum 11 = .ok (.ifCond .eq 35, 3) := by decide +kernel
theorem dX16_sum_14 : decode cX16_sum 14 = .ok (.aload_n 0, 1) := by decide +kernel
theorem dX16_sum_15 : decode cX16_sum 15 = .ok (.invokevirtual 39, 3) := by decide +kernel
theorem dX16_sum_18 : decode cX16_sum 18 = .ok (.istore_n 2, 1) := by decide +kernel
theorem dX16_sum_19 : decode cX16_sum 19 = .ok (.aload_n 0, 1) := by decide +kernel
theorem dX16_sum_20 : decode cX16_sum 20 = .ok (.dup, 1) := by decide +kernel
theorem dX16_sum_21 : decode cX16_sum 21 = .ok (.getfield 27, 3) := by decide +kernel
theorem dX16_sum_24 : decode cX16_sum 24 = .ok (.iconst 1, 1) := by decide +kernel
theorem dX16_sum_25 : decode cX16_sum 25 = .ok (.iadd, 1) := by decide +kernel
theorem dX16_sum_26 : decode cX16_sum 26 = .ok (.putfield 27, 3) := by decide +kernel
theorem dX16_sum_29 : decode cX16_sum 29 = .ok (.new 58, 3) := by decide +kernel
theorem dX16_sum_32 : decode cX16_sum 32 = .ok (.dup, 1) := by decide +kernel
theorem dX16_sum_33 : decode cX16_sum 33 = .ok (.iload_n 2, 1) := by decide +kernel
theorem dX16_sum_34 : decode cX16_sum 34 = .ok (.aload_n 1, 1) := by decide +kernel
theorem dX16_sum_35 : decode cX16_sum 35 = .ok (.aload_n 0, 1) := by decide +kernel
theorem dX16_sum_36 : decode cX16_sum 36 = .ok (.invokevirtual 73, 3) := by decide +kernel
theorem dX16_sum_39 : decode cX16_sum 39 = .ok (.invokespecial 60, 3) := by decide +kernel
theorem dX16_sum_42 : decode cX16_sum 42 = .ok (.astore_n 1, 1) := by decide +kernel
theorem dX16_sum_43 : decode cX16_sum 43 = .ok (.goto (-38), 3) := by decide +kernel
theorem dX16_sum_46 : decode cX16_sum 46 = .ok (.aload_n 1, 1) := by decide +kernel
theorem dX16_sum_47 : decode cX16_sum 47 = .ok (.areturn, 1) := by decide +kernel
abbrev cX16_product : ByteArray := prog_14_method_10_code
def yX16_product : MethodName := ⟨RX16, "product", "()LChapterLoan$Term;"⟩
theorem dX16_product_0 : decode cX16_product 0 = .ok (.aload_n 0, 1) := by decide +kernel
theorem dX16_product_1 : decode cX16_product 1 = .ok (.invokevirtual 78, 3) := by decide +kernel
theorem dX16_product_4 : decode cX16_product 4 = .ok (.astore_n 1, 1) := by decide +kernel
theorem dX16_product_5 : decode cX16_product 5 = .ok (.aload_n 0, 1) := by decide +kernel
theorem dX16_product_6 : decode cX16_product 6 = .ok (.ldc 81, 2) := by decide +kernel
theorem dX16_product_8 : decode cX16_product 8 = .ok (.invokevirtual 54, 3) := by decide +kernel
theorem dX16_product_11 : decode cX16_product 11 = .ok (.ifCond .eq 35, 3) := by decide +kernel
theorem dX16_product_14 : decode cX16_product 14 = .ok (.aload_n 0, 1) := by decide +kernel
theorem dX16_product_15 : decode cX16_product 15 = .ok (.invokevirtual 39, 3) := by decide +kernel
theorem dX16_product_18 : decode cX16_product 18 = .ok (.istore_n 2, 1) := by decide +kernel
theorem dX16_product_19 : decode cX16_product 19 = .ok (.aload_n 0, 1) := by decide +kernel
theorem dX16_product_20 : decode cX16_product 20 = .ok (.dup, 1) := by decide +kernel
theorem dX16_product_21 : decode cX16_product 21 = .ok (.getfield 27, 3) := by decide +kernel
theorem dX16_product_24 : decode cX16_product 24 = .ok (.iconst 1, 1) := by decide +kernel
theorem dX16_product_25 : decode cX16_product 25 = .ok (.iadd, 1) := by decide +kernel
theorem dX16_product_26 : decode cX16_product 26 = .ok (.putfield 27, 3) := by decide +kernel
theorem dX16_product_29 : decode cX16_product 29 = .ok (.new 58, 3) := by decide +kernel
theorem dX16_product_32 : decode cX16_product 32 = .ok (.dup, 1) := by decide +kernel
theorem dX16_product_33 : decode cX16_product 33 = .ok (.iload_n 2, 1) := by decide +kernel
theorem dX16_product_34 : decode cX16_product 34 = .ok (.aload_n 1, 1) := by decide +kernel
theorem dX16_product_35 : decode cX16_product 35 = .ok (.aload_n 0, 1) := by decide +kernel
theorem dX16_product_36 : decode cX16_product 36 = .ok (.invokevirtual 78, 3) := by decide +kernel
theorem dX16_product_39 : decode cX16_product 39 = .ok (.invokespecial 60, 3) := by decide +kernel
theorem dX16_product_42 : decode cX16_product 42 = .ok (.astore_n 1, 1) := by decide +kernel
theorem dX16_product_43 : decode cX16_product 43 = .ok (.goto (-38), 3) := by decide +kernel
theorem dX16_product_46 : decode cX16_product 46 = .ok (.aload_n 1, 1) := by decide +kernel
theorem dX16_product_47 : decode cX16_product 47 = .ok (.areturn, 1) := by decide +kernel
abbrev cX16_opens : ByteArray := prog_14_method_11_code
def yX16_opens : MethodName := ⟨RX16, "opens", "()V"⟩
theorem dX16_opens_0 : decode cX16_opens 0 = .ok (.aload_n 0, 1) := by decide +kernel
theorem dX16_opens_1 : decode cX16_opens 1 = .ok (.aload_n 0, 1) := by decide +kernel
theorem dX16_opens_2 : decode cX16_opens 2 = .ok (.getfield 83, 3) := by decide +kernel
theorem dX16_opens_5 : decode cX16_opens 5 = .ok (.iconst 5, 1) := by decide +kernel
theorem dX16_opens_6 : decode cX16_opens 6 = .ok (.if_icmp .ge 7, 3) := by decide +kernel
theorem dX16_opens_9 : decode cX16_opens 9 = .ok (.iconst 1, 1) := by decide +kernel
theorem dX16_opens_10 : decode cX16_opens 10 = .ok (.goto 4, 3) := by decide +kernel
theorem dX16_opens_13 : decode cX16_opens 13 = .ok (.iconst 0, 1) := by decide +kernel
theorem dX16_opens_14 : decode cX16_opens 14 = .ok (.invokevirtual 30, 3) := by decide +kernel
theorem dX16_opens_17 : decode cX16_opens 17 = .ok (.aload_n 0, 1) := by decide +kernel
theorem dX16_opens_18 : decode cX16_opens 18 = .ok (.dup, 1) := by decide +kernel
theorem dX16_opens_19 : decode cX16_opens 19 = .ok (.getfield 83, 3) := by decide +kernel
theorem dX16_opens_22 : decode cX16_opens 22 = .ok (.iconst 1, 1) := by decide +kernel
theorem dX16_opens_23 : decode cX16_opens 23 = .ok (.iadd, 1) := by decide +kernel
theorem dX16_opens_24 : decode cX16_opens 24 = .ok (.putfield 83, 3) := by decide +kernel
theorem dX16_opens_27 : decode cX16_opens 27 = .ok (.aload_n 0, 1) := by decide +kernel
theorem dX16_opens_28 : decode cX16_opens 28 = .ok (.dup, 1) := by decide +kernel
theorem dX16_opens_29 : decode cX16_opens 29 = .ok (.getfield 27, 3) := by decide +kernel
theorem dX16_opens_32 : decode cX16_opens 32 = .ok (.iconst 1, 1) := by decide +kernel
theorem dX16_opens_33 : decode cX16_opens 33 = .ok (.iadd, 1) := by decide +kernel
theorem dX16_opens_34 : decode cX16_opens 34 = .ok (.putfield 27, 3) := by decide +kernel
theorem dX16_opens_37 : decode cX16_opens 37 = .ok (.return_, 1) := by decide +kernel
abbrev cX16_single : ByteArray := prog_14_method_12_code
def yX16_single : MethodName := ⟨RX16, "single", "()LChapterLoan$Term;"⟩
theorem dX16_single_0 : decode cX16_single 0 = .ok (.aload_n 0, 1) := by decide +kernel
theorem dX16_single_1 : decode cX16_single 1 = .ok (.aload_n 0, 1) := by decide +kernel
theorem dX16_single_2 : decode cX16_single 2 = .ok (.getfield 9, 3) := by decide +kernel
theorem dX16_single_5 : decode cX16_single 5 = .ok (.invokevirtual 54, 3) := by decide +kernel
theorem dX16_single_8 : decode cX16_single 8 = .ok (.ifCond .eq 32, 3) := by decide +kernel
theorem dX16_single_11 : decode cX16_single 11 = .ok (.aload_n 0, 1) := by decide +kernel
theorem dX16_single_12 : decode cX16_single 12 = .ok (.dup, 1) := by decide +kernel
theorem dX16_single_13 : decode cX16_single 13 = .ok (.getfield 27, 3) := by decide +kernel
theorem dX16_single_16 : decode cX16_single 16 = .ok (.iconst 1, 1) := by decide +kernel
theorem dX16_single_17 : decode cX16_single 17 = .ok (.iadd, 1) := by decide +kernel
theorem dX16_single_18 : decode cX16_single 18 = .ok (.putfield 27, 3) := by decide +kernel
theorem dX16_single_21 : decode cX16_single 21 = .ok (.new 86, 3) := by decide +kernel
theorem dX16_single_24 : decode cX16_single 24 = .ok (.dup, 1) := by decide +kernel
theorem dX16_single_25 : decode cX16_single 25 = .ok (.aload_n 0, 1) := by decide +kernel
theorem dX16_single_26 : decode cX16_single 26 = .ok (.getfield 15, 3) := by decide +kernel
theorem dX16_single_29 : decode cX16_single 29 = .ok (.aload_n 0, 1) := by decide +kernel
theorem dX16_single_30 : decode cX16_single 30 = .ok (.getfield 27, 3) := by decide +kernel
theorem dX16_single_33 : decode cX16_single 33 = .ok (.iconst 1, 1) := by decide +kernel
theorem dX16_single_34 : decode cX16_single 34 = .ok (.isub, 1) := by decide +kernel
theorem dX16_single_35 : decode cX16_single 35 = .ok (.baload, 1) := by decide +kernel
theorem dX16_single_36 : decode cX16_single 36 = .ok (.invokespecial 88, 3) := by decide +kernel
theorem dX16_single_39 : decode cX16_single 39 = .ok (.areturn, 1) := by decide +kernel
theorem dX16_single_40 : decode cX16_single 40 = .ok (.aload_n 0, 1) := by decide +kernel
theorem dX16_single_41 : decode cX16_single 41 = .ok (.ldc 89, 2) := by decide +kernel
theorem dX16_single_43 : decode cX16_single 43 = .ok (.invokevirtual 54, 3) := by decide +kernel
theorem dX16_single_46 : decode cX16_single 46 = .ok (.ifCond .eq 31, 3) := by decide +kernel
theorem dX16_single_49 : decode cX16_single 49 = .ok (.aload_n 0, 1) := by decide +kernel
theorem dX16_single_50 : decode cX16_single 50 = .ok (.invokevirtual 91, 3) := by decide +kernel
theorem dX16_single_53 : decode cX16_single 53 = .ok (.aload_n 0, 1) := by decide +kernel
theorem dX16_single_54 : decode cX16_single 54 = .ok (.invokevirtual 78, 3) := by decide +kernel
theorem dX16_single_57 : decode cX16_single 57 = .ok (.astore_n 1, 1) := by decide +kernel
theorem dX16_single_58 : decode cX16_single 58 = .ok (.aload_n 0, 1) := by decide +kernel
theorem dX16_single_59 : decode cX16_single 59 = .ok (.dup, 1) := by decide +kernel
theorem dX16_single_60 : decode cX16_single 60 = .ok (.getfield 83, 3) := by decide +kernel
theorem dX16_single_63 : decode cX16_single 63 = .ok (.iconst 1, 1) := by decide +kernel
theorem dX16_single_64 : decode cX16_single 64 = .ok (.isub, 1) := by decide +kernel
theorem dX16_single_65 : decode cX16_single 65 = .ok (.putfield 83, 3) := by decide +kernel
theorem dX16_single_68 : decode cX16_single 68 = .ok (.new 94, 3) := by decide +kernel
theorem dX16_single_71 : decode cX16_single 71 = .ok (.dup, 1) := by decide +kernel
theorem dX16_single_72 : decode cX16_single 72 = .ok (.aload_n 1, 1) := by decide +kernel
theorem dX16_single_73 : decode cX16_single 73 = .ok (.invokespecial 96, 3) := by decide +kernel
theorem dX16_single_76 : decode cX16_single 76 = .ok (.areturn, 1) := by decide +kernel
theorem dX16_single_77 : decode cX16_single 77 = .ok (.aload_n 0, 1) := by decide +kernel
theorem dX16_single_78 : decode cX16_single 78 = .ok (.ldc 99, 2) := by decide +kernel
theorem dX16_single_80 : decode cX16_single 80 = .ok (.invokevirtual 54, 3) := by decide +kernel
theorem dX16_single_83 : decode cX16_single 83 = .ok (.ifCond .eq 52, 3) := by decide +kernel
theorem dX16_single_86 : decode cX16_single 86 = .ok (.aload_n 0, 1) := by decide +kernel
theorem dX16_single_87 : decode cX16_single 87 = .ok (.invokevirtual 91, 3) := by decide +kernel
theorem dX16_single_90 : decode cX16_single 90 = .ok (.aload_n 0, 1) := by decide +kernel
theorem dX16_single_91 : decode cX16_single 91 = .ok (.invokevirtual 23, 3) := by decide +kernel
theorem dX16_single_94 : decode cX16_single 94 = .ok (.astore_n 1, 1) := by decide +kernel
theorem dX16_single_95 : decode cX16_single 95 = .ok (.aload_n 0, 1) := by decide +kernel
theorem dX16_single_96 : decode cX16_single 96 = .ok (.aload_n 0, 1) := by decide +kernel
theorem dX16_single_97 : decode cX16_single 97 = .ok (.invokevirtual 39, 3) := by decide +kernel
theorem dX16_single_100 : decode cX16_single 100 = .ok (.bipush 41, 2) := by decide +kernel
theorem dX16_single_102 : decode cX16_single 102 = .ok (.if_icmp .ne 7, 3) := by decide +kernel
theorem dX16_single_105 : decode cX16_single 105 = .ok (.iconst 1, 1) := by decide +kernel
theorem dX16_single_106 : decode cX16_single 106 = .ok (.goto 4, 3) := by decide +kernel
theorem dX16_single_109 : decode cX16_single 109 = .ok (.iconst 0, 1) := by decide +kernel
theorem dX16_single_110 : decode cX16_single 110 = .ok (.invokevirtual 30, 3) := by decide +kernel
theorem dX16_single_113 : decode cX16_single 113 = .ok (.aload_n 0, 1) := by decide +kernel
theorem dX16_single_114 : decode cX16_single 114 = .ok (.dup, 1) := by decide +kernel
theorem dX16_single_115 : decode cX16_single 115 = .ok (.getfield 27, 3) := by decide +kernel
theorem dX16_single_118 : decode cX16_single 118 = .ok (.iconst 1, 1) := by decide +kernel
theorem dX16_single_119 : decode cX16_single 119 = .ok (.iadd, 1) := by decide +kernel
theorem dX16_single_120 : decode cX16_single 120 = .ok (.putfield 27, 3) := by decide +kernel
theorem dX16_single_123 : decode cX16_single 123 = .ok (.aload_n 0, 1) := by decide +kernel
theorem dX16_single_124 : decode cX16_single 124 = .ok (.dup, 1) := by decide +kernel
theorem dX16_single_125 : decode cX16_single 125 = .ok (.getfield 83, 3) := by decide +kernel
theorem dX16_single_128 : decode cX16_single 128 = .ok (.iconst 1, 1) := by decide +kernel
theorem dX16_single_129 : decode cX16_single 129 = .ok (.isub, 1) := by decide +kernel
theorem dX16_single_130 : decode cX16_single 130 = .ok (.putfield 83, 3) := by decide +kernel
theorem dX16_single_133 : decode cX16_single 133 = .ok (.aload_n 1, 1) := by decide +kernel
theorem dX16_single_134 : decode cX16_single 134 = .ok (.areturn, 1) := by decide +kernel
theorem dX16_single_135 : decode cX16_single 135 = .ok (.aload_n 0, 1) := by decide +kernel
theorem dX16_single_136 : decode cX16_single 136 = .ok (.aload_n 0, 1) := by decide +kernel
theorem dX16_single_137 : decode cX16_single 137 = .ok (.invokevirtual 39, 3) := by decide +kernel
theorem dX16_single_140 : decode cX16_single 140 = .ok (.bipush 48, 2) := by decide +kernel
theorem dX16_single_142 : decode cX16_single 142 = .ok (.bipush 57, 2) := by decide +kernel
theorem dX16_single_144 : decode cX16_single 144 = .ok (.invokestatic 101, 3) := by decide +kernel
theorem dX16_single_147 : decode cX16_single 147 = .ok (.invokevirtual 30, 3) := by decide +kernel
theorem dX16_single_150 : decode cX16_single 150 = .ok (.iconst 0, 1) := by decide +kernel
theorem dX16_single_151 : decode cX16_single 151 = .ok (.istore_n 1, 1) := by decide +kernel
theorem dX16_single_152 : decode cX16_single 152 = .ok (.iconst 0, 1) := by decide +kernel
theorem dX16_single_153 : decode cX16_single 153 = .ok (.istore_n 2, 1) := by decide +kernel
theorem dX16_single_154 : decode cX16_single 154 = .ok (.iload_n 2, 1) := by decide +kernel
theorem dX16_single_155 : decode cX16_single 155 = .ok (.iconst 4, 1) := by decide +kernel
theorem dX16_single_156 : decode cX16_single 156 = .ok (.if_icmp .ge 46, 3) := by decide +kernel
theorem dX16_single_159 : decode cX16_single 159 = .ok (.aload_n 0, 1) := by decide +kernel
theorem dX16_single_160 : decode cX16_single 160 = .ok (.invokevirtual 39, 3) := by decide +kernel
theorem dX16_single_163 : decode cX16_single 163 = .ok (.bipush 48, 2) := by decide +kernel
theorem dX16_single_165 : decode cX16_single 165 = .ok (.bipush 57, 2) := by decide +kernel
theorem dX16_single_167 : decode cX16_single 167 = .ok (.invokestatic 101, 3) := by decide +kernel
theorem dX16_single_170 : decode cX16_single 170 = .ok (.ifCond .eq 32, 3) := by decide +kernel
theorem dX16_single_173 : decode cX16_single 173 = .ok (.bipush 10, 2) := by decide +kernel
theorem dX16_single_175 : decode cX16_single 175 = .ok (.iload_n 1, 1) := by decide +kernel
theorem dX16_single_176 : decode cX16_single 176 = .ok (.imul, 1) := by decide +kernel
theorem dX16_single_177 : decode cX16_single 177 = .ok (.aload_n 0, 1) := by decide +kernel
theorem dX16_single_178 : decode cX16_single 178 = .ok (.invokevirtual 39, 3) := by decide +kernel
theorem dX16_single_181 : decode cX16_single 181 = .ok (.iadd, 1) := by decide +kernel
theorem dX16_single_182 : decode cX16_single 182 = .ok (.bipush 48, 2) := by decide +kernel
theorem dX16_single_184 : decode cX16_single 184 = .ok (.isub, 1) := by decide +kernel
theorem dX16_single_185 : decode cX16_single 185 = .ok (.istore_n 1, 1) := by decide +kernel
theorem dX16_single_186 : decode cX16_single 186 = .ok (.aload_n 0, 1) := by decide +kernel
theorem dX16_single_187 : decode cX16_single 187 = .ok (.dup, 1) := by decide +kernel
theorem dX16_single_188 : decode cX16_single 188 = .ok (.getfield 27, 3) := by decide +kernel
theorem dX16_single_191 : decode cX16_single 191 = .ok (.iconst 1, 1) := by decide +kernel
theorem dX16_single_192 : decode cX16_single 192 = .ok (.iadd, 1) := by decide +kernel
theorem dX16_single_193 : decode cX16_single 193 = .ok (.putfield 27, 3) := by decide +kernel
theorem dX16_single_196 : decode cX16_single 196 = .ok (.iinc 2 1, 3) := by decide +kernel
theorem dX16_single_199 : decode cX16_single 199 = .ok (.goto (-45), 3) := by decide +kernel
theorem dX16_single_202 : decode cX16_single 202 = .ok (.new 105, 3) := by decide +kernel
theorem dX16_single_205 : decode cX16_single 205 = .ok (.dup, 1) := by decide +kernel
theorem dX16_single_206 : decode cX16_single 206 = .ok (.iload_n 1, 1) := by decide +kernel
theorem dX16_single_207 : decode cX16_single 207 = .ok (.invokespecial 107, 3) := by decide +kernel
theorem dX16_single_210 : decode cX16_single 210 = .ok (.areturn, 1) := by decide +kernel
abbrev cX16_read : ByteArray := prog_14_method_2_code
def yX16_read : MethodName := ⟨RX16, "read", "()LChapterLoan$Term;"⟩
theorem dX16_read_0 : decode cX16_read 0 = .ok (.aload_n 0, 1) := by decide +kernel
theorem dX16_read_1 : decode cX16_read 1 = .ok (.invokevirtual 23, 3) := by decide +kernel
theorem dX16_read_4 : decode cX16_read 4 = .ok (.astore_n 1, 1) := by decide +kernel
theorem dX16_read_5 : decode cX16_read 5 = .ok (.aload_n 0, 1) := by decide +kernel
theorem dX16_read_6 : decode cX16_read 6 = .ok (.aload_n 0, 1) := by decide +kernel
theorem dX16_read_7 : decode cX16_read 7 = .ok (.getfield 27, 3) := by decide +kernel
theorem dX16_read_10 : decode cX16_read 10 = .ok (.aload_n 0, 1) := by decide +kernel
theorem dX16_read_11 : decode cX16_read 11 = .ok (.getfield 19, 3) := by decide +kernel
theorem dX16_read_14 : decode cX16_read 14 = .ok (.if_icmp .ne 7, 3) := by decide +kernel
theorem dX16_read_17 : decode cX16_read 17 = .ok (.iconst 1, 1) := by decide +kernel
theorem dX16_read_18 : decode cX16_read 18 = .ok (.goto 4, 3) := by decide +kernel
theorem dX16_read_21 : decode cX16_read 21 = .ok (.iconst 0, 1) := by decide +kernel
theorem dX16_read_22 : decode cX16_read 22 = .ok (.invokevirtual 30, 3) := by decide +kernel
theorem dX16_read_25 : decode cX16_read 25 = .ok (.aload_n 1, 1) := by decide +kernel
theorem dX16_read_26 : decode cX16_read 26 = .ok (.areturn, 1) := by decide +kernel
theorem w_R_look {l : Launch} {D : va_G} {cA : Nat → ClassId} {ks : List Nat} {ad : Nat → Nat} {A : Nat → Prop} {adK : Nat → Nat} {i ra : Nat} {sz : Int32} (hO : klOk A ks ad) (hra : live ks ad ra) {z : PS} {r : Int32} (h : R_look sz z = some r) : cR l yX16_look cX16_look 1 (some .int) 0 D cA ks ad A (wS adK ad i ra sz z) [.ref ra] r := by
  refine cc_ofR (own := RX16) (by decide) rfl (Nat.le_of_ble_eq_true rfl) (fun p e s m below meth c R args ls C hr hlk hP hl hcs => ?_)
  have hx := C.1
  have hb := C.2.1
  have hl : lv_has ls 1 [(0, .ref ra)] := hl
  have gt : ∀ {j : Nat} {v : Value} {name ds : String} {index pc : Nat} {rest : List Value}, j < 5 → TX16 j = (RX16, name, ds, (TX16 j).2.2.2) → Cond.fieldLink RX16 index RX16 name ds ∈ lw_all → [Value.ref (adK i), .ref (ad 14), .int sz, .int z.2.2.1, .int z.2.2.2][j]? = some v → decode cX16_look pc = .ok (.getfield index, 3) → mWR p l e R s m args below meth c r (F0 m (pc + 3) ls (v :: rest)) → mWR p l e R s m args below meth c r (F0 m pc ls (.ref ra :: rest)) := by
    intro j v name ds index pc rest hj hT hl hv hdg kk
    exact tm_get C hP hra csP_at (Cn := RX16) (ref := RX16) (T := TX16) (N := 5) rfl in_X16 j hj (by rw [hT]; exact hl) (by rw [hT]; exact fun _ h => h) hv hdg kk
  unfold R_look at h
  refine lv_aload_n hx hb dX16_look_0 rfl (lv_at hl 0 rfl) ?_
  refine gt (j := 3) (by decide) rfl q879 rfl dX16_look_1 ?_
  refine lv_aload_n hx hb dX16_look_4 rfl (lv_at hl 0 rfl) ?_
  refine gt (j := 2) (by decide) rfl q878 rfl dX16_look_5 ?_
  refine lv_icmp_ge (tgt := 27) hx hb dX16_look_8 rfl (fun c1 => ?_) (fun c1 => ?_)
  · have h := if_some_t h c1
    refine lv_iconst (v := -1) hx hb dX16_look_27 (by decide) ?_
    exact mm_iret hx hb hr hlk h dX16_look_28
  · have h := if_some_f h c1
    obtain ⟨v, hv, h⟩ := bd1_some h
    refine lv_aload_n hx hb dX16_look_11 rfl (lv_at hl 0 rfl) ?_
    refine gt (j := 1) (by decide) rfl q877 rfl dX16_look_12 ?_
    refine lv_aload_n hx hb dX16_look_15 rfl (lv_at hl 0 rfl) ?_
    refine gt (j := 3) (by decide) rfl q879 rfl dX16_look_16 ?_
    refine cc_bld (k := 14) (n := 50) (a := z.1.2.1 14) C hP (hO.2.2.2 14 (by decide)) rfl hv dX16_look_19 ?_
    refine lv_sipush (v := 255) hx hb dX16_look_20 (by decide) ?_
    refine lv_iand hx hb dX16_look_23 ?_
    refine lv_goto (tgt := 28) hx hb dX16_look_24 rfl ?_
    exact mm_iret hx hb hr hlk h dX16_look_28
theorem q924 : (Jvm.Cond.methodLink "ChapterLoan$Reader" (39 : Nat) ({ cls := "ChapterLoan$Reader", name := "look", desc := "()I" } : Jvm.MethodName)) ∈ lw_all := lw_g (lw_at lw_m4 120 rfl) rfl
theorem q926 : (Jvm.Cond.instanceMethod ({ cls := "ChapterLoan$Reader", name := "look", desc := "()I" } : Jvm.MethodName)) ∈ lw_all := lw_g (lw_at lw_m4 122 rfl) rfl
theorem q107 : (Jvm.Cond.initialized "ChapterLoan$Reader") ∈ lw_all := lw_g (lw_at lw_m1 23 rfl) rfl
theorem q927 : (Jvm.Cond.code ({ cls := "ChapterLoan$Reader", name := "look", desc := "()I" } : Jvm.MethodName) prog_14_method_3_code (1 : Nat) (Option.some Jvm.ClassFile.FieldType.int)) ∈ lw_all := lw_g (lw_at lw_m4 123 rfl) rfl
theorem k_R_look {v : Int32} {st0 : List Value} (K : rC p R d s m args c cc nL RX16 D cA A adK adV ad M nx0) (J : rI D cA ad A adK i ra sz s.heap M nx0 ks0 ks z H locs) (h : R_look sz z = some v) (hd : 1 ≤ d) (hsz : ls.size = nL) (hW : (rest.map fun v => v.category).sum ≤ 8) (hdg : decode cc pc = .ok (.invokevirtual 39, 3)) (kk : W p l e R s m args below meth c H locs (z.2.1 - nx0) (7 * (z.2.1 - nx0)) Q (F0 m (pc + 3) ls (.int v :: rest))) : W p l e R s m args below meth c H locs (z.2.1 - nx0) (7 * (z.2.1 - nx0)) Q (F0 m pc ls (.ref ra :: rest)) := by
  have hc := K.2.2.2.2
  have h1 := J.2.2.2.2.2.2.1
  exact cc_cR (As := []) K.1 J.2.2.1 J.2.2.2.1.1 (w_R_look J.1 J.2.1 h) (cwV 0 K.1.2.2.2.2.1 (lw_V q924 q926 qs19 q107 q927) rfl rfl rfl (by decide +kernel) (mr_ K.1.2.2.2.2.2.1 hd (by decide))) (rr_recv K J) rfl hsz rfl hW hdg ⟨by omega, by omega⟩ kk
theorem q928 : (Jvm.Cond.methodLink "ChapterLoan$Reader" (43 : Nat) ({ cls := "java/lang/String", name := "indexOf", desc := "(I)I" } : Jvm.MethodName)) ∈ lw_all := lw_g (lw_at lw_m4 124 rfl) rfl
theorem q929 : (Jvm.Cond.instanceMethod ({ cls := "java/lang/String", name := "indexOf", desc := "(I)I" } : Jvm.MethodName)) ∈ lw_all := lw_g (lw_at lw_m4 125 rfl) rfl
theorem q930 : (Jvm.Cond.selects "java/lang/String" ({ cls := "java/lang/String", name := "indexOf", desc := "(I)I" } : Jvm.MethodName) ({ cls := "java/lang/String", name := "indexOf", desc := "(I)I" } : Jvm.MethodName)) ∈ lw_all := lw_g (lw_at lw_m4 126 rfl) rfl
theorem q931 : (Jvm.Cond.code ({ cls := "java/lang/String", name := "indexOf", desc := "(I)I" } : Jvm.MethodName) prog_36_method_79_code (2 : Nat) (Option.some Jvm.ClassFile.FieldType.int)) ∈ lw_all := lw_g (lw_at lw_m4 127 rfl) rfl

theorem ix_of {y : MethodName} {bytes : ByteArray} {maxL : Nat} {ret : Option FieldType} {As : List Value} {r : Int32} (hy : plainName y.cls = true) (hyc : y.cls = own) (hnl : (lg_sl As).length ≤ maxL)
    (body : ∀ (p : Program) (e : Env) (s : State) (m : MethodId) (below : List Frame) (meth : Method) (c : Code) (R : Room) (args : Array Value) (ls : Array Slot), cC p R d s m args c bytes maxL own D cA A → meth.sig.returnType = ret → meth.locks = false → cW D cA ks ad st s.heap → sX adK adV A s → lv_has ls maxL (lv_args 0 As) → (0 ≤ R.cells ∧ 0 ≤ R.slots) →
      W p l e R s m args below meth c s.heap [] 0 0 (MQ below (QcRead r) args s 0 0 (fun _ => False)) (F0 m 0 ls [])) : Met l y (ws_ y bytes maxL ret) (k2_rm d (40 * d)) (fun a U => cPre D cA ks ad A st As a U ∧ sX adK adV A U) (QcRead r) 0 0 (fun _ => False) := by
  refine Met.ofW (cc := bytes) (maxL := maxL) (ret := ret) hy rfl ?_
  intro p e s m args below meth c s₁ B hml hv
  obtain ⟨⟨rfl, hP, hK, hN, hA⟩, hX⟩ := hv
  have hts := atoms_spec (ws := ws_ y bytes maxL ret) B.pre
  have hts : ∀ w ∈ lw_all, w.before _ s = true := fun w h => hts w (List.mem_cons_of_mem _ h)
  have hown : s.vm.findClass y.cls = some m.cls := findClass_of_methodNamed B.named
  rw [hyc] at hown
  rw [lg_entry_eq]
  exact body p e s m below meth c _ _ _ ⟨B.exec, B.bytes, hml, hown, hts, ⟨Nat.le_refl _, Nat.le_refl _⟩, hK, hN, hA⟩ B.returns B.notSynchronized hP hX (lv_entry _ hnl) ⟨Nat.zero_le _, Nat.zero_le _⟩
theorem w_R_isOne {l : Launch} {D : va_G} {cA : Nat → ClassId} {ks : List Nat} {ad : Nat → Nat} {A : Nat → Prop} {adK adV : Nat → Nat} {i ra : Nat} {sz : Int32} (hO : klOk A ks ad) (hra : live ks ad ra) {z : PS} {j : Nat} (hj : j < 9) {r : Int32} (h : R_isOne j sz z = some r) : Met l yX16_isOne (ws_ yX16_isOne cX16_isOne 2 (some .boolean)) (k2_rm 4 (40 * 4)) (fun a U => cPre D cA ks ad A (wS adK ad i ra sz z) [.ref ra, .ref (adK j)] a U ∧ sX adK adV A U) (QcRead r) 0 0 (fun _ => False) := by
  refine ix_of (own := RX16) (by decide) rfl (Nat.le_of_ble_eq_true rfl) (fun p e s m below meth c R args ls C hr hlk hP hX hl hcs => ?_)
  have hx := C.1
  have hb := C.2.1
  have hown := C.2.2.2.1
  have hts := C.2.2.2.2.1
  have hS : va_S A s.heap s.heap [] := va_S.rf
  have hl : lv_has ls 2 [(0, .ref ra), (1, .ref (adK j))] := hl
  have lk : ∀ {v : Int32} {pc : Nat} {rest : List Value}, R_look sz z = some v → (rest.map fun v => v.category).sum ≤ 8 → decode cX16_isOne pc = .ok (.invokevirtual 39, 3) → mWR p l e R s m args below meth c r (F0 m (pc + 3) ls (.int v :: rest)) → mWR p l e R s m args below meth c r (F0 m pc ls (.ref ra :: rest)) := by
    intro v pc rest hv hW hdg kk
    exact cc_cR (As := []) C hP (Nat.le_refl _) (w_R_look hO hra hv) (cwV 0 hts (lw_V q924 q926 qs19 q107 q927) rfl rfl rfl (by decide +kernel) (mr_ C.2.2.2.2.2.1 (Nat.le_of_ble_eq_true rfl) (by decide))) (tm_recv C hP hra csP_at (q := (RX16, TX16, 5)) rfl) rfl hl.1 rfl hW hdg hcs kk
  unfold R_isOne at h
  obtain ⟨v1, hv1, h⟩ := bd1_some h
  refine lv_aload_n hx hb dX16_isOne_0 rfl (lv_at hl 0 rfl) ?_
  refine lk hv1 (Nat.le_of_ble_eq_true rfl) dX16_isOne_1 ?_
  refine lv_if_lt (tgt := 22) hx hb dX16_isOne_4 rfl (fun c1 => ?_) (fun c1 => ?_)
  · have h := if_some_t h c1
    refine lv_iconst (v := 0) hx hb dX16_isOne_22 (by decide) ?_
    exact mm_zret hx hb hr hlk rfl h dX16_isOne_23
  · have h := if_some_f h c1
    obtain ⟨v2, hv2, h⟩ := bd1_some h
    refine lv_aload_n hx hb dX16_isOne_7 rfl (lv_at hl 1 rfl) ?_
    refine lv_aload_n hx hb dX16_isOne_8 rfl (lv_at hl 0 rfl) ?_
    refine lk hv2 (Nat.le_of_ble_eq_true rfl) dX16_isOne_9 ?_
    refine W.callR (W.runV (As := [.int v2]) (rest := []) ⟨hx, hb, C.2.2.1, hown, hts⟩ (w_st_ix (l := l) (x := v2) (adK := adK) (adV := adV) (A := A) hj) (cwV 1 hts (lw_V q928 q929 q930 q108 q931) rfl rfl rfl (by decide +kernel) (mr_ C.2.2.2.2.2.1 (Nat.le_of_ble_eq_true rfl) (by decide))) (ss_preV hX hS hj) rfl rfl hl.1 rfl (lv_room (Nat.le_of_ble_eq_true rfl)) dX16_isOne_12 hcs) ?_
    refine lv_if_lt (tgt := 22) hx hb dX16_isOne_15 rfl (fun c2 => ?_) (fun c2 => ?_)
    · have h := if_some_t h c2
      refine lv_iconst (v := 0) hx hb dX16_isOne_22 (by decide) ?_
      exact mm_zret hx hb hr hlk rfl h dX16_isOne_23
    · have h := if_some_f h c2
      refine lv_iconst (v := 1) hx hb dX16_isOne_18 (by decide) ?_
      refine lv_goto (tgt := 23) hx hb dX16_isOne_19 rfl ?_
      exact mm_zret hx hb hr hlk rfl h dX16_isOne_23
theorem q920 : (Jvm.Cond.methodLink "ChapterLoan$Reader" (54 : Nat) ({ cls := "ChapterLoan$Reader", name := "isOne", desc := "(Ljava/lang/String;)Z" } : Jvm.MethodName)) ∈ lw_all := lw_g (lw_at lw_m4 116 rfl) rfl
theorem q922 : (Jvm.Cond.instanceMethod ({ cls := "ChapterLoan$Reader", name := "isOne", desc := "(Ljava/lang/String;)Z" } : Jvm.MethodName)) ∈ lw_all := lw_g (lw_at lw_m4 118 rfl) rfl
theorem q923 : (Jvm.Cond.code ({ cls := "ChapterLoan$Reader", name := "isOne", desc := "(Ljava/lang/String;)Z" } : Jvm.MethodName) prog_14_method_5_code (2 : Nat) (Option.some Jvm.ClassFile.FieldType.boolean)) ∈ lw_all := lw_g (lw_at lw_m4 119 rfl) rfl
theorem k_R_isOne {v : Int32} {j : Nat} (hj : j < 9) (K : rC p R d s m args c cc nL RX16 D cA A adK adV ad M nx0) (J : rI D cA ad A adK i ra sz s.heap M nx0 ks0 ks z H locs) (h : R_isOne j sz z = some v) (hd : 5 ≤ d) (hsz : ls.size = nL) (hW : (rest.map fun v => v.category).sum ≤ 8) (hdg : decode cc pc = .ok (.invokevirtual 54, 3)) (kk : W p l e R s m args below meth c H locs (z.2.1 - nx0) (7 * (z.2.1 - nx0)) Q (F0 m (pc + 3) ls (.int v :: rest))) : W p l e R s m args below meth c H locs (z.2.1 - nx0) (7 * (z.2.1 - nx0)) Q (F0 m pc ls (.ref (adK j) :: .ref ra :: rest)) := by
  have hc := K.2.2.2.2
  have h1 := J.2.2.2.2.2.2.1
  have C := K.1
  exact W.callR (W.runV (As := [.ref (adK j)]) (rest := rest) ⟨C.1, C.2.1, C.2.2.1, C.2.2.2.1, C.2.2.2.2.1⟩ (w_R_isOne (l := l) (adV := adV) J.1 J.2.1 hj h) (cwV 1 C.2.2.2.2.1 (lw_V q920 q922 qs18 q107 q923) rfl rfl rfl (by decide +kernel) (mr_ C.2.2.2.2.2.1 hd (by decide))) ⟨fun a U g mk q => ⟨cc_blind a U g mk q.1, sX.calling q.2⟩, rr_recv K J, fun U hU hW => ⟨cc_pre C J.2.2.1 J.2.2.2.1.1 U hU hW, sX.there K.2.1 J.2.2.2.1 hU hW⟩⟩ rfl rfl hsz rfl (lv_room hW) hdg ⟨by omega, by omega⟩) kk
theorem q1041 : (Jvm.Cond.methodLink "ChapterLoan$Reader" (36 : Nat) ({ cls := "ChapterLoan$Fault", name := "<init>", desc := "(I)V" } : Jvm.MethodName)) ∈ lw_all := lw_g (lw_at lw_m4 237 rfl) rfl
theorem q114 : (Jvm.Cond.initialized "ChapterLoan$Fault") ∈ lw_all := lw_g (lw_at lw_m1 30 rfl) rfl
theorem q1042 : (Jvm.Cond.instanceMethod ({ cls := "ChapterLoan$Fault", name := "<init>", desc := "(I)V" } : Jvm.MethodName)) ∈ lw_all := lw_g (lw_at lw_m4 238 rfl) rfl
theorem q1043 : (Jvm.Cond.code ({ cls := "ChapterLoan$Fault", name := "<init>", desc := "(I)V" } : Jvm.MethodName) prog_6_method_1_code (2 : Nat) (Option.none : Option Jvm.ClassFile.FieldType)) ∈ lw_all := lw_g (lw_at lw_m4 239 rfl) rfl
theorem q1032 : (Jvm.Cond.classLink "ChapterLoan$Reader" (34 : Nat) "ChapterLoan$Fault") ∈ lw_all := lw_g (lw_at lw_m4 228 rfl) rfl
theorem q1033 : (Jvm.Cond.instantiable "ChapterLoan$Fault" (7 : Nat)) ∈ lw_all := lw_g (lw_at lw_m4 229 rfl) rfl
theorem R_fault_some {z z' : PS} {v : Int32} {o : Option Unit} (h : R_fault M z v = some (o, z')) : (v = 0 ∧ z.2.1 < M ∧ o = none ∧ z' = zNew z (fltC z.2.2.1)) ∨ (¬ v = 0 ∧ o = some () ∧ z' = z) := by
  unfold R_fault at h
  split at h
  · rename_i h1
    split at h
    · rename_i h2
      cases h
      exact Or.inl ⟨h1, h2, rfl, rfl⟩
    · cases h
  · rename_i h1
    cases h
    exact Or.inr ⟨h1, rfl, rfl⟩
theorem one_of {e1 : va_E} {a : Nat} (hP : cW D cA ks ad st H) (hla : live ks ad a) (he : st.2.2.2 (1000 + a) = e1) : va_P D cCl [(a, e1)] H := by
  obtain ⟨i, hi⟩ := List.getElem?_of_mem hla.1
  have h := hP.1 i _ (kl_at hi)
  rw [hla.2, cg_pool, he] at h
  intro k q hq
  have h1 := (List.getElem?_eq_some_iff.mp hq).1
  simp at h1
  subst h1
  cases hq
  exact h
theorem w_R_fault {l : Launch} {D : va_G} {cA : Nat → ClassId} {ks : List Nat} {ad : Nat → Nat} {A : Nat → Prop} {adK adV : Nat → Nat} {i ra M : Nat} {sz : Int32} (had : adP ad) (hO : klOk A ks ad) (hra : live ks ad ra) {z z' : PS} {v : Int32} {o : Option Unit} (hM0 : z.2.1 ≤ M) (h : R_fault M z v = some (o, z')) : pX l yX16_fault cX16_fault 2 none 6 adK adV i ra sz M D cA ks ad A z [.ref ra, .int v] (o.map fun _ => none) z' := by
  refine pp_of (by decide) rfl (Nat.le_of_ble_eq_true rfl) had hO hra hM0 (fun p e s m below meth c R args ls K hr hlk htab J hl => ?_)
  have hx := K.1.1
  have hb := K.1.2.1
  have hown := K.1.2.2.2.1
  have hts := K.1.2.2.2.2.1
  have hl : lv_has ls 2 [(0, .ref ra), (1, .int v)] := hl
  refine lv_iload_n hx hb dX16_fault_0 rfl (lv_at hl 1 rfl) ?_
  rcases R_fault_some h with ⟨h1, h2, rfl, rfl⟩ | ⟨h1, rfl, rfl⟩
  · refine lv_if_ne (tgt := 16) hx hb dX16_fault_1 rfl (fun c => absurd h1 c) (fun _ => ?_)
    have hlt := rI.lt K J
    refine rr_new (ci := 6) (Cn := RX18) (T := TX18) (N := 7) (ty0 := tyX18) (fs := [.null, .null, .null, .null, .null, .int 0, .int 0]) K J h2 rfl in_X18 tyX18_ok q1032 q1033 q114 (fun j hj => by match j, hj with | 0, _ => rfl | 1, _ => rfl | 2, _ => rfl | 3, _ => rfl | 4, _ => rfl | 5, _ => rfl | 6, _ => rfl) (fun b h => by simp at h) (by decide) dX16_fault_4 (fun H J hnw => ?_)
    refine lv_dup hx hb dX16_fault_7 rfl ?_
    refine lv_aload_n hx hb dX16_fault_8 rfl (lv_at hl 0 rfl) ?_
    refine rr_get K J 3 (by decide) rfl q879 rfl dX16_fault_9 ?_
    have hc := K.2.2.2.2
    have hM1 := J.2.2.2.2.2.2.1
    have hn0 : (zNew z (.inr (6, [.null, .null, .null, .null, .null, .int 0, .int 0]))).2.1 = z.2.1 + 1 := rfl
    have hcell : (wS adK ad i ra sz (zNew z (.inr (6, [.null, .null, .null, .null, .null, .int 0, .int 0])))).2.2.2 (1000 + z.2.1) = .inr (6, [.null, .null, .null, .null, .null, .int 0, .int 0]) := (wS_ne (by omega)).trans csP_at
    have hAz : A z.2.1 := by have h9 := J.1.2.2.1 _ hnw.1; rw [hnw.2] at h9; exact h9
    have hrun := va_runI (locs := []) (p := p) (e := e) (below := below) (meth := meth) (H := H) (cells := (zNew z (.inr (6, [.null, .null, .null, .null, .null, .int 0, .int 0]))).2.1 - z.2.1) (slots := 7 * ((zNew z (.inr (6, [.null, .null, .null, .null, .null, .int 0, .int 0]))).2.1 - z.2.1)) (g := F0 m 12 ls [.int z.2.2.1, .ref z.2.1, .ref z.2.1]) (As := [.int z.2.2.1]) (rest := [.ref z.2.1]) ⟨hx, hb, K.1.2.2.1, hown, hts⟩ (w_FaultI (l := l) (x1 := z.2.2.1) (adK := adK) (adV := adV) (A := A) (D := D) (cA := cA) (a := z.2.1)) (cwI 1 hts (lw_meth q1043) rfl rfl rfl (hts _ q114) (hts _ q1041) (hts _ q1042) rfl (by decide +kernel) (mr_ K.1.2.2.2.2.2.1 (Nat.le_of_ble_eq_true rfl) (by decide))) ⟨fun v U g mk q => ⟨q.1, q.2.1, va_K.moved (u := U) (U := U.calling g mk v) (Vm.Alike.refl U.vm) q.2.2.1, sX.calling q.2.2.2.1, q.2.2.2.2⟩, fun U hU hW => ⟨rfl, by rw [hU]; exact one_of J.2.2.1 hnw hcell, va_K.moved hW.alike K.1.2.2.2.2.2.2.1, sX.there K.2.1 J.2.2.2.1 hU hW, hAz⟩⟩ rfl rfl hl.1 rfl (lv_room (Nat.le_of_ble_eq_true rfl)) dX16_fault_12 ⟨by omega, by omega⟩
    intro T hT X
    obtain ⟨v', st₀, t, T', L, h0, X', hL, e1, -, ⟨hv, hw, hz, hk⟩, st⟩ := hrun T hT X
    cases hv
    rw [h0] at hz hk
    have key : W p l e R s m args below meth c T'.heap ([] ++ L) ((zNew z (fltC z.2.2.1)).2.1 - z.2.1) (7 * ((zNew z (fltC z.2.2.1)).2.1 - z.2.1)) (xMQ below (pQ adK i ra sz M D cA ks ad A none z (zNew z (fltC z.2.2.1))) args s) (F0 m 15 ls [.ref z.2.1]) := by
      refine rr_bound (z := zNew z (fltC z.2.2.1)) K (Nat.le_succ _) (fun hzz => ?_)
      have hP1 : cW D cA (ks ++ [1000 + z.2.1]) ad (csP (wS adK ad i ra sz (zNew z (.inr (6, [.null, .null, .null, .null, .null, .int 0, .int 0])))) (1000 + z.2.1) (fltC z.2.2.1)) T'.heap := cW_one J.1 J.2.2.1 hnw (by rw [e1]; exact hw) (fun q g1 g2 => by rw [e1]; exact hk q g1 g2) (refOk_obj J.2.2.1.2 (fun b hb => by omega))
      rw [wS_put (by omega), zPut_new] at hP1
      have J1 : rI D cA ad A adK i ra sz s.heap M z.2.1 ks (ks ++ [1000 + z.2.1]) (zNew z (fltC z.2.2.1)) T'.heap ([] ++ L) := rI.moved (z := zNew z (.inr (6, [.null, .null, .null, .null, .null, .int 0, .int 0]))) J rfl hP1 ⟨by rw [e1]; exact hz, fun q g1 g2 => by rw [e1]; exact hk q g1 (fun hq => g2 (hq ▸ hAz)), fun q hq => by
        rcases List.mem_append.mp hq with g | g
        · exact J.2.2.2.1.2.2 q g
        · have := hL q g; rw [this]; exact hAz⟩ hzz
      refine W.athrow hx hb dX16_fault_15 ?_
      exact pp_out (z' := zNew z (fltC z.2.2.1)) rfl rfl htab hlk J1 hnw
    obtain ⟨t2, a1, b1⟩ := key T' rfl X'
    exact ⟨t2, st t2 a1, b1⟩
  · refine lv_if_ne (tgt := 16) hx hb dX16_fault_1 rfl (fun _ => ?_) (fun c => absurd (by first | exact c | exact Classical.not_not.mp c) h1)
    exact pp_vret hx hb hr hlk rfl J dX16_fault_16
theorem q1028 : (Jvm.Cond.methodLink "ChapterLoan$Reader" (30 : Nat) ({ cls := "ChapterLoan$Reader", name := "fault", desc := "(Z)V" } : Jvm.MethodName)) ∈ lw_all := lw_g (lw_at lw_m4 224 rfl) rfl
theorem q1030 : (Jvm.Cond.instanceMethod ({ cls := "ChapterLoan$Reader", name := "fault", desc := "(Z)V" } : Jvm.MethodName)) ∈ lw_all := lw_g (lw_at lw_m4 226 rfl) rfl
theorem q1031 : (Jvm.Cond.code ({ cls := "ChapterLoan$Reader", name := "fault", desc := "(Z)V" } : Jvm.MethodName) prog_14_method_4_code (2 : Nat) (Option.none : Option Jvm.ClassFile.FieldType)) ∈ lw_all := lw_g (lw_at lw_m4 227 rfl) rfl
theorem k_R_fault {v : Int32} {o : Option Unit} {z2 : PS} (K : rC p R d s m args c cc nL RX16 D cA A adK adV ad M nx0) (J : rI D cA ad A adK i ra sz s.heap M nx0 ks0 ks z H locs) (h : R_fault M z v = some (o, z2)) (hd : 7 ≤ d) (hsz : ls.size = nL) (hW : (rest.map fun v => v.category).sum ≤ 8) (hdg : decode cc pc = .ok (.invokevirtual 30, 3))
    (kr : o = some () → ∀ (ks2 : List Nat) (H1 : Heap) (locs1 : List Loc), rI D cA ad A adK i ra sz s.heap M nx0 ks0 ks2 z2 H1 locs1 → (∀ x ∈ ks, x ∈ ks2) → W p l e R s m args below meth c H1 locs1 (z2.2.1 - nx0) (7 * (z2.2.1 - nx0)) Q (F0 m (pc + 3) ls rest))
    (kt : o = none → ∀ (ks2 : List Nat) (H1 : Heap) (locs1 : List Loc), rI D cA ad A adK i ra sz s.heap M nx0 ks0 ks2 z2 H1 locs1 → live ks2 ad (z2.2.1 - 1) → WT p l e R s m args below meth c H1 locs1 (z2.2.1 - nx0) (7 * (z2.2.1 - nx0)) Q (z2.2.1 - 1) (F0 m pc ls rest)) : W p l e R s m args below meth c H locs (z.2.1 - nx0) (7 * (z.2.1 - nx0)) Q (F0 m pc ls (.int v :: .ref ra :: rest)) := by
  refine pp_call (As := [.int v]) (n := 1) K J (w_R_fault K.2.2.1 J.1 J.2.1 J.2.2.2.2.2.2.1 h) (cwV 1 K.1.2.2.2.2.1 (lw_V q1028 q1030 qs21 q107 q1031) rfl rfl rfl (by decide +kernel) (mrA K.1.2.2.2.2.2.1 hd (by decide))) rfl (by decide +kernel) hsz rfl hW hdg (fun v ho ks2 H1 locs1 J2 hs2 hL => ?_) (fun ho ks2 H1 locs1 J2 hL => ?_)
  · cases o with
    | none => cases ho
    | some u => cases ho; exact kr rfl ks2 H1 locs1 J2 hs2
  · cases o with
    | some u => cases ho
    | none => exact kt rfl ks2 H1 locs1 J2 hL
theorem w_R_opens {l : Launch} {D : va_G} {cA : Nat → ClassId} {ks : List Nat} {ad : Nat → Nat} {A : Nat → Prop} {adK adV : Nat → Nat} {i ra M : Nat} {sz : Int32} (had : adP ad) (hO : klOk A ks ad) (hra : live ks ad ra) {z z' : PS} {o : Option Unit} (hM0 : z.2.1 ≤ M) (h : R_opens M z = some (o, z')) : pX l yX16_opens cX16_opens 1 none 7 adK adV i ra sz M D cA ks ad A z [.ref ra] (o.map fun _ => none) z' := by
  refine pp_of (by decide) rfl (Nat.le_of_ble_eq_true rfl) had hO hra hM0 (fun p e s m below meth c R args ls K hr hlk htab J hl => ?_)
  have hx := K.1.1
  have hb := K.1.2.1
  have hown := K.1.2.2.2.1
  have hts := K.1.2.2.2.2.1
  have hl : lv_has ls 1 [(0, .ref ra)] := hl
  unfold R_opens at h
  obtain ⟨o1, z1, hf, h⟩ := bd2_some h
  refine lv_aload_n hx hb dX16_opens_0 rfl (lv_at hl 0 rfl) ?_
  refine lv_aload_n hx hb dX16_opens_1 rfl (lv_at hl 0 rfl) ?_
  refine rr_get K J 4 (by decide) rfl q880 rfl dX16_opens_2 ?_
  refine lv_iconst (v := 5) hx hb dX16_opens_5 (by decide) ?_
  have key : W p l e R s m args below meth c s.heap [] (z.2.1 - z.2.1) (7 * (z.2.1 - z.2.1)) (xMQ below (pQ adK i ra sz M D cA ks ad A (o.map fun _ => none) z z') args s) (F0 m 14 ls [.int (if 5 ≤ z.2.2.2 then 0 else 1), .ref ra]) := by
    refine k_R_fault K J hf (Nat.le_of_ble_eq_true rfl) hl.1 (Nat.le_of_ble_eq_true rfl) dX16_opens_14 (fun ho ks2 H locs J hs2 => ?_) (fun ho ks2 H locs J hL => ?_)
    · subst ho
      rw [onx_some] at h
      cases h
      refine lv_aload_n hx hb dX16_opens_17 rfl (lv_at hl 0 rfl) ?_
      refine lv_dup hx hb dX16_opens_18 rfl ?_
      refine rr_get K J 4 (by decide) rfl q880 rfl dX16_opens_19 ?_
      refine lv_iconst (v := 1) hx hb dX16_opens_22 (by decide) ?_
      refine lv_iadd hx hb dX16_opens_23 ?_
      refine rr_pop K J dX16_opens_24 (fun H locs J => ?_)
      refine lv_aload_n hx hb dX16_opens_27 rfl (lv_at hl 0 rfl) ?_
      refine lv_dup hx hb dX16_opens_28 rfl ?_
      refine rr_get K J 3 (by decide) rfl q879 rfl dX16_opens_29 ?_
      refine lv_iconst (v := 1) hx hb dX16_opens_32 (by decide) ?_
      refine lv_iadd hx hb dX16_opens_33 ?_
      refine rr_pat (z := zOp z1 (z1.2.2.2 + 1)) K J dX16_opens_34 (fun H locs J => ?_)
      exact pp_vret (z' := zAt (zOp z1 (z1.2.2.2 + 1)) 1) hx hb hr hlk rfl J dX16_opens_37
    · subst ho
      rw [onx_none] at h
      cases h
      exact pp_out rfl rfl htab hlk J hL
  refine lv_icmp_ge (tgt := 13) hx hb dX16_opens_6 rfl (fun c1 => ?_) (fun c1 => ?_)
  · refine lv_iconst (v := 0) hx hb dX16_opens_13 (by decide) ?_
    rw [if_pos c1] at key
    exact key
  · refine lv_iconst (v := 1) hx hb dX16_opens_9 (by decide) ?_
    refine lv_goto (tgt := 14) hx hb dX16_opens_10 rfl ?_
    rw [if_neg c1] at key
    exact key
theorem q1024 : (Jvm.Cond.methodLink "ChapterLoan$Reader" (91 : Nat) ({ cls := "ChapterLoan$Reader", name := "opens", desc := "()V" } : Jvm.MethodName)) ∈ lw_all := lw_g (lw_at lw_m4 220 rfl) rfl
theorem q1026 : (Jvm.Cond.instanceMethod ({ cls := "ChapterLoan$Reader", name := "opens", desc := "()V" } : Jvm.MethodName)) ∈ lw_all := lw_g (lw_at lw_m4 222 rfl) rfl
theorem q1027 : (Jvm.Cond.code ({ cls := "ChapterLoan$Reader", name := "opens", desc := "()V" } : Jvm.MethodName) prog_14_method_11_code (1 : Nat) (Option.none : Option Jvm.ClassFile.FieldType)) ∈ lw_all := lw_g (lw_at lw_m4 223 rfl) rfl
theorem k_R_opens {o : Option Unit} {z2 : PS} (K : rC p R d s m args c cc nL RX16 D cA A adK adV ad M nx0) (J : rI D cA ad A adK i ra sz s.heap M nx0 ks0 ks z H locs) (h : R_opens M z = some (o, z2)) (hd : 8 ≤ d) (hsz : ls.size = nL) (hW : (rest.map fun v => v.category).sum ≤ 8) (hdg : decode cc pc = .ok (.invokevirtual 91, 3))
    (kr : o = some () → ∀ (ks2 : List Nat) (H1 : Heap) (locs1 : List Loc), rI D cA ad A adK i ra sz s.heap M nx0 ks0 ks2 z2 H1 locs1 → (∀ x ∈ ks, x ∈ ks2) → W p l e R s m args below meth c H1 locs1 (z2.2.1 - nx0) (7 * (z2.2.1 - nx0)) Q (F0 m (pc + 3) ls rest))
    (kt : o = none → ∀ (ks2 : List Nat) (H1 : Heap) (locs1 : List Loc), rI D cA ad A adK i ra sz s.heap M nx0 ks0 ks2 z2 H1 locs1 → live ks2 ad (z2.2.1 - 1) → WT p l e R s m args below meth c H1 locs1 (z2.2.1 - nx0) (7 * (z2.2.1 - nx0)) Q (z2.2.1 - 1) (F0 m pc ls rest)) : W p l e R s m args below meth c H locs (z.2.1 - nx0) (7 * (z.2.1 - nx0)) Q (F0 m pc ls (.ref ra :: rest)) := by
  refine pp_call (As := []) (n := 0) K J (w_R_opens K.2.2.1 J.1 J.2.1 J.2.2.2.2.2.2.1 h) (cwV 0 K.1.2.2.2.2.1 (lw_V q1024 q1026 qs20 q107 q1027) rfl rfl rfl (by decide +kernel) (mrA K.1.2.2.2.2.2.1 hd (by decide))) rfl (by decide +kernel) hsz rfl hW hdg (fun v ho ks2 H1 locs1 J2 hs2 hL => ?_) (fun ho ks2 H1 locs1 J2 hL => ?_)
  · cases o with
    | none => cases ho
    | some u => cases ho; exact kr rfl ks2 H1 locs1 J2 hs2
  · cases o with
    | some u => cases ho
    | none => exact kt rfl ks2 H1 locs1 J2 hL
/-- what a reading method does, as a function -/
def pF (l : Launch) (y : MethodName) (bytes : ByteArray) (maxL dk : Nat) (adK adV : Nat → Nat) (i ra : Nat) (sz : Int32) (M : Nat) (D : va_G) (cA : Nat → ClassId) (ad : Nat → Nat) (A : Nat → Prop) (f : PS → Option (Option Nat × PS)) : Prop := ∀ (ks : List Nat) (z z' : PS) (o : Option Nat), klOk A ks ad → live ks ad ra → z.2.1 ≤ M → f z = some (o, z') → pX l y bytes maxL (some (.object "ChapterLoan$Term")) dk adK adV i ra sz M D cA ks ad A z [.ref ra] (o.map some) z'
theorem pp_callF {y : MethodName} {bytes : ByteArray} {maxL dk : Nat} {f : PS → Option (Option Nat × PS)} {o : Option Nat} {z2 : PS} (K : rC p R d s m args c cc nL own D cA A adK adV ad M nx0) (J : rI D cA ad A adK i ra sz s.heap M nx0 ks0 ks z H locs) (hf : pF l y bytes maxL dk adK adV i ra sz M D cA ad A f) (h : f z = some (o, z2)) (cw : CallW R s args own RX16 index y bytes maxL (some (.object "ChapterLoan$Term")) (ws_ y bytes maxL (some (.object "ChapterLoan$Term"))) (rmA dk (M - z.2.1) (7 * (M - z.2.1))) (M - z.2.1) (7 * (M - z.2.1)) 0) (hpn : (parseMethodDescriptor y.desc).map (fun d => d.parameters.length) = some 0) (hsz : ls.size = nL) (hW : (rest.map fun v => v.category).sum ≤ 8) (hdg : decode cc pc = .ok (.invokevirtual index, 3))
    (kr : ∀ t, o = some t → ∀ (ks2 : List Nat) (H1 : Heap) (locs1 : List Loc), rI D cA ad A adK i ra sz s.heap M nx0 ks0 ks2 z2 H1 locs1 → (∀ x ∈ ks, x ∈ ks2) → live ks2 ad t → W p l e R s m args below meth c H1 locs1 (z2.2.1 - nx0) (7 * (z2.2.1 - nx0)) Q (F0 m (pc + 3) ls (.ref t :: rest)))
    (kt : o = none → ∀ (ks2 : List Nat) (H1 : Heap) (locs1 : List Loc), rI D cA ad A adK i ra sz s.heap M nx0 ks0 ks2 z2 H1 locs1 → live ks2 ad (z2.2.1 - 1) → WT p l e R s m args below meth c H1 locs1 (z2.2.1 - nx0) (7 * (z2.2.1 - nx0)) Q (z2.2.1 - 1) (F0 m pc ls rest)) : W p l e R s m args below meth c H locs (z.2.1 - nx0) (7 * (z.2.1 - nx0)) Q (F0 m pc ls (.ref ra :: rest)) := by
  refine pp_call (As := []) (n := 0) K J (hf _ _ _ _ J.1 J.2.1 J.2.2.2.2.2.2.1 h) cw rfl hpn hsz rfl hW hdg (fun v ho ks2 H1 locs1 J2 hs2 hL => ?_) (fun ho ks2 H1 locs1 J2 hL => ?_)
  · cases o with
    | none => cases ho
    | some t => cases ho; exact kr t rfl ks2 H1 locs1 J2 hs2 hL
  · cases o with
    | some t => cases ho
    | none => exact kt rfl ks2 H1 locs1 J2 hL
theorem q1076 : (Jvm.Cond.methodLink "ChapterLoan$Reader" (60 : Nat) ({ cls := "ChapterLoan$Two", name := "<init>", desc := "(ILChapterLoan$Term;LChapterLoan$Term;)V" } : Jvm.MethodName)) ∈ lw_all := lw_g (lw_at lw_m5 32 rfl) rfl
theorem q1077 : (Jvm.Cond.instanceMethod ({ cls := "ChapterLoan$Two", name := "<init>", desc := "(ILChapterLoan$Term;LChapterLoan$Term;)V" } : Jvm.MethodName)) ∈ lw_all := lw_g (lw_at lw_m5 33 rfl) rfl
theorem q1078 : (Jvm.Cond.code ({ cls := "ChapterLoan$Two", name := "<init>", desc := "(ILChapterLoan$Term;LChapterLoan$Term;)V" } : Jvm.MethodName) prog_27_method_1_code (4 : Nat) (Option.none : Option Jvm.ClassFile.FieldType)) ∈ lw_all := lw_g (lw_at lw_m5 34 rfl) rfl
theorem q1074 : (Jvm.Cond.classLink "ChapterLoan$Reader" (58 : Nat) "ChapterLoan$Two") ∈ lw_all := lw_g (lw_at lw_m5 30 rfl) rfl
theorem q1075 : (Jvm.Cond.instantiable "ChapterLoan$Two" (3 : Nat)) ∈ lw_all := lw_g (lw_at lw_m5 31 rfl) rfl
theorem q900 : (Jvm.Cond.methodLink "ChapterLoan$Reader" (49 : Nat) ({ cls := "ChapterLoan$Reader", name := "both", desc := "()LChapterLoan$Term;" } : Jvm.MethodName)) ∈ lw_all := lw_g (lw_at lw_m4 96 rfl) rfl
theorem q902 : (Jvm.Cond.instanceMethod ({ cls := "ChapterLoan$Reader", name := "both", desc := "()LChapterLoan$Term;" } : Jvm.MethodName)) ∈ lw_all := lw_g (lw_at lw_m4 98 rfl) rfl
theorem q903 : (Jvm.Cond.code ({ cls := "ChapterLoan$Reader", name := "both", desc := "()LChapterLoan$Term;" } : Jvm.MethodName) prog_14_method_7_code (2 : Nat) (Option.some (Jvm.ClassFile.FieldType.object "ChapterLoan$Term"))) ∈ lw_all := lw_g (lw_at lw_m4 99 rfl) rfl
theorem w_R_either {l : Launch} {D : va_G} {cA : Nat → ClassId} {ad : Nat → Nat} {A : Nat → Prop} {adK adV : Nat → Nat} {i ra M : Nat} {sz : Int32} (had : adP ad) {f : PS → Option (Option Nat × PS)} {dk : Nat} (hf : pF l yX16_both cX16_both 2 dk adK adV i ra sz M D cA ad A f) (hdk : 12 ≤ dk) {N : Nat} : pF l yX16_either cX16_either 2 (dk + 1) adK adV i ra sz M D cA ad A (R_chainA N M 2 sz 124 f) := by
  intro ks z z' o hO hra hM0 h
  refine pp_of (by decide) rfl (Nat.le_of_ble_eq_true rfl) had hO hra hM0 (fun p e s m below meth c R args ls K hr hlk htab J hl => ?_)
  have hx := K.1.1
  have hb := K.1.2.1
  have hown := K.1.2.2.2.1
  have hts := K.1.2.2.2.2.1
  have hl : lv_has ls 2 [(0, .ref ra)] := hl
  have hstr : vk_R RX16 52 "|" (adK 2) s := K.2.1.2.1 2 (by decide)
  have L5 : ∀ (n : Nat) (z1 : PS) (t : Nat) (ks1 : List Nat) (H : Heap) (locs : List Loc) (ls : Array Slot), (∀ x ∈ ks, x ∈ ks1) → live ks1 ad t → rI D cA ad A adK i ra sz s.heap M z.2.1 ks ks1 z1 H locs → lv_has ls 2 [(1, .ref t), (0, .ref ra)] → R_loopA M 2 sz 124 f n z1 t = some (o, z') → W p l e R s m args below meth c H locs (z1.2.1 - z.2.1) (7 * (z1.2.1 - z.2.1)) (xMQ below (pQ adK i ra sz M D cA ks ad A (o.map some) z z') args s) (F0 m 5 ls []) := by
    intro n
    induction n with
    | zero => intro z1 t ks1 H locs ls _ _ _ _ h; exact non_some h
    | succ n ih =>
      intro z1 t ks1 H locs ls hs1 hlt J hl h
      rw [R_loopA] at h
      obtain ⟨v, hv, h⟩ := bd1_some h
      refine lv_aload_n hx hb dX16_either_5 rfl (lv_at hl 1 rfl) ?_
      refine va_ldcS hx hb hown hstr dX16_either_6 ?_
      refine k_R_isOne (by decide) K J hv (by omega) hl.1 (Nat.le_of_ble_eq_true rfl) dX16_either_8 ?_
      refine lv_if_eq (tgt := 42) hx hb dX16_either_11 rfl (fun c1 => ?_) (fun c1 => ?_)
      · have h := if_some_t h c1
        cases h
        refine lv_aload_n hx hb dX16_either_42 rfl (lv_at hl 0 rfl) ?_
        exact pp_aret hx hb hr hlk rfl J hlt dX16_either_43
      · have h := if_some_f h c1
        obtain ⟨o2, z2, ht, h⟩ := bd2_some h
        refine lv_aload_n hx hb dX16_either_14 rfl (lv_at hl 1 rfl) ?_
        refine lv_dup hx hb dX16_either_15 rfl ?_
        refine rr_get K J 3 (by decide) rfl q879 rfl dX16_either_16 ?_
        refine lv_iconst (v := 1) hx hb dX16_either_19 (by decide) ?_
        refine lv_iadd hx hb dX16_either_20 ?_
        refine rr_pat K J dX16_either_21 (fun H locs J => ?_)
        have J : rI D cA ad A adK i ra sz s.heap M z.2.1 ks ks1 (zAt z1 1) H locs := J
        obtain ⟨h2lt, ob, zb, hcall, h2⟩ := R_two_some ht
        have hltA := rI.lt K J
        refine rr_new (z := zAt z1 1) (ci := 17) (Cn := RX15) (T := TX15) (N := 3) (ty0 := tyX15) (fs := [.int 0, .null, .null]) K J h2lt rfl in_X15 tyX15_ok q1074 q1075 q104 (fun j hj => by match j, hj with | 0, _ => rfl | 1, _ => rfl | 2, _ => rfl) (fun b h => by simp at h) (by decide) dX16_either_24 (fun H J hnw => ?_)
        have hlt2 := rI.lt K J
        refine lv_dup hx hb dX16_either_27 rfl ?_
        refine lv_bipush (v := 124) hx hb dX16_either_28 (by decide) ?_
        refine lv_aload_n hx hb dX16_either_30 rfl (lv_at hl 0 rfl) ?_
        refine lv_aload_n hx hb dX16_either_31 rfl (lv_at hl 1 rfl) ?_
        refine pp_callF K J hf hcall (cwV 0 K.1.2.2.2.2.1 (lw_V q900 q902 qs13 q107 q903) rfl rfl rfl (by decide +kernel) (mrA K.1.2.2.2.2.2.1 (by omega) (by decide))) (by decide +kernel) hl.1 (Nat.le_of_ble_eq_true rfl) dX16_either_32 (fun b hob ks2 H locs J hs2 hlb => ?_) (fun hob ks2 H locs J hL => ?_)
        · rcases h2 with ⟨g1, -, -⟩ | ⟨b2, g1, g2, rfl, rfl⟩
          · rw [g1] at hob; cases hob
          · rw [g1] at hob
            cases hob
            rw [onx_some] at h
            refine rr_init (b := (zAt z1 1).2.1) (As := [.int 124, .ref t, .ref b]) (e1 := .inr (17, [.int 124, .ref t, .ref b])) K J (by omega) (w_TwoI J.1 ⟨hs2 _ hnw.1, hnw.2⟩ ⟨_, rfl, (wS_ne (by omega)).trans g2, fun b h => by simp at h⟩ ⟨hs2 _ (List.mem_append_left _ hlt.1), hlt.2⟩ hlb) (cwI 3 K.1.2.2.2.2.1 (lw_meth q1078) rfl rfl rfl (hts _ q104) (hts _ q1076) (hts _ q1077) rfl (by decide +kernel) (mr_ K.1.2.2.2.2.2.1 (by omega) (by decide))) rfl hl.1 rfl (Nat.le_of_ble_eq_true rfl) dX16_either_35 (fun H locs J => ?_)
            refine lv_astore_n (lv' := [(1, .ref (zAt z1 1).2.1), (0, .ref ra)]) hx hb dX16_either_38 rfl hl (by decide) rfl (fun ls hl => ?_)
            refine lv_goto (tgt := 5) hx hb dX16_either_39 rfl ?_
            exact ih (zPut zb (zAt z1 1).2.1 (.inr (17, [.int 124, .ref t, .ref b]))) (zAt z1 1).2.1 ks2 H locs ls (fun x hx => J.2.2.2.2.2.2.2 x hx) ⟨hs2 _ hnw.1, hnw.2⟩ J (lv_sub hl [0, 1] rfl) h
        · rcases h2 with ⟨g1, rfl, rfl⟩ | ⟨b2, g1, -, -, -⟩
          · rw [onx_none] at h
            cases h
            exact pp_out rfl rfl htab hlk J hL
          · rw [g1] at hob; cases hob
  unfold R_chainA at h
  obtain ⟨o1, z1, hc1, h⟩ := bd2_some h
  refine lv_aload_n hx hb dX16_either_0 rfl (lv_at hl 0 rfl) ?_
  refine pp_callF K J hf hc1 (cwV 0 K.1.2.2.2.2.1 (lw_V q900 q902 qs13 q107 q903) rfl rfl rfl (by decide +kernel) (mrA K.1.2.2.2.2.2.1 (by omega) (by decide))) (by decide +kernel) hl.1 (Nat.le_of_ble_eq_true rfl) dX16_either_1 (fun t ho ks2 H locs J hs2 hlt => ?_) (fun ho ks2 H locs J hL => ?_)
  · subst ho
    rw [onx_some] at h
    refine lv_astore_n (lv' := [(1, .ref t), (0, .ref ra)]) hx hb dX16_either_4 rfl hl (by decide) rfl (fun ls hl => ?_)
    exact L5 N z1 t ks2 H locs ls hs2 hlt J hl h
  · subst ho
    rw [onx_none] at h
    cases h
    exact pp_out rfl rfl htab hlk J hL
theorem q904 : (Jvm.Cond.methodLink "ChapterLoan$Reader" (63 : Nat) ({ cls := "ChapterLoan$Reader", name := "relation", desc := "()LChapterLoan$Term;" } : Jvm.MethodName)) ∈ lw_all := lw_g (lw_at lw_m4 100 rfl) rfl
theorem q906 : (Jvm.Cond.instanceMethod ({ cls := "ChapterLoan$Reader", name := "relation", desc := "()LChapterLoan$Term;" } : Jvm.MethodName)) ∈ lw_all := lw_g (lw_at lw_m4 102 rfl) rfl
theorem q907 : (Jvm.Cond.code ({ cls := "ChapterLoan$Reader", name := "relation", desc := "()LChapterLoan$Term;" } : Jvm.MethodName) prog_14_method_8_code (3 : Nat) (Option.some (Jvm.ClassFile.FieldType.object "ChapterLoan$Term"))) ∈ lw_all := lw_g (lw_at lw_m4 103 rfl) rfl
theorem w_R_both {l : Launch} {D : va_G} {cA : Nat → ClassId} {ad : Nat → Nat} {A : Nat → Prop} {adK adV : Nat → Nat} {i ra M : Nat} {sz : Int32} (had : adP ad) {f : PS → Option (Option Nat × PS)} {dk : Nat} (hf : pF l yX16_relation cX16_relation 3 dk adK adV i ra sz M D cA ad A f) (hdk : 12 ≤ dk) {N : Nat} : pF l yX16_both cX16_both 2 (dk + 1) adK adV i ra sz M D cA ad A (R_chainA N M 3 sz 38 f) := by
  intro ks z z' o hO hra hM0 h
  refine pp_of (by decide) rfl (Nat.le_of_ble_eq_true rfl) had hO hra hM0 (fun p e s m below meth c R args ls K hr hlk htab J hl => ?_)
  have hx := K.1.1
  have hb := K.1.2.1
  have hown := K.1.2.2.2.1
  have hts := K.1.2.2.2.2.1
  have hl : lv_has ls 2 [(0, .ref ra)] := hl
  have hstr : vk_R RX16 66 "&" (adK 3) s := K.2.1.2.1 3 (by decide)
  have L5 : ∀ (n : Nat) (z1 : PS) (t : Nat) (ks1 : List Nat) (H : Heap) (locs : List Loc) (ls : Array Slot), (∀ x ∈ ks, x ∈ ks1) → live ks1 ad t → rI D cA ad A adK i ra sz s.heap M z.2.1 ks ks1 z1 H locs → lv_has ls 2 [(1, .ref t), (0, .ref ra)] → R_loopA M 3 sz 38 f n z1 t = some (o, z') → W p l e R s m args below meth c H locs (z1.2.1 - z.2.1) (7 * (z1.2.1 - z.2.1)) (xMQ below (pQ adK i ra sz M D cA ks ad A (o.map some) z z') args s) (F0 m 5 ls []) := by
    intro n
    induction n with
    | zero => intro z1 t ks1 H locs ls _ _ _ _ h; exact non_some h
    | succ n ih =>
      intro z1 t ks1 H locs ls hs1 hlt J hl h
      rw [R_loopA] at h
      obtain ⟨v, hv, h⟩ := bd1_some h
      refine lv_aload_n hx hb dX16_both_5 rfl (lv_at hl 1 rfl) ?_
      refine va_ldcS hx hb hown hstr dX16_both_6 ?_
      refine k_R_isOne (by decide) K J hv (by omega) hl.1 (Nat.le_of_ble_eq_true rfl) dX16_both_8 ?_
      refine lv_if_eq (tgt := 42) hx hb dX16_both_11 rfl (fun c1 => ?_) (fun c1 => ?_)
      · have h := if_some_t h c1
        cases h
        refine lv_aload_n hx hb dX16_both_42 rfl (lv_at hl 0 rfl) ?_
        exact pp_aret hx hb hr hlk rfl J hlt dX16_both_43
      · have h := if_some_f h c1
        obtain ⟨o2, z2, ht, h⟩ := bd2_some h
        refine lv_aload_n hx hb dX16_both_14 rfl (lv_at hl 1 rfl) ?_
        refine lv_dup hx hb dX16_both_15 rfl ?_
        refine rr_get K J 3 (by decide) rfl q879 rfl dX16_both_16 ?_
        refine lv_iconst (v := 1) hx hb dX16_both_19 (by decide) ?_
        refine lv_iadd hx hb dX16_both_20 ?_
        refine rr_pat K J dX16_both_21 (fun H locs J => ?_)
        have J : rI D cA ad A adK i ra sz s.heap M z.2.1 ks ks1 (zAt z1 1) H locs := J
        obtain ⟨h2lt, ob, zb, hcall, h2⟩ := R_two_some ht
        have hltA := rI.lt K J
        refine rr_new (z := zAt z1 1) (ci := 17) (Cn := RX15) (T := TX15) (N := 3) (ty0 := tyX15) (fs := [.int 0, .null, .null]) K J h2lt rfl in_X15 tyX15_ok q1074 q1075 q104 (fun j hj => by match j, hj with | 0, _ => rfl | 1, _ => rfl | 2, _ => rfl) (fun b h => by simp at h) (by decide) dX16_both_24 (fun H J hnw => ?_)
        have hlt2 := rI.lt K J
        refine lv_dup hx hb dX16_both_27 rfl ?_
        refine lv_bipush (v := 38) hx hb dX16_both_28 (by decide) ?_
        refine lv_aload_n hx hb dX16_both_30 rfl (lv_at hl 0 rfl) ?_
        refine lv_aload_n hx hb dX16_both_31 rfl (lv_at hl 1 rfl) ?_
        refine pp_callF K J hf hcall (cwV 0 K.1.2.2.2.2.1 (lw_V q904 q906 qs14 q107 q907) rfl rfl rfl (by decide +kernel) (mrA K.1.2.2.2.2.2.1 (by omega) (by decide))) (by decide +kernel) hl.1 (Nat.le_of_ble_eq_true rfl) dX16_both_32 (fun b hob ks2 H locs J hs2 hlb => ?_) (fun hob ks2 H locs J hL => ?_)
        · rcases h2 with ⟨g1, -, -⟩ | ⟨b2, g1, g2, rfl, rfl⟩
          · rw [g1] at hob; cases hob
          · rw [g1] at hob
            cases hob
            rw [onx_some] at h
            refine rr_init (b := (zAt z1 1).2.1) (As := [.int 38, .ref t, .ref b]) (e1 := .inr (17, [.int 38, .ref t, .ref b])) K J (by omega) (w_TwoI J.1 ⟨hs2 _ hnw.1, hnw.2⟩ ⟨_, rfl, (wS_ne (by omega)).trans g2, fun b h => by simp at h⟩ ⟨hs2 _ (List.mem_append_left _ hlt.1), hlt.2⟩ hlb) (cwI 3 K.1.2.2.2.2.1 (lw_meth q1078) rfl rfl rfl (hts _ q104) (hts _ q1076) (hts _ q1077) rfl (by decide +kernel) (mr_ K.1.2.2.2.2.2.1 (by omega) (by decide))) rfl hl.1 rfl (Nat.le_of_ble_eq_true rfl) dX16_both_35 (fun H locs J => ?_)
            refine lv_astore_n (lv' := [(1, .ref (zAt z1 1).2.1), (0, .ref ra)]) hx hb dX16_both_38 rfl hl (by decide) rfl (fun ls hl => ?_)
            refine lv_goto (tgt := 5) hx hb dX16_both_39 rfl ?_
            exact ih (zPut zb (zAt z1 1).2.1 (.inr (17, [.int 38, .ref t, .ref b]))) (zAt z1 1).2.1 ks2 H locs ls (fun x hx => J.2.2.2.2.2.2.2 x hx) ⟨hs2 _ hnw.1, hnw.2⟩ J (lv_sub hl [0, 1] rfl) h
        · rcases h2 with ⟨g1, rfl, rfl⟩ | ⟨b2, g1, -, -, -⟩
          · rw [onx_none] at h
            cases h
            exact pp_out rfl rfl htab hlk J hL
          · rw [g1] at hob; cases hob
  unfold R_chainA at h
  obtain ⟨o1, z1, hc1, h⟩ := bd2_some h
  refine lv_aload_n hx hb dX16_both_0 rfl (lv_at hl 0 rfl) ?_
  refine pp_callF K J hf hc1 (cwV 0 K.1.2.2.2.2.1 (lw_V q904 q906 qs14 q107 q907) rfl rfl rfl (by decide +kernel) (mrA K.1.2.2.2.2.2.1 (by omega) (by decide))) (by decide +kernel) hl.1 (Nat.le_of_ble_eq_true rfl) dX16_both_1 (fun t ho ks2 H locs J hs2 hlt => ?_) (fun ho ks2 H locs J hL => ?_)
  · subst ho
    rw [onx_some] at h
    refine lv_astore_n (lv' := [(1, .ref t), (0, .ref ra)]) hx hb dX16_both_4 rfl hl (by decide) rfl (fun ls hl => ?_)
    exact L5 N z1 t ks2 H locs ls hs2 hlt J hl h
  · subst ho
    rw [onx_none] at h
    cases h
    exact pp_out rfl rfl htab hlk J hL
theorem q912 : (Jvm.Cond.methodLink "ChapterLoan$Reader" (73 : Nat) ({ cls := "ChapterLoan$Reader", name := "product", desc := "()LChapterLoan$Term;" } : Jvm.MethodName)) ∈ lw_all := lw_g (lw_at lw_m4 108 rfl) rfl
theorem q914 : (Jvm.Cond.instanceMethod ({ cls := "ChapterLoan$Reader", name := "product", desc := "()LChapterLoan$Term;" } : Jvm.MethodName)) ∈ lw_all := lw_g (lw_at lw_m4 110 rfl) rfl
theorem q915 : (Jvm.Cond.code ({ cls := "ChapterLoan$Reader", name := "product", desc := "()LChapterLoan$Term;" } : Jvm.MethodName) prog_14_method_10_code (3 : Nat) (Option.some (Jvm.ClassFile.FieldType.object "ChapterLoan$Term"))) ∈ lw_all := lw_g (lw_at lw_m4 111 rfl) rfl
theorem w_R_sum {l : Launch} {D : va_G} {cA : Nat → ClassId} {ad : Nat → Nat} {A : Nat → Prop} {adK adV : Nat → Nat} {i ra M : Nat} {sz : Int32} (had : adP ad) {f : PS → Option (Option Nat × PS)} {dk : Nat} (hf : pF l yX16_product cX16_product 3 dk adK adV i ra sz M D cA ad A f) (hdk : 12 ≤ dk) {N : Nat} : pF l yX16_sum cX16_sum 3 (dk + 1) adK adV i ra sz M D cA ad A (R_chainB N M 5 sz f) := by
  intro ks z z' o hO hra hM0 h
  refine pp_of (by decide) rfl (Nat.le_of_ble_eq_true rfl) had hO hra hM0 (fun p e s m below meth c R args ls K hr hlk htab J hl => ?_)
  have hx := K.1.1
  have hb := K.1.2.1
  have hown := K.1.2.2.2.1
  have hts := K.1.2.2.2.2.1
  have hl : lv_has ls 3 [(0, .ref ra)] := hl
  have hstr : vk_R RX16 76 "+-" (adK 5) s := K.2.1.2.1 5 (by decide)
  have L5 : ∀ (n : Nat) (z1 : PS) (t : Nat) (ks1 : List Nat) (H : Heap) (locs : List Loc) (ls : Array Slot), (∀ x ∈ ks, x ∈ ks1) → live ks1 ad t → rI D cA ad A adK i ra sz s.heap M z.2.1 ks ks1 z1 H locs → lv_has ls 3 [(1, .ref t), (0, .ref ra)] → R_loopB M 5 sz f n z1 t = some (o, z') → W p l e R s m args below meth c H locs (z1.2.1 - z.2.1) (7 * (z1.2.1 - z.2.1)) (xMQ below (pQ adK i ra sz M D cA ks ad A (o.map some) z z') args s) (F0 m 5 ls []) := by
    intro n
    induction n with
    | zero => intro z1 t ks1 H locs ls _ _ _ _ h; exact non_some h
    | succ n ih =>
      intro z1 t ks1 H locs ls hs1 hlt J hl h
      rw [R_loopB] at h
      obtain ⟨v, hv, h⟩ := bd1_some h
      refine lv_aload_n hx hb dX16_sum_5 rfl (lv_at hl 1 rfl) ?_
      refine va_ldcS hx hb hown hstr dX16_sum_6 ?_
      refine k_R_isOne (by decide) K J hv (by omega) hl.1 (Nat.le_of_ble_eq_true rfl) dX16_sum_8 ?_
      refine lv_if_eq (tgt := 46) hx hb dX16_sum_11 rfl (fun c1 => ?_) (fun c1 => ?_)
      · have h := if_some_t h c1
        cases h
        refine lv_aload_n hx hb dX16_sum_46 rfl (lv_at hl 0 rfl) ?_
        exact pp_aret hx hb hr hlk rfl J hlt dX16_sum_47
      · have h := if_some_f h c1
        obtain ⟨sg, hsg, h⟩ := bd1_some h
        obtain ⟨o2, z2, ht, h⟩ := bd2_some h
        refine lv_aload_n hx hb dX16_sum_14 rfl (lv_at hl 1 rfl) ?_
        refine k_R_look (st0 := []) K J hsg (by omega) hl.1 (Nat.le_of_ble_eq_true rfl) dX16_sum_15 ?_
        refine lv_istore_n (lv' := [(2, .int sg), (1, .ref t), (0, .ref ra)]) hx hb dX16_sum_18 rfl hl (by decide) rfl (fun ls hl => ?_)
        refine lv_aload_n hx hb dX16_sum_19 rfl (lv_at hl 2 rfl) ?_
        refine lv_dup hx hb dX16_sum_20 rfl ?_
        refine rr_get K J 3 (by decide) rfl q879 rfl dX16_sum_21 ?_
        refine lv_iconst (v := 1) hx hb dX16_sum_24 (by decide) ?_
        refine lv_iadd hx hb dX16_sum_25 ?_
        refine rr_pat K J dX16_sum_26 (fun H locs J => ?_)
        have J : rI D cA ad A adK i ra sz s.heap M z.2.1 ks ks1 (zAt z1 1) H locs := J
        obtain ⟨h2lt, ob, zb, hcall, h2⟩ := R_two_some ht
        have hltA := rI.lt K J
        refine rr_new (z := zAt z1 1) (ci := 17) (Cn := RX15) (T := TX15) (N := 3) (ty0 := tyX15) (fs := [.int 0, .null, .null]) K J h2lt rfl in_X15 tyX15_ok q1074 q1075 q104 (fun j hj => by match j, hj with | 0, _ => rfl | 1, _ => rfl | 2, _ => rfl) (fun b h => by simp at h) (by decide) dX16_sum_29 (fun H J hnw => ?_)
        have hlt2 := rI.lt K J
        refine lv_dup hx hb dX16_sum_32 rfl ?_
        refine lv_iload_n hx hb dX16_sum_33 rfl (lv_at hl 0 rfl) ?_
        refine lv_aload_n hx hb dX16_sum_34 rfl (lv_at hl 1 rfl) ?_
        refine lv_aload_n hx hb dX16_sum_35 rfl (lv_at hl 2 rfl) ?_
        refine pp_callF K J hf hcall (cwV 0 K.1.2.2.2.2.1 (lw_V q912 q914 qs16 q107 q915) rfl rfl rfl (by decide +kernel) (mrA K.1.2.2.2.2.2.1 (by omega) (by decide))) (by decide +kernel) hl.1 (Nat.le_of_ble_eq_true rfl) dX16_sum_36 (fun b hob ks2 H locs J hs2 hlb => ?_) (fun hob ks2 H locs J hL => ?_)
        · rcases h2 with ⟨g1, -, -⟩ | ⟨b2, g1, g2, rfl, rfl⟩
          · rw [g1] at hob; cases hob
          · rw [g1] at hob
            cases hob
            rw [onx_some] at h
            refine rr_init (b := (zAt z1 1).2.1) (As := [.int sg, .ref t, .ref b]) (e1 := .inr (17, [.int sg, .ref t, .ref b])) K J (by omega) (w_TwoI J.1 ⟨hs2 _ hnw.1, hnw.2⟩ ⟨_, rfl, (wS_ne (by omega)).trans g2, fun b h => by simp at h⟩ ⟨hs2 _ (List.mem_append_left _ hlt.1), hlt.2⟩ hlb) (cwI 3 K.1.2.2.2.2.1 (lw_meth q1078) rfl rfl rfl (hts _ q104) (hts _ q1076) (hts _ q1077) rfl (by decide +kernel) (mr_ K.1.2.2.2.2.2.1 (by omega) (by decide))) rfl hl.1 rfl (Nat.le_of_ble_eq_true rfl) dX16_sum_39 (fun H locs J => ?_)
            refine lv_astore_n (lv' := [(1, .ref (zAt z1 1).2.1), (2, .int sg), (0, .ref ra)]) hx hb dX16_sum_42 rfl hl (by decide) rfl (fun ls hl => ?_)
            refine lv_goto (tgt := 5) hx hb dX16_sum_43 rfl ?_
            exact ih (zPut zb (zAt z1 1).2.1 (.inr (17, [.int sg, .ref t, .ref b]))) (zAt z1 1).2.1 ks2 H locs ls (fun x hx => J.2.2.2.2.2.2.2 x hx) ⟨hs2 _ hnw.1, hnw.2⟩ J (lv_sub hl [0, 2] rfl) h
        · rcases h2 with ⟨g1, rfl, rfl⟩ | ⟨b2, g1, -, -, -⟩
          · rw [onx_none] at h
            cases h
            exact pp_out rfl rfl htab hlk J hL
          · rw [g1] at hob; cases hob
  unfold R_chainB at h
  obtain ⟨o1, z1, hc1, h⟩ := bd2_some h
  refine lv_aload_n hx hb dX16_sum_0 rfl (lv_at hl 0 rfl) ?_
  refine pp_callF K J hf hc1 (cwV 0 K.1.2.2.2.2.1 (lw_V q912 q914 qs16 q107 q915) rfl rfl rfl (by decide +kernel) (mrA K.1.2.2.2.2.2.1 (by omega) (by decide))) (by decide +kernel) hl.1 (Nat.le_of_ble_eq_true rfl) dX16_sum_1 (fun t ho ks2 H locs J hs2 hlt => ?_) (fun ho ks2 H locs J hL => ?_)
  · subst ho
    rw [onx_some] at h
    refine lv_astore_n (lv' := [(1, .ref t), (0, .ref ra)]) hx hb dX16_sum_4 rfl hl (by decide) rfl (fun ls hl => ?_)
    exact L5 N z1 t ks2 H locs ls hs2 hlt J hl h
  · subst ho
    rw [onx_none] at h
    cases h
    exact pp_out rfl rfl htab hlk J hL
theorem q916 : (Jvm.Cond.methodLink "ChapterLoan$Reader" (78 : Nat) ({ cls := "ChapterLoan$Reader", name := "single", desc := "()LChapterLoan$Term;" } : Jvm.MethodName)) ∈ lw_all := lw_g (lw_at lw_m4 112 rfl) rfl
theorem q918 : (Jvm.Cond.instanceMethod ({ cls := "ChapterLoan$Reader", name := "single", desc := "()LChapterLoan$Term;" } : Jvm.MethodName)) ∈ lw_all := lw_g (lw_at lw_m4 114 rfl) rfl
theorem q919 : (Jvm.Cond.code ({ cls := "ChapterLoan$Reader", name := "single", desc := "()LChapterLoan$Term;" } : Jvm.MethodName) prog_14_method_12_code (3 : Nat) (Option.some (Jvm.ClassFile.FieldType.object "ChapterLoan$Term"))) ∈ lw_all := lw_g (lw_at lw_m4 115 rfl) rfl
theorem w_R_product {l : Launch} {D : va_G} {cA : Nat → ClassId} {ad : Nat → Nat} {A : Nat → Prop} {adK adV : Nat → Nat} {i ra M : Nat} {sz : Int32} (had : adP ad) {f : PS → Option (Option Nat × PS)} {dk : Nat} (hf : pF l yX16_single cX16_single 3 dk adK adV i ra sz M D cA ad A f) (hdk : 12 ≤ dk) {N : Nat} : pF l yX16_product cX16_product 3 (dk + 1) adK adV i ra sz M D cA ad A (R_chainB N M 6 sz f) := by
  intro ks z z' o hO hra hM0 h
  refine pp_of (by decide) rfl (Nat.le_of_ble_eq_true rfl) had hO hra hM0 (fun p e s m below meth c R args ls K hr hlk htab J hl => ?_)
  have hx := K.1.1
  have hb := K.1.2.1
  have hown := K.1.2.2.2.1
  have hts := K.1.2.2.2.2.1
  have hl : lv_has ls 3 [(0, .ref ra)] := hl
  have hstr : vk_R RX16 81 "*/%" (adK 6) s := K.2.1.2.1 6 (by decide)
  have L5 : ∀ (n : Nat) (z1 : PS) (t : Nat) (ks1 : List Nat) (H : Heap) (locs : List Loc) (ls : Array Slot), (∀ x ∈ ks, x ∈ ks1) → live ks1 ad t → rI D cA ad A adK i ra sz s.heap M z.2.1 ks ks1 z1 H locs → lv_has ls 3 [(1, .ref t), (0, .ref ra)] → R_loopB M 6 sz f n z1 t = some (o, z') → W p l e R s m args below meth c H locs (z1.2.1 - z.2.1) (7 * (z1.2.1 - z.2.1)) (xMQ below (pQ adK i ra sz M D cA ks ad A (o.map some) z z') args s) (F0 m 5 ls []) := by
    intro n
    induction n with
    | zero => intro z1 t ks1 H locs ls _ _ _ _ h; exact non_some h
    | succ n ih =>
      intro z1 t ks1 H locs ls hs1 hlt J hl h
      rw [R_loopB] at h
      obtain ⟨v, hv, h⟩ := bd1_some h
      refine lv_aload_n hx hb dX16_product_5 rfl (lv_at hl 1 rfl) ?_
      refine va_ldcS hx hb hown hstr dX16_product_6 ?_
      refine k_R_isOne (by decide) K J hv (by omega) hl.1 (Nat.le_of_ble_eq_true rfl) dX16_product_8 ?_
      refine lv_if_eq (tgt := 46) hx hb dX16_product_11 rfl (fun c1 => ?_) (fun c1 => ?_)
      · have h := if_some_t h c1
        cases h
        refine lv_aload_n hx hb dX16_product_46 rfl (lv_at hl 0 rfl) ?_
        exact pp_aret hx hb hr hlk rfl J hlt dX16_product_47
      · have h := if_some_f h c1
        obtain ⟨sg, hsg, h⟩ := bd1_some h
        obtain ⟨o2, z2, ht, h⟩ := bd2_some h
        refine lv_aload_n hx hb dX16_product_14 rfl (lv_at hl 1 rfl) ?_
        refine k_R_look (st0 := []) K J hsg (by omega) hl.1 (Nat.le_of_ble_eq_true rfl) dX16_product_15 ?_
        refine lv_istore_n (lv' := [(2, .int sg), (1, .ref t), (0, .ref ra)]) hx hb dX16_product_18 rfl hl (by decide) rfl (fun ls hl => ?_)
        refine lv_aload_n hx hb dX16_product_19 rfl (lv_at hl 2 rfl) ?_
        refine lv_dup hx hb dX16_product_20 rfl ?_
        refine rr_get K J 3 (by decide) rfl q879 rfl dX16_product_21 ?_
        refine lv_iconst (v := 1) hx hb dX16_product_24 (by decide) ?_
        refine lv_iadd hx hb dX16_product_25 ?_
        refine rr_pat K J dX16_product_26 (fun H locs J => ?_)
        have J : rI D cA ad A adK i ra sz s.heap M z.2.1 ks ks1 (zAt z1 1) H locs := J
        obtain ⟨h2lt, ob, zb, hcall, h2⟩ := R_two_some ht
        have hltA := rI.lt K J
        refine rr_new (z := zAt z1 1) (ci := 17) (Cn := RX15) (T := TX15) (N := 3) (ty0 := tyX15) (fs := [.int 0, .null, .null]) K J h2lt rfl in_X15 tyX15_ok q1074 q1075 q104 (fun j hj => by match j, hj with | 0, _ => rfl | 1, _ => rfl | 2, _ => rfl) (fun b h => by simp at h) (by decide) dX16_product_29 (fun H J hnw => ?_)
        have hlt2 := rI.lt K J
        refine lv_dup hx hb dX16_product_32 rfl ?_
        refine lv_iload_n hx hb dX16_product_33 rfl (lv_at hl 0 rfl) ?_
        refine lv_aload_n hx hb dX16_product_34 rfl (lv_at hl 1 rfl) ?_
        refine lv_aload_n hx hb dX16_product_35 rfl (lv_at hl 2 rfl) ?_
        refine pp_callF K J hf hcall (cwV 0 K.1.2.2.2.2.1 (lw_V q916 q918 qs17 q107 q919) rfl rfl rfl (by decide +kernel) (mrA K.1.2.2.2.2.2.1 (by omega) (by decide))) (by decide +kernel) hl.1 (Nat.le_of_ble_eq_true rfl) dX16_product_36 (fun b hob ks2 H locs J hs2 hlb => ?_) (fun hob ks2 H locs J hL => ?_)
        · rcases h2 with ⟨g1, -, -⟩ | ⟨b2, g1, g2, rfl, rfl⟩
          · rw [g1] at hob; cases hob
          · rw [g1] at hob
            cases hob
            rw [onx_some] at h
            refine rr_init (b := (zAt z1 1).2.1) (As := [.int sg, .ref t, .ref b]) (e1 := .inr (17, [.int sg, .ref t, .ref b])) K J (by omega) (w_TwoI J.1 ⟨hs2 _ hnw.1, hnw.2⟩ ⟨_, rfl, (wS_ne (by omega)).trans g2, fun b h => by simp at h⟩ ⟨hs2 _ (List.mem_append_left _ hlt.1), hlt.2⟩ hlb) (cwI 3 K.1.2.2.2.2.1 (lw_meth q1078) rfl rfl rfl (hts _ q104) (hts _ q1076) (hts _ q1077) rfl (by decide +kernel) (mr_ K.1.2.2.2.2.2.1 (by omega) (by decide))) rfl hl.1 rfl (Nat.le_of_ble_eq_true rfl) dX16_product_39 (fun H locs J => ?_)
            refine lv_astore_n (lv' := [(1, .ref (zAt z1 1).2.1), (2, .int sg), (0, .ref ra)]) hx hb dX16_product_42 rfl hl (by decide) rfl (fun ls hl => ?_)
            refine lv_goto (tgt := 5) hx hb dX16_product_43 rfl ?_
            exact ih (zPut zb (zAt z1 1).2.1 (.inr (17, [.int sg, .ref t, .ref b]))) (zAt z1 1).2.1 ks2 H locs ls (fun x hx => J.2.2.2.2.2.2.2 x hx) ⟨hs2 _ hnw.1, hnw.2⟩ J (lv_sub hl [0, 2] rfl) h
        · rcases h2 with ⟨g1, rfl, rfl⟩ | ⟨b2, g1, -, -, -⟩
          · rw [onx_none] at h
            cases h
            exact pp_out rfl rfl htab hlk J hL
          · rw [g1] at hob; cases hob
  unfold R_chainB at h
  obtain ⟨o1, z1, hc1, h⟩ := bd2_some h
  refine lv_aload_n hx hb dX16_product_0 rfl (lv_at hl 0 rfl) ?_
  refine pp_callF K J hf hc1 (cwV 0 K.1.2.2.2.2.1 (lw_V q916 q918 qs17 q107 q919) rfl rfl rfl (by decide +kernel) (mrA K.1.2.2.2.2.2.1 (by omega) (by decide))) (by decide +kernel) hl.1 (Nat.le_of_ble_eq_true rfl) dX16_product_1 (fun t ho ks2 H locs J hs2 hlt => ?_) (fun ho ks2 H locs J hL => ?_)
  · subst ho
    rw [onx_some] at h
    refine lv_astore_n (lv' := [(1, .ref t), (0, .ref ra)]) hx hb dX16_product_4 rfl hl (by decide) rfl (fun ls hl => ?_)
    exact L5 N z1 t ks2 H locs ls hs2 hlt J hl h
  · subst ho
    rw [onx_none] at h
    cases h
    exact pp_out rfl rfl htab hlk J hL
theorem q908 : (Jvm.Cond.methodLink "ChapterLoan$Reader" (68 : Nat) ({ cls := "ChapterLoan$Reader", name := "sum", desc := "()LChapterLoan$Term;" } : Jvm.MethodName)) ∈ lw_all := lw_g (lw_at lw_m4 104 rfl) rfl
theorem q910 : (Jvm.Cond.instanceMethod ({ cls := "ChapterLoan$Reader", name := "sum", desc := "()LChapterLoan$Term;" } : Jvm.MethodName)) ∈ lw_all := lw_g (lw_at lw_m4 106 rfl) rfl
theorem q911 : (Jvm.Cond.code ({ cls := "ChapterLoan$Reader", name := "sum", desc := "()LChapterLoan$Term;" } : Jvm.MethodName) prog_14_method_9_code (3 : Nat) (Option.some (Jvm.ClassFile.FieldType.object "ChapterLoan$Term"))) ∈ lw_all := lw_g (lw_at lw_m4 107 rfl) rfl
theorem w_R_relation {l : Launch} {D : va_G} {cA : Nat → ClassId} {ad : Nat → Nat} {A : Nat → Prop} {adK adV : Nat → Nat} {i ra M : Nat} {sz : Int32} (had : adP ad) {f : PS → Option (Option Nat × PS)} {dk : Nat} (hf : pF l yX16_sum cX16_sum 3 dk adK adV i ra sz M D cA ad A f) (hdk : 12 ≤ dk) : pF l yX16_relation cX16_relation 3 (dk + 1) adK adV i ra sz M D cA ad A (R_relation M sz f) := by
  intro ks z z' o hO hra hM0 h
  refine pp_of (by decide) rfl (Nat.le_of_ble_eq_true rfl) had hO hra hM0 (fun p e s m below meth c R args ls K hr hlk htab J hl => ?_)
  have hx := K.1.1
  have hb := K.1.2.1
  have hown := K.1.2.2.2.1
  have hts := K.1.2.2.2.2.1
  have hl : lv_has ls 3 [(0, .ref ra)] := hl
  have hstr : vk_R RX16 71 "<=>" (adK 4) s := K.2.1.2.1 4 (by decide)
  unfold R_relation at h
  obtain ⟨o1, z1, hc1, h⟩ := bd2_some h
  refine lv_aload_n hx hb dX16_relation_0 rfl (lv_at hl 0 rfl) ?_
  refine pp_callF K J hf hc1 (cwV 0 K.1.2.2.2.2.1 (lw_V q908 q910 qs15 q107 q911) rfl rfl rfl (by decide +kernel) (mrA K.1.2.2.2.2.2.1 (by omega) (by decide))) (by decide +kernel) hl.1 (Nat.le_of_ble_eq_true rfl) dX16_relation_1 (fun t ho ks1 H locs J hs1 hlt => ?_) (fun ho ks2 H locs J hL => ?_)
  · subst ho
    rw [onx_some] at h
    obtain ⟨v, hv, h⟩ := bd1_some h
    refine lv_astore_n (lv' := [(1, .ref t), (0, .ref ra)]) hx hb dX16_relation_4 rfl hl (by decide) rfl (fun ls hl => ?_)
    refine lv_aload_n hx hb dX16_relation_5 rfl (lv_at hl 1 rfl) ?_
    refine va_ldcS hx hb hown hstr dX16_relation_6 ?_
    refine k_R_isOne (by decide) K J hv (by omega) hl.1 (Nat.le_of_ble_eq_true rfl) dX16_relation_8 ?_
    refine lv_if_ne (tgt := 16) hx hb dX16_relation_11 rfl (fun c1 => ?_) (fun c1 => ?_)
    · have h := if_some_f h c1
      obtain ⟨sg, hsg, ht⟩ := bd1_some h
      refine lv_aload_n hx hb dX16_relation_16 rfl (lv_at hl 1 rfl) ?_
      refine k_R_look (st0 := []) K J hsg (by omega) hl.1 (Nat.le_of_ble_eq_true rfl) dX16_relation_17 ?_
      refine lv_istore_n (lv' := [(2, .int sg), (1, .ref t), (0, .ref ra)]) hx hb dX16_relation_20 rfl hl (by decide) rfl (fun ls hl => ?_)
      refine lv_aload_n hx hb dX16_relation_21 rfl (lv_at hl 2 rfl) ?_
      refine lv_dup hx hb dX16_relation_22 rfl ?_
      refine rr_get K J 3 (by decide) rfl q879 rfl dX16_relation_23 ?_
      refine lv_iconst (v := 1) hx hb dX16_relation_26 (by decide) ?_
      refine lv_iadd hx hb dX16_relation_27 ?_
      refine rr_pat K J dX16_relation_28 (fun H locs J => ?_)
      have J : rI D cA ad A adK i ra sz s.heap M z.2.1 ks ks1 (zAt z1 1) H locs := J
      obtain ⟨h2lt, ob, zb, hcall, h2⟩ := R_two_some ht
      have hltA := rI.lt K J
      refine rr_new (z := zAt z1 1) (ci := 17) (Cn := RX15) (T := TX15) (N := 3) (ty0 := tyX15) (fs := [.int 0, .null, .null]) K J h2lt rfl in_X15 tyX15_ok q1074 q1075 q104 (fun j hj => by match j, hj with | 0, _ => rfl | 1, _ => rfl | 2, _ => rfl) (fun b h => by simp at h) (by decide) dX16_relation_31 (fun H J hnw => ?_)
      have hlt2 := rI.lt K J
      refine lv_dup hx hb dX16_relation_34 rfl ?_
      refine lv_iload_n hx hb dX16_relation_35 rfl (lv_at hl 0 rfl) ?_
      refine lv_aload_n hx hb dX16_relation_36 rfl (lv_at hl 1 rfl) ?_
      refine lv_aload_n hx hb dX16_relation_37 rfl (lv_at hl 2 rfl) ?_
      refine pp_callF K J hf hcall (cwV 0 K.1.2.2.2.2.1 (lw_V q908 q910 qs15 q107 q911) rfl rfl rfl (by decide +kernel) (mrA K.1.2.2.2.2.2.1 (by omega) (by decide))) (by decide +kernel) hl.1 (Nat.le_of_ble_eq_true rfl) dX16_relation_38 (fun b hob ks2 H locs J hs2 hlb => ?_) (fun hob ks2 H locs J hL => ?_)
      · rcases h2 with ⟨g1, -, -⟩ | ⟨b2, g1, g2, rfl, rfl⟩
        · rw [g1] at hob; cases hob
        · rw [g1] at hob
          cases hob
          refine rr_init (b := (zAt z1 1).2.1) (As := [.int sg, .ref t, .ref b]) (e1 := .inr (17, [.int sg, .ref t, .ref b])) K J (by omega) (w_TwoI J.1 ⟨hs2 _ hnw.1, hnw.2⟩ ⟨_, rfl, (wS_ne (by omega)).trans g2, fun b h => by simp at h⟩ ⟨hs2 _ (List.mem_append_left _ hlt.1), hlt.2⟩ hlb) (cwI 3 K.1.2.2.2.2.1 (lw_meth q1078) rfl rfl rfl (hts _ q104) (hts _ q1076) (hts _ q1077) rfl (by decide +kernel) (mr_ K.1.2.2.2.2.2.1 (by omega) (by decide))) rfl hl.1 rfl (Nat.le_of_ble_eq_true rfl) dX16_relation_41 (fun H locs J => ?_)
          exact pp_aret (z' := zPut zb (zAt z1 1).2.1 (.inr (17, [.int sg, .ref t, .ref b]))) hx hb hr hlk rfl J ⟨hs2 _ hnw.1, hnw.2⟩ dX16_relation_44
      · rcases h2 with ⟨g1, rfl, rfl⟩ | ⟨b2, g1, -, -, -⟩
        · exact pp_out rfl rfl htab hlk J hL
        · rw [g1] at hob; cases hob
    · have c1 : v = 0 := by first | exact c1 | exact Classical.not_not.mp c1
      have h := if_some_t h c1
      cases h
      refine lv_aload_n hx hb dX16_relation_14 rfl (lv_at hl 0 rfl) ?_
      exact pp_aret hx hb hr hlk rfl J hlt dX16_relation_15
  · subst ho
    rw [onx_none] at h
    cases h
    exact pp_out rfl rfl htab hlk J hL
theorem q1063 : (Jvm.Cond.classLink "ChapterLoan$Reader" (105 : Nat) "ChapterLoan$Figure") ∈ lw_all := lw_g (lw_at lw_m5 19 rfl) rfl
theorem q1064 : (Jvm.Cond.instantiable "ChapterLoan$Figure" (1 : Nat)) ∈ lw_all := lw_g (lw_at lw_m5 20 rfl) rfl
theorem q1051 : (Jvm.Cond.classLink "ChapterLoan$Reader" (94 : Nat) "ChapterLoan$Turned") ∈ lw_all := lw_g (lw_at lw_m5 7 rfl) rfl
theorem q1052 : (Jvm.Cond.instantiable "ChapterLoan$Turned" (1 : Nat)) ∈ lw_all := lw_g (lw_at lw_m5 8 rfl) rfl
theorem q1010 : (Jvm.Cond.classLink "ChapterLoan$Reader" (86 : Nat) "ChapterLoan$Named") ∈ lw_all := lw_g (lw_at lw_m4 206 rfl) rfl
theorem q1011 : (Jvm.Cond.instantiable "ChapterLoan$Named" (1 : Nat)) ∈ lw_all := lw_g (lw_at lw_m4 207 rfl) rfl
theorem q1065 : (Jvm.Cond.methodLink "ChapterLoan$Reader" (107 : Nat) ({ cls := "ChapterLoan$Figure", name := "<init>", desc := "(I)V" } : Jvm.MethodName)) ∈ lw_all := lw_g (lw_at lw_m5 21 rfl) rfl
theorem q1066 : (Jvm.Cond.instanceMethod ({ cls := "ChapterLoan$Figure", name := "<init>", desc := "(I)V" } : Jvm.MethodName)) ∈ lw_all := lw_g (lw_at lw_m5 22 rfl) rfl
theorem q1067 : (Jvm.Cond.code ({ cls := "ChapterLoan$Figure", name := "<init>", desc := "(I)V" } : Jvm.MethodName) prog_7_method_1_code (2 : Nat) (Option.none : Option Jvm.ClassFile.FieldType)) ∈ lw_all := lw_g (lw_at lw_m5 23 rfl) rfl
theorem q1053 : (Jvm.Cond.methodLink "ChapterLoan$Reader" (96 : Nat) ({ cls := "ChapterLoan$Turned", name := "<init>", desc := "(LChapterLoan$Term;)V" } : Jvm.MethodName)) ∈ lw_all := lw_g (lw_at lw_m5 9 rfl) rfl
theorem q1054 : (Jvm.Cond.instanceMethod ({ cls := "ChapterLoan$Turned", name := "<init>", desc := "(LChapterLoan$Term;)V" } : Jvm.MethodName)) ∈ lw_all := lw_g (lw_at lw_m5 10 rfl) rfl
theorem q1055 : (Jvm.Cond.code ({ cls := "ChapterLoan$Turned", name := "<init>", desc := "(LChapterLoan$Term;)V" } : Jvm.MethodName) prog_25_method_1_code (2 : Nat) (Option.none : Option Jvm.ClassFile.FieldType)) ∈ lw_all := lw_g (lw_at lw_m5 11 rfl) rfl
theorem q1012 : (Jvm.Cond.methodLink "ChapterLoan$Reader" (88 : Nat) ({ cls := "ChapterLoan$Named", name := "<init>", desc := "(I)V" } : Jvm.MethodName)) ∈ lw_all := lw_g (lw_at lw_m4 208 rfl) rfl
theorem q1013 : (Jvm.Cond.instanceMethod ({ cls := "ChapterLoan$Named", name := "<init>", desc := "(I)V" } : Jvm.MethodName)) ∈ lw_all := lw_g (lw_at lw_m4 209 rfl) rfl
theorem q1014 : (Jvm.Cond.code ({ cls := "ChapterLoan$Named", name := "<init>", desc := "(I)V" } : Jvm.MethodName) prog_11_method_1_code (2 : Nat) (Option.none : Option Jvm.ClassFile.FieldType)) ∈ lw_all := lw_g (lw_at lw_m4 210 rfl) rfl
theorem q896 : (Jvm.Cond.methodLink "ChapterLoan$Reader" (23 : Nat) ({ cls := "ChapterLoan$Reader", name := "either", desc := "()LChapterLoan$Term;" } : Jvm.MethodName)) ∈ lw_all := lw_g (lw_at lw_m4 92 rfl) rfl
theorem q898 : (Jvm.Cond.instanceMethod ({ cls := "ChapterLoan$Reader", name := "either", desc := "()LChapterLoan$Term;" } : Jvm.MethodName)) ∈ lw_all := lw_g (lw_at lw_m4 94 rfl) rfl
theorem q899 : (Jvm.Cond.code ({ cls := "ChapterLoan$Reader", name := "either", desc := "()LChapterLoan$Term;" } : Jvm.MethodName) prog_14_method_6_code (2 : Nat) (Option.some (Jvm.ClassFile.FieldType.object "ChapterLoan$Term"))) ∈ lw_all := lw_g (lw_at lw_m4 95 rfl) rfl
theorem w_R_single {l : Launch} {D : va_G} {cA : Nat → ClassId} {ad : Nat → Nat} {A : Nat → Prop} {adK adV : Nat → Nat} {i ra M : Nat} {sz : Int32} (had : adP ad) (hi : i < 9) {fe fs : PS → Option (Option Nat × PS)} {dk : Nat} (hfe : pF l yX16_either cX16_either 2 dk adK adV i ra sz M D cA ad A fe) (hfs : pF l yX16_single cX16_single 3 dk adK adV i ra sz M D cA ad A fs) (hdk : 12 ≤ dk) {N : Nat} : pF l yX16_single cX16_single 3 (dk + 1) adK adV i ra sz M D cA ad A (R_single N M i sz fe fs) := by
  intro ks z z' o hO hra hM0 h
  refine pp_of (by decide) rfl (Nat.le_of_ble_eq_true rfl) had hO hra hM0 (fun p e s m below meth c R args ls K hr hlk htab J hl => ?_)
  have hx := K.1.1
  have hb := K.1.2.1
  have hown := K.1.2.2.2.1
  have hts := K.1.2.2.2.2.1
  have hl : lv_has ls 3 [(0, .ref ra)] := hl
  have hst7 : vk_R RX16 89 "!" (adK 7) s := K.2.1.2.1 7 (by decide)
  have hst8 : vk_R RX16 99 "(" (adK 8) s := K.2.1.2.1 8 (by decide)
  have hcsI : ∀ {ks1 : List Nat} {z1 : PS} {H : Heap} {locs : List Loc}, rI D cA ad A adK i ra sz s.heap M z.2.1 ks ks1 z1 H locs → (z1.2.1 - z.2.1 ≤ R.cells ∧ 7 * (z1.2.1 - z.2.1) ≤ R.slots) := by
    intro ks1 z1 H locs J
    have hc := K.2.2.2.2
    have h1 := J.2.2.2.2.2.2.1
    exact ⟨by omega, by omega⟩
  have LD : ∀ (n : Nat) (z1 z2 : PS) (v k v2 : Int32) (ks1 : List Nat) (H : Heap) (locs : List Loc) (ls : Array Slot), rI D cA ad A adK i ra sz s.heap M z.2.1 ks ks1 z1 H locs → lv_has ls 3 [(2, .int k), (1, .int v), (0, .ref ra)] → R_digits sz n z1 v k = some (z2, v2) → (∀ (H : Heap) (locs : List Loc) (ls : Array Slot), rI D cA ad A adK i ra sz s.heap M z.2.1 ks ks1 z2 H locs → lv_has ls 3 [(1, .int v2), (0, .ref ra)] → W p l e R s m args below meth c H locs (z2.2.1 - z.2.1) (7 * (z2.2.1 - z.2.1)) (xMQ below (pQ adK i ra sz M D cA ks ad A (o.map some) z z') args s) (F0 m 202 ls [])) → W p l e R s m args below meth c H locs (z1.2.1 - z.2.1) (7 * (z1.2.1 - z.2.1)) (xMQ below (pQ adK i ra sz M D cA ks ad A (o.map some) z z') args s) (F0 m 154 ls []) := by
    intro n
    induction n with
    | zero => intro z1 z2 v k v2 ks1 H locs ls _ _ h; exact non_some h
    | succ n ih =>
      intro z1 z2 v k v2 ks1 H locs ls J hl h kx
      rw [R_digits] at h
      refine lv_iload_n hx hb dX16_single_154 rfl (lv_at hl 0 rfl) ?_
      refine lv_iconst (v := 4) hx hb dX16_single_155 (by decide) ?_
      refine lv_icmp_ge (tgt := 202) hx hb dX16_single_156 rfl (fun c1 => ?_) (fun c1 => ?_)
      · have h := if_some_t h c1
        cases h
        exact kx H locs ls J (lv_sub hl [1, 2] rfl)
      · have h := if_some_f h c1
        obtain ⟨cc1, hcc1, h⟩ := bd1_some h
        obtain ⟨bb, hbb, h⟩ := bd1_some h
        refine lv_aload_n hx hb dX16_single_159 rfl (lv_at hl 2 rfl) ?_
        refine k_R_look (st0 := []) K J hcc1 (by omega) hl.1 (Nat.le_of_ble_eq_true rfl) dX16_single_160 ?_
        refine lv_bipush (v := 48) hx hb dX16_single_163 (by decide) ?_
        refine lv_bipush (v := 57) hx hb dX16_single_165 (by decide) ?_
        refine k_L_inN hx hb K.1.2.2.1 hown hts K.1.2.2.2.2.2.1 K.1.2.2.2.2.2.2.2.1 (List.mem_of_getElem? (i := 49) rfl) hbb (by omega) hl.1 (Nat.le_of_ble_eq_true rfl) (hcsI J) dX16_single_167 ?_
        refine lv_if_eq (tgt := 202) hx hb dX16_single_170 rfl (fun c2 => ?_) (fun c2 => ?_)
        · have h := if_some_t h c2
          cases h
          exact kx H locs ls J (lv_sub hl [1, 2] rfl)
        · have h := if_some_f h c2
          obtain ⟨cc2, hcc2, h⟩ := bd1_some h
          refine lv_bipush (v := 10) hx hb dX16_single_173 (by decide) ?_
          refine lv_iload_n hx hb dX16_single_175 rfl (lv_at hl 1 rfl) ?_
          refine lv_imul hx hb dX16_single_176 ?_
          refine lv_aload_n hx hb dX16_single_177 rfl (lv_at hl 2 rfl) ?_
          refine k_R_look (st0 := []) K J hcc2 (by omega) hl.1 (Nat.le_of_ble_eq_true rfl) dX16_single_178 ?_
          refine lv_iadd hx hb dX16_single_181 ?_
          refine lv_bipush (v := 48) hx hb dX16_single_182 (by decide) ?_
          refine lv_isub hx hb dX16_single_184 ?_
          refine lv_istore_n (lv' := [(1, .int (((10 * v) + cc2) - 48)), (2, .int k), (0, .ref ra)]) hx hb dX16_single_185 rfl hl (by decide) rfl (fun ls hl => ?_)
          refine lv_aload_n hx hb dX16_single_186 rfl (lv_at hl 2 rfl) ?_
          refine lv_dup hx hb dX16_single_187 rfl ?_
          refine rr_get K J 3 (by decide) rfl q879 rfl dX16_single_188 ?_
          refine lv_iconst (v := 1) hx hb dX16_single_191 (by decide) ?_
          refine lv_iadd hx hb dX16_single_192 ?_
          refine rr_pat K J dX16_single_193 (fun H locs J => ?_)
          refine lv_iinc (v := k + 1) (lv' := [(2, .int (k + 1)), (1, .int (((10 * v) + cc2) - 48)), (0, .ref ra)]) hx hb dX16_single_196 hl (k := 1) rfl rfl (by decide) rfl (fun ls hl => ?_)
          refine lv_goto (tgt := 154) hx hb dX16_single_199 rfl ?_
          exact ih (zAt z1 1) z2 _ _ _ ks1 H locs ls J hl h kx
  unfold R_single at h
  obtain ⟨v1, hv1, h⟩ := bd1_some h
  refine lv_aload_n hx hb dX16_single_0 rfl (lv_at hl 0 rfl) ?_
  refine lv_aload_n hx hb dX16_single_1 rfl (lv_at hl 0 rfl) ?_
  refine rr_get K J 0 (by decide) rfl q876 rfl dX16_single_2 ?_
  refine k_R_isOne hi K J hv1 (by omega) hl.1 (Nat.le_of_ble_eq_true rfl) dX16_single_5 ?_
  refine lv_if_eq (tgt := 40) hx hb dX16_single_8 rfl (fun c1 => ?_) (fun c1 => ?_)
  · have h := if_some_t h c1
    obtain ⟨v2, hv2, h⟩ := bd1_some h
    refine lv_aload_n hx hb dX16_single_40 rfl (lv_at hl 0 rfl) ?_
    refine va_ldcS hx hb hown hst7 dX16_single_41 ?_
    refine k_R_isOne (by decide) K J hv2 (by omega) hl.1 (Nat.le_of_ble_eq_true rfl) dX16_single_43 ?_
    refine lv_if_eq (tgt := 77) hx hb dX16_single_46 rfl (fun c2 => ?_) (fun c2 => ?_)
    · have h := if_some_t h c2
      obtain ⟨v3, hv3, h⟩ := bd1_some h
      refine lv_aload_n hx hb dX16_single_77 rfl (lv_at hl 0 rfl) ?_
      refine va_ldcS hx hb hown hst8 dX16_single_78 ?_
      refine k_R_isOne (by decide) K J hv3 (by omega) hl.1 (Nat.le_of_ble_eq_true rfl) dX16_single_80 ?_
      refine lv_if_eq (tgt := 135) hx hb dX16_single_83 rfl (fun c3 => ?_) (fun c3 => ?_)
      · have h := if_some_t h c3
        obtain ⟨cc1, hcc1, h⟩ := bd1_some h
        obtain ⟨bb, hbb, h⟩ := bd1_some h
        obtain ⟨o1, z1, hf, h⟩ := bd2_some h
        refine lv_aload_n hx hb dX16_single_135 rfl (lv_at hl 0 rfl) ?_
        refine lv_aload_n hx hb dX16_single_136 rfl (lv_at hl 0 rfl) ?_
        refine k_R_look (st0 := []) K J hcc1 (by omega) hl.1 (Nat.le_of_ble_eq_true rfl) dX16_single_137 ?_
        refine lv_bipush (v := 48) hx hb dX16_single_140 (by decide) ?_
        refine lv_bipush (v := 57) hx hb dX16_single_142 (by decide) ?_
        refine k_L_inN hx hb K.1.2.2.1 hown hts K.1.2.2.2.2.2.1 K.1.2.2.2.2.2.2.2.1 (List.mem_of_getElem? (i := 49) rfl) hbb (by omega) hl.1 (Nat.le_of_ble_eq_true rfl) (hcsI J) dX16_single_144 ?_
        refine k_R_fault K J hf (by omega) hl.1 (Nat.le_of_ble_eq_true rfl) dX16_single_147 (fun ho ks1 H locs J hs1 => ?_) (fun ho ks1 H locs J hL => ?_)
        · subst ho
          rw [onx_some] at h
          obtain ⟨z2, v, hdd, h⟩ := bd2_some h
          refine lv_iconst (v := 0) hx hb dX16_single_150 (by decide) ?_
          refine lv_istore_n (lv' := [(1, .int 0), (0, .ref ra)]) hx hb dX16_single_151 rfl hl (by decide) rfl (fun ls hl => ?_)
          refine lv_iconst (v := 0) hx hb dX16_single_152 (by decide) ?_
          refine lv_istore_n (lv' := [(2, .int 0), (1, .int 0), (0, .ref ra)]) hx hb dX16_single_153 rfl hl (by decide) rfl (fun ls hl => ?_)
          refine LD N z1 z2 0 0 v ks1 H locs ls J hl hdd (fun H locs ls J hl => ?_)
          by_cases hlM : z2.2.1 < M
          · have h := if_some_t h hlM
            cases h
            have hlt2 := rI.lt K J
            refine rr_new (ci := 14) (Cn := RX20) (T := TX20) (N := 1) (ty0 := tyX20) (fs := [.int 0]) K J hlM rfl in_X20 tyX20_ok q1063 q1064 q116 (fun j hj => by match j, hj with | 0, _ => rfl) (fun b h => by simp at h) (by decide) dX16_single_202 (fun H J hnw => ?_)
            refine lv_dup hx hb dX16_single_205 rfl ?_
            refine lv_iload_n hx hb dX16_single_206 rfl (lv_at hl 0 rfl) ?_
            refine rr_init (b := z2.2.1) (As := [.int v]) (e1 := .inr (14, [.int v])) K J (by omega) (w_FigureI J.1 hnw ⟨_, rfl, (wS_ne (by omega)).trans csP_at, fun b h => by simp at h⟩) (cwI 1 K.1.2.2.2.2.1 (lw_meth q1067) rfl rfl rfl (hts _ q116) (hts _ q1065) (hts _ q1066) rfl (by decide +kernel) (mr_ K.1.2.2.2.2.2.1 (by omega) (by decide))) rfl hl.1 rfl (Nat.le_of_ble_eq_true rfl) dX16_single_207 (fun H locs J => ?_)
            rw [zPut_new] at J
            exact pp_aret (z' := zNew z2 (.inr (14, [.int v]))) hx hb hr hlk rfl J hnw dX16_single_210
          · exact non_some (if_some_f h hlM)
        · subst ho
          rw [onx_none] at h
          cases h
          exact pp_out rfl rfl htab hlk J hL
      · have h := if_some_f h c3
        obtain ⟨o1, z1, hf, h⟩ := bd2_some h
        refine lv_aload_n hx hb dX16_single_86 rfl (lv_at hl 0 rfl) ?_
        refine k_R_opens K J hf (by omega) hl.1 (Nat.le_of_ble_eq_true rfl) dX16_single_87 (fun ho ks1 H locs J hs1 => ?_) (fun ho ks1 H locs J hL => ?_)
        · subst ho
          rw [onx_some] at h
          obtain ⟨o2, z2, hf2, h⟩ := bd2_some h
          refine lv_aload_n hx hb dX16_single_90 rfl (lv_at hl 0 rfl) ?_
          refine pp_callF K J hfe hf2 (cwV 0 K.1.2.2.2.2.1 (lw_V q896 q898 qs12 q107 q899) rfl rfl rfl (by decide +kernel) (mrA K.1.2.2.2.2.2.1 (by omega) (by decide))) (by decide +kernel) hl.1 (Nat.le_of_ble_eq_true rfl) dX16_single_91 (fun t ho ks2 H locs J hs2 hlt => ?_) (fun ho ks2 H locs J hL => ?_)
          · subst ho
            rw [onx_some] at h
            obtain ⟨cc2, hcc2, h⟩ := bd1_some h
            obtain ⟨o3, z3, hf3, h⟩ := bd2_some h
            refine lv_astore_n (lv' := [(1, .ref t), (0, .ref ra)]) hx hb dX16_single_94 rfl hl (by decide) rfl (fun ls hl => ?_)
            refine lv_aload_n hx hb dX16_single_95 rfl (lv_at hl 1 rfl) ?_
            refine lv_aload_n hx hb dX16_single_96 rfl (lv_at hl 1 rfl) ?_
            refine k_R_look (st0 := []) K J hcc2 (by omega) hl.1 (Nat.le_of_ble_eq_true rfl) dX16_single_97 ?_
            refine lv_bipush (v := 41) hx hb dX16_single_100 (by decide) ?_
            have key : W p l e R s m args below meth c H locs (z2.2.1 - z.2.1) (7 * (z2.2.1 - z.2.1)) (xMQ below (pQ adK i ra sz M D cA ks ad A (o.map some) z z') args s) (F0 m 110 ls [.int (if cc2 = 41 then 1 else 0), .ref ra]) := by
              refine k_R_fault K J hf3 (by omega) hl.1 (Nat.le_of_ble_eq_true rfl) dX16_single_110 (fun ho ks3 H locs J hs3 => ?_) (fun ho ks3 H locs J hL => ?_)
              · subst ho
                rw [onx_some] at h
                cases h
                refine lv_aload_n hx hb dX16_single_113 rfl (lv_at hl 1 rfl) ?_
                refine lv_dup hx hb dX16_single_114 rfl ?_
                refine rr_get K J 3 (by decide) rfl q879 rfl dX16_single_115 ?_
                refine lv_iconst (v := 1) hx hb dX16_single_118 (by decide) ?_
                refine lv_iadd hx hb dX16_single_119 ?_
                refine rr_pat K J dX16_single_120 (fun H locs J => ?_)
                refine lv_aload_n hx hb dX16_single_123 rfl (lv_at hl 1 rfl) ?_
                refine lv_dup hx hb dX16_single_124 rfl ?_
                refine rr_get K J 4 (by decide) rfl q880 rfl dX16_single_125 ?_
                refine lv_iconst (v := 1) hx hb dX16_single_128 (by decide) ?_
                refine lv_isub hx hb dX16_single_129 ?_
                refine rr_pop (z := zAt z3 1) K J dX16_single_130 (fun H locs J => ?_)
                refine lv_aload_n hx hb dX16_single_133 rfl (lv_at hl 0 rfl) ?_
                exact pp_aret (z' := zOp (zAt z3 1) (z3.2.2.2 - 1)) hx hb hr hlk rfl J ⟨hs3 _ hlt.1, hlt.2⟩ dX16_single_134
              · subst ho
                rw [onx_none] at h
                cases h
                exact pp_out rfl rfl htab hlk J hL
            refine lv_icmp_ne (tgt := 109) hx hb dX16_single_102 rfl (fun c4 => ?_) (fun c4 => ?_)
            · refine lv_iconst (v := 0) hx hb dX16_single_109 (by decide) ?_
              rw [if_neg c4] at key
              exact key
            · have c4 : cc2 = 41 := by first | exact c4 | exact Classical.not_not.mp c4
              refine lv_iconst (v := 1) hx hb dX16_single_105 (by decide) ?_
              refine lv_goto (tgt := 110) hx hb dX16_single_106 rfl ?_
              rw [if_pos c4] at key
              exact key
          · subst ho
            rw [onx_none] at h
            cases h
            exact pp_out rfl rfl htab hlk J hL
        · subst ho
          rw [onx_none] at h
          cases h
          exact pp_out rfl rfl htab hlk J hL
    · have h := if_some_f h c2
      obtain ⟨o1, z1, hf, h⟩ := bd2_some h
      refine lv_aload_n hx hb dX16_single_49 rfl (lv_at hl 0 rfl) ?_
      refine k_R_opens K J hf (by omega) hl.1 (Nat.le_of_ble_eq_true rfl) dX16_single_50 (fun ho ks1 H locs J hs1 => ?_) (fun ho ks1 H locs J hL => ?_)
      · subst ho
        rw [onx_some] at h
        obtain ⟨o2, z2, hf2, h⟩ := bd2_some h
        refine lv_aload_n hx hb dX16_single_53 rfl (lv_at hl 0 rfl) ?_
        refine pp_callF K J hfs hf2 (cwV 0 K.1.2.2.2.2.1 (lw_V q916 q918 qs17 q107 q919) rfl rfl rfl (by decide +kernel) (mrA K.1.2.2.2.2.2.1 (by omega) (by decide))) (by decide +kernel) hl.1 (Nat.le_of_ble_eq_true rfl) dX16_single_54 (fun t ho ks2 H locs J hs2 hlt => ?_) (fun ho ks2 H locs J hL => ?_)
        · subst ho
          rw [onx_some] at h
          by_cases hlM : z2.2.1 < M
          · have h := if_some_t h hlM
            cases h
            refine lv_astore_n (lv' := [(1, .ref t), (0, .ref ra)]) hx hb dX16_single_57 rfl hl (by decide) rfl (fun ls hl => ?_)
            refine lv_aload_n hx hb dX16_single_58 rfl (lv_at hl 1 rfl) ?_
            refine lv_dup hx hb dX16_single_59 rfl ?_
            refine rr_get K J 4 (by decide) rfl q880 rfl dX16_single_60 ?_
            refine lv_iconst (v := 1) hx hb dX16_single_63 (by decide) ?_
            refine lv_isub hx hb dX16_single_64 ?_
            refine rr_pop K J dX16_single_65 (fun H locs J => ?_)
            have J : rI D cA ad A adK i ra sz s.heap M z.2.1 ks ks2 (zOp z2 (z2.2.2.2 - 1)) H locs := J
            have hlt2 := rI.lt K J
            refine rr_new (z := zOp z2 (z2.2.2.2 - 1)) (ci := 16) (Cn := RX19) (T := TX19) (N := 1) (ty0 := tyX19) (fs := [.null]) K J hlM rfl in_X19 tyX19_ok q1051 q1052 q115 (fun j hj => by match j, hj with | 0, _ => rfl) (fun b h => by simp at h) (by decide) dX16_single_68 (fun H J hnw => ?_)
            refine lv_dup hx hb dX16_single_71 rfl ?_
            refine lv_aload_n hx hb dX16_single_72 rfl (lv_at hl 0 rfl) ?_
            refine rr_init (b := (zOp z2 (z2.2.2.2 - 1)).2.1) (As := [.ref t]) (e1 := .inr (16, [.ref t])) K J (by omega) (w_TurnedI J.1 hnw ⟨_, rfl, (wS_ne (by omega)).trans csP_at, fun b h => by simp at h⟩ (live_app hlt)) (cwI 1 K.1.2.2.2.2.1 (lw_meth q1055) rfl rfl rfl (hts _ q115) (hts _ q1053) (hts _ q1054) rfl (by decide +kernel) (mr_ K.1.2.2.2.2.2.1 (by omega) (by decide))) rfl hl.1 rfl (Nat.le_of_ble_eq_true rfl) dX16_single_73 (fun H locs J => ?_)
            rw [zPut_new (z := zOp z2 (z2.2.2.2 - 1))] at J
            exact pp_aret (z' := zNew (zOp z2 (z2.2.2.2 - 1)) (.inr (16, [.ref t]))) hx hb hr hlk rfl J hnw dX16_single_76
          · exact non_some (if_some_f h hlM)
        · subst ho
          rw [onx_none] at h
          cases h
          exact pp_out rfl rfl htab hlk J hL
      · subst ho
        rw [onx_none] at h
        cases h
        exact pp_out rfl rfl htab hlk J hL
  · have h := if_some_f h c1
    by_cases hlM : z.2.1 < M
    · have h := if_some_t h hlM
      obtain ⟨v, hv, h⟩ := bd1_some h
      cases h
      refine lv_aload_n hx hb dX16_single_11 rfl (lv_at hl 0 rfl) ?_
      refine lv_dup hx hb dX16_single_12 rfl ?_
      refine rr_get K J 3 (by decide) rfl q879 rfl dX16_single_13 ?_
      refine lv_iconst (v := 1) hx hb dX16_single_16 (by decide) ?_
      refine lv_iadd hx hb dX16_single_17 ?_
      refine rr_pat K J dX16_single_18 (fun H locs J => ?_)
      have J : rI D cA ad A adK i ra sz s.heap M z.2.1 ks ks (zAt z 1) H locs := J
      have hlt2 := rI.lt K J
      refine rr_new (z := zAt z 1) (ci := 15) (Cn := RX17) (T := TX17) (N := 1) (ty0 := tyX17) (fs := [.int 0]) K J hlM rfl in_X17 tyX17_ok q1010 q1011 q113 (fun j hj => by match j, hj with | 0, _ => rfl) (fun b h => by simp at h) (by decide) dX16_single_21 (fun H J hnw => ?_)
      refine lv_dup hx hb dX16_single_24 rfl ?_
      refine lv_aload_n hx hb dX16_single_25 rfl (lv_at hl 0 rfl) ?_
      refine rr_get K J 1 (by decide) rfl q877 rfl dX16_single_26 ?_
      refine lv_aload_n hx hb dX16_single_29 rfl (lv_at hl 0 rfl) ?_
      refine rr_get K J 3 (by decide) rfl q879 rfl dX16_single_30 ?_
      refine lv_iconst (v := 1) hx hb dX16_single_33 (by decide) ?_
      refine lv_isub hx hb dX16_single_34 ?_
      refine cc_bld (k := 14) (n := 50) (a := z.1.2.1 14) K.1 J.2.2.1 (J.1.2.2.2 14 (by decide)) rfl hv dX16_single_35 ?_
      refine rr_init (b := (zAt z 1).2.1) (As := [.int v]) (e1 := .inr (15, [.int v])) K J (by omega) (w_NamedI J.1 hnw ⟨_, rfl, (wS_ne (by omega)).trans csP_at, fun b h => by simp at h⟩) (cwI 1 K.1.2.2.2.2.1 (lw_meth q1014) rfl rfl rfl (hts _ q113) (hts _ q1012) (hts _ q1013) rfl (by decide +kernel) (mr_ K.1.2.2.2.2.2.1 (by omega) (by decide))) rfl hl.1 rfl (Nat.le_of_ble_eq_true rfl) dX16_single_36 (fun H locs J => ?_)
      rw [zPut_new (z := zAt z 1)] at J
      exact pp_aret (z' := zNew (zAt z 1) (.inr (15, [.int v]))) hx hb hr hlk rfl J hnw dX16_single_39
    · exact non_some (if_some_f h hlM)
theorem w_R_ex {l : Launch} {D : va_G} {cA : Nat → ClassId} {ad : Nat → Nat} {A : Nat → Prop} {adK adV : Nat → Nat} {i ra M : Nat} {sz : Int32} (had : adP ad) (hi : i < 9) {N : Nat} : ∀ d : Nat, pF l yX16_either cX16_either 2 (d + 12) adK adV i ra sz M D cA ad A (R_ex N M i sz d 0) ∧ pF l yX16_both cX16_both 2 (d + 12) adK adV i ra sz M D cA ad A (R_ex N M i sz d 1) ∧ pF l yX16_relation cX16_relation 3 (d + 12) adK adV i ra sz M D cA ad A (R_ex N M i sz d 2) ∧ pF l yX16_sum cX16_sum 3 (d + 12) adK adV i ra sz M D cA ad A (R_ex N M i sz d 3) ∧ pF l yX16_product cX16_product 3 (d + 12) adK adV i ra sz M D cA ad A (R_ex N M i sz d 4) ∧ pF l yX16_single cX16_single 3 (d + 12) adK adV i ra sz M D cA ad A (R_ex N M i sz d 5) := by
  intro d
  induction d with
  | zero => exact ⟨fun ks z z' o _ _ _ h => non_some h, fun ks z z' o _ _ _ h => non_some h, fun ks z z' o _ _ _ h => non_some h, fun ks z z' o _ _ _ h => non_some h, fun ks z z' o _ _ _ h => non_some h, fun ks z z' o _ _ _ h => non_some h⟩
  | succ d ih =>
    obtain ⟨h0, h1, h2, h3, h4, h5⟩ := ih
    exact ⟨w_R_either had h1 (by omega), w_R_both had h2 (by omega), w_R_relation had h3 (by omega), w_R_sum had h4 (by omega), w_R_product had h5 (by omega), w_R_single had hi h0 h5 (by omega)⟩
theorem w_R_read {l : Launch} {D : va_G} {cA : Nat → ClassId} {ad : Nat → Nat} {A : Nat → Prop} {adK adV : Nat → Nat} {i ra M : Nat} {sz : Int32} (had : adP ad) (hi : i < 9) {N : Nat} : pF l yX16_read cX16_read 2 63 adK adV i ra sz M D cA ad A (R_read N M i sz) := by
  intro ks z z' o hO hra hM0 h
  refine pp_of (by decide) rfl (Nat.le_of_ble_eq_true rfl) had hO hra hM0 (fun p e s m below meth c R args ls K hr hlk htab J hl => ?_)
  have hx := K.1.1
  have hb := K.1.2.1
  have hown := K.1.2.2.2.1
  have hts := K.1.2.2.2.2.1
  have hl : lv_has ls 2 [(0, .ref ra)] := hl
  unfold R_read at h
  obtain ⟨o1, z1, hc1, h⟩ := bd2_some h
  refine lv_aload_n hx hb dX16_read_0 rfl (lv_at hl 0 rfl) ?_
  refine pp_callF K J (w_R_ex had hi 50).1 hc1 (cwV 0 K.1.2.2.2.2.1 (lw_V q896 q898 qs12 q107 q899) rfl rfl rfl (by decide +kernel) (mrA K.1.2.2.2.2.2.1 (by omega) (by decide))) (by decide +kernel) hl.1 (Nat.le_of_ble_eq_true rfl) dX16_read_1 (fun t ho ks1 H locs J hs1 hlt => ?_) (fun ho ks1 H locs J hL => ?_)
  · subst ho
    rw [onx_some] at h
    obtain ⟨o2, z2, hf, h⟩ := bd2_some h
    refine lv_astore_n (lv' := [(1, .ref t), (0, .ref ra)]) hx hb dX16_read_4 rfl hl (by decide) rfl (fun ls hl => ?_)
    refine lv_aload_n hx hb dX16_read_5 rfl (lv_at hl 1 rfl) ?_
    refine lv_aload_n hx hb dX16_read_6 rfl (lv_at hl 1 rfl) ?_
    refine rr_get K J 3 (by decide) rfl q879 rfl dX16_read_7 ?_
    refine lv_aload_n hx hb dX16_read_10 rfl (lv_at hl 1 rfl) ?_
    refine rr_get K J 2 (by decide) rfl q878 rfl dX16_read_11 ?_
    have key : W p l e R s m args below meth c H locs (z1.2.1 - z.2.1) (7 * (z1.2.1 - z.2.1)) (xMQ below (pQ adK i ra sz M D cA ks ad A (o.map some) z z') args s) (F0 m 22 ls [.int (if z1.2.2.1 = sz then 1 else 0), .ref ra]) := by
      refine k_R_fault K J hf (by omega) hl.1 (Nat.le_of_ble_eq_true rfl) dX16_read_22 (fun ho ks2 H locs J hs2 => ?_) (fun ho ks2 H locs J hL => ?_)
      · subst ho
        rw [onx_some] at h
        cases h
        refine lv_aload_n hx hb dX16_read_25 rfl (lv_at hl 0 rfl) ?_
        exact pp_aret hx hb hr hlk rfl J ⟨hs2 _ hlt.1, hlt.2⟩ dX16_read_26
      · subst ho
        rw [onx_none] at h
        cases h
        exact pp_out rfl rfl htab hlk J hL
    refine lv_icmp_ne (tgt := 21) hx hb dX16_read_14 rfl (fun c4 => ?_) (fun c4 => ?_)
    · refine lv_iconst (v := 0) hx hb dX16_read_21 (by decide) ?_
      rw [if_neg c4] at key
      exact key
    · have c4 : z1.2.2.1 = sz := by first | exact c4 | exact Classical.not_not.mp c4
      refine lv_iconst (v := 1) hx hb dX16_read_17 (by decide) ?_
      refine lv_goto (tgt := 22) hx hb dX16_read_18 rfl ?_
      rw [if_pos c4] at key
      exact key
  · subst ho
    rw [onx_none] at h
    cases h
    exact pp_out rfl rfl htab hlk J hL
end
