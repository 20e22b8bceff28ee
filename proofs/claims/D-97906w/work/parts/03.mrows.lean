/-! the model: its class, its world, its rows -/
set_option maxRecDepth 100000
def RX6 : String := "ChapterLoanModel"
def TX6 : u_T := fun k => match k with
  | 0 => ("ChapterLoanModel", "d", "[I", true)
  | 1 => ("ChapterLoanModel", "kept", "[I", true)
  | 2 => ("ChapterLoanModel", "aside", "[I", true)
  | 3 => ("ChapterLoanModel", "images", "I", false)
  | 4 => ("ChapterLoanModel", "found", "[I", true)
  | 5 => ("ChapterLoanModel", "base", "I", false)
  | 6 => ("ChapterLoanModel", "at", "I", false)
  | 7 => ("ChapterLoanModel", "size", "I", false)
  | 8 => ("ChapterLoanModel", "fault", "I", false)
  | 9 => ("ChapterLoanModel", "opened", "I", false)
  | 10 => ("ChapterLoanModel", "isTrust", "Z", false)
  | 11 => ("ChapterLoanModel", "names", "[I", true)
  | 12 => ("ChapterLoanModel", "rated0", "I", false)
  | 13 => ("ChapterLoanModel", "rate", "I", false)
  | 14 => ("ChapterLoanModel", "triedAt", "[I", true)
  | 15 => ("ChapterLoanModel", "row", "[I", true)
  | 16 => ("ChapterLoanModel", "bestRow", "[I", true)
  | 17 => ("ChapterLoanModel", "bestMany", "I", false)
  | 18 => ("ChapterLoanModel", "heard", "[I", true)
  | 19 => ("ChapterLoanModel", "traced", "[I", true)
  | 20 => ("ChapterLoanModel", "traceMany", "I", false)
  | 21 => ("ChapterLoanModel", "who", "I", false)
  | 22 => ("ChapterLoanModel", "bitsOf", "[I", true)
  | 23 => ("ChapterLoanModel", "sizeOf", "[I", true)
  | 24 => ("ChapterLoanModel", "number", "[I", true)
  | _ => ("ChapterLoanModel", "lifted", "[I", true)
def tyX6 : Nat → FieldType := fun k => match k with
  | 0 => .array .int
  | 1 => .array .int
  | 2 => .array .int
  | 3 => .int
  | 4 => .array .int
  | 5 => .int
  | 6 => .int
  | 7 => .int
  | 8 => .int
  | 9 => .int
  | 10 => .boolean
  | 11 => .array .int
  | 12 => .int
  | 13 => .int
  | 14 => .array .int
  | 15 => .array .int
  | 16 => .array .int
  | 17 => .int
  | 18 => .array .int
  | 19 => .array .int
  | 20 => .int
  | 21 => .int
  | 22 => .array .int
  | 23 => .array .int
  | 24 => .array .int
  | _ => .array .int
abbrev wsX60 : List Cond := u_ws RX6 TX6 26
theorem nmX6 : ∀ a, a < 26 → ∀ b, b < 26 → a ≠ b → (TX6 a).2.1 ≠ (TX6 b).2.1 := by decide +kernel
theorem tyX6_ok : ∀ k, k < 26 → parseFieldDescriptor (TX6 k).2.2.1 = some (tyX6 k) := by decide +kernel
theorem in_X6 : ∀ w ∈ wsX60, w ∈ lw_all := lw_in wsX60 [1544, 1546, 1548, 1550, 1552, 1554, 1556, 1558, 1560, 1562, 1564, 1566, 1568, 1570, 1572, 1574, 1576, 1578, 1580, 1582, 1584, 1586, 1588, 1590, 1592, 1594] (by decide +kernel) (by decide +kernel)
theorem TX6_own : ∀ k, k < 26 → (TX6 k).1 = RX6 := by decide +kernel
abbrev mCl : List vw_C := [(RX6, TX6, 26)]
/-- the ints by their fields; the arrays by their keys (1: d, 2: kept, 3: aside, 4: found, 5: names, 6: triedAt, 7: row, 8: bestRow, 9: heard, 10: traced, 11: bitsOf, 12: sizeOf, 13: number, 14: lifted) -/
abbrev MSt : Type := (Nat → Int32) × (Nat → Nat → Int32)
def mlen (k : Nat) : Nat := match k with | 1 => 342 | 2 => 342 | 3 => 170 | 4 => 6 | 5 => 3 | 6 => 9 | 7 => 9 | 8 => 9 | 9 => 5 | 10 => 40 | 11 => 4 | 12 => 4 | 13 => 160 | _ => 40
def mfs (ad : Nat → Nat) (st : MSt) : List Value := [.ref (ad 1), .ref (ad 2), .ref (ad 3), .int (st.1 3), .ref (ad 4), .int (st.1 5), .int (st.1 6), .int (st.1 7), .int (st.1 8), .int (st.1 9), .int (st.1 10), .ref (ad 5), .int (st.1 12), .int (st.1 13), .ref (ad 6), .ref (ad 7), .ref (ad 8), .int (st.1 17), .ref (ad 9), .ref (ad 10), .int (st.1 20), .int (st.1 21), .ref (ad 11), .ref (ad 12), .ref (ad 13), .ref (ad 14)]
def mg (cI : ClassId) (ad : Nat → Nat) (st : MSt) : Nat → va_E := fun k => if k = 0 then .inr (0, mfs ad st) else .inl (cI, mlen k, .inl (st.2 k))
def sf (st : MSt) (k : Nat) (x : Int32) : MSt := (va_up st.1 k x, st.2)
def sa (st : MSt) (k : Nat) (b : Nat → Int32) : MSt := (st.1, va_up st.2 k b)
theorem mg_sf {cI : ClassId} {ad : Nat → Nat} {st : MSt} {k : Nat} {x : Int32} (h : (mfs ad st).set k (.int x) = mfs ad (sf st k x)) : va_up (mg cI ad st) 0 (.inr (0, (mfs ad st).set k (.int x))) = mg cI ad (sf st k x) := by
  funext j
  unfold va_up mg
  by_cases hj : j = 0
  · simp only [hj, if_true]; rw [h]
  · simp only [hj, if_false]; rfl
theorem mg_sa {cI : ClassId} {ad : Nat → Nat} {st : MSt} {k : Nat} {b : Nat → Int32} (hk : 0 < k) : va_up (mg cI ad st) k (.inl (cI, mlen k, .inl b)) = mg cI ad (sa st k b) := by
  funext j
  unfold va_up mg
  by_cases hj : j = k
  · subst hj
    rw [if_pos rfl, if_neg (by omega)]
    simp [sa, va_up]
  · rw [if_neg hj]
    by_cases h0 : j = 0
    · rw [if_pos h0, if_pos h0]; rfl
    · rw [if_neg h0, if_neg h0]; simp [sa, va_up, hj]
theorem mg_arr {cI : ClassId} {ad : Nat → Nat} {st : MSt} {k : Nat} (hk : 0 < k) : mg cI ad st k = .inl (cI, mlen k, .inl (st.2 k)) := by
  unfold mg; rw [if_neg (by omega)]
def mW (D : va_G) (cI : ClassId) (ad : Nat → Nat) (st : MSt) (H : Heap) : Prop := va_P D mCl (kw 15 ad (mg cI ad st)) H
/-- what holds all through a method's walk -/
abbrev mC (p : Program) (R : Room) (d : Nat) (s : State) (m : MethodId) (args : Array Value) (c : Code) (cc : ByteArray) (nL : Nat) (D : va_G) (cI : ClassId) (ad : Nat → Nat) : Prop :=
  p.tables.exec = Jvm.exec ∧ c.code = cc ∧ c.maxLocals = nL ∧ s.vm.findClass RX6 = some m.cls ∧ (∀ w ∈ lw_all, w.before args s = true) ∧ va_K D mCl [(cI, .int)] s ∧ kInj 15 ad ∧ (d ≤ R.frames ∧ 40 * d ≤ R.locals)
abbrev mPre (D : va_G) (cI : ClassId) (ad : Nat → Nat) (st : MSt) (As : List Value) : Array Value → State → Prop := va_Pc (.ref (ad 0) :: As) (fun U => mW D cI ad st U.heap ∧ va_K D mCl [(cI, .int)] U)
def mQ (r : Option Value) (D : va_G) (cI : ClassId) (ad : Nat → Nat) (st : MSt) : Array Value → State → Outcome → State → Prop := fun _ s0 o t => o = .returned r ∧ mW D cI ad st t.heap ∧ va_F (kF 15 ad) s0 t
abbrev mR (l : Launch) (y : MethodName) (bytes : ByteArray) (maxL : Nat) (ret : Option FieldType) (d : Nat) (D : va_G) (cI : ClassId) (ad : Nat → Nat) (st : MSt) (As : List Value) (r : Int32) : Prop :=
  Met l y (ws_ y bytes maxL ret) (k2_rm d (40 * d)) (mPre D cI ad st As) (QcRead r) 0 0 (fun _ => False)
abbrev mV (l : Launch) (y : MethodName) (bytes : ByteArray) (maxL : Nat) (ret : Option FieldType) (d : Nat) (D : va_G) (cI : ClassId) (ad : Nat → Nat) (st : MSt) (As : List Value) (r : Option Value) (st' : MSt) : Prop :=
  Met l y (ws_ y bytes maxL ret) (k2_rm d (40 * d)) (mPre D cI ad st As) (mQ r D cI ad st') 0 0 (kF 15 ad)
abbrev mS (l : Launch) (y : MethodName) (bytes : ByteArray) (maxL : Nat) (ret : Option FieldType) (d : Nat) (As : List Value) (r : Int32) : Prop :=
  Met l y (ws_ y bytes maxL ret) (k2_rm d (40 * d)) (fun v _ => v = As.toArray) (QcRead r) 0 0 (fun _ => False)
theorem mr_ {R : Room} {d k : Nat} (h : d ≤ R.frames ∧ 40 * d ≤ R.locals) (hk : k + 1 ≤ d) {maxL : Nat} (hm : maxL ≤ 21) : (k2_rm k (40 * k)).frames + 1 ≤ R.frames ∧ 8 + (maxL + 11) + (k2_rm k (40 * k)).locals ≤ R.locals := by
  refine ⟨Nat.le_trans hk h.1, ?_⟩
  show 8 + (maxL + 11) + 40 * k ≤ R.locals
  have := h.2
  omega
section MROWS
variable {p : Program} {l : Launch} {e : Env} {R : Room} {s : State} {m : MethodId} {args : Array Value} {below : List Frame} {meth : Method} {c : Code} {H : Heap} {locs : List Loc} {cells slots d : Nat} {Q : State → Prop}
variable {cc : ByteArray} {pc nL : Nat} {ls : Array Slot} {rest : List Value} {D : va_G} {cI : ClassId} {ad : Nat → Nat} {st : MSt} {H0 : Heap}
theorem mm_get (C : mC p R d s m args c cc nL D cI ad) (hP : mW D cI ad st H) (k : Nat) {index : Nat} {v : Value} (hk : k < 26) (hl : Cond.fieldLink RX6 index RX6 (TX6 k).2.1 (TX6 k).2.2.1 ∈ lw_all) (hv : (mfs ad st)[k]? = some v) (hdg : decode cc pc = .ok (.getfield index, 3))
    (kk : W p l e R s m args below meth c H locs cells slots Q (F0 m (pc + 3) ls (v :: rest))) : W p l e R s m args below meth c H locs cells slots Q (F0 m pc ls (.ref (ad 0) :: rest)) := by
  obtain ⟨hx, hb, -, hown, hts, hK, -⟩ := C
  exact va_get (ref := RX6) (C := RX6) (T := TX6) (N := 26) (ci := 0) (fs := mfs ad st) hx hb hts in_X6 hown hK hP 0 (kw_at (by decide)) rfl k hk (hts _ hl) (fun _ h => by rw [TX6_own k hk] at h; exact h) hv hdg kk
theorem mm_put (C : mC p R d s m args c cc nL D cI ad) (hP : mW D cI ad st H) (hS : va_S (kF 15 ad) H0 H locs) (k : Nat) {index : Nat} {x : Int32} (hk : k < 26) (hl : Cond.fieldLink RX6 index RX6 (TX6 k).2.1 (TX6 k).2.2.1 ∈ lw_all) (hfin : (TX6 k).2.2.2 = false) (hn : narrow (tyX6 k) (.int x) = .int x) (hf : fits (tyX6 k) (.int x) = true) (hset : (mfs ad st).set k (.int x) = mfs ad (sf st k x)) (hdg : decode cc pc = .ok (.putfield index, 3))
    (kk : ∀ (H1 : Heap) (locs1 : List Loc), mW D cI ad (sf st k x) H1 → va_S (kF 15 ad) H0 H1 locs1 → W p l e R s m args below meth c H1 locs1 cells slots Q (F0 m (pc + 3) ls rest)) : W p l e R s m args below meth c H locs cells slots Q (F0 m pc ls (.int x :: .ref (ad 0) :: rest)) := by
  obtain ⟨hx, hb, -, hown, hts, hK, hI, -⟩ := C
  refine va_put (ref := RX6) (C := RX6) (T := TX6) (N := 26) (ci := 0) (fs := mfs ad st) hx hb hts in_X6 tyX6 tyX6_ok nmX6 hown hK hP (kw_D hI) hS 0 (kw_at (by decide)) rfl k hk (hts _ hl) (fun _ h => by rw [TX6_own k hk] at h; exact h) hfin (tyX6_ok k hk) hn hf (by simpa [mfs] using hk) hdg (fun H1 locs1 h1 _ h3 => kk H1 locs1 ?_ h3)
  rw [kw_set, mg_sf hset] at h1
  exact h1
theorem mm_ld (C : mC p R d s m args c cc nL D cI ad) (hP : mW D cI ad st H) (k : Nat) (hk : 0 < k ∧ k < 15) {n : Nat} {i v : Int32} (hn : mlen k = n) (hv : rd (st.2 k) n i = some v) (hdg : decode cc pc = .ok (.iaload, 1))
    (kk : W p l e R s m args below meth c H locs cells slots Q (F0 m (pc + 1) ls (.int v :: rest))) : W p l e R s m args below meth c H locs cells slots Q (F0 m pc ls (.int i :: .ref (ad k) :: rest)) := by
  obtain ⟨hin, rfl⟩ := rd_some hv
  subst hn
  exact va_iald C.1 C.2.1 C.2.2.2.2.2.1 hP k 0 (cA := cI) (n := mlen k) (f := st.2 k) (by rw [kw_at hk.2, mg_arr hk.1]) rfl hin hdg kk
theorem mm_st (C : mC p R d s m args c cc nL D cI ad) (hP : mW D cI ad st H) (hS : va_S (kF 15 ad) H0 H locs) (k : Nat) (hk : 0 < k ∧ k < 15) {n : Nat} {i x : Int32} {b : Nat → Int32} (hn : mlen k = n) (hv : wr (st.2 k) n i x = some b) (hdg : decode cc pc = .ok (.iastore, 1))
    (kk : ∀ (H1 : Heap) (locs1 : List Loc), mW D cI ad (sa st k b) H1 → va_S (kF 15 ad) H0 H1 locs1 → W p l e R s m args below meth c H1 locs1 cells slots Q (F0 m (pc + 1) ls rest)) : W p l e R s m args below meth c H locs cells slots Q (F0 m pc ls (.int x :: .int i :: .ref (ad k) :: rest)) := by
  obtain ⟨hin, rfl⟩ := wr_some hv
  subst hn
  refine va_iast C.1 C.2.1 C.2.2.2.2.2.1 hP (kw_D C.2.2.2.2.2.2.1) hS k 0 (cA := cI) (n := mlen k) (f := st.2 k) (by rw [kw_at hk.2, mg_arr hk.1]) rfl hin hdg (fun H1 locs1 h1 _ h3 => kk H1 locs1 ?_ h3)
  rw [kw_set, mg_sa hk.1] at h1
  exact h1
variable {y : MethodName} {bytes : ByteArray} {maxL index n : Nat} {ret : Option FieldType} {As st0 : List Value} {dk : Nat}
theorem mm_recv (hK : va_K D mCl [(cI, .int)] s) (hP : mW D cI ad st H) : ∃ cellB : Cell, H[ad 0]? = some cellB ∧ cellB.vm.isStatics = false ∧ s.vm.findClass RX6 = some cellB.cls :=
  va_recv (q := (RX6, TX6, 26)) hK hP (ci := 0) (q0 := 0) (fs := mfs ad st) rfl (kw_at (N := 15) (k := 0) (by decide))
theorem mm_blind : FrameBlind (mPre D cI ad st As) := fun a U g mk q => ⟨q.1, q.2.1, va_K.moved (u := U) (U := U.calling g mk a) (Vm.Alike.refl U.vm) q.2.2⟩
theorem mm_cR {r : Int32} (C : mC p R d s m args c cc nL D cI ad) (hP : mW D cI ad st H) (hM : mR l y bytes maxL ret dk D cI ad st As r) (cw : CallW R s args RX6 RX6 index y bytes maxL ret (ws_ y bytes maxL ret) (k2_rm dk (40 * dk)) 0 0 n)
    (hn : As.length = n) (hsz : ls.size = nL) (hst : st0 = As.reverse ++ .ref (ad 0) :: rest) (hW : (rest.map fun v => v.category).sum ≤ 8) (hdg : decode cc pc = .ok (.invokevirtual index, 3)) (hcs : cells ≤ R.cells ∧ slots ≤ R.slots)
    (kk : W p l e R s m args below meth c H locs cells slots Q (F0 m (pc + 3) ls (.int r :: rest))) : W p l e R s m args below meth c H locs cells slots Q (F0 m pc ls st0) := by
  obtain ⟨hx, hb, hml, hown, hts, hK, -⟩ := C
  exact W.callR (W.runV (As := As) (rest := rest) ⟨hx, hb, hml, hown, hts⟩ hM cw ⟨mm_blind, mm_recv hK hP, fun U hU hWm => ⟨rfl, by rw [hU]; exact hP, va_K.moved hWm.alike hK⟩⟩ rfl hn hsz hst (lv_room hW) hdg hcs) kk
theorem mm_cS {r : Int32} (C : mC p R d s m args c cc nL D cI ad) (hM : mS l y bytes maxL ret dk As r) (cw : CallB R s args RX6 index y bytes maxL ret (ws_ y bytes maxL ret) (k2_rm dk (40 * dk)) 0 0 n ∧ (Cond.static y).before args s = true)
    (hn : As.length = n) (hsz : ls.size = nL) (hst : st0 = As.reverse ++ rest) (hW : (rest.map fun v => v.category).sum ≤ 8) (hdg : decode cc pc = .ok (.invokestatic index, 3)) (hcs : cells ≤ R.cells ∧ slots ≤ R.slots)
    (kk : W p l e R s m args below meth c H locs cells slots Q (F0 m (pc + 3) ls (.int r :: rest))) : W p l e R s m args below meth c H locs cells slots Q (F0 m pc ls st0) := by
  obtain ⟨hx, hb, hml, hown, hts, hK, -⟩ := C
  exact W.callR (W.runS (As := As) (rest := rest) ⟨hx, hb, hml, hown, hts⟩ hM cw preEq rfl hn hsz hst (lv_room hW) hdg hcs) kk
theorem mm_cV {r : Option Value} {st' : MSt} (C : mC p R d s m args c cc nL D cI ad) (hP : mW D cI ad st H) (hS : va_S (kF 15 ad) H0 H locs) (hM : mV l y bytes maxL ret dk D cI ad st As r st') (cw : CallW R s args RX6 RX6 index y bytes maxL ret (ws_ y bytes maxL ret) (k2_rm dk (40 * dk)) 0 0 n)
    (hn : As.length = n) (hsz : ls.size = nL) (hst : st0 = As.reverse ++ .ref (ad 0) :: rest) (hW : (rest.map fun v => v.category).sum ≤ 8) (hdg : decode cc pc = .ok (.invokevirtual index, 3)) (hcs : cells ≤ R.cells ∧ slots ≤ R.slots)
    (kk : ∀ (H1 : Heap) (locs1 : List Loc), mW D cI ad st' H1 → va_S (kF 15 ad) H0 H1 locs1 → W p l e R s m args below meth c H1 locs1 cells slots Q (F0 m (pc + 3) ls (r.toList ++ rest))) : W p l e R s m args below meth c H locs cells slots Q (F0 m pc ls st0) := by
  obtain ⟨hx, hb, hml, hown, hts, hK, -⟩ := C
  have hr := W.runV (locs := locs) (cells := cells) (slots := slots) (p := p) (e := e) (below := below) (meth := meth) (As := As) (rest := rest) (g := F0 m pc ls st0) ⟨hx, hb, hml, hown, hts⟩ hM cw ⟨mm_blind, mm_recv hK hP, fun U hU hWm => ⟨rfl, by rw [hU]; exact hP, va_K.moved hWm.alike hK⟩⟩ rfl hn hsz hst (lv_room hW) hdg hcs
  intro T hT X
  obtain ⟨v, st₀, t, T', L, h0, X', hL, e1, ⟨hv, hw, hz, hk⟩, st⟩ := hr T hT X
  cases hv
  rw [h0] at hz hk
  obtain ⟨t2, a1, b1⟩ := kk T'.heap (locs ++ L) (by rw [e1]; exact hw)
    ⟨Nat.le_trans hS.1 (by rw [e1]; exact hz), fun q h1 h2 => by rw [e1, hk q (Nat.lt_of_lt_of_le h1 hS.1) h2]; exact hS.2.1 q h1 h2, fun q hq => by
      rcases List.mem_append.mp hq with h | h
      · exact hS.2.2 q h
      · exact hL q h⟩ T' rfl X'
  exact ⟨t2, st t2 a1, b1⟩
/-- a method that reads: its start -/
theorem mm_ofR {r : Int32} (hI : kInj 15 ad) (hy : plainName y.cls = true) (hyc : y.cls = RX6) (hnl : (lg_sl (.ref (ad 0) :: As)).length ≤ maxL)
    (body : ∀ (p : Program) (e : Env) (s : State) (m : MethodId) (below : List Frame) (meth : Method) (c : Code) (R : Room) (args : Array Value) (ls : Array Slot), mC p R d s m args c bytes maxL D cI ad → meth.sig.returnType = ret → meth.locks = false → mW D cI ad st s.heap → lv_has ls maxL (lv_args 0 (.ref (ad 0) :: As)) → (0 ≤ R.cells ∧ 0 ≤ R.slots) →
      W p l e R s m args below meth c s.heap [] 0 0 (MQ below (QcRead r) args s 0 0 (fun _ => False)) (F0 m 0 ls [])) : mR l y bytes maxL ret d D cI ad st As r := by
  refine Met.ofW (cc := bytes) (maxL := maxL) (ret := ret) hy rfl ?_
  intro p e s m args below meth c s₁ B hml hv
  obtain ⟨rfl, hP, hK⟩ := hv
  have hts := atoms_spec (ws := ws_ y bytes maxL ret) B.pre
  have hts : ∀ w ∈ lw_all, w.before _ s = true := fun w h => hts w (List.mem_cons_of_mem _ h)
  have hown : s.vm.findClass y.cls = some m.cls := findClass_of_methodNamed B.named
  rw [hyc] at hown
  rw [lg_entry_eq]
  exact body p e s m below meth c _ _ _ ⟨B.exec, B.bytes, hml, hown, hts, hK, hI, Nat.le_refl _, Nat.le_refl _⟩ B.returns B.notSynchronized hP (lv_entry _ hnl) ⟨Nat.zero_le _, Nat.zero_le _⟩
/-- a method that writes: its start -/
theorem mm_ofV {r : Option Value} {st' : MSt} (hI : kInj 15 ad) (hy : plainName y.cls = true) (hyc : y.cls = RX6) (hnl : (lg_sl (.ref (ad 0) :: As)).length ≤ maxL)
    (body : ∀ (p : Program) (e : Env) (s : State) (m : MethodId) (below : List Frame) (meth : Method) (c : Code) (R : Room) (args : Array Value) (ls : Array Slot), mC p R d s m args c bytes maxL D cI ad → meth.sig.returnType = ret → meth.locks = false → mW D cI ad st s.heap → va_S (kF 15 ad) s.heap s.heap [] → lv_has ls maxL (lv_args 0 (.ref (ad 0) :: As)) → (0 ≤ R.cells ∧ 0 ≤ R.slots) →
      W p l e R s m args below meth c s.heap [] 0 0 (MQ below (mQ r D cI ad st') args s 0 0 (kF 15 ad)) (F0 m 0 ls [])) : mV l y bytes maxL ret d D cI ad st As r st' := by
  refine Met.ofW (cc := bytes) (maxL := maxL) (ret := ret) hy rfl ?_
  intro p e s m args below meth c s₁ B hml hv
  obtain ⟨rfl, hP, hK⟩ := hv
  have hts := atoms_spec (ws := ws_ y bytes maxL ret) B.pre
  have hts : ∀ w ∈ lw_all, w.before _ s = true := fun w h => hts w (List.mem_cons_of_mem _ h)
  have hown : s.vm.findClass y.cls = some m.cls := findClass_of_methodNamed B.named
  rw [hyc] at hown
  rw [lg_entry_eq]
  exact body p e s m below meth c _ _ _ ⟨B.exec, B.bytes, hml, hown, hts, hK, hI, Nat.le_refl _, Nat.le_refl _⟩ B.returns B.notSynchronized hP va_S.rf (lv_entry _ hnl) ⟨Nat.zero_le _, Nat.zero_le _⟩
/-- what a static method's walk has -/
abbrev sC (p : Program) (R : Room) (d : Nat) (s : State) (m : MethodId) (args : Array Value) (c : Code) (cc : ByteArray) (nL : Nat) (own : String) : Prop :=
  p.tables.exec = Jvm.exec ∧ c.code = cc ∧ c.maxLocals = nL ∧ s.vm.findClass own = some m.cls ∧ (∀ w ∈ lw_all, w.before args s = true) ∧ (d ≤ R.frames ∧ 40 * d ≤ R.locals)
theorem mm_ofS {r : Int32} (hy : plainName y.cls = true) (hnl : (lg_sl As).length ≤ maxL)
    (body : ∀ (p : Program) (e : Env) (s : State) (m : MethodId) (below : List Frame) (meth : Method) (c : Code) (R : Room) (args : Array Value) (ls : Array Slot), sC p R d s m args c bytes maxL y.cls → meth.sig.returnType = ret → meth.locks = false → lv_has ls maxL (lv_args 0 As) → (0 ≤ R.cells ∧ 0 ≤ R.slots) →
      W p l e R s m args below meth c s.heap [] 0 0 (MQ below (QcRead r) args s 0 0 (fun _ => False)) (F0 m 0 ls [])) : mS l y bytes maxL ret d As r := by
  refine Met.ofW (cc := bytes) (maxL := maxL) (ret := ret) hy rfl ?_
  intro p e s m args below meth c s₁ B hml hv
  have hts := atoms_spec (ws := ws_ y bytes maxL ret) B.pre
  have hts : ∀ w ∈ lw_all, w.before _ s = true := fun w h => hts w (List.mem_cons_of_mem _ h)
  have hown : s.vm.findClass y.cls = some m.cls := findClass_of_methodNamed B.named
  cases hv
  rw [lg_entry_eq]
  exact body p e s m below meth c _ _ _ ⟨B.exec, B.bytes, hml, hown, hts, Nat.le_refl _, Nat.le_refl _⟩ B.returns B.notSynchronized (lv_entry _ hnl) ⟨Nat.zero_le _, Nat.zero_le _⟩
end MROWS
def zr (v : Int32) : Option Int32 := if v = 0 ∨ v = 1 then some v else none
theorem zr_some {v r : Int32} (h : zr v = some r) : (narrow .boolean (.int v) = .int v ∧ fits .boolean (.int v) = true) ∧ v = r := by
  unfold zr at h
  split at h
  · rename_i hq
    refine ⟨?_, Option.some.inj h⟩
    rcases hq with rfl | rfl
    · exact ⟨rfl, rfl⟩
    · exact ⟨rfl, rfl⟩
  · cases h

section MFIELDS
variable {p : Program} {l : Launch} {e : Env} {R : Room} {s : State} {m : MethodId} {args : Array Value} {below : List Frame} {meth : Method} {c : Code} {H : Heap} {locs : List Loc} {cells slots d : Nat} {Q : State → Prop}
variable {cc : ByteArray} {pc nL : Nat} {ls : Array Slot} {rest : List Value} {D : va_G} {cI : ClassId} {ad : Nat → Nat} {st : MSt} {H0 : Heap}
theorem q1518 : (Jvm.Cond.fieldLink "ChapterLoanModel" (7 : Nat) "ChapterLoanModel" "d" "[I") ∈ lw_all := lw_g (lw_at lw_m6 234 rfl) rfl
theorem g_d (C : mC p R d s m args c cc nL D cI ad) (hP : mW D cI ad st H) (hdg : decode cc pc = .ok (.getfield 7, 3)) (kk : W p l e R s m args below meth c H locs cells slots Q (F0 m (pc + 3) ls (.ref (ad 1) :: rest))) : W p l e R s m args below meth c H locs cells slots Q (F0 m pc ls (.ref (ad 0) :: rest)) := mm_get C hP 0 (by decide) q1518 rfl hdg kk
theorem q1519 : (Jvm.Cond.fieldLink "ChapterLoanModel" (13 : Nat) "ChapterLoanModel" "kept" "[I") ∈ lw_all := lw_g (lw_at lw_m6 235 rfl) rfl
theorem g_kept (C : mC p R d s m args c cc nL D cI ad) (hP : mW D cI ad st H) (hdg : decode cc pc = .ok (.getfield 13, 3)) (kk : W p l e R s m args below meth c H locs cells slots Q (F0 m (pc + 3) ls (.ref (ad 2) :: rest))) : W p l e R s m args below meth c H locs cells slots Q (F0 m pc ls (.ref (ad 0) :: rest)) := mm_get C hP 1 (by decide) q1519 rfl hdg kk
theorem q1520 : (Jvm.Cond.fieldLink "ChapterLoanModel" (16 : Nat) "ChapterLoanModel" "aside" "[I") ∈ lw_all := lw_g (lw_at lw_m6 236 rfl) rfl
theorem g_aside (C : mC p R d s m args c cc nL D cI ad) (hP : mW D cI ad st H) (hdg : decode cc pc = .ok (.getfield 16, 3)) (kk : W p l e R s m args below meth c H locs cells slots Q (F0 m (pc + 3) ls (.ref (ad 3) :: rest))) : W p l e R s m args below meth c H locs cells slots Q (F0 m pc ls (.ref (ad 0) :: rest)) := mm_get C hP 2 (by decide) q1520 rfl hdg kk
theorem q1521 : (Jvm.Cond.fieldLink "ChapterLoanModel" (311 : Nat) "ChapterLoanModel" "images" "I") ∈ lw_all := lw_g (lw_at lw_m6 237 rfl) rfl
theorem g_images (C : mC p R d s m args c cc nL D cI ad) (hP : mW D cI ad st H) (hdg : decode cc pc = .ok (.getfield 311, 3)) (kk : W p l e R s m args below meth c H locs cells slots Q (F0 m (pc + 3) ls (.int (st.1 3) :: rest))) : W p l e R s m args below meth c H locs cells slots Q (F0 m pc ls (.ref (ad 0) :: rest)) := mm_get C hP 3 (by decide) q1521 rfl hdg kk
theorem p_images {x : Int32} (C : mC p R d s m args c cc nL D cI ad) (hP : mW D cI ad st H) (hS : va_S (kF 15 ad) H0 H locs) (hdg : decode cc pc = .ok (.putfield 311, 3)) (kk : ∀ (H1 : Heap) (locs1 : List Loc), mW D cI ad (sf st 3 x) H1 → va_S (kF 15 ad) H0 H1 locs1 → W p l e R s m args below meth c H1 locs1 cells slots Q (F0 m (pc + 3) ls rest)) : W p l e R s m args below meth c H locs cells slots Q (F0 m pc ls (.int x :: .ref (ad 0) :: rest)) := mm_put C hP hS 3 (by decide) q1521 rfl rfl rfl rfl hdg kk
theorem q1522 : (Jvm.Cond.fieldLink "ChapterLoanModel" (19 : Nat) "ChapterLoanModel" "found" "[I") ∈ lw_all := lw_g (lw_at lw_m6 238 rfl) rfl
theorem g_found (C : mC p R d s m args c cc nL D cI ad) (hP : mW D cI ad st H) (hdg : decode cc pc = .ok (.getfield 19, 3)) (kk : W p l e R s m args below meth c H locs cells slots Q (F0 m (pc + 3) ls (.ref (ad 4) :: rest))) : W p l e R s m args below meth c H locs cells slots Q (F0 m pc ls (.ref (ad 0) :: rest)) := mm_get C hP 4 (by decide) q1522 rfl hdg kk
theorem q1523 : (Jvm.Cond.fieldLink "ChapterLoanModel" (70 : Nat) "ChapterLoanModel" "base" "I") ∈ lw_all := lw_g (lw_at lw_m6 239 rfl) rfl
theorem g_base (C : mC p R d s m args c cc nL D cI ad) (hP : mW D cI ad st H) (hdg : decode cc pc = .ok (.getfield 70, 3)) (kk : W p l e R s m args below meth c H locs cells slots Q (F0 m (pc + 3) ls (.int (st.1 5) :: rest))) : W p l e R s m args below meth c H locs cells slots Q (F0 m pc ls (.ref (ad 0) :: rest)) := mm_get C hP 5 (by decide) q1523 rfl hdg kk
theorem p_base {x : Int32} (C : mC p R d s m args c cc nL D cI ad) (hP : mW D cI ad st H) (hS : va_S (kF 15 ad) H0 H locs) (hdg : decode cc pc = .ok (.putfield 70, 3)) (kk : ∀ (H1 : Heap) (locs1 : List Loc), mW D cI ad (sf st 5 x) H1 → va_S (kF 15 ad) H0 H1 locs1 → W p l e R s m args below meth c H1 locs1 cells slots Q (F0 m (pc + 3) ls rest)) : W p l e R s m args below meth c H locs cells slots Q (F0 m pc ls (.int x :: .ref (ad 0) :: rest)) := mm_put C hP hS 5 (by decide) q1523 rfl rfl rfl rfl hdg kk
theorem q1524 : (Jvm.Cond.fieldLink "ChapterLoanModel" (61 : Nat) "ChapterLoanModel" "at" "I") ∈ lw_all := lw_g (lw_at lw_m7 0 rfl) rfl
theorem g_at (C : mC p R d s m args c cc nL D cI ad) (hP : mW D cI ad st H) (hdg : decode cc pc = .ok (.getfield 61, 3)) (kk : W p l e R s m args below meth c H locs cells slots Q (F0 m (pc + 3) ls (.int (st.1 6) :: rest))) : W p l e R s m args below meth c H locs cells slots Q (F0 m pc ls (.ref (ad 0) :: rest)) := mm_get C hP 6 (by decide) q1524 rfl hdg kk
theorem p_at {x : Int32} (C : mC p R d s m args c cc nL D cI ad) (hP : mW D cI ad st H) (hS : va_S (kF 15 ad) H0 H locs) (hdg : decode cc pc = .ok (.putfield 61, 3)) (kk : ∀ (H1 : Heap) (locs1 : List Loc), mW D cI ad (sf st 6 x) H1 → va_S (kF 15 ad) H0 H1 locs1 → W p l e R s m args below meth c H1 locs1 cells slots Q (F0 m (pc + 3) ls rest)) : W p l e R s m args below meth c H locs cells slots Q (F0 m pc ls (.int x :: .ref (ad 0) :: rest)) := mm_put C hP hS 6 (by decide) q1524 rfl rfl rfl rfl hdg kk
theorem q1525 : (Jvm.Cond.fieldLink "ChapterLoanModel" (64 : Nat) "ChapterLoanModel" "size" "I") ∈ lw_all := lw_g (lw_at lw_m7 1 rfl) rfl
theorem g_size (C : mC p R d s m args c cc nL D cI ad) (hP : mW D cI ad st H) (hdg : decode cc pc = .ok (.getfield 64, 3)) (kk : W p l e R s m args below meth c H locs cells slots Q (F0 m (pc + 3) ls (.int (st.1 7) :: rest))) : W p l e R s m args below meth c H locs cells slots Q (F0 m pc ls (.ref (ad 0) :: rest)) := mm_get C hP 7 (by decide) q1525 rfl hdg kk
theorem p_size {x : Int32} (C : mC p R d s m args c cc nL D cI ad) (hP : mW D cI ad st H) (hS : va_S (kF 15 ad) H0 H locs) (hdg : decode cc pc = .ok (.putfield 64, 3)) (kk : ∀ (H1 : Heap) (locs1 : List Loc), mW D cI ad (sf st 7 x) H1 → va_S (kF 15 ad) H0 H1 locs1 → W p l e R s m args below meth c H1 locs1 cells slots Q (F0 m (pc + 3) ls rest)) : W p l e R s m args below meth c H locs cells slots Q (F0 m pc ls (.int x :: .ref (ad 0) :: rest)) := mm_put C hP hS 7 (by decide) q1525 rfl rfl rfl rfl hdg kk
theorem q1526 : (Jvm.Cond.fieldLink "ChapterLoanModel" (67 : Nat) "ChapterLoanModel" "fault" "I") ∈ lw_all := lw_g (lw_at lw_m7 2 rfl) rfl
theorem g_fault (C : mC p R d s m args c cc nL D cI ad) (hP : mW D cI ad st H) (hdg : decode cc pc = .ok (.getfield 67, 3)) (kk : W p l e R s m args below meth c H locs cells slots Q (F0 m (pc + 3) ls (.int (st.1 8) :: rest))) : W p l e R s m args below meth c H locs cells slots Q (F0 m pc ls (.ref (ad 0) :: rest)) := mm_get C hP 8 (by decide) q1526 rfl hdg kk
theorem p_fault {x : Int32} (C : mC p R d s m args c cc nL D cI ad) (hP : mW D cI ad st H) (hS : va_S (kF 15 ad) H0 H locs) (hdg : decode cc pc = .ok (.putfield 67, 3)) (kk : ∀ (H1 : Heap) (locs1 : List Loc), mW D cI ad (sf st 8 x) H1 → va_S (kF 15 ad) H0 H1 locs1 → W p l e R s m args below meth c H1 locs1 cells slots Q (F0 m (pc + 3) ls rest)) : W p l e R s m args below meth c H locs cells slots Q (F0 m pc ls (.int x :: .ref (ad 0) :: rest)) := mm_put C hP hS 8 (by decide) q1526 rfl rfl rfl rfl hdg kk
theorem q1527 : (Jvm.Cond.fieldLink "ChapterLoanModel" (100 : Nat) "ChapterLoanModel" "opened" "I") ∈ lw_all := lw_g (lw_at lw_m7 3 rfl) rfl
theorem g_opened (C : mC p R d s m args c cc nL D cI ad) (hP : mW D cI ad st H) (hdg : decode cc pc = .ok (.getfield 100, 3)) (kk : W p l e R s m args below meth c H locs cells slots Q (F0 m (pc + 3) ls (.int (st.1 9) :: rest))) : W p l e R s m args below meth c H locs cells slots Q (F0 m pc ls (.ref (ad 0) :: rest)) := mm_get C hP 9 (by decide) q1527 rfl hdg kk
theorem p_opened {x : Int32} (C : mC p R d s m args c cc nL D cI ad) (hP : mW D cI ad st H) (hS : va_S (kF 15 ad) H0 H locs) (hdg : decode cc pc = .ok (.putfield 100, 3)) (kk : ∀ (H1 : Heap) (locs1 : List Loc), mW D cI ad (sf st 9 x) H1 → va_S (kF 15 ad) H0 H1 locs1 → W p l e R s m args below meth c H1 locs1 cells slots Q (F0 m (pc + 3) ls rest)) : W p l e R s m args below meth c H locs cells slots Q (F0 m pc ls (.int x :: .ref (ad 0) :: rest)) := mm_put C hP hS 9 (by decide) q1527 rfl rfl rfl rfl hdg kk
theorem q1528 : (Jvm.Cond.fieldLink "ChapterLoanModel" (77 : Nat) "ChapterLoanModel" "isTrust" "Z") ∈ lw_all := lw_g (lw_at lw_m7 4 rfl) rfl
theorem g_isTrust (C : mC p R d s m args c cc nL D cI ad) (hP : mW D cI ad st H) (hdg : decode cc pc = .ok (.getfield 77, 3)) (kk : W p l e R s m args below meth c H locs cells slots Q (F0 m (pc + 3) ls (.int (st.1 10) :: rest))) : W p l e R s m args below meth c H locs cells slots Q (F0 m pc ls (.ref (ad 0) :: rest)) := mm_get C hP 10 (by decide) q1528 rfl hdg kk
theorem p_isTrust {x : Int32} (C : mC p R d s m args c cc nL D cI ad) (hP : mW D cI ad st H) (hS : va_S (kF 15 ad) H0 H locs) (hz : narrow .boolean (.int x) = .int x ∧ fits .boolean (.int x) = true) (hdg : decode cc pc = .ok (.putfield 77, 3)) (kk : ∀ (H1 : Heap) (locs1 : List Loc), mW D cI ad (sf st 10 x) H1 → va_S (kF 15 ad) H0 H1 locs1 → W p l e R s m args below meth c H1 locs1 cells slots Q (F0 m (pc + 3) ls rest)) : W p l e R s m args below meth c H locs cells slots Q (F0 m pc ls (.int x :: .ref (ad 0) :: rest)) := mm_put C hP hS 10 (by decide) q1528 rfl hz.1 hz.2 rfl hdg kk
theorem q1529 : (Jvm.Cond.fieldLink "ChapterLoanModel" (22 : Nat) "ChapterLoanModel" "names" "[I") ∈ lw_all := lw_g (lw_at lw_m7 5 rfl) rfl
theorem g_names (C : mC p R d s m args c cc nL D cI ad) (hP : mW D cI ad st H) (hdg : decode cc pc = .ok (.getfield 22, 3)) (kk : W p l e R s m args below meth c H locs cells slots Q (F0 m (pc + 3) ls (.ref (ad 5) :: rest))) : W p l e R s m args below meth c H locs cells slots Q (F0 m pc ls (.ref (ad 0) :: rest)) := mm_get C hP 11 (by decide) q1529 rfl hdg kk
theorem q1530 : (Jvm.Cond.fieldLink "ChapterLoanModel" (25 : Nat) "ChapterLoanModel" "rated0" "I") ∈ lw_all := lw_g (lw_at lw_m7 6 rfl) rfl
theorem g_rated0 (C : mC p R d s m args c cc nL D cI ad) (hP : mW D cI ad st H) (hdg : decode cc pc = .ok (.getfield 25, 3)) (kk : W p l e R s m args below meth c H locs cells slots Q (F0 m (pc + 3) ls (.int (st.1 12) :: rest))) : W p l e R s m args below meth c H locs cells slots Q (F0 m pc ls (.ref (ad 0) :: rest)) := mm_get C hP 12 (by decide) q1530 rfl hdg kk
theorem p_rated0 {x : Int32} (C : mC p R d s m args c cc nL D cI ad) (hP : mW D cI ad st H) (hS : va_S (kF 15 ad) H0 H locs) (hdg : decode cc pc = .ok (.putfield 25, 3)) (kk : ∀ (H1 : Heap) (locs1 : List Loc), mW D cI ad (sf st 12 x) H1 → va_S (kF 15 ad) H0 H1 locs1 → W p l e R s m args below meth c H1 locs1 cells slots Q (F0 m (pc + 3) ls rest)) : W p l e R s m args below meth c H locs cells slots Q (F0 m pc ls (.int x :: .ref (ad 0) :: rest)) := mm_put C hP hS 12 (by decide) q1530 rfl rfl rfl rfl hdg kk
theorem q1531 : (Jvm.Cond.fieldLink "ChapterLoanModel" (168 : Nat) "ChapterLoanModel" "rate" "I") ∈ lw_all := lw_g (lw_at lw_m7 7 rfl) rfl
theorem g_rate (C : mC p R d s m args c cc nL D cI ad) (hP : mW D cI ad st H) (hdg : decode cc pc = .ok (.getfield 168, 3)) (kk : W p l e R s m args below meth c H locs cells slots Q (F0 m (pc + 3) ls (.int (st.1 13) :: rest))) : W p l e R s m args below meth c H locs cells slots Q (F0 m pc ls (.ref (ad 0) :: rest)) := mm_get C hP 13 (by decide) q1531 rfl hdg kk
theorem p_rate {x : Int32} (C : mC p R d s m args c cc nL D cI ad) (hP : mW D cI ad st H) (hS : va_S (kF 15 ad) H0 H locs) (hdg : decode cc pc = .ok (.putfield 168, 3)) (kk : ∀ (H1 : Heap) (locs1 : List Loc), mW D cI ad (sf st 13 x) H1 → va_S (kF 15 ad) H0 H1 locs1 → W p l e R s m args below meth c H1 locs1 cells slots Q (F0 m (pc + 3) ls rest)) : W p l e R s m args below meth c H locs cells slots Q (F0 m pc ls (.int x :: .ref (ad 0) :: rest)) := mm_put C hP hS 13 (by decide) q1531 rfl rfl rfl rfl hdg kk
theorem q1532 : (Jvm.Cond.fieldLink "ChapterLoanModel" (29 : Nat) "ChapterLoanModel" "triedAt" "[I") ∈ lw_all := lw_g (lw_at lw_m7 8 rfl) rfl
theorem g_triedAt (C : mC p R d s m args c cc nL D cI ad) (hP : mW D cI ad st H) (hdg : decode cc pc = .ok (.getfield 29, 3)) (kk : W p l e R s m args below meth c H locs cells slots Q (F0 m (pc + 3) ls (.ref (ad 6) :: rest))) : W p l e R s m args below meth c H locs cells slots Q (F0 m pc ls (.ref (ad 0) :: rest)) := mm_get C hP 14 (by decide) q1532 rfl hdg kk
theorem q1533 : (Jvm.Cond.fieldLink "ChapterLoanModel" (32 : Nat) "ChapterLoanModel" "row" "[I") ∈ lw_all := lw_g (lw_at lw_m7 9 rfl) rfl
theorem g_row (C : mC p R d s m args c cc nL D cI ad) (hP : mW D cI ad st H) (hdg : decode cc pc = .ok (.getfield 32, 3)) (kk : W p l e R s m args below meth c H locs cells slots Q (F0 m (pc + 3) ls (.ref (ad 7) :: rest))) : W p l e R s m args below meth c H locs cells slots Q (F0 m pc ls (.ref (ad 0) :: rest)) := mm_get C hP 15 (by decide) q1533 rfl hdg kk
theorem q1534 : (Jvm.Cond.fieldLink "ChapterLoanModel" (35 : Nat) "ChapterLoanModel" "bestRow" "[I") ∈ lw_all := lw_g (lw_at lw_m7 10 rfl) rfl
theorem g_bestRow (C : mC p R d s m args c cc nL D cI ad) (hP : mW D cI ad st H) (hdg : decode cc pc = .ok (.getfield 35, 3)) (kk : W p l e R s m args below meth c H locs cells slots Q (F0 m (pc + 3) ls (.ref (ad 8) :: rest))) : W p l e R s m args below meth c H locs cells slots Q (F0 m pc ls (.ref (ad 0) :: rest)) := mm_get C hP 16 (by decide) q1534 rfl hdg kk
theorem q1535 : (Jvm.Cond.fieldLink "ChapterLoanModel" (249 : Nat) "ChapterLoanModel" "bestMany" "I") ∈ lw_all := lw_g (lw_at lw_m7 11 rfl) rfl
theorem g_bestMany (C : mC p R d s m args c cc nL D cI ad) (hP : mW D cI ad st H) (hdg : decode cc pc = .ok (.getfield 249, 3)) (kk : W p l e R s m args below meth c H locs cells slots Q (F0 m (pc + 3) ls (.int (st.1 17) :: rest))) : W p l e R s m args below meth c H locs cells slots Q (F0 m pc ls (.ref (ad 0) :: rest)) := mm_get C hP 17 (by decide) q1535 rfl hdg kk
theorem p_bestMany {x : Int32} (C : mC p R d s m args c cc nL D cI ad) (hP : mW D cI ad st H) (hS : va_S (kF 15 ad) H0 H locs) (hdg : decode cc pc = .ok (.putfield 249, 3)) (kk : ∀ (H1 : Heap) (locs1 : List Loc), mW D cI ad (sf st 17 x) H1 → va_S (kF 15 ad) H0 H1 locs1 → W p l e R s m args below meth c H1 locs1 cells slots Q (F0 m (pc + 3) ls rest)) : W p l e R s m args below meth c H locs cells slots Q (F0 m pc ls (.int x :: .ref (ad 0) :: rest)) := mm_put C hP hS 17 (by decide) q1535 rfl rfl rfl rfl hdg kk
theorem q1536 : (Jvm.Cond.fieldLink "ChapterLoanModel" (38 : Nat) "ChapterLoanModel" "heard" "[I") ∈ lw_all := lw_g (lw_at lw_m7 12 rfl) rfl
theorem g_heard (C : mC p R d s m args c cc nL D cI ad) (hP : mW D cI ad st H) (hdg : decode cc pc = .ok (.getfield 38, 3)) (kk : W p l e R s m args below meth c H locs cells slots Q (F0 m (pc + 3) ls (.ref (ad 9) :: rest))) : W p l e R s m args below meth c H locs cells slots Q (F0 m pc ls (.ref (ad 0) :: rest)) := mm_get C hP 18 (by decide) q1536 rfl hdg kk
theorem q1537 : (Jvm.Cond.fieldLink "ChapterLoanModel" (41 : Nat) "ChapterLoanModel" "traced" "[I") ∈ lw_all := lw_g (lw_at lw_m7 13 rfl) rfl
theorem g_traced (C : mC p R d s m args c cc nL D cI ad) (hP : mW D cI ad st H) (hdg : decode cc pc = .ok (.getfield 41, 3)) (kk : W p l e R s m args below meth c H locs cells slots Q (F0 m (pc + 3) ls (.ref (ad 10) :: rest))) : W p l e R s m args below meth c H locs cells slots Q (F0 m pc ls (.ref (ad 0) :: rest)) := mm_get C hP 19 (by decide) q1537 rfl hdg kk
theorem q1538 : (Jvm.Cond.fieldLink "ChapterLoanModel" (285 : Nat) "ChapterLoanModel" "traceMany" "I") ∈ lw_all := lw_g (lw_at lw_m7 14 rfl) rfl
theorem g_traceMany (C : mC p R d s m args c cc nL D cI ad) (hP : mW D cI ad st H) (hdg : decode cc pc = .ok (.getfield 285, 3)) (kk : W p l e R s m args below meth c H locs cells slots Q (F0 m (pc + 3) ls (.int (st.1 20) :: rest))) : W p l e R s m args below meth c H locs cells slots Q (F0 m pc ls (.ref (ad 0) :: rest)) := mm_get C hP 20 (by decide) q1538 rfl hdg kk
theorem p_traceMany {x : Int32} (C : mC p R d s m args c cc nL D cI ad) (hP : mW D cI ad st H) (hS : va_S (kF 15 ad) H0 H locs) (hdg : decode cc pc = .ok (.putfield 285, 3)) (kk : ∀ (H1 : Heap) (locs1 : List Loc), mW D cI ad (sf st 20 x) H1 → va_S (kF 15 ad) H0 H1 locs1 → W p l e R s m args below meth c H1 locs1 cells slots Q (F0 m (pc + 3) ls rest)) : W p l e R s m args below meth c H locs cells slots Q (F0 m pc ls (.int x :: .ref (ad 0) :: rest)) := mm_put C hP hS 20 (by decide) q1538 rfl rfl rfl rfl hdg kk
theorem q1539 : (Jvm.Cond.fieldLink "ChapterLoanModel" (288 : Nat) "ChapterLoanModel" "who" "I") ∈ lw_all := lw_g (lw_at lw_m7 15 rfl) rfl
theorem g_who (C : mC p R d s m args c cc nL D cI ad) (hP : mW D cI ad st H) (hdg : decode cc pc = .ok (.getfield 288, 3)) (kk : W p l e R s m args below meth c H locs cells slots Q (F0 m (pc + 3) ls (.int (st.1 21) :: rest))) : W p l e R s m args below meth c H locs cells slots Q (F0 m pc ls (.ref (ad 0) :: rest)) := mm_get C hP 21 (by decide) q1539 rfl hdg kk
theorem p_who {x : Int32} (C : mC p R d s m args c cc nL D cI ad) (hP : mW D cI ad st H) (hS : va_S (kF 15 ad) H0 H locs) (hdg : decode cc pc = .ok (.putfield 288, 3)) (kk : ∀ (H1 : Heap) (locs1 : List Loc), mW D cI ad (sf st 21 x) H1 → va_S (kF 15 ad) H0 H1 locs1 → W p l e R s m args below meth c H1 locs1 cells slots Q (F0 m (pc + 3) ls rest)) : W p l e R s m args below meth c H locs cells slots Q (F0 m pc ls (.int x :: .ref (ad 0) :: rest)) := mm_put C hP hS 21 (by decide) q1539 rfl rfl rfl rfl hdg kk
theorem q1540 : (Jvm.Cond.fieldLink "ChapterLoanModel" (44 : Nat) "ChapterLoanModel" "bitsOf" "[I") ∈ lw_all := lw_g (lw_at lw_m7 16 rfl) rfl
theorem g_bitsOf (C : mC p R d s m args c cc nL D cI ad) (hP : mW D cI ad st H) (hdg : decode cc pc = .ok (.getfield 44, 3)) (kk : W p l e R s m args below meth c H locs cells slots Q (F0 m (pc + 3) ls (.ref (ad 11) :: rest))) : W p l e R s m args below meth c H locs cells slots Q (F0 m pc ls (.ref (ad 0) :: rest)) := mm_get C hP 22 (by decide) q1540 rfl hdg kk
theorem q1541 : (Jvm.Cond.fieldLink "ChapterLoanModel" (47 : Nat) "ChapterLoanModel" "sizeOf" "[I") ∈ lw_all := lw_g (lw_at lw_m7 17 rfl) rfl
theorem g_sizeOf (C : mC p R d s m args c cc nL D cI ad) (hP : mW D cI ad st H) (hdg : decode cc pc = .ok (.getfield 47, 3)) (kk : W p l e R s m args below meth c H locs cells slots Q (F0 m (pc + 3) ls (.ref (ad 12) :: rest))) : W p l e R s m args below meth c H locs cells slots Q (F0 m pc ls (.ref (ad 0) :: rest)) := mm_get C hP 23 (by decide) q1541 rfl hdg kk
theorem q1542 : (Jvm.Cond.fieldLink "ChapterLoanModel" (50 : Nat) "ChapterLoanModel" "number" "[I") ∈ lw_all := lw_g (lw_at lw_m7 18 rfl) rfl
theorem g_number (C : mC p R d s m args c cc nL D cI ad) (hP : mW D cI ad st H) (hdg : decode cc pc = .ok (.getfield 50, 3)) (kk : W p l e R s m args below meth c H locs cells slots Q (F0 m (pc + 3) ls (.ref (ad 13) :: rest))) : W p l e R s m args below meth c H locs cells slots Q (F0 m pc ls (.ref (ad 0) :: rest)) := mm_get C hP 24 (by decide) q1542 rfl hdg kk
theorem q1543 : (Jvm.Cond.fieldLink "ChapterLoanModel" (53 : Nat) "ChapterLoanModel" "lifted" "[I") ∈ lw_all := lw_g (lw_at lw_m7 19 rfl) rfl
theorem g_lifted (C : mC p R d s m args c cc nL D cI ad) (hP : mW D cI ad st H) (hdg : decode cc pc = .ok (.getfield 53, 3)) (kk : W p l e R s m args below meth c H locs cells slots Q (F0 m (pc + 3) ls (.ref (ad 14) :: rest))) : W p l e R s m args below meth c H locs cells slots Q (F0 m pc ls (.ref (ad 0) :: rest)) := mm_get C hP 25 (by decide) q1543 rfl hdg kk
end MFIELDS
