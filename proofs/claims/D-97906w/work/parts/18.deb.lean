/-! debtors: objects of the pool, of seven classes; calls up and calls by class -/
set_option maxRecDepth 100000
def dbAt (ks : List Nat) (ad : Nat → Nat) (P : Nat → va_E) (a k tr : Nat) (n m : Int32) : Prop := (1000 + a ∈ ks ∧ ad (1000 + a) = a) ∧ k < 7 ∧ P (1000 + a) = .inr (7 + k, [.ref tr, .int n, .int m])
/-- what a cell of the pool is, as a debtor: kind, trace, number, m -/
def dvOf (e : va_E) : Option (Nat × Nat × Int32 × Int32) := match e with
  | .inr (ci, [.ref tr, .int n, .int m]) => if 7 ≤ ci ∧ ci < 14 then some (ci - 7, tr, n, m) else none
  | _ => none
theorem dvOf_some {e : va_E} {k tr : Nat} {n m : Int32} (h : dvOf e = some (k, tr, n, m)) : k < 7 ∧ e = .inr (7 + k, [.ref tr, .int n, .int m]) := by
  unfold dvOf at h
  split at h
  · rename_i ci tr' n' m'
    split at h
    · rename_i hc
      simp only [Option.some.injEq, Prod.mk.injEq] at h
      obtain ⟨h1, rfl, rfl, rfl⟩ := h
      exact ⟨by omega, by rw [show 7 + k = ci by omega]⟩
    · cases h
  · cases h
theorem cg_pool {cA : Nat → ClassId} {ad : Nat → Nat} {st : CS} {a : Nat} : cg cA ad st (1000 + a) = st.2.2.2 (1000 + a) := by
  unfold cg
  rw [if_neg (by omega), if_neg (by omega)]
abbrev dbC (k : Nat) : vw_C := match k with
  | 0 => (RX7, TX7, 3)
  | 1 => (RX8, TX8, 3)
  | 2 => (RX9, TX9, 3)
  | 3 => (RX10, TX10, 3)
  | 4 => (RX11, TX11, 3)
  | 5 => (RX12, TX12, 3)
  | _ => (RX13, TX13, 3)
theorem db_cl {k : Nat} (hk : k < 7) : cCl[7 + k]? = some (dbC k) := by
  match k, hk with
  | 0, _ => rfl
  | 1, _ => rfl
  | 2, _ => rfl
  | 3, _ => rfl
  | 4, _ => rfl
  | 5, _ => rfl
  | 6, _ => rfl
theorem db_in {k : Nat} (hk : k < 7) : ∀ w ∈ u_ws (dbC k).1 (dbC k).2.1 (dbC k).2.2, w ∈ lw_all := by
  match k, hk with
  | 0, _ => exact in_X7
  | 1, _ => exact in_X8
  | 2, _ => exact in_X9
  | 3, _ => exact in_X10
  | 4, _ => exact in_X11
  | 5, _ => exact in_X12
  | 6, _ => exact in_X13
theorem db_T {k : Nat} (hk : k < 7) : (dbC k).2.1 0 = ("ChapterLoan$Debtor", "trace", "LChapterLoan$Trace;", true) ∧ (dbC k).2.1 1 = ("ChapterLoan$Debtor", "number", "I", true) ∧ (dbC k).2.1 2 = ("ChapterLoan$Debtor", "m", "I", true) ∧ (dbC k).2.2 = 3 := by
  match k, hk with
  | 0, _ => exact ⟨rfl, rfl, rfl, rfl⟩
  | 1, _ => exact ⟨rfl, rfl, rfl, rfl⟩
  | 2, _ => exact ⟨rfl, rfl, rfl, rfl⟩
  | 3, _ => exact ⟨rfl, rfl, rfl, rfl⟩
  | 4, _ => exact ⟨rfl, rfl, rfl, rfl⟩
  | 5, _ => exact ⟨rfl, rfl, rfl, rfl⟩
  | 6, _ => exact ⟨rfl, rfl, rfl, rfl⟩
theorem lw_SU {own : String} {idx : Nat} {y : MethodName} {b : ByteArray} {L : Nat} {r : Option FieldType} (h1 : Cond.methodLink own idx y ∈ lw_all) (h2 : Cond.sameMethod y.cls y.cls y.name y.desc ∈ lw_all) (h3 : Cond.superclass own y.cls ∈ lw_all) (h4 : Cond.instanceMethod y ∈ lw_all) (h5 : Cond.initialized y.cls ∈ lw_all) (h6 : Cond.code y b L r ∈ lw_all) : GoodIn lw_all (va_wsSU own idx y (ws_ y b L r)) := by
  refine lw_app ?_ (lw_meth h6)
  intro w hw
  simp only [List.mem_cons, List.not_mem_nil, or_false] at hw
  rcases hw with e | e | e | e | e
  · rw [e]; exact h1
  · rw [e]; exact h2
  · rw [e]; exact h3
  · rw [e]; exact h4
  · rw [e]; exact h5
theorem lw_U {own : String} {idx : Nat} {C owner : String} {x y : MethodName} {b : ByteArray} {L : Nat} {r : Option FieldType} (h1 : Cond.methodLink own idx x ∈ lw_all) (h2 : Cond.sameMethod x.cls owner x.name x.desc ∈ lw_all) (h3 : Cond.selects C x y ∈ lw_all) (h4 : Cond.instanceMethod y ∈ lw_all) (h5 : Cond.initialized y.cls ∈ lw_all) (h6 : Cond.code y b L r ∈ lw_all) : GoodIn lw_all (va_wsU own idx C owner x y (ws_ y b L r)) := by
  refine lw_app ?_ (lw_meth h6)
  intro w hw
  simp only [List.mem_cons, List.not_mem_nil, or_false] at hw
  rcases hw with e | e | e | e | e
  · rw [e]; exact h1
  · rw [e]; exact h2
  · rw [e]; exact h3
  · rw [e]; exact h4
  · rw [e]; exact h5
theorem lw_O {own : String} {idx : Nat} {C owner : String} {x y : MethodName} {b : ByteArray} {L : Nat} {r : Option FieldType} (h1 : Cond.methodLink own idx x ∈ lw_all) (h2 : Cond.sameMethod x.cls owner x.name x.desc ∈ lw_all) (h0 : Cond.instanceMethod ⟨owner, x.name, x.desc⟩ ∈ lw_all) (h3 : Cond.selects C x y ∈ lw_all) (h4 : Cond.instanceMethod y ∈ lw_all) (h5 : Cond.initialized y.cls ∈ lw_all) (h6 : Cond.code y b L r ∈ lw_all) : GoodIn lw_all (va_wsO own idx C owner x y (ws_ y b L r)) := by
  refine lw_app ?_ (lw_meth h6)
  intro w hw
  simp only [List.mem_cons, List.not_mem_nil, or_false] at hw
  rcases hw with e | e | e | e | e | e
  · rw [e]; exact h1
  · rw [e]; exact h2
  · rw [e]; exact h0
  · rw [e]; exact h3
  · rw [e]; exact h4
  · rw [e]; exact h5
theorem ref_live {D : va_G} {cA : Nat → ClassId} {ks : List Nat} {ad : Nat → Nat} {st : CS} {H : Heap} {k n a : Nat} {i : Int32} (hP : cW D cA ks ad st H) (h : rdq (st.2.2.1 k) n i = some (some a)) (h1 : k < 73) (h2 : k ≠ 61) (h3 : k ≠ 68) : live ks ad a :=
  hP.2.1 k _ a h1 h2 h3 (rdq_some h).2.symm
/-- a reference, null or not -/
def onq {β : Type} (r : Option Nat) (x : Option β) (f : Nat → Option β) : Option β := match r with
  | none => x
  | some a => f a
section DEB
variable {p : Program} {l : Launch} {e : Env} {R : Room} {s : State} {m : MethodId} {args : Array Value} {below : List Frame} {meth : Method} {c : Code} {H : Heap} {locs : List Loc} {cells slots d : Nat} {Q : State → Prop}
variable {cc : ByteArray} {pc nL : Nat} {ls : Array Slot} {rest : List Value} {D : va_G} {cA : Nat → ClassId} {ks : List Nat} {ad : Nat → Nat} {A : Nat → Prop} {st st' : CS} {H0 : Heap} {own : String}
variable {y : MethodName} {bytes : ByteArray} {maxL index n : Nat} {ret : Option FieldType} {As st0 : List Value} {dk a k tr : Nat} {dn dm : Int32}
theorem db_recv (C : cC p R d s m args c cc nL own D cA A) (hP : cW D cA ks ad st H) (hdb : dbAt ks ad st.2.2.2 a k tr dn dm) : ∃ cellB : Cell, H[a]? = some cellB ∧ cellB.vm.isStatics = false ∧ s.vm.findClass (dbC k).1 = some cellB.cls := by
  obtain ⟨⟨h1, h2⟩, h3, h4⟩ := hdb
  have h := cc_recv C hP h1 (by rw [cg_pool]; exact h4) (db_cl h3)
  rw [h2] at h
  exact h
theorem db_get (C : cC p R d s m args c cc nL own D cA A) (hP : cW D cA ks ad st H) (hdb : dbAt ks ad st.2.2.2 a k tr dn dm) (j : Nat) (hj : j < 3) {nm ds ref : String} (hT : ∀ k, k < 7 → (dbC k).2.1 j = ("ChapterLoan$Debtor", nm, ds, true)) (hl : Cond.fieldLink own index ref nm ds ∈ lw_all) (hsame : ∀ x, s.fieldFound? "ChapterLoan$Debtor" nm ds = some x → s.fieldFound? ref nm ds = some x) {v : Value} (hv : [Value.ref tr, .int dn, .int dm][j]? = some v) (hdg : decode cc pc = .ok (.getfield index, 3))
    (kk : W p l e R s m args below meth c H locs cells slots Q (F0 m (pc + 3) ls (v :: rest))) : W p l e R s m args below meth c H locs cells slots Q (F0 m pc ls (.ref a :: rest)) := by
  obtain ⟨⟨h1, h2⟩, h3, h4⟩ := hdb
  have e0 := hT k h3
  rw [← h2]
  refine cc_get (Cn := (dbC k).1) (T := (dbC k).2.1) (N := (dbC k).2.2) C hP h1 (by rw [cg_pool]; exact h4) (db_cl h3) (db_in h3) j (by rw [(db_T h3).2.2.2]; exact hj) (ref := ref) ?_ ?_ hv hdg kk
  · rw [e0]; exact hl
  · rw [e0]; exact hsame
theorem db_same {nm ds ref : String} (C : cC p R d s m args c cc nL own D cA A) (h : Cond.sameField ref "ChapterLoan$Debtor" nm ds ∈ lw_all) : ∀ x, s.fieldFound? "ChapterLoan$Debtor" nm ds = some x → s.fieldFound? ref nm ds = some x := fun x hx => u_same (C.2.2.2.2.1 _ h) x hx
/-- super.m(..), a method that reads -/
theorem db_superR {r : Int32} (C : cC p R d s m args c cc nL own D cA A) (hP : cW D cA ks ad st H) (hz : s.heap.size ≤ H.size) (hdb : dbAt ks ad st.2.2.2 a k tr dn dm) (hM : cR l y bytes maxL ret dk D cA ks ad A st (.ref a :: As) r) (cw : va_CS R s args own index y bytes maxL ret (ws_ y bytes maxL ret) (k2_rm dk (40 * dk)) 0 0 n)
    (hn : As.length = n) (hsz : ls.size = nL) (hst : st0 = As.reverse ++ .ref a :: rest) (hW : (rest.map fun v => v.category).sum ≤ 8) (hdg : decode cc pc = .ok (.invokespecial index, 3)) (hcs : cells ≤ R.cells ∧ slots ≤ R.slots)
    (kk : W p l e R s m args below meth c H locs cells slots Q (F0 m (pc + 3) ls (.int r :: rest))) : W p l e R s m args below meth c H locs cells slots Q (F0 m pc ls st0) :=
  cc_callRN (va_runSU (C := (dbC k).1) (cC := D.1 (7 + k)) (As := As) (rest := rest) (C.2.2.2.2.2.2.1.1 _ _ (db_cl hdb.2.1)).2 ⟨C.1, C.2.1, C.2.2.1, C.2.2.2.1, C.2.2.2.2.1⟩ hM cw ⟨cc_blind, db_recv C hP hdb, cc_pre C hP hz⟩ rfl hn hsz hst (lv_room hW) hdg hcs) kk
/-- a call by the object's class, a method that reads -/
theorem db_virtR {r : Int32} {x : MethodName} {owner : String} (C : cC p R d s m args c cc nL own D cA A) (hP : cW D cA ks ad st H) (hz : s.heap.size ≤ H.size) (hdb : dbAt ks ad st.2.2.2 a k tr dn dm) (hM : cR l y bytes maxL ret dk D cA ks ad A st (.ref a :: As) r) (cw : va_CU R s args own (dbC k).1 owner index x y bytes maxL ret (ws_ y bytes maxL ret) (k2_rm dk (40 * dk)) 0 0 n)
    (hn : As.length = n) (hsz : ls.size = nL) (hst : st0 = As.reverse ++ .ref a :: rest) (hW : (rest.map fun v => v.category).sum ≤ 8) (hdg : decode cc pc = .ok (.invokevirtual index, 3)) (hcs : cells ≤ R.cells ∧ slots ≤ R.slots)
    (kk : W p l e R s m args below meth c H locs cells slots Q (F0 m (pc + 3) ls (.int r :: rest))) : W p l e R s m args below meth c H locs cells slots Q (F0 m pc ls st0) :=
  cc_callRN (va_runU (As := As) (rest := rest) ⟨C.1, C.2.1, C.2.2.1, C.2.2.2.1, C.2.2.2.2.1⟩ hM cw ⟨cc_blind, db_recv C hP hdb, cc_pre C hP hz⟩ rfl hn hsz hst (lv_room hW) hdg hcs) kk
end DEB
