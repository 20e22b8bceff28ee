/-! new objects: keys of the pool at their address -/
set_option maxRecDepth 100000
/-- keys of the pool stand at their address -/
def adP (ad : Nat → Nat) : Prop := ∀ a, ad (1000 + a) = a
theorem kl_app {ks : List Nat} {ad : Nat → Nat} {g : Nat → va_E} {k : Nat} : kl (ks ++ [k]) ad g = kl ks ad g ++ [(ad k, g k)] := by simp [kl]
theorem kl_congr {ks : List Nat} {ad : Nat → Nat} {g g' : Nat → va_E} (h : ∀ k ∈ ks, g k = g' k) : kl ks ad g = kl ks ad g' := List.map_congr_left (fun k hk => by rw [h k hk])
theorem live_app {ks : List Nat} {ad : Nat → Nat} {a : Nat} {l : List Nat} (h : live ks ad a) : live (ks ++ l) ad a := ⟨List.mem_append_left _ h.1, h.2⟩
theorem live_new {ks : List Nat} {ad : Nat → Nat} (had : adP ad) {a : Nat} : live (ks ++ [1000 + a]) ad a := ⟨List.mem_append_right _ (by simp), had a⟩
theorem refOk_new {ks : List Nat} {ad : Nat → Nat} {qp : (Nat → Nat → Option Nat) × (Nat → va_E)} {k ci : Nat} {fs : List Value} (h : refOk ks ad qp) (hr : ∀ b, Value.ref b ∈ fs → live ks ad b) : refOk (ks ++ [k]) ad (qp.1, va_up qp.2 k (.inr (ci, fs))) := by
  refine ⟨fun k1 i a h1 h2 h3 h4 => live_app (h.1 k1 i a h1 h2 h3 h4), fun k1 ci1 fs1 b h1 h2 h3 h4 h5 => ?_, h.2.2⟩
  by_cases hk : k1 = k
  · subst hk
    have h6 : (Sum.inr (ci, fs) : va_E) = .inr (ci1, fs1) := by simpa [va_up] using h3
    cases h6
    exact live_app (hr b h5)
  · have h6 : qp.2 k1 = .inr (ci1, fs1) := by simpa [va_up, hk] using h3
    rcases List.mem_append.mp h1 with h7 | h7
    · exact live_app (h.2.1 k1 ci1 fs1 b h7 h2 h6 h4 h5)
    · exact absurd (by simpa using h7) hk
section ALLOC
variable {p : Program} {l : Launch} {e : Env} {R : Room} {s : State} {m : MethodId} {args : Array Value} {below : List Frame} {meth : Method} {c : Code} {H : Heap} {locs : List Loc} {cells slots d : Nat} {Q : State → Prop} {cc : ByteArray} {pc nL : Nat} {ls : Array Slot} {rest : List Value} {D : va_G} {cA : Nat → ClassId} {ks : List Nat} {ad : Nat → Nat} {A : Nat → Prop} {st : CS} {H0 : Heap} {own : String} {index : Nat}
theorem ad_lt (hP : cW D cA ks ad st H) {k : Nat} (hk : k ∈ ks) : ad k < H.size := by
  obtain ⟨i, hi⟩ := List.getElem?_of_mem hk
  exact (hP.1 i _ (kl_at hi)).lt
theorem key_new (had : adP ad) (hP : cW D cA ks ad st H) : 1000 + H.size ∉ ks := by
  intro h
  have h2 := ad_lt hP h
  rw [had] at h2
  exact Nat.lt_irrefl _ h2
theorem klOk_new (had : adP ad) (hO : klOk A ks ad) (hP : cW D cA ks ad st H) (hA : A H.size) : klOk A (ks ++ [1000 + H.size]) ad := by
  refine ⟨List.nodup_append.mpr ⟨hO.1, by simp, fun a ha b hb e => ?_⟩, fun i hi j hj e => ?_, fun k hk => ?_, fun k hk => List.mem_append_left _ (hO.2.2.2 k hk)⟩
  · have : b = 1000 + H.size := by simpa using hb
    subst this
    subst e
    exact key_new had hP ha
  · rcases List.mem_append.mp hi with h1 | h1 <;> rcases List.mem_append.mp hj with h2 | h2
    · exact hO.2.1 i h1 j h2 e
    · have : j = 1000 + H.size := by simpa using h2
      subst this
      have h3 := ad_lt hP h1
      rw [e, had] at h3
      exact absurd h3 (Nat.lt_irrefl _)
    · have : i = 1000 + H.size := by simpa using h1
      subst this
      have h3 := ad_lt hP h2
      rw [← e, had] at h3
      exact absurd h3 (Nat.lt_irrefl _)
    · have h3 : i = 1000 + H.size := by simpa using h1
      have h4 : j = 1000 + H.size := by simpa using h2
      rw [h3, h4]
  · rcases List.mem_append.mp hk with h1 | h1
    · exact hO.2.2.1 k h1
    · have : k = 1000 + H.size := by simpa using h1
      subst this
      rw [had]
      exact hA
/-- a world with one cell more -/
theorem cW_new (had : adP ad) (hP : cW D cA ks ad st H) {H1 : Heap} (hk : ∀ x, x < H.size → H1[x]? = H[x]?) {e : va_E} (he : va_at D cCl (H.size, e) H1) (hr : refOk (ks ++ [1000 + H.size]) ad (st.2.2.1, va_up st.2.2.2 (1000 + H.size) e)) : cW D cA (ks ++ [1000 + H.size]) ad (csP st (1000 + H.size) e) H1 := by
  refine ⟨?_, hr⟩
  rw [kl_app]
  have e1 : kl ks ad (cg cA ad (csP st (1000 + H.size) e)) = kl ks ad (cg cA ad st) := by
    refine kl_congr (fun k hk => ?_)
    have hne : k ≠ 1000 + H.size := fun h => key_new had hP (h ▸ hk)
    rw [← cg_P (by omega)]
    simp [va_up, hne]
  rw [e1]
  refine (hP.1.kept (fun i q hq => hk q.1 (hP.1 i q hq).lt)).app (fun i q hq => ?_)
  have hz : i < 1 := (List.getElem?_eq_some_iff.mp hq).1
  rw [show i = 0 by omega] at hq
  cases hq
  rw [had, ← cg_P (by omega)]
  simpa [va_up] using he
theorem cc_new {ci N : Nat} {Cn : String} {T : u_T} {ty0 : Nat → FieldType} {fs : List Value} (C : cC p R d s m args c cc nL own D cA A) (had : adP ad) (hO : klOk A ks ad) (hP : cW D cA ks ad st H) (hS : va_S A s.heap H locs) (hcl : cCl[ci]? = some (Cn, T, N)) (hin : ∀ w ∈ u_ws Cn T N, w ∈ lw_all) (hty : ∀ k, k < N → parseFieldDescriptor (T k).2.2.1 = some (ty0 k)) (hl : Cond.classLink own index Cn ∈ lw_all) (hinst : Cond.instantiable Cn N ∈ lw_all) (hini : Cond.initialized Cn ∈ lw_all) (hfs : ∀ j, j < N → defaultValue (ty0 j) = vp_V fs j) (hnr : ∀ b, Value.ref b ∉ fs) (hcells : cells + 1 ≤ R.cells) (hslots : slots + N ≤ R.slots) (hdg : decode cc pc = .ok (.new index, 3))
    (kk : ∀ H1 : Heap, H1.size = H.size + 1 → klOk A (ks ++ [1000 + H.size]) ad → cW D cA (ks ++ [1000 + H.size]) ad (csP st (1000 + H.size) (.inr (ci, fs))) H1 → va_S A s.heap H1 locs → W p l e R s m args below meth c H1 locs (cells + 1) (slots + N) Q (F0 m (pc + 3) ls (.ref H.size :: rest))) : W p l e R s m args below meth c H locs cells slots Q (F0 m pc ls rest) := by
  obtain ⟨hx, hb, -, hown, hts, -, hK, -, hA⟩ := C
  have hKn := hK.1 ci _ hcl
  refine W.newcK hx hb hown (hts _ hl) (hts _ hinst) (hts _ hini) rfl hdg hcells hslots hKn.2.1 rfl fun H1 kC hkC e1 z1 o1 => ?_
  have hA0 : A H.size := hA _ hS.1
  refine kk H1 z1 (klOk_new had hO hP hA0) (cW_new had hP o1 ?_ (refOk_new hP.2 (fun b h => absurd h (hnr b)))) ⟨Nat.le_trans hS.1 (by omega), fun x h1 h2 => (o1 x (Nat.lt_of_lt_of_le h1 hS.1)).trans (hS.2.1 x h1 h2), hS.2.2⟩
  exact ⟨_, hcl, (u_born ty0 hts hin hKn hkC e1 hty).to hfs⟩
/-- the size of the heap, where nothing is new -/
theorem W.size0 {g : JFrame} (k : H.size = s.heap.size → W p l e R s m args below meth c H locs 0 slots Q g) : W p l e R s m args below meth c H locs 0 slots Q g := by
  intro T hT X
  have h := X.same
  refine k ?_ T hT X
  have h1 := h.2.1
  have h2 := h.2.2.1
  rw [← hT]
  simp at h1 h2
  omega
end ALLOC
