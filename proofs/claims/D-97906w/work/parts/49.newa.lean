/-! new rows of numbers -/
set_option maxRecDepth 100000
section NEWA
variable {p : Program} {l : Launch} {e : Env} {R : Room} {s : State} {m : MethodId} {args : Array Value} {below : List Frame} {meth : Method} {c : Code} {H : Heap} {locs : List Loc} {cells slots d : Nat} {Q : State → Prop} {cc : ByteArray} {pc nL : Nat} {ls : Array Slot} {rest : List Value} {D : va_G} {cA : Nat → ClassId} {ks : List Nat} {ad : Nat → Nat} {A : Nat → Prop} {st : CS} {H0 : Heap} {own : String} {index : Nat}
theorem refOk_newA {qp : (Nat → Nat → Option Nat) × (Nat → va_E)} {k : Nat} {x : ClassId × vp_A} (h : refOk ks ad qp) : refOk (ks ++ [k]) ad (qp.1, va_up qp.2 k (.inl x)) := by
  refine ⟨fun k1 i a h1 h2 h3 h4 => live_app (h.1 k1 i a h1 h2 h3 h4), fun k1 ci1 fs1 b h1 h2 h3 h4 h5 => ?_, h.2.2⟩
  by_cases hk : k1 = k
  · subst hk
    simp [va_up] at h3
  · have h6 : qp.2 k1 = .inr (ci1, fs1) := by simpa [va_up, hk] using h3
    rcases List.mem_append.mp h1 with h7 | h7
    · exact live_app (h.2.1 k1 ci1 fs1 b h7 h2 h6 h4 h5)
    · exact absurd (by simpa using h7) hk
theorem cc_newa {atype : ArrayType} {j : Nat} {x : ClassId} {n : Int32} {N' : Nat} {f0 : Nat → Int32} (C : cC p R d s m args c cc nL own D cA A) (had : adP ad) (hO : klOk A ks ad) (hP : cW D cA ks ad st H) (hS : va_S A s.heap H locs) (harr : Cond.arrayClass (newarray.typeOf atype) ∈ lw_all) (hj : (cTys cA)[j]? = some (x, newarray.typeOf atype)) (ha : ∀ y : ClassId, vp_cell y (N', .inl f0) = arrV y N' (fun _ => defaultValue (newarray.typeOf atype))) (hn : ¬ n < 0) (hN : n.toNatClampNeg = N') (hbytes : N' * componentBytes (newarray.typeOf atype) ≤ 536870912) (hcells : cells + 1 ≤ R.cells) (hslots : slots + N' ≤ R.slots) (hdg : decode cc pc = .ok (.newarray atype, 2))
    (kk : ∀ H1 : Heap, H1.size = H.size + 1 → klOk A (ks ++ [1000 + H.size]) ad → cW D cA (ks ++ [1000 + H.size]) ad (csP st (1000 + H.size) (.inl (x, N', .inl f0))) H1 → va_S A s.heap H1 locs → W p l e R s m args below meth c H1 locs (cells + 1) (slots + N') Q (F0 m (pc + 2) ls (.ref H.size :: rest))) : W p l e R s m args below meth c H locs cells slots Q (F0 m pc ls (.int n :: rest)) := by
  obtain ⟨hx, hb, -, hown, hts, -, hK, -, hA⟩ := C
  refine va_newaK hx hb (hts _ harr) rfl hdg rfl hn hN hbytes hcells hslots rfl fun H1 cA' e1 z1 o1 hAr hNm => ?_
  have hra := (hK.2 j _ hj).2
  have hxe : cA' = x := by
    have h1 : s.vm.findClass ("[" ++ (newarray.typeOf atype).toString) = some x := by cases atype <;> exact hra
    exact Option.some.inj (hNm.symm.trans h1)
  subst hxe
  refine kk H1 z1 (klOk_new had hO hP (hA _ hS.1)) (cW_new had hP o1 ?_ (refOk_newA hP.2)) ⟨Nat.le_trans hS.1 (by omega), fun q h1 h2 => (o1 q (Nat.lt_of_lt_of_le h1 hS.1)).trans (hS.2.1 q h1 h2), hS.2.2⟩
  show H1[H.size]? = some (vp_cell _ _)
  rw [ha]
  exact e1
end NEWA
