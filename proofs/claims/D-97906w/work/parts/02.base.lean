/-! base: keyed worlds, reading and writing arrays in plain functions -/
def kw (N : Nat) (ad : Nat → Nat) (g : Nat → va_E) : va_W := (List.range N).map fun k => (ad k, g k)
theorem kw_at {N k : Nat} {ad : Nat → Nat} {g : Nat → va_E} (h : k < N) : (kw N ad g)[k]? = some (ad k, g k) := by
  simp [kw, h]
theorem kw_set {N k : Nat} {ad : Nat → Nat} {g : Nat → va_E} {e : va_E} : (kw N ad g).set k (ad k, e) = kw N ad (va_up g k e) := by
  apply List.ext_getElem?
  intro i
  by_cases hi : i < N
  · by_cases hk : k = i
    · subst hk
      rw [List.getElem?_set_self (by simp [kw, hi]), kw_at hi]
      simp [va_up]
    · rw [List.getElem?_set_ne hk, kw_at hi, kw_at hi]
      simp [va_up, Ne.symm hk]
  · have h1 : ((kw N ad g).set k (ad k, e))[i]? = none := by simp [kw]; omega
    have h2 : (kw N ad (va_up g k e))[i]? = none := by simp [kw]; omega
    rw [h1, h2]
def kInj (N : Nat) (ad : Nat → Nat) : Prop := ∀ i j : Nat, i < N → j < N → ad i = ad j → i = j
def kF (N : Nat) (ad : Nat → Nat) : Nat → Prop := fun q => ∃ k, k < N ∧ q = ad k
theorem kw_D {N : Nat} {ad : Nat → Nat} {g : Nat → va_E} (h : kInj N ad) : va_D (kF N ad) (kw N ad g) := by
  have key : ∀ (i : Nat) (p : Nat × va_E), (kw N ad g)[i]? = some p → i < N ∧ p.1 = ad i := by
    intro i p hp
    by_cases hi : i < N
    · rw [kw_at hi] at hp; cases hp; exact ⟨hi, rfl⟩
    · have h2 : (kw N ad g)[i]? = none := by simp [kw]; omega
      rw [h2] at hp; cases hp
  refine ⟨fun i j p q hp hq e => ?_, fun k q hq => ?_⟩
  · obtain ⟨h1, h2⟩ := key i p hp
    obtain ⟨h3, h4⟩ := key j q hq
    exact h i j h1 h3 (by rw [← h2, ← h4]; exact e)
  · obtain ⟨h1, h2⟩ := key k q hq
    exact ⟨k, h1, h2⟩
theorem kw_P {D : va_G} {cl : List vw_C} {N : Nat} {ad : Nat → Nat} {g g' : Nat → va_E} {H : Heap} (h : va_P D cl (kw N ad g) H) (e : ∀ k, k < N → g k = g' k) : va_P D cl (kw N ad g') H := by
  have : kw N ad g = kw N ad g' := by
    apply List.map_congr_left
    intro k hk
    rw [e k (List.mem_range.mp hk)]
  rw [← this]; exact h
/-- an array read, in plain words -/
def rd (a : Nat → Int32) (n : Nat) (i : Int32) : Option Int32 := if i < 0 ∨ n ≤ i.toNatClampNeg then none else some (a i.toNatClampNeg)
theorem rd_some {a : Nat → Int32} {n : Nat} {i v : Int32} (h : rd a n i = some v) : vp_in i n ∧ v = a i.toNatClampNeg := by
  unfold rd at h
  split at h
  · cases h
  · rename_i hq
    exact ⟨hq, (Option.some.inj h).symm⟩
theorem rd_nI {a : Nat → Int32} {n k : Nat} (h : k < n) (hn : n < 2 ^ 31) : rd a n (nI k) = some (a k) := by
  have h1 : vp_in (nI k) n := vp_in_nI h hn
  unfold rd
  rw [if_neg h1, nI_clamp (by omega)]
/-- an array write: the new contents -/
def wr (a : Nat → Int32) (n : Nat) (i v : Int32) : Option (Nat → Int32) := if i < 0 ∨ n ≤ i.toNatClampNeg then none else some (upd a i.toNatClampNeg v)
theorem wr_some {a b : Nat → Int32} {n : Nat} {i v : Int32} (h : wr a n i v = some b) : vp_in i n ∧ b = upd a i.toNatClampNeg v := by
  unfold wr at h
  split at h
  · cases h
  · rename_i hq
    exact ⟨hq, (Option.some.inj h).symm⟩
theorem wr_nI {a : Nat → Int32} {n k : Nat} {v : Int32} (h : k < n) (hn : n < 2 ^ 31) : wr a n (nI k) v = some (upd a k v) := by
  have h1 : vp_in (nI k) n := vp_in_nI h hn
  unfold wr
  rw [if_neg h1, nI_clamp (by omega)]
theorem bnd_some {α β : Type} {x : Option α} {f : α → Option β} {r : β} (h : x.bind f = some r) : ∃ v, x = some v ∧ f v = some r := by
  cases x with
  | none => cases h
  | some v => exact ⟨v, rfl, h⟩
theorem non_some {β : Type} {r : β} {P : Prop} (h : (none : Option β) = some r) : P := by cases h
theorem if_some_t {β : Type} {c : Prop} {dc : Decidable c} {x y : Option β} {r : β} (h : (@ite _ c dc x y) = some r) (hc : c) : x = some r := by rw [if_pos hc] at h; exact h
theorem if_some_f {β : Type} {c : Prop} {dc : Decidable c} {x y : Option β} {r : β} (h : (@ite _ c dc x y) = some r) (hc : ¬ c) : y = some r := by rw [if_neg hc] at h; exact h
/-- division that stops at zero -/
def dv (x y : Int32) : Option Int32 := if y = 0 then none else some (x / y)
def rmd (x y : Int32) : Option Int32 := if y = 0 then none else some (x - x / y * y)
theorem dv_some {x y v : Int32} (h : dv x y = some v) : ¬ y = 0 ∧ v = x / y := by
  unfold dv at h
  split at h
  · cases h
  · rename_i hq
    exact ⟨hq, (Option.some.inj h).symm⟩
theorem rmd_some {x y v : Int32} (h : rmd x y = some v) : ¬ y = 0 ∧ v = x - x / y * y := by
  unfold rmd at h
  split at h
  · cases h
  · rename_i hq
    exact ⟨hq, (Option.some.inj h).symm⟩
