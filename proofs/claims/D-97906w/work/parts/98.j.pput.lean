/-! the pure stage: put, sheet -/
set_option maxRecDepth 100000
section
variable {t u tr F D M p nx k : Nat} {cs cs' c0 c c1 : CS} {d d' : Nat → Int32} {ms ms' m0 m m1 : MSt} {cA : Nat → ClassId} {ad adK : Nat → Nat}
theorem rep_putB {P : Nat → va_E} {u b : Nat} {e0 e' : va_E} (hb : P (1000 + b) = e0) (hi : ∀ q, e0 ≠ .inr q) : ∀ (e a : Nat) (v : (Nat → Int32) → Int32), rep P u e a v → rep (va_up P (1000 + b) e') u e a v := by
  have ne : ∀ (a : Nat) (q : Nat × List Value), P (1000 + a) = .inr q → va_up P (1000 + b) e' (1000 + a) = P (1000 + a) := fun a q h => va_up_ne _ _ (fun e => by
    have : a = b := by omega
    subst this
    rw [hb] at h
    exact hi q h)
  intro e
  induction e with
  | zero => intro a v h; exact h
  | succ e ih =>
    intro a v h
    rcases h with ⟨x, h, h2⟩ | ⟨k, hk, h, h2⟩ | ⟨b, w, h, h2, rfl⟩ | ⟨s, b, c, w1, w2, hs, h, h2, h3, rfl⟩
    · exact Or.inl ⟨x, (ne _ _ h).trans h, h2⟩
    · exact Or.inr (Or.inl ⟨k, hk, (ne _ _ h).trans h, h2⟩)
    · exact Or.inr (Or.inr (Or.inl ⟨b, w, (ne _ _ h).trans h, ih b w h2, rfl⟩))
    · exact Or.inr (Or.inr (Or.inr ⟨s, b, c, w1, w2, hs, (ne _ _ h).trans h, ih b w1 h2, ih c w2 h3, rfl⟩))
/-- a row of the pool is written -/
theorem TR.putB {b : Nat} {e0 e' : va_E} (H : TR t tr cs d F D M) (hb : cs.2.2.2 (1000 + b) = e0) (hi : ∀ q, e0 ≠ .inr q) : TR t tr (csP cs (1000 + b) e') d F D M := by
  have ne : ∀ (a : Nat) (q : Nat × List Value), cs.2.2.2 (1000 + a) = .inr q → (csP cs (1000 + b) e').2.2.2 (1000 + a) = cs.2.2.2 (1000 + a) := fun a q h => va_up_ne _ _ (fun e => by
    have : a = b := by omega
    subst this
    rw [hb] at h
    exact hi q h)
  have dv : ∀ a r, dvOf (cs.2.2.2 (1000 + a)) = some r → (csP cs (1000 + b) e').2.2.2 (1000 + a) = cs.2.2.2 (1000 + a) := fun a r h => by
    obtain ⟨k, tr, n, m⟩ := r
    exact ne a _ (dvOf_some h).2
  refine TR.mk H.n (TQ.mk (fun p hp => ?_) (fun p a hp h => ?_) (fun u hu => ?_)) H.i
  · obtain ⟨a, k, h1, h2, h3⟩ := H.q.deb p hp
    exact ⟨a, k, h1, by rw [dv a _ h2]; exact h2, h3⟩
  · have h2 := H.q.dq p a hp h
    unfold isDeb at h2 ⊢
    cases hd : dvOf (cs.2.2.2 (1000 + a)) with
    | none => rw [hd] at h2; cases h2
    | some r => rw [dv a r hd, hd]; rfl
  · rcases H.q.tx u hu with h | ⟨a, v, n, h2, h3, h4⟩
    · exact Or.inl h
    · exact Or.inr ⟨a, v, n, h2, rep_putB hb hi 60 a v h3, h4⟩
theorem shOf_in {P : Nat → va_E} {a w b n : Nat} {f : Nat → Int32} (h : shOf cA P a = some (w, b, n, f)) : P (1000 + a) = .inr (19 + w, [.ref b]) ∧ P (1000 + b) = .inl (cA (shT w), n, .inl f) ∧ w < 3 := by
  unfold shOf at h
  split at h
  · rename_i ci b' e1
    split at h
    · rename_i x n' f' e2
      split at h
      · rename_i hc; cases h; obtain ⟨rfl, rfl⟩ := hc; exact ⟨e1, e2, by decide⟩
      · split at h
        · rename_i hc; cases h; obtain ⟨rfl, rfl⟩ := hc; exact ⟨e1, e2, by decide⟩
        · split at h
          · rename_i hc; cases h; obtain ⟨rfl, rfl⟩ := hc; exact ⟨e1, e2, by decide⟩
          · cases h
    · cases h
  · cases h
theorem shOf_of {P : Nat → va_E} {a w b n : Nat} {f : Nat → Int32} (hw : w < 3) (h1 : P (1000 + a) = .inr (19 + w, [.ref b])) (h2 : P (1000 + b) = .inl (cA (shT w), n, .inl f)) : shOf cA P a = some (w, b, n, f) := by
  unfold shOf
  rw [h1]
  simp only
  rw [h2]
  match w, hw with
  | 0, _ => exact if_pos ⟨rfl, rfl⟩
  | 1, _ => exact (if_neg (fun h => absurd h.1 (by decide))).trans (if_pos ⟨rfl, rfl⟩)
  | 2, _ => exact (if_neg (fun h => absurd h.1 (by decide))).trans ((if_neg (fun h => absurd h.1 (by decide))).trans (if_pos ⟨rfl, rfl⟩))
theorem shN_twice (w : Nat) (x : Int32) : shN w (shN w x) = shN w x := by
  unfold shN
  split
  · rw [vp_nar_byte, vp_nar_byte, fb_byte_twice, fb_byte_twice, fb_byte_twice]
  · split
    · rw [vp_nar_short, vp_nar_short, fb_short_twice, fb_short_twice, fb_short_twice]
    · rfl
end
