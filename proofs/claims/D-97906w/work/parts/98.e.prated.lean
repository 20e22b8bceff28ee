/-! the pure stage: rated -/
set_option maxRecDepth 100000
section
variable {t u tr F D M p nx k : Nat} {cs cs' cs1 cs2 : CS} {d d' : Nat → Int32} {ms ms' ms1 ms2 ms3 : MSt} {cA : Nat → ClassId} {ad adK : Nat → Nat}
/-- what rated may change in the model -/
def frR (ms ms' : MSt) : Prop := ms'.2 1 = ms.2 1 ∧ (∀ j, j ≠ 1 → j ≠ 3 → j ≠ 5 → ms'.2 j = ms.2 j) ∧ (∀ j, (j < 5 ∨ 13 < j) → ms'.1 j = ms.1 j)
theorem free_by (H : TR 0 tr cs (ms.2 1) F D M) (hp : p < D) {r : Nat} (hr : r ≤ 4) : ∃ v cs' ms', L_freeBy NN cs (nI p) (nI r) = some (v, cs') ∧ M_ratedBy NN ms (nI p) (nI r) = some (v, ms') ∧ (v = -1 ∨ ∃ n, n ≤ 60 ∧ v = nI n) ∧ frT 2 cs cs' ∧ frR ms ms' ∧ ms'.1 12 = -1 := by
  have lD := H.i.lD
  have hp4 : p < 4 := by omega
  obtain ⟨c1, b1, b2, b3, b4⟩ := H.become (t := 2) (by decide)
  rw [L_freeBy, b1, bd1_s, M_ratedBy, keep_M, bd1_s]
  have H0 : TR 2 tr (csF (csF c1 (20 * 2) 25 (nI p)) (20 * 2) 26 (nI r)) ((sa (sf (sf ms 12 (nI p)) 13 (nI r)) 3 (fa_fill ((sf (sf ms 12 (nI p)) 13 (nI r)).2 1) ((sf (sf ms 12 (nI p)) 13 (nI r)).2 3) 170)).2 1) F D M := by
    rw [sa_ne _ _ (by decide)]
    refine TR.move b2 (fun j hj => ?_) (fun _ _ _ => rfl) (fun _ _ => rfl) (fun _ _ => rfl) rfl
    rw [cF_ne _ _ (by omega), cF_ne _ _ (by omega)]
  have R0 : RT 2 (csF (csF c1 (20 * 2) 25 (nI p)) (20 * 2) 26 (nI r)) (sa (sf (sf ms 12 (nI p)) 13 (nI r)) 3 (fa_fill ((sf (sf ms 12 (nI p)) 13 (nI r)).2 1) ((sf (sf ms 12 (nI p)) 13 (nI r)).2 3) 170)) := by
    refine ⟨?_, Or.inr ⟨?_, r, hr, ?_⟩⟩
    · rw [cF_ne _ _ (by omega), cF_at, sa_f, sf_ne _ _ (by omega), sf_at]
    · rw [cF_at, sa_f, sf_at]
    · rw [sa_f, sf_at]
  have f0 : frT 2 cs (csF (csF c1 (20 * 2) 25 (nI p)) (20 * 2) 26 (nI r)) := (b3.trans frT.fld).trans frT.fld
  generalize csF (csF c1 (20 * 2) 25 (nI p)) (20 * 2) 26 (nI r) = c2 at H0 R0 f0 ⊢
  obtain ⟨mm, hmm⟩ : ∃ z, z = sf (sf ms 12 (nI p)) 13 (nI r) := ⟨_, rfl⟩
  rw [← hmm] at H0 R0 ⊢
  have hl : ∀ (k j f f' : Nat) (c : CS) (m : MSt), j + k = 60 → k + 1 < f → k + 2 < f' → TR 2 tr c (m.2 1) F D M → frC 2 c2 c → frM (sa mm 3 (fa_fill (mm.2 1) (mm.2 3) 170)) m → ∃ c3 m3 z z' b, L_freeBy_L30 NN (nI p) f c (nI j) = some (c3, nI z) ∧ M_ratedBy_L16 NN (nI p) f' m (nI j) = some (m3, nI z') ∧ rd (c3.2.1 (20 * 2 + 6)) 4 (nI p) = some (nI b) ∧ b ≤ 9999 ∧ ((b = 0 ∧ z = z' ∧ z ≤ 60) ∨ (b ≠ 0 ∧ z' = 61)) ∧ frC 2 c2 c3 ∧ frM (sa mm 3 (fa_fill (mm.2 1) (mm.2 3) 170)) m3 := by
    intro k
    induction k with
    | zero =>
      intro j f f' c m hj hf hf' Hc h1 h2
      obtain ⟨f, rfl⟩ : ∃ m, f = m + 1 := ⟨f - 1, by omega⟩
      obtain ⟨f', rfl⟩ : ∃ m, f' = m + 1 := ⟨f' - 1, by omega⟩
      obtain ⟨f', rfl⟩ : ∃ m, f' = m + 1 := ⟨f' - 1, by omega⟩
      have e : j = 60 := by omega
      subst e
      obtain ⟨b, b1, b2, b3⟩ := Hc.debtT hp4
      rw [L_freeBy_L30, if_pos (by decide), M_ratedBy_L16, if_neg (by decide), of2 hp4, bd1_s, b2]
      by_cases h0 : b = 0
      · rw [if_pos (by rw [h0]; decide)]
        exact ⟨c, m, 60, 60, b, rfl, rfl, b3, b1, Or.inl ⟨h0, rfl, by omega⟩, h1, h2⟩
      · obtain ⟨cs', ms', q1, q2, q3, q4, q5⟩ := Hc.goes (R0.fr h1 h2)
        rw [if_neg (nI_nle (by omega) (by omega)), q2, bd1_s, nI_1, M_ratedBy_L16, if_pos (by decide)]
        exact ⟨c, ms', 60, 61, b, rfl, rfl, b3, b1, Or.inr ⟨h0, rfl⟩, h1, h2.trans q5⟩
    | succ k ih =>
      intro j f f' c m hj hf hf' Hc h1 h2
      obtain ⟨f, rfl⟩ : ∃ m, f = m + 1 := ⟨f - 1, by omega⟩
      obtain ⟨f', rfl⟩ : ∃ m, f' = m + 1 := ⟨f' - 1, by omega⟩
      obtain ⟨b, b1, b2, b3⟩ := Hc.debtT hp4
      rw [L_freeBy_L30, if_neg (c := 60 ≤ nI j) (nI_ge (b := 60) (by omega) (by decide)), b3, bd1_s, M_ratedBy_L16, if_neg (c := 60 < nI j) (nI_nlt (b := j) (a := 60) (by omega) (by decide)), of2 hp4, bd1_s, b2, nI_1]
      by_cases h0 : b = 0
      · rw [if_pos (by rw [h0]; decide), if_pos (by rw [h0]; decide)]
        exact ⟨c, m, j, j, b, rfl, rfl, b3, b1, Or.inl ⟨h0, rfl, by omega⟩, h1, h2⟩
      · obtain ⟨cs', ms', q1, q2, q3, q4, q5⟩ := Hc.goes (R0.fr h1 h2)
        rw [if_neg (nI_nle (by omega) (by omega)), if_neg (nI_nle (by omega) (by omega)), q1, bd1_s, q2, bd1_s]
        exact ih (j + 1) f f' cs' ms' (by omega) (by omega) (by omega) q3 (h1.trans q4) (h2.trans q5)
  obtain ⟨c3, m3, z, z', b, g1, g2, g3, g4, g5, g6, g7⟩ := hl 60 0 NN NN c2 (sa mm 3 (fa_fill (mm.2 1) (mm.2 3) 170)) (by omega) (NN_lt (by omega)) (NN_lt (by omega)) H0 frC.rfl frM.rfl
  obtain ⟨e1, e2, e3⟩ := tried_M g7
  have fR : frR ms (sf (sa m3 1 (fa_fill (m3.2 3) (m3.2 1) 170)) 12 (-1)) := by
    refine ⟨?_, fun j h1 h3 h5 => ?_, fun j hj => ?_⟩
    · show (sa m3 1 (fa_fill (m3.2 3) (m3.2 1) 170)).2 1 = ms.2 1
      rw [e1, hmm]; rfl
    · show (sa m3 1 (fa_fill (m3.2 3) (m3.2 1) 170)).2 j = ms.2 j
      rw [sa_ne _ _ h1, g7.1 j h1 h5, sa_ne _ _ h3, hmm]; rfl
    · rw [sf_ne _ _ (by omega), e3 j (by omega), hmm, sf_ne _ _ (by omega), sf_ne _ _ (by omega)]
  rw [show L_freeBy_L30 NN (nI p) NN c2 0 = some (c3, nI z) from g1, bd2_s, g3, bd1_s, show M_ratedBy_L16 NN (nI p) NN (sa mm 3 (fa_fill (mm.2 1) (mm.2 3) 170)) 0 = some (m3, nI z') from g2, bd2_s, back_M, bd1_s]
  rcases g5 with ⟨q1, q2, q3⟩ | ⟨q1, q2⟩
  · rw [if_pos (by rw [q1]; rfl), if_pos (c := nI z' ≤ 60) (nI_le (b := 60) (by omega) (by decide)), ← q2]
    exact ⟨_, _, _, rfl, rfl, Or.inr ⟨z, q3, rfl⟩, f0.trans g6.T, fR, sf_at _ _ _⟩
  · rw [if_neg (nI_ne0 (by omega) (by omega)), if_neg (c := nI z' ≤ 60) (by rw [q2]; decide)]
    exact ⟨_, _, _, rfl, rfl, Or.inl rfl, f0.trans g6.T, fR, sf_at _ _ _⟩
theorem frR.KM (h : frR ms ms2) : KM ms ms2 := KM.mk (h.2.2 3 (by omega)) (h.2.2 20 (by omega)) (h.2.1 2 (by omega) (by omega) (by omega)) (h.2.1 4 (by omega) (by omega) (by omega)) (h.2.1 10 (by omega) (by omega) (by omega)) (h.2.1 11 (by omega) (by omega) (by omega)) (h.2.1 12 (by omega) (by omega) (by omega)) (h.2.1 13 (by omega) (by omega) (by omega))
theorem frR.rfl : frR ms ms := ⟨Eq.refl _, fun _ _ _ _ => Eq.refl _, fun _ _ => Eq.refl _⟩
theorem frR.trans (h : frR ms ms1) (g : frR ms1 ms2) : frR ms ms2 := ⟨g.1.trans h.1, fun j h1 h3 h5 => (g.2.1 j h1 h3 h5).trans (h.2.1 j h1 h3 h5), fun j hj => (g.2.2 j hj).trans (h.2.2 j hj)⟩
end
