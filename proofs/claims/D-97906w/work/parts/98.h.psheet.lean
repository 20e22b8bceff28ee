/-! the pure stage: sheets are read: judge, reads -/
set_option maxRecDepth 100000
section
variable {t u tr F D M p nx k : Nat} {cs cs' c0 c c1 : CS} {d d' : Nat → Int32} {ms ms' m0 m m1 : MSt} {cA : Nat → ClassId} {ad adK : Nat → Nat}
theorem isSheet_eq (x : Int32) : L_isSheet x = L_in x 0 3 ∧ M_isSheet x = L_in x 0 3 := by
  rw [L_isSheet, M_isSheet, Min_0_3]; rcases in_two x 0 3 with h | ⟨h, -⟩ <;> rw [h] <;> exact ⟨rfl, rfl⟩
theorem wB_ne (w : Nat) : wB w ≠ 0 := by unfold wB; split; decide; split <;> decide
theorem INV.shAt (I : INV tr cA k cs ms) {j : Nat} (hj : j < 4) : (L_sheetAt cA cs (nI j) = some (none, csF cs 61 6 2) ∧ ms.2 11 j = 0) ∨ ∃ a w b n f, cs.2.2.1 (69 + j) 0 = some a ∧ shOf cA cs.2.2.2 a = some (w, b, n, f) ∧ L_sheetAt cA cs (nI j) = some (some a, cs) ∧ w < 3 ∧ ms.2 11 j = wB w ∧ ms.2 12 j = nI n ∧ n ≤ 40 ∧ (∀ i, i < n → f i = ms.2 13 (40 * j + i) ∧ shN w (f i) = f i) ∧ S_size cA cs a = some (nI n) ∧ (∀ i, i < n → S_get cA cs a (nI i) = some (ms.2 13 (40 * j + i))) := by
  obtain ⟨b, -, b2⟩ := I.sh
  have hr : rdi 4 (nI j) = some j := by unfold rdi; rw [if_neg (nI_in hj (by decide)), nI_clamp (by omega)]
  rcases b2 j hj with ⟨h1, h2⟩ | ⟨a, w, n, f, h1, h2, h3, h4, h5, h6, h7⟩
  · exact Or.inl ⟨by rw [L_sheetAt, hr, bd1_s, bd1_s, h1, onq_n, need_0, bd2_s, onx_n], h2⟩
  · refine Or.inr ⟨a, w, b j, n, f, h1, h2, ?_, h3, h4, h5, h6, h7, ?_, fun i hi => ?_⟩
    · rw [L_sheetAt, hr, bd1_s, bd1_s, h1, onq_s, need_1, bd2_s, onx_s, bd1_s, bd1_s, h1, onq_s, h2, bd4_s]
    · rw [S_size, h2, bd4_s]; rfl
    · rw [S_get, h2, bd4_s, rdC _ _ _ hi (by omega), (h7 i hi).1]
theorem rd40 {a : Nat → Int32} {j i : Nat} (hj : j < 4) (hi : i < 40) : rd a 160 (40 * nI j + nI i) = some (a (40 * j + i)) := by
  rw [show (40 : Int32) * nI j = nI (40 * j) from pk_mul 40 j, nI_add, rdC _ _ _ (by omega) (by decide)]
theorem s_judge : stp_judge ad adK cA (INV tr cA k) (INV tr cA (k + 1)) := by
  intro nx cs ms x1 x2 I fr
  obtain ⟨F, D, M, H⟩ := I.r0
  have lD := H.i.lD
  rw [L_judge, M_judge, (isSheet_eq x1).1, (isSheet_eq x1).2]
  rcases in_le x1 3 (by decide) with h | ⟨j, j1, rfl, h⟩
  · rw [show L_in x1 0 3 = some 0 from h, bd1_s, if_pos rfl, need_0, bd2_s, onx_n, bd2_p, bd1_s, if_pos rfl, bd2_p]; exact I.find fr (c := 1) (by decide)
  · have hj4 : j < 4 := by omega
    rw [show L_in (nI j) 0 3 = some 1 from h, bd1_s, if_neg (c := (1 : Int32) = 0) (by decide), bd1_s, if_neg (c := (1 : Int32) = 0) (by decide)]
    rcases H.isD x2 with ⟨h1, h2⟩ | ⟨p, hp, rfl, h1, h2⟩
    · rw [h1, bd1_s, if_pos rfl, need_0, bd2_s, onx_n, bd2_p, h2, bd1_s, if_pos rfl, bd2_p]; exact I.find fr (c := 1) (by decide)
    · have hp4 : p < 4 := by omega
      have l8 := (H.i.de p hp4).mny.2
      rw [h1, bd1_s, if_neg (c := (1 : Int32) = 0) (by decide), need_1, bd2_s, onx_s, h2, bd1_s, if_neg (c := (1 : Int32) = 0) (by decide), rdC _ _ _ hj4 (by decide), bd1_s]
      rcases I.shAt hj4 with ⟨g1, g2⟩ | ⟨a, w, b, n, f, g1, g2, g3, g4, g5, g6, g7, g8, g9, g10⟩
      · rw [g1, bd2_s, onx_n, bd2_p, g2, if_pos rfl, bd2_p]; exact I.find fr (c := 2) (by decide)
      · rw [g3, bd2_s, onx_s, g5, if_neg (wB_ne w), H.mnyT hp4, bd1_s, H.mnyM rfl hp4, bd1_s]
        have hl : ∀ (kk i f f' : Nat), i + kk = 8 → i ≤ n → i ≤ mn (ms.2 1) p → kk + 1 < f → kk + 1 < f' → ∃ z, z ≤ n ∧ L_judge_L45 NN cA cs (nI p) a (nI (mn (ms.2 1) p)) f (nI i) = some (nI z) ∧ M_judge_L46 NN ms (nI j) (nI p) (nI (mn (ms.2 1) p)) f' (nI i) = some (nI z) := by
          intro kk
          induction kk with
          | zero =>
            intro i f f' h1 h2 h3 h4 h5
            obtain ⟨f, rfl⟩ : ∃ m, f = m + 1 := ⟨f - 1, by omega⟩
            obtain ⟨f', rfl⟩ : ∃ m, f' = m + 1 := ⟨f' - 1, by omega⟩
            refine ⟨i, h2, ?_, ?_⟩
            · rw [L_judge_L45, g9, bd1_s]
              split
              · rfl
              · rw [if_pos (nI_le (by omega) (by omega))]
            · rw [M_judge_L46, rdC _ _ _ hj4 (by decide), bd1_s, g6]
              split
              · rfl
              · rw [if_pos (nI_le (by omega) (by omega))]
          | succ kk ih =>
            intro i f f' h1 h2 h3 h4 h5
            obtain ⟨f, rfl⟩ : ∃ m, f = m + 1 := ⟨f - 1, by omega⟩
            obtain ⟨f', rfl⟩ : ∃ m, f' = m + 1 := ⟨f' - 1, by omega⟩
            rw [L_judge_L45, g9, bd1_s, M_judge_L46, rdC _ _ _ hj4 (by decide), bd1_s, g6]
            rcases Nat.lt_or_ge i n with hn | hn
            · rw [if_neg (nI_ge hn (by omega)), if_neg (nI_ge hn (by omega))]
              rcases Nat.lt_or_ge i (mn (ms.2 1) p) with hm | hm
              · rw [if_neg (nI_ge hm (by omega)), if_neg (nI_ge hm (by omega)), g10 i hn, bd1_s, H.bkT hp4 hm, bd1_s, rd40 hj4 (by omega), bd1_s, H.bkM rfl hp4 hm, bd1_s, nI_1]
                by_cases he : ms.2 13 (40 * j + i) = nI (bf (ms.2 1) p i)
                · rw [if_pos he, if_pos he]
                  exact ih (i + 1) f f' (by omega) (by omega) (by omega) (by omega) (by omega)
                · rw [if_neg he, if_neg he]; exact ⟨i, h2, rfl, rfl⟩
              · rw [if_pos (nI_le hm (by omega)), if_pos (nI_le hm (by omega))]; exact ⟨i, h2, rfl, rfl⟩
            · rw [if_pos (nI_le hn (by omega)), if_pos (nI_le hn (by omega))]; exact ⟨i, h2, rfl, rfl⟩
        obtain ⟨z, z0, z1, z2⟩ := hl 8 0 NN NN (by omega) (by omega) (by omega) (NN_lt (by omega)) (NN_lt (by omega))
        rw [show L_judge_L45 NN cA cs (nI p) a (nI (mn (ms.2 1) p)) NN 0 = _ from z1, bd1_s, g9, bd1_s, show M_judge_L46 NN ms (nI j) (nI p) (nI (mn (ms.2 1) p)) NN 0 = _ from z2, bd1_s, rdC _ _ _ hj4 (by decide), bd1_s, g6]
        by_cases e1 : nI z = nI n
        · rw [if_pos e1, if_pos e1]
          by_cases e2 : nI z = nI (mn (ms.2 1) p)
          · rw [if_pos e2, if_pos e2]; exact ⟨_, _, _, rfl, rfl, I.stay fr⟩
          · rw [if_neg e2, if_neg e2]; exact ⟨_, _, _, rfl, rfl, I.stay fr⟩
        · rw [if_neg e1, if_neg e1]; exact ⟨_, _, _, rfl, rfl, I.stay fr⟩
end
