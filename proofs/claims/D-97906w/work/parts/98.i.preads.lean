/-! the pure stage: reads, put -/
set_option maxRecDepth 100000
section
variable {t u tr F D M p nx k : Nat} {cs cs' c0 c c1 : CS} {d d' : Nat → Int32} {ms ms' m0 m m1 : MSt} {cA : Nat → ClassId} {ad adK : Nat → Nat}
theorem s_reads : stp_reads ad adK cA (INV tr cA k) (INV tr cA (k + 1)) := by
  intro nx cs ms x1 I fr
  obtain ⟨F, D, M, H⟩ := I.r0
  have lD := H.i.lD
  have lF := H.i.lF
  rw [L_reads, M_reads, (isSheet_eq x1).1, (isSheet_eq x1).2]
  rcases in_le x1 3 (by decide) with h | ⟨j, j1, rfl, h⟩
  · rw [show L_in x1 0 3 = some 0 from h, bd1_s, need_0, bd2_s, onx_n, bd2_p, bd1_s, if_pos rfl, bd2_p]; exact I.find fr (c := 1) (by decide)
  · have hj4 : j < 4 := by omega
    rw [show L_in (nI j) 0 3 = some 1 from h, bd1_s, need_1, bd2_s, onx_s, bd1_s, if_neg (c := (1 : Int32) = 0) (by decide), rdC _ _ _ hj4 (by decide), bd1_s]
    rcases I.shAt hj4 with ⟨g1, g2⟩ | ⟨a, w, b, n, f, g1, g2, g3, g4, g5, g6, g7, g8, g9, g10⟩
    · rw [g1, bd2_s, onx_n, bd2_p, g2, if_pos rfl, bd2_p]; exact I.find fr (c := 2) (by decide)
    · rw [g3, bd2_s, onx_s, g5, if_neg (wB_ne w)]
      have hS : ∀ c, frC 0 cs c → S_size cA c a = some (nI n) ∧ ∀ i, i < n → S_get cA c a (nI i) = some (ms.2 13 (40 * j + i)) := fun c hc => by
        have e : shOf cA c.2.2.2 a = some (w, b, n, f) := by rw [hc.2.1]; exact g2
        refine ⟨by rw [S_size, e, bd4_s]; rfl, fun i hi => ?_⟩
        rw [S_get, e, bd4_s, rdC _ _ _ hi (by omega), (g8 i hi).1]
      have stopM : ∀ (f' i : Nat) (m : MSt), i ≤ n → frM ms m → M_reads_L53 NN (nI j) (f' + 1) m (nI i) 0 = some (m, nI i) := fun f' i m hi hm => by
        rw [M_reads_L53, rdC _ _ _ hj4 (by decide), bd1_s]
        split
        · rfl
        · rw [if_pos rfl]
      have hd0 : (L_isDebtor cs 0 = some 0 ∧ M_isDebtor ms 0 = some 0) ∨ (0 < D ∧ L_isDebtor cs 0 = some 1 ∧ M_isDebtor ms 0 = some 1) := by
        rcases H.isD 0 with h | ⟨p, hp, e, h1, h2⟩
        · exact Or.inl h
        · exact Or.inr ⟨by omega, h1, h2⟩
      have e999 : NN = 999999 + 1 := rfl
      rcases hd0 with ⟨d1, d2⟩ | ⟨hD, d1, d2⟩
      · rw [d2, bd1_s, if_pos rfl]
        have hL : L_reads_L17 NN cA a NN cs 0 = some (cs, 0) := by
          show L_reads_L17 NN cA a (999999 + 1) cs 0 = _
          rw [L_reads_L17, g9, bd1_s, d1, bd1_s]
          split
          · rfl
          · rw [if_pos rfl]
        have hM : M_reads_L53 NN (nI j) NN ms 0 0 = some (ms, 0) := stopM 999999 0 ms (by omega) frM.rfl
        rw [hL, bd2_s, hM, bd2_s]
        exact ⟨_, _, _, rfl, rfl, I.stay fr⟩
      · have o3 : M_of ms 0 3 = some (ms.2 1 (50 + 21 * 0 + 3)) := of3 (st := ms) (f := 0) (by decide)
        rw [d2, bd1_s, if_neg (c := (1 : Int32) = 0) (by decide), o3, bd1_s]
        by_cases hb : ms.2 1 (50 + 21 * 0 + 3) = 0
        · rw [if_pos hb]
          have hl : ∀ (kk i f f' : Nat) (c : CS) (m : MSt), i + kk = n → kk + 1 < f → kk + 1 < f' → TR 0 tr c (m.2 1) F D M → frC 0 cs c → frM ms m → m.2 1 (50 + 21 * 0 + 3) = 0 → ∃ c2 m2 z, L_reads_L17 NN cA a f c (nI i) = some (c2, nI z) ∧ M_reads_L53 NN (nI j) f' m (nI i) 1 = some (m2, nI z) ∧ TR 0 tr c2 (m2.2 1) F D M ∧ frC 0 cs c2 ∧ frM ms m2 := by
            intro kk
            induction kk with
            | zero =>
              intro i f f' c m h1 h2 h3 Hc h4 h5 h6
              obtain ⟨f, rfl⟩ : ∃ m, f = m + 1 := ⟨f - 1, by omega⟩
              obtain ⟨f', rfl⟩ : ∃ m, f' = m + 1 := ⟨f' - 1, by omega⟩
              refine ⟨c, m, i, ?_, ?_, Hc, h4, h5⟩
              · rw [L_reads_L17, (hS c h4).1, bd1_s, if_pos (nI_le (by omega) (by omega))]
              · rw [M_reads_L53, h5.1 12 (by decide) (by decide), rdC _ _ _ hj4 (by decide), bd1_s, g6, if_pos (nI_le (by omega) (by omega))]
            | succ kk ih =>
              intro i f f' c m h1 h2 h3 Hc h4 h5 h6
              obtain ⟨f, rfl⟩ : ∃ m, f = m + 1 := ⟨f - 1, by omega⟩
              obtain ⟨f', rfl⟩ : ∃ m, f' = m + 1 := ⟨f' - 1, by omega⟩
              have hin : i < n := by omega
              have dd : L_isDebtor c 0 = some 1 := by rw [L_isDebtor, Hc.n.h.f6, Hc.i.hD, ← H.i.hD, ← H.n.h.f6]; exact d1
              obtain ⟨y, hy⟩ : ∃ y, y = ms.2 13 (40 * j + i) := ⟨_, rfl⟩
              rw [L_reads_L17, (hS c h4).1, bd1_s, if_neg (nI_ge hin (by omega)), dd, bd1_s, if_neg (c := (1 : Int32) = 0) (by decide), (hS c h4).2 i hin, bd1_s, bd1_s, bd1_s, M_reads_L53, h5.1 12 (by decide) (by decide), rdC _ _ _ hj4 (by decide), bd1_s, g6, if_neg (nI_ge hin (by omega)), if_neg (c := (1 : Int32) = 0) (by decide), h5.1 13 (by decide) (by decide), rd40 hj4 (by omega), bd1_s, ← hy]
              have stop : ∀ f'', M_reads_L53 NN (nI j) (f'' + 1) m (nI i) 0 = some (m, nI i) := fun f'' => stopM f'' i m (by omega) h5
              obtain ⟨f'', rfl⟩ : ∃ m, f' = m + 1 := ⟨f' - 1, by omega⟩
              rcases Hc.isF y with ⟨q1, q2⟩ | ⟨g, hg, e, q1, q2⟩
              · rw [q1, bd1_s, if_pos rfl, q2, bd1_s, if_pos rfl, stop]
                exact ⟨c, m, i, rfl, rfl, Hc, h4, h5⟩
              · have cT : L_canTell NN c 0 y = some (my (m.2 1) D 0 g) := by
                  have := Hc.canT (p := 0) hD (f := g) (by omega)
                  rw [if_pos h6] at this
                  rw [e]; exact this
                have mT : M_mayTell NN m 0 y = some (my (m.2 1) D 0 g) := by
                  rw [e]; exact Hc.mayM rfl (p := 0) hD (by omega)
                rw [q1, bd1_s, if_neg (c := (1 : Int32) = 0) (by decide), cT, bd1_s, q2, bd1_s, if_neg (c := (1 : Int32) = 0) (by decide), mT, bd1_s]
                rcases my_01 (m.2 1) D 0 g with hm | hm
                · rw [hm, if_pos rfl, if_pos rfl, stop]
                  exact ⟨c, m, i, rfl, rfl, Hc, h4, h5⟩
                · obtain ⟨c2, m2, t1, t2, t3, t4, t5, t6⟩ := Hc.tellsX rfl (p := 0) hD hg hm
                  rw [hm, if_neg (c := (1 : Int32) = 0) (by decide), if_neg (c := (1 : Int32) = 0) (by decide), e, show T_tells 0 c 0 (nI g) = _ from t1, bd1_s, show M_tellsNow NN m 0 (nI g) = _ from t2, bd1_s, nI_1]
                  exact ih (i + 1) f (f'' + 1) c2 m2 (by omega) (by omega) (by omega) t3 (h4.trans t4) (h5.trans t5) (by rw [t6 _ (by omega)]; exact h6)
          obtain ⟨c2, m2, z, z1, z2, z3, z4, z5⟩ := hl n 0 NN NN cs ms (by omega) (NN_lt (by omega)) (NN_lt (by omega)) H frC.rfl frM.rfl hb
          rw [show L_reads_L17 NN cA a NN cs 0 = _ from z1, bd2_s, show M_reads_L53 NN (nI j) NN ms 0 1 = _ from z2, bd2_s]
          exact ⟨_, _, _, rfl, rfl, I.go fr z4 z5.KM (z5.2.1 12 (by omega)) z3⟩
        · rw [if_neg hb]
          have hM : M_reads_L53 NN (nI j) NN ms 0 0 = some (ms, 0) := stopM 999999 0 ms (by omega) frM.rfl
          have hL : L_reads_L17 NN cA a NN cs 0 = some (cs, 0) := by
            show L_reads_L17 NN cA a (999999 + 1) cs 0 = _
            rw [L_reads_L17, g9, bd1_s]
            rcases Nat.eq_zero_or_pos n with h0 | h0
            · rw [if_pos (by rw [h0]; decide)]
            · rw [if_neg (nI_nle h0 (by omega)), d1, bd1_s, if_neg (c := (1 : Int32) = 0) (by decide), show S_get cA cs a 0 = _ from g10 0 h0, bd1_s, bd1_s, bd1_s]
              rcases H.isF (ms.2 13 (40 * j + 0)) with ⟨q1, q2⟩ | ⟨g, hg, e, q1, q2⟩
              · rw [q1, bd1_s, if_pos rfl]
              · have cT : L_canTell NN cs 0 (ms.2 13 (40 * j + 0)) = some 0 := by
                  have := H.canT (p := 0) hD (f := g) (by omega)
                  rw [if_neg hb] at this
                  rw [e]; exact this
                rw [q1, bd1_s, if_neg (c := (1 : Int32) = 0) (by decide), cT, bd1_s, if_pos rfl]
          rw [hL, bd2_s, hM, bd2_s]
          exact ⟨_, _, _, rfl, rfl, I.stay fr⟩
end
