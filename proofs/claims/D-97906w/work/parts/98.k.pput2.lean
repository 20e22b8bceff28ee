/-! the pure stage: put, the act -/
set_option maxRecDepth 100000
section
variable {t u tr F D M p nx k : Nat} {cs cs' c0 c c1 : CS} {d d' : Nat → Int32} {ms ms' m0 m m1 : MSt} {cA : Nat → ClassId} {ad adK : Nat → Nat}
theorem INV.putRow {k' j a w b n : Nat} {f g N' : Nat → Int32} (I : INV tr cA k cs ms) (hk : k ≤ k') (hj : j < 4) (ha : cs.2.2.1 (69 + j) 0 = some a) (hs : shOf cA cs.2.2.2 a = some (w, b, n, f)) (hn : n ≤ 40) (hg : ∀ i, i < n → g i = N' (40 * j + i) ∧ shN w (g i) = g i) (hN : ∀ i, (i < 40 * j ∨ 40 * j + 40 ≤ i) → N' i = ms.2 13 i) : INV tr cA k' (csP cs (1000 + b) (.inl (cA (shT w), n, .inl g))) (sa ms 13 N') := by
  obtain ⟨s1, s2, s3⟩ := shOf_in hs
  have hi : ∀ q, (Sum.inl (cA (shT w), n, Sum.inl f) : va_E) ≠ .inr q := fun q h => by cases h
  obtain ⟨F, D, M, H⟩ := I.r0
  refine INV.mk ⟨F, D, M, by rw [sa_ne _ _ (by decide)]; exact H.putB s2 hi⟩ I.im ?_ (fun hn' => ?_) (fun i hi' => by rw [sa_ne _ _ (by decide)]; exact I.er i hi') I.tm I.tmk (fun i hi' => by rw [sa_ne _ _ (by decide)]; exact I.td i hi') ?_ I.ro I.mo
  · obtain ⟨x, x1, x2⟩ := I.imk
    exact ⟨x, x1, by omega⟩
  · obtain ⟨F, D, M, H⟩ := I.r1 hn'
    exact ⟨F, D, M, by rw [sa_ne _ _ (by decide)]; exact H.putB s2 hi⟩
  · obtain ⟨B, b1, b2⟩ := I.sh
    have hB : B j = b := by
      rcases b2 j hj with ⟨h1, -⟩ | ⟨a', w', n', f', h1, h2, -⟩
      · rw [ha] at h1; cases h1
      · rw [ha] at h1; cases h1; rw [hs] at h2; cases h2; rfl
    refine ⟨B, b1, fun x hx => ?_⟩
    unfold shR
    rw [sa_ne _ _ (by decide), sa_ne _ _ (by decide), sa_at]
    by_cases e : x = j
    · subst e
      rcases b2 x hj with ⟨h1, -⟩ | ⟨a', w', n', f', h1, h2, h3, h4, h5, h6, h7⟩
      · rw [ha] at h1; cases h1
      · rw [ha] at h1; cases h1; rw [hs] at h2; cases h2
        refine Or.inr ⟨a, w, n, g, ha, ?_, h3, h4, h5, h6, hg⟩
        refine shOf_of h3 ?_ (cP_at _ _ _)
        rw [csP_ne2 _ _ (fun e => by
          have e : a = B x := by omega
          rw [← e, s1] at s2; cases s2)]
        exact s1
    · rcases b2 x hx with h | ⟨a', w', n', f', h1, h2, h3, h4, h5, h6, h7⟩
      · exact Or.inl h
      · obtain ⟨t1, t2, t3⟩ := shOf_in h2
        have hne : B x ≠ b := fun h => e (b1 x j hx hj (by rw [h1]; simp) (by rw [ha]; simp) (h.trans hB.symm))
        refine Or.inr ⟨a', w', n', f', h1, shOf_of t3 ?_ ?_, h3, h4, h5, h6, fun i hi' => ?_⟩
        · rw [csP_ne2 _ _ (fun e => by
            have : a' = b := by omega
            subst this
            rw [t1] at s2; cases s2)]
          exact t1
        · rw [csP_ne2 _ _ (by omega)]; exact t2
        · rw [hN _ (by omega)]; exact h7 i hi'
theorem wr40 {a : Nat → Int32} {j i : Nat} {v : Int32} (hj : j < 4) (hi : i < 40) : wr a 160 (40 * nI j + nI i) v = some (upd a (40 * j + i) v) := by
  rw [show (40 : Int32) * nI j = nI (40 * j) from pk_mul 40 j, nI_add, wr_nI (by omega) (by decide)]
theorem put_at {a w b n i : Nat} {f : Nat → Int32} {x : Int32} (hs : shOf cA cs.2.2.2 a = some (w, b, n, f)) (hn : n ≤ 40) (hi : i < n) : S_put cA cs a (nI i) x = some (csP cs (1000 + b) (.inl (cA (shT w), n, .inl (upd f i (shN w x))))) := by
  rw [S_put, hs, bd4_s, wr_nI hi (by omega), bd1_s]
theorem s_put : stp_put ad adK cA (INV tr cA k) (INV tr cA (k + 1)) := by
  intro nx cs ms x1 x2 x3 I fr
  rw [L_put, M_put, (isSheet_eq x1).1, (isSheet_eq x1).2]
  rcases in_le x1 3 (by decide) with h | ⟨j, j1, rfl, h⟩
  · rw [show L_in x1 0 3 = some 0 from h, bd1_s, need_0, bd2_s, onx_n, bd2_p, bd1_s, if_pos rfl, bd2_p]; exact I.find fr (c := 1) (by decide)
  · have hj4 : j < 4 := by omega
    rw [show L_in (nI j) 0 3 = some 1 from h, bd1_s, need_1, bd2_s, onx_s, bd1_s, if_neg (c := (1 : Int32) = 0) (by decide), rdC _ _ _ hj4 (by decide), bd1_s]
    rcases I.shAt hj4 with ⟨g1, g2⟩ | ⟨a, w, b, n, f, g1, g2, g3, g4, g5, g6, g7, g8, g9, g10⟩
    · rw [g1, bd2_s, onx_n, bd2_p, g2, if_pos rfl, bd2_p]; exact I.find fr (c := 2) (by decide)
    · rw [g3, bd2_s, onx_s, g9, bd1_s, g5, if_neg (wB_ne w), rdC _ _ _ hj4 (by decide), bd1_s, g6, Min_0_v]
      rcases in_ix x2 n (by omega) with h | ⟨i, i1, rfl, h⟩
      · rw [h, bd1_s, need_0, bd2_s, onx_n, bd2_p, bd1_s, if_pos rfl, bd2_p]; exact I.find fr (c := 1) (by decide)
      · rw [h, bd1_s, need_1, bd2_s, onx_s, put_at g2 g7 i1, bd1_s, bd1_s, if_neg (c := (1 : Int32) = 0) (by decide), bd1_s, bd1_s, wr40 hj4 (by omega), wr40 hj4 (by omega), wr40 hj4 (by omega), bd1_s, bd1_s, bd1_s]
        have hI : INV tr cA (k + 1) (csP cs (1000 + b) (.inl (cA (shT w), n, .inl (upd f i (shN w x3))))) (sa ms 13 (upd (ms.2 13) (40 * j + i) (shN w x3))) := by
          refine I.putRow (by omega) hj4 g1 g2 g7 (fun q hq => ?_) (fun q hq => upd_ne (by omega))
          by_cases e : q = i
          · subst e; rw [pk_us, pk_us]; exact ⟨rfl, shN_twice w x3⟩
          · rw [upd_ne e, upd_ne (by omega)]; exact g8 q hq
        match w, g4 with
        | 0, _ =>
          rw [if_pos (show wB 0 = 8 from rfl)]
          have e : shN 0 x3 = x3.toInt8.toInt32 := by show vp_nar .byte x3.toInt8.toInt32 = _; rw [vp_nar_byte, fb_byte_twice]
          rw [e] at hI
          rw [e]
          exact ⟨_, _, _, rfl, rfl, hI⟩
        | 1, _ =>
          rw [if_neg (show ¬ wB 1 = 8 by decide), if_pos (show wB 1 = 16 from rfl)]
          have e : shN 1 x3 = x3.toInt16.toInt32 := by show vp_nar .short x3.toInt16.toInt32 = _; rw [vp_nar_short, fb_short_twice]
          rw [e] at hI
          rw [e]
          exact ⟨_, _, _, rfl, rfl, hI⟩
        | 2, _ =>
          rw [if_neg (show ¬ wB 2 = 8 by decide), if_neg (show ¬ wB 2 = 16 by decide)]
          exact ⟨_, _, _, rfl, rfl, hI⟩
end
