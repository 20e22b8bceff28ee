/-! the pure stage: rated, the act -/
set_option maxRecDepth 100000
section
variable {t u tr F D M p nx k : Nat} {cs cs' cs1 cs2 : CS} {d d' : Nat → Int32} {ms ms' ms1 ms2 ms3 : MSt} {cA : Nat → ClassId} {ad adK : Nat → Nat} {V : Nat → Int32}
/-- the best of those i with A i -/
def bst1 (V : Nat → Int32) (A : Nat → Prop) (b n : Nat) : Prop := 1 ≤ b ∧ b ≤ 4 ∧ n ≤ 60 ∧ V b = nI n ∧ ∀ i, A i → V i = -1 ∨ ∃ m, V i = nI m ∧ m ≤ 60 ∧ n ≤ m ∧ (i < b → n < m)
theorem nI_neg1 {n : Nat} (h : n < 2 ^ 31) : nI n ≠ -1 := fun e => absurd (nI_pos' (n := n) h) (by rw [e]; decide)
theorem rated_V (H : TR 0 tr cs (ms.2 1) F D M) (hp : p < D) {r : Nat} (hr : r ≤ 4) : ∃ v : Int32, (v = -1 ∨ ∃ n, n ≤ 60 ∧ v = nI n) ∧ (∀ c, TR 0 tr c (ms.2 1) F D M → ∃ c2, L_freeBy NN c (nI p) (nI r) = some (v, c2) ∧ frT 2 c c2) ∧ (∀ m, m.2 1 = ms.2 1 → ∃ m2, M_ratedBy NN m (nI p) (nI r) = some (v, m2) ∧ frR m m2 ∧ m2.1 12 = -1) := by
  obtain ⟨v, c0, m0, q1, q2, q3, -⟩ := free_by H hp hr
  refine ⟨v, q3, fun c Hc => ?_, fun m hm => ?_⟩
  · obtain ⟨v', c2, m2, g1, g2, -, g4, -⟩ := free_by Hc hp hr
    rw [q2] at g2
    cases g2
    exact ⟨c2, g1, g4⟩
  · obtain ⟨v', c2, m2, g1, g2, -, -, g5, g6⟩ := free_by (ms := m) (by rw [hm]; exact H) hp hr
    rw [q1] at g1
    cases g1
    exact ⟨m2, g2, g5, g6⟩
theorem rated_C (H : TR 0 tr cs d F D M) (hV : ∀ r, r ≤ 4 → V r = -1 ∨ ∃ n, n ≤ 60 ∧ V r = nI n) (hL : ∀ r, r ≤ 4 → ∀ c, TR 0 tr c d F D M → ∃ c2, L_freeBy NN c (nI p) (nI r) = some (V r, c2) ∧ frT 2 c c2) : ∀ (j f : Nat) (c : CS) (y b : Int32), j ≤ 4 → j < f → TR 0 tr c d F D M → frT 2 cs c → ((y = -1 ∧ ∀ i, j < i → i ≤ 4 → V i = -1) ∨ ∃ b' n, b = nI b' ∧ y = nI n ∧ bst1 V (fun i => j < i ∧ i ≤ 4) b' n) → ∃ c2 y2 b2, L_rated_L50 NN (nI p) 1 f c y b (nI j) = some (c2, y2, b2) ∧ frT 2 cs c2 ∧ ((y2 = -1 ∧ ∀ i, 0 < i → i ≤ 4 → V i = -1) ∨ ∃ b' n, b2 = nI b' ∧ y2 = nI n ∧ bst1 V (fun i => 0 < i ∧ i ≤ 4) b' n) := by
  intro j
  induction j with
  | zero =>
    intro f c y b h1 h2 Hc h3 h4
    obtain ⟨f, rfl⟩ : ∃ m, f = m + 1 := ⟨f - 1, by omega⟩
    exact ⟨c, y, b, by rw [L_rated_L50, if_pos (by decide)], h3, h4⟩
  | succ j ih =>
    intro f c y b h1 h2 Hc h3 h4
    obtain ⟨f, rfl⟩ : ∃ m, f = m + 1 := ⟨f - 1, by omega⟩
    obtain ⟨c2, q1, q2⟩ := hL (j + 1) h1 c Hc
    have Hc2 := Hc.other q2 (by decide)
    rw [L_rated_L50, if_neg (nI_nle (by omega) (by omega)), if_pos rfl, q1, bd2_s, pk_m1]
    rcases hV (j + 1) h1 with hv | ⟨n, n1, hv⟩
    · rw [if_pos hv]
      refine ih f c2 y b (by omega) (by omega) Hc2 (h3.trans q2) ?_
      rcases h4 with ⟨e1, e2⟩ | ⟨b', n, e1, e2, e3, e4, e5, e6, e7⟩
      · refine Or.inl ⟨e1, fun i i1 i2 => ?_⟩
        by_cases e : i = j + 1
        · rw [e]; exact hv
        · exact e2 i (by omega) i2
      · refine Or.inr ⟨b', n, e1, e2, e3, e4, e5, e6, fun i hi => ?_⟩
        by_cases e : i = j + 1
        · rw [e]; exact Or.inl hv
        · exact e7 i ⟨by omega, hi.2⟩
    · rw [hv, if_neg (nI_neg1 (by omega))]
      rcases h4 with ⟨e1, e2⟩ | ⟨b', n', e1, e2, e3, e4, e5, e6, e7⟩
      · rw [if_pos e1]
        refine ih f c2 _ _ (by omega) (by omega) Hc2 (h3.trans q2) (Or.inr ⟨j + 1, n, rfl, rfl, by omega, by omega, n1, hv, fun i hi => ?_⟩)
        by_cases e : i = j + 1
        · rw [e]; exact Or.inr ⟨n, hv, n1, Nat.le_refl _, fun h => by omega⟩
        · exact Or.inl (e2 i (by omega) hi.2)
      · rw [e2, if_neg (nI_neg1 (by omega))]
        rcases Nat.lt_or_ge n' n with hlt | hge
        · rw [if_pos (nI_lt hlt (by omega)), ← e2]
          refine ih f c2 y b (by omega) (by omega) Hc2 (h3.trans q2) (Or.inr ⟨b', n', e1, e2, e3, e4, e5, e6, fun i hi => ?_⟩)
          by_cases e : i = j + 1
          · rw [e]; exact Or.inr ⟨n, hv, n1, by omega, fun _ => hlt⟩
          · exact e7 i ⟨by omega, hi.2⟩
        · rw [if_neg (nI_nlt hge (by omega))]
          refine ih f c2 _ _ (by omega) (by omega) Hc2 (h3.trans q2) (Or.inr ⟨j + 1, n, rfl, rfl, by omega, by omega, n1, hv, fun i hi => ?_⟩)
          by_cases e : i = j + 1
          · rw [e]; exact Or.inr ⟨n, hv, n1, Nat.le_refl _, fun h => by omega⟩
          · rcases e7 i ⟨by omega, hi.2⟩ with h | ⟨m, m1, m2, m3, m4⟩
            · exact Or.inl h
            · exact Or.inr ⟨m, m1, m2, by omega, fun h => by omega⟩
theorem rated_M (hV : ∀ r, r ≤ 4 → V r = -1 ∨ ∃ n, n ≤ 60 ∧ V r = nI n) (hL : ∀ r, r ≤ 4 → ∀ m, m.2 1 = ms.2 1 → ∃ m2, M_ratedBy NN m (nI p) (nI r) = some (V r, m2) ∧ frR m m2 ∧ m2.1 12 = -1) : ∀ (k j f : Nat) (m : MSt) (b y : Int32), j + k = 5 → 1 ≤ j → k < f → frR ms m → m.1 12 = -1 → ((b = -1 ∧ ∀ i, 1 ≤ i → i < j → V i = -1) ∨ ∃ b' n, b = nI b' ∧ y = nI n ∧ b' < j ∧ bst1 V (fun i => 1 ≤ i ∧ i < j) b' n) → ∃ m2 b2, M_rated_L73 NN (nI p) f m b y (nI j) = some (m2, b2) ∧ frR ms m2 ∧ m2.1 12 = -1 ∧ ((b2 = -1 ∧ ∀ i, 0 < i → i ≤ 4 → V i = -1) ∨ ∃ b' n, b2 = nI b' ∧ bst1 V (fun i => 0 < i ∧ i ≤ 4) b' n) := by
  intro k
  induction k with
  | zero =>
    intro j f m b y h1 h2 h3 h4 h5 h6
    obtain ⟨f, rfl⟩ : ∃ m, f = m + 1 := ⟨f - 1, by omega⟩
    have e : j = 5 := by omega
    subst e
    refine ⟨m, b, by rw [M_rated_L73, if_pos (by decide)], h4, h5, ?_⟩
    rcases h6 with ⟨e1, e2⟩ | ⟨b', n, e1, e2, e0, e3, e4, e5, e6, e7⟩
    · exact Or.inl ⟨e1, fun i i1 i2 => e2 i i1 (by omega)⟩
    · exact Or.inr ⟨b', n, e1, e3, e4, e5, e6, fun i hi => e7 i ⟨hi.1, by have := hi.2; omega⟩⟩
  | succ k ih =>
    intro j f m b y h1 h2 h3 h4 h5 h6
    obtain ⟨f, rfl⟩ : ∃ m, f = m + 1 := ⟨f - 1, by omega⟩
    obtain ⟨m2, q1, q2, q3⟩ := hL j (by omega) m h4.1
    rw [M_rated_L73, if_neg (c := 4 < nI j) (nI_nlt (b := j) (a := 4) (by omega) (by decide)), q1, bd2_s, nI_1]
    have h42 := h4.trans q2
    rcases hV j (by omega) with hv | ⟨n, n1, hv⟩
    · rw [if_pos (by rw [hv]; decide)]
      refine ih (j + 1) f m2 b y (by omega) (by omega) (by omega) h42 q3 ?_
      rcases h6 with ⟨e1, e2⟩ | ⟨b', n, e1, e2, e0, e3, e4, e5, e6, e7⟩
      · refine Or.inl ⟨e1, fun i i1 i2 => ?_⟩
        by_cases e : i = j
        · rw [e]; exact hv
        · exact e2 i i1 (by omega)
      · refine Or.inr ⟨b', n, e1, e2, by omega, e3, e4, e5, e6, fun i hi => ?_⟩
        by_cases e : i = j
        · rw [e]; exact Or.inl hv
        · exact e7 i ⟨hi.1, by have := hi.2; omega⟩
    · rw [hv, if_neg (nI_pos (by omega))]
      rcases h6 with ⟨e1, e2⟩ | ⟨b', n', e1, e2, e0, e3, e4, e5, e6, e7⟩
      · rw [if_pos (by rw [e1]; decide)]
        refine ih (j + 1) f m2 _ _ (by omega) (by omega) (by omega) h42 q3 (Or.inr ⟨j, n, rfl, rfl, by omega, by omega, by omega, n1, hv, fun i hi => ?_⟩)
        by_cases e : i = j
        · rw [e]; exact Or.inr ⟨n, hv, n1, Nat.le_refl _, fun h => by omega⟩
        · exact Or.inl (e2 i hi.1 (by have := hi.2; omega))
      · rw [e1, if_neg (nI_pos (by omega)), e2]
        rcases Nat.lt_or_ge n n' with hlt | hge
        · rw [if_neg (nI_ge hlt (by omega))]
          refine ih (j + 1) f m2 _ _ (by omega) (by omega) (by omega) h42 q3 (Or.inr ⟨j, n, rfl, rfl, by omega, by omega, by omega, n1, hv, fun i hi => ?_⟩)
          by_cases e : i = j
          · rw [e]; exact Or.inr ⟨n, hv, n1, Nat.le_refl _, fun h => by omega⟩
          · rcases e7 i ⟨hi.1, by have := hi.2; omega⟩ with h | ⟨m, m1, m2, m3, m4⟩
            · exact Or.inl h
            · exact Or.inr ⟨m, m1, m2, by omega, fun h => by omega⟩
        · rw [if_pos (nI_le hge (by omega))]
          refine ih (j + 1) f m2 _ _ (by omega) (by omega) (by omega) h42 q3 (Or.inr ⟨b', n', rfl, rfl, by omega, e3, e4, e5, e6, fun i hi => ?_⟩)
          by_cases e : i = j
          · subst e
            exact Or.inr ⟨n, hv, n1, hge, fun h => by omega⟩
          · exact e7 i ⟨hi.1, by have := hi.2; omega⟩
theorem s_rated : stp_rated ad adK cA (INV tr cA k) (INV tr cA (k + 1)) := by
  intro nx cs ms x1 x2 x3 I fr
  obtain ⟨F, D, M, H⟩ := I.r0
  have lD := H.i.lD
  rw [L_rated, M_rated]
  rcases H.isD x1 with ⟨h1, h2⟩ | ⟨p, hp, rfl, h1, h2⟩
  · rw [h1, bd1_s, if_pos rfl, need_0, bd2_s, onx_n, bd2_p, h2, bd1_s, if_pos rfl, bd2_p]; exact I.find fr (c := 1) (by decide)
  · rw [h1, bd1_s, if_neg (c := (1 : Int32) = 0) (by decide), h2, bd1_s, if_neg (c := (1 : Int32) = 0) (by decide), Min_1_4]
    rcases in_rg x2 1 4 (by decide) (by decide) with h | ⟨r, r1, r2, rfl, h⟩
    · rw [show L_in x2 1 4 = some 0 from h, bd1_s, if_pos rfl, need_0, bd2_s, onx_n, bd2_p, bd1_s, if_pos rfl, bd2_p]; exact I.find fr (c := 1) (by decide)
    · rw [show L_in (nI r) 1 4 = some 1 from h, bd1_s, if_neg (c := (1 : Int32) = 0) (by decide), bd1_s, if_neg (c := (1 : Int32) = 0) (by decide), Min_0_1]
      rcases in_le x3 1 (by decide) with h | ⟨e, e1, rfl, h⟩
      · rw [show L_in x3 0 1 = some 0 from h, bd1_s, if_pos rfl, need_0, bd2_s, onx_n, bd2_p, bd1_s, if_pos rfl, bd2_p]; exact I.find fr (c := 1) (by decide)
      · have hA : ∃ V : Nat → Int32, ∀ r, r ≤ 4 → (V r = -1 ∨ ∃ n, n ≤ 60 ∧ V r = nI n) ∧ (∀ c, TR 0 tr c (ms.2 1) F D M → ∃ c2, L_freeBy NN c (nI p) (nI r) = some (V r, c2) ∧ frT 2 c c2) ∧ (∀ m, m.2 1 = ms.2 1 → ∃ m2, M_ratedBy NN m (nI p) (nI r) = some (V r, m2) ∧ frR m m2 ∧ m2.1 12 = -1) :=
          ⟨fun r => if hr : r ≤ 4 then (rated_V H hp hr).choose else 0, fun r hr => by simp only [hr, dif_pos]; exact (rated_V H hp hr).choose_spec⟩
        obtain ⟨V, hA⟩ := hA
        have hV : ∀ r, r ≤ 4 → V r = -1 ∨ ∃ n, n ≤ 60 ∧ V r = nI n := fun r hr => (hA r hr).1
        obtain ⟨c1, q1, q2⟩ := (hA r r2).2.1 cs H
        have H1 := H.other q2 (by decide)
        have hI : ∀ (c : CS) (m : MSt) (kk : Nat), k ≤ kk → frT 2 cs c → frR ms m → m.1 12 = -1 → INV tr cA kk c m := fun c m kk hkk g1 g2 g3 => I.next fr hkk (g1.KI (Or.inr rfl)) g2.KM (by rw [(g1.1 0 (by omega)).1]; exact I.ro) g3 ⟨F, D, M, by rw [g2.1]; exact H.other g1 (by decide)⟩
        rw [show L_in (nI e) 0 1 = some 1 from h, bd1_s, if_neg (c := (1 : Int32) = 0) (by decide), need_1, bd2_s, onx_s, bd1_s, if_neg (c := (1 : Int32) = 0) (by decide), q1, bd2_s]
        match e, e1 with
        | 0, _ =>
          obtain ⟨m2, g1, g2, g3⟩ := (hA r r2).2.2 ms rfl
          have hl : L_rated_L50 NN (nI p) (nI 0) NN c1 (V r) (nI r) 4 = some (c1, V r, nI r) := by
            show L_rated_L50 NN (nI p) (nI 0) (999999 + 1) c1 (V r) (nI r) 4 = _
            rw [L_rated_L50, if_neg (by decide), if_neg (by decide)]
          rw [hl, bd3_s, if_pos (c := nI 0 = 0) rfl, g1, bd2_s]
          rcases hV r r2 with hv | ⟨n, n1, hv⟩
          · rw [hv, if_pos rfl, need_0, bd2_s, onx_n, bd2_p, if_neg (c := (0 : Int32) ≤ -1) (by decide), bd2_p]
            exact (hI c1 m2 k (Nat.le_refl _) q2 g2 g3).find0 (c := 2) (by decide)
          · rw [hv, if_neg (nI_neg1 (by omega)), need_1, bd2_s, onx_s, if_pos (c := nI 0 = 0) rfl, if_pos (nI_pos' (by omega))]
            exact ⟨_, _, _, rfl, rfl, hI c1 m2 (k + 1) (by omega) q2 g2 g3⟩
        | 1, _ =>
          obtain ⟨c2, y2, b2, g1, g2, g3⟩ := rated_C (V := V) H hV (fun r hr => (hA r hr).2.1) 4 NN c1 (V r) (nI r) (Nat.le_refl _) (NN_lt (by omega)) H1 q2 (by
            rcases hV r r2 with hv | ⟨n, n1, hv⟩
            · exact Or.inl ⟨hv, fun i i1 i2 => by omega⟩
            · exact Or.inr ⟨r, n, rfl, hv, r1, r2, n1, hv, fun i hi => by have := hi.1; have := hi.2; omega⟩)
          obtain ⟨m2, b3, w1, w2, w3, w4⟩ := rated_M (V := V) (ms := ms) (p := p) hV (fun r hr => (hA r hr).2.2) 4 1 NN ms (-1) 0 (by omega) (by omega) (NN_lt (by omega)) frR.rfl I.mo (Or.inl ⟨rfl, fun i i1 i2 => by omega⟩)
          rw [show L_rated_L50 NN (nI p) (nI 1) NN c1 (V r) (nI r) 4 = some (c2, y2, b2) from g1, bd3_s, if_neg (c := nI 1 = 0) (by decide), show M_rated_L73 NN (nI p) NN ms (-1) 0 1 = some (m2, b3) from w1, bd2_s]
          rcases g3 with ⟨u1, u2⟩ | ⟨b, n, u1, u2, u3, u4, u5, u6, u7⟩
          · rcases w4 with ⟨z1, z2⟩ | ⟨b', n', z1, z3, z4, z5, z6, z7⟩
            · rw [u1, if_pos rfl, need_0, bd2_s, onx_n, bd2_p, z1, if_neg (c := (0 : Int32) ≤ -1) (by decide), bd2_p]
              exact (hI c2 m2 k (Nat.le_refl _) g2 w2 w3).find0 (c := 2) (by decide)
            · have := u2 b' (by omega) z4
              rw [z6] at this
              exact absurd this (nI_neg1 (by omega))
          · rcases w4 with ⟨z1, z2⟩ | ⟨b', n', z1, z3, z4, z5, z6, z7⟩
            · have := z2 b (by omega) u4
              rw [u6] at this
              exact absurd this (nI_neg1 (by omega))
            · have hb : b = b' := by
                rcases u7 b' ⟨by omega, z4⟩ with h | ⟨m, m1, m2, m3, m4⟩
                · rw [z6] at h; exact absurd h (nI_neg1 (by omega))
                · rcases z7 b ⟨by omega, u4⟩ with h | ⟨x, x1, x2, x3, x4⟩
                  · rw [u6] at h; exact absurd h (nI_neg1 (by omega))
                  · rw [z6] at m1
                    rw [u6] at x1
                    have t1 := (nI_eq (by omega) (by omega)).mp m1
                    have t2 := (nI_eq (by omega) (by omega)).mp x1
                    omega
              rw [u2, if_neg (nI_neg1 (by omega)), need_1, bd2_s, onx_s, if_neg (c := nI 1 = 0) (by decide), u1, z1, if_pos (nI_pos' (by omega)), hb]
              exact ⟨_, _, _, rfl, rfl, hI c2 m2 (k + 1) (by omega) g2 w2 w3⟩
end
