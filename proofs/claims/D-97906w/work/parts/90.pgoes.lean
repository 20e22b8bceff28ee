/-! the pure stage: a fact is told, weeks pass -/
set_option maxRecDepth 100000
section
variable {t tr F D M p : Nat} {cs : CS} {d : Nat → Int32} {ms : MSt}
theorem TR.writesT (H : TR t tr cs d F D M) (hp : p < 4) (hm : mn d p < 8) (f : Nat) : T_writes t cs (nI p) (nI f) = some (cW_ t cs p (mn d p) f) := by
  rw [T_writes, H.mnyT hp, bd1_s, ixB, wr_nI (by omega) (by decide), bd1_s, cA_ne _ _ (by omega), H.mnyT hp, bd1_s, ixB, cA_ne _ _ (by omega), wr_nI (by omega) (by decide), bd1_s, cA_ne _ _ (by omega), cA_ne _ _ (by omega), H.mnyT hp, bd1_s, nI_1, wr_nI hp (by decide), bd1_s]
  rfl
theorem TR.writesM (H : TR t tr cs d F D M) (hd : ms.2 1 = d) (hp : p < 4) (hm : mn d p < 8) (f : Nat) : M_writes ms (nI p) (nI f) = some (sa ms 1 (dW d p f)) := by
  have e4 : d (50 + 21 * p + 4) = nI (mn d p) := (H.i.de p hp).mny.1
  rw [M_writes, H.mnyM hd hp, bd1_s, setsB hp hm, bd1_s, of4 hp, sa_at, upd_ne (by omega), hd, e4, bd1_s, rdM3, bd1_s, upd_ne (by omega), setsW hp hm, bd1_s, sa_at, sa_sa, of4 hp, sa_at, upd_ne (by omega), upd_ne (by omega), e4, bd1_s, nI_1, sets4 hp, bd1_s, sa_at, sa_sa]
  rfl
theorem cW_fr {t p m f : Nat} {cs : CS} (ht : p < 4) : frC t cs (cW_ t cs p m f) := by
  unfold cW_
  exact ((frC.arr (by omega) (by omega)).trans (frC.arr (by omega) (by omega))).trans (frC.arr (by omega) (by omega))
theorem TR.debtT (H : TR t tr cs d F D M) (hp : p < 4) : ∃ n, n ≤ 9999 ∧ d (50 + 21 * p + 2) = nI n ∧ rd (cs.2.1 (20 * t + 6)) 4 (nI p) = some (nI n) := by
  obtain ⟨n, h1, h2⟩ := (H.i.de p hp).deb
  exact ⟨n, h2, h1, by rw [rdC _ _ _ hp (by decide), (H.n.de p hp).deb, h1]⟩
theorem max_sub {a b : Nat} (ha : a ≤ 9999) (hb : b ≤ 9999) : J_max 0 (nI a - nI b) = some (nI (a - b)) := by
  unfold J_max
  rcases Nat.lt_or_ge b a with h | h
  · rw [pk_sub (by omega), if_pos (by rw [show (0 : Int32) = nI 0 from rfl, nI_ltI (by decide) (by omega)]; omega)]
  · rw [if_neg, show a - b = 0 by omega]; rfl
    rw [fa_lt, pk_sub_toInt (by omega) (by omega)]
    show ¬ (0 : Int) < _
    omega
theorem TR.tellsX (H : TR t tr cs d F D M) (hd : ms.2 1 = d) (hp : p < D) {f : Nat} (hf : f < F) (hy : my d D p f = 1) : ∃ cs' ms', T_tells t cs (nI p) (nI f) = some cs' ∧ M_tellsNow NN ms (nI p) (nI f) = some ms' ∧ TR t tr cs' (ms'.2 1) F D M ∧ frC t cs cs' ∧ frM ms ms' ∧ ∀ i, (i < 50 + 21 * p + 2 ∨ i = 50 + 21 * p + 3 ∨ 50 + 21 * p + 21 ≤ i) → ms'.2 1 i = d i := by
  have lD := H.i.lD
  have lF := H.i.lF
  have hp4 : p < 4 := by omega
  obtain ⟨rm1, rm2⟩ := H.room hp hf hy
  obtain ⟨k1, k2, a, k3, k4⟩ := H.kdx hp
  obtain ⟨n, hn1, hn2, hn3⟩ := H.debtT hp4
  obtain ⟨v, cs1, ms1, a1, a2, ⟨pv, a3, a4⟩, H1, a5, a6, a7, a8, a9⟩ := H.pay hd (nI f) (d 3) (nI n)
  have hq : rdq (cs.2.2.1 (20 * t + 17)) 4 (nI p) = some (some a) := by
    unfold rdq
    rw [if_neg (nI_in (by omega) (by decide)), nI_clamp (by omega), k3]
  have hpay : ∃ pp, pp ≤ 1998 ∧ D_pays (kd d p) (nI p) (d (50 + 21 * p + 1)) v = some (nI pp) ∧ M_paysOf NN ms (nI p) (nI f) = some (nI pp, ms1) := by
    rw [M_paysOf, rdM3, hd, bd1_s, of2 hp4, hd, hn2, bd1_s, a2, bd2_s, of0 hp4, a5, k1, bd1_s, a4]
    generalize kd d p = k at k2 ⊢
    generalize d (50 + 21 * p + 1) = m
    have e2 : (2 : Int32) * nI pv = nI (2 * pv) := pk_mul 2 pv
    have ed : nI pv / 2 = nI (pv / 2) := pk_div (d := 2) (by omega) (by decide) (by decide)
    match k, k2 with
    | 0, _ => rw [if_neg (by decide), if_neg (by decide), if_neg (by decide)]; exact ⟨pv, by omega, rfl, rfl⟩
    | 1, _ => rw [if_neg (by decide), if_pos (by decide), ed]; exact ⟨pv / 2, by omega, by show (B1_pays (nI p) m (nI pv)) = _; rw [B1_pays, B0_pays, bd1_s, ed], rfl⟩
    | 2, _ => rw [if_neg (by decide), if_neg (by decide), if_neg (by decide)]; exact ⟨pv, by omega, rfl, rfl⟩
    | 3, _ => rw [if_neg (by decide), if_neg (by decide), if_neg (by decide)]; exact ⟨pv, by omega, rfl, rfl⟩
    | 4, _ => rw [if_neg (by decide), if_neg (by decide), if_pos (by decide), ed]; exact ⟨pv / 2, by omega, by show (B1_pays (nI p) m (nI pv)) = _; rw [B1_pays, B0_pays, bd1_s, ed], rfl⟩
    | 5, _ => rw [if_pos (by decide), e2]; exact ⟨2 * pv, by omega, by show (B5_pays (nI p) m (nI pv)) = _; rw [B5_pays, B0_pays, bd1_s, e2], rfl⟩
    | 6, _ => rw [if_neg (by decide), if_neg (by decide), if_neg (by decide)]; exact ⟨pv, by omega, rfl, rfl⟩
  obtain ⟨pp, p1, p2, p3⟩ := hpay
  have H2 := H1.wrt hp4 hf (by omega) rm2
  obtain ⟨n', m1, m2, m3⟩ := H2.debtT hp4
  have en : n' = n := by
    have h : dW d p f (50 + 21 * p + 2) = nI n := by rw [dW_ne (by omega) (by omega) (by omega), hn2]
    rw [h] at m2
    exact ((nI_eq (by omega) (by omega)).mp m2).symm
  subst en
  have H3 := H2.debt hp4 (show n' - pp ≤ 9999 by omega)
  refine ⟨_, sa ms1 1 (upd (dW d p f) (50 + 21 * p + 2) (nI (n' - pp))), ?_, ?_, by rw [sa_at]; exact H3, (a6.trans (cW_fr hp4)).trans (frC.arr (by omega) (by omega)), a7.trans (frM.arr (fun i hi => ?_)), fun i hi => by rw [sa_at, upd_ne (by omega), dW_ne (by omega) (by omega) (by omega)]⟩
  · rw [T_tells, hq, bd1_s, onq_s, hn3, bd1_s, H.n.h.f13, a1, bd2_s, a6.2.1, k4, bd4_s, p2, bd1_s, H1.writesT hp4 (by omega), bd1_s, m3, bd1_s, max_sub (by omega) (by omega), bd1_s, wr_nI hp4 (by decide), bd1_s]
  · rw [M_tellsNow, p3, bd2_s, H1.writesM a5 hp4 (by omega), bd1_s, of2 hp4, sa_at, m2, bd1_s]
    rcases Nat.lt_or_ge pp n' with h | h
    · rw [if_neg (nI_ge h (by omega)), bd1_s, sets2 hp4, sa_at, sa_sa, pk_sub (by omega)]; rfl
    · rw [if_pos (nI_le h (by omega)), sets2 hp4, sa_at, sa_sa, show n' - pp = 0 by omega]; rfl
  · rw [a5, upd_ne (by omega), dW_ne (by omega) (by omega) (by omega)]
theorem TR.tells (H : TR t tr cs d F D M) (hd : ms.2 1 = d) (hp : p < D) {f : Nat} (hf : f < F) (hy : my d D p f = 1) : ∃ cs' ms', T_tells t cs (nI p) (nI f) = some cs' ∧ M_tellsNow NN ms (nI p) (nI f) = some ms' ∧ TR t tr cs' (ms'.2 1) F D M ∧ frC t cs cs' ∧ frM ms ms' := by
  obtain ⟨cs', ms', q1, q2, q3, q4, q5, -⟩ := H.tellsX hd hp hf hy
  exact ⟨cs', ms', q1, q2, q3, q4, q5⟩
/-- in place of a due -/
def RT (t : Nat) (cs : CS) (ms : MSt) : Prop := cs.1 (20 * t) 25 = ms.1 12 ∧ (ms.1 12 = -1 ∨ (cs.1 (20 * t) 26 = ms.1 13 ∧ ∃ r, r ≤ 4 ∧ ms.1 13 = nI r))
theorem RT.fr {cs' : CS} {ms' : MSt} (h : RT t cs ms) (h1 : frC t cs cs') (h2 : frM ms ms') : RT t cs' ms' := by
  unfold RT
  rw [h1.2.2.1, h1.2.2.2, h2.2.1 12 (by omega), h2.2.1 13 (by omega)]; exact h
theorem TR.due (H : TR t tr cs d F D M) (hd : ms.2 1 = d) (hr : RT t cs ms) (hp : p < D) : ∃ r, r ≤ 4 ∧ T_due t cs (nI p) = some (nI r) ∧ M_dueOf ms (nI p) = some (nI r) := by
  have lD := H.i.lD
  obtain ⟨k1, k2, a, k3, k4⟩ := H.kdx hp
  obtain ⟨m, hm1, hm2⟩ := (H.i.de p (by omega)).mm
  have hq : rdq (cs.2.2.1 (20 * t + 17)) 4 (nI p) = some (some a) := by
    unfold rdq
    rw [if_neg (nI_in (by omega) (by decide)), nI_clamp (by omega), k3]
  rw [T_due, M_dueOf, hr.1]
  by_cases h : nI p = ms.1 12
  · rw [if_pos h, if_pos h]
    rcases hr.2 with h2 | ⟨h2, r, h3, h4⟩
    · rw [h2] at h
      exact absurd (nI_pos' (n := p) (by omega)) (by rw [h]; decide)
    · exact ⟨r, h3, by rw [h2, h4], by rw [h4]⟩
  · rw [if_neg h, if_neg h, hq, bd1_s, onq_s, k4, bd4_s, of1 (by omega), hd, bd1_s, of0 (by omega), hd, bd1_s, k1, hm1, bd1_p]
    have e : nI m - nI m / 2 * 2 = nI (m % 2) := pk_rem (d := 2) (by omega) (by decide) (by decide)
    have hm := Nat.mod_lt m (show 0 < 2 by decide)
    generalize kd d p = k at k2 ⊢
    match k, k2 with
    | 0, _ => rw [if_neg (by decide), if_neg (by decide), if_neg (by decide)]; exact ⟨1, by omega, rfl, rfl⟩
    | 1, _ => rw [if_neg (by decide), if_neg (by decide), if_neg (by decide)]; exact ⟨1, by omega, rfl, rfl⟩
    | 2, _ => rw [if_neg (by decide), if_neg (by decide), if_neg (by decide)]; exact ⟨1, by omega, rfl, rfl⟩
    | 3, _ => rw [if_pos (by decide)]; exact ⟨2, by omega, rfl, rfl⟩
    | 4, _ =>
      rw [if_neg (by decide), if_neg (by decide), if_pos (by decide), e]
      refine ⟨1 + m % 2, by omega, ?_, congrArg some (nI_add 1 _)⟩
      show B4_due (nI p) (nI m) = _
      rw [B4_due, B0_due, bd1_s, e]
      exact congrArg some (nI_add 1 _)
    | 5, _ => rw [if_neg (by decide), if_neg (by decide), if_neg (by decide)]; exact ⟨1, by omega, rfl, rfl⟩
    | 6, _ =>
      rw [if_neg (by decide), if_pos (by decide), e]
      refine ⟨2 - m % 2, by omega, ?_, congrArg some (pk_sub (a := 2) (by omega))⟩
      show B6_due (nI p) (nI m) = _
      rw [B6_due, B3_due, bd1_s, e]
      exact congrArg some (pk_sub (a := 2) (by omega))
theorem TR.brkT (H : TR t tr cs d F D M) (hp : p < 4) : rd (cs.2.1 (20 * t + 7)) 4 (nI p) = some (d (50 + 21 * p + 3)) := by
  rw [rdC _ _ _ hp (by decide), (H.n.de p hp).brk]
/-- one who serves, due by due -/
theorem TR.serve (hp : p < D) (r : Nat) (hr : r ≤ 4) : ∀ (k : Nat), k ≤ r → ∀ (n n' : Nat) (cs : CS) (ms : MSt), k < n → k < n' → TR t tr cs (ms.2 1) F D M → ∃ cs' ms', T_passes_L25 NN t (nI p) n cs (nI k) = some cs' ∧ M_serves_L8 NN (nI p) (nI r) n' ms (nI (r - k)) = some ms' ∧ TR t tr cs' (ms'.2 1) F D M ∧ frC t cs cs' ∧ frM ms ms' := by
  intro k
  induction k with
  | zero =>
    intro _ n n' cs ms hn hn' H
    obtain ⟨n, rfl⟩ : ∃ m, n = m + 1 := ⟨n - 1, by omega⟩
    obtain ⟨n', rfl⟩ : ∃ m, n' = m + 1 := ⟨n' - 1, by omega⟩
    exact ⟨cs, ms, by rw [T_passes_L25, if_pos (by decide)], by rw [M_serves_L8, if_pos (nI_le (by omega) (by omega))], H, frC.rfl, frM.rfl⟩
  | succ k ih =>
    intro hk n n' cs ms hn hn' H
    obtain ⟨n, rfl⟩ : ∃ m, n = m + 1 := ⟨n - 1, by omega⟩
    obtain ⟨n', rfl⟩ : ∃ m, n' = m + 1 := ⟨n' - 1, by omega⟩
    have lD := H.i.lD
    have lF := H.i.lF
    have hp4 : p < 4 := by omega
    obtain ⟨b, b1, b2, b3⟩ := H.debtT hp4
    have es : nI (r - (k + 1)) + 1 = nI (r - k) := by rw [nI_1, show r - (k + 1) + 1 = r - k by omega]
    rw [T_passes_L25, if_neg (nI_nle (by omega) (by omega)), b3, bd1_s, M_serves_L8, if_neg (nI_ge (by omega) (by omega)), of2 hp4, b2, bd1_s, pk_m1, es]
    by_cases h0 : nI b ≤ 0
    · rw [if_pos h0, if_pos h0]; exact ⟨cs, ms, rfl, rfl, H, frC.rfl, frM.rfl⟩
    · rw [if_neg h0, if_neg h0, H.brkT hp4, bd1_s, of3 hp4, bd1_s]
      by_cases h1 : ms.2 1 (50 + 21 * p + 3) = 0
      · rw [if_pos h1, if_pos h1, H.mayAT hp, bd1_s]
        rcases H.first rfl hp (nI r) (nI (r - (k + 1))) with ⟨c1, c2⟩ | ⟨c1, f, c2, c3, c4, c5⟩
        · rw [c1, c2, if_pos rfl, wr_nI hp4 (by decide), bd1_s, if_pos rfl, bd1_s, rdM0, bd1_s, H.i.hF, if_pos (nI_le (Nat.le_refl _) (by omega)), sets3 hp4, bd1_s]
          obtain ⟨cs', ms', q1, q2, q3, q4, q5⟩ := ih (by omega) n n' _ (sa ms 1 (upd (ms.2 1) (50 + 21 * p + 3) 1)) (by omega) (by omega) (by rw [sa_at]; exact H.brk hp4 (Or.inr rfl))
          exact ⟨cs', ms', q1, q2, q3, (frC.arr (by omega) (by omega)).trans q4, (frM.upd (by omega)).trans q5⟩
        · have H1 : TR t tr (csA cs (20 * t + 7) (upd (cs.2.1 (20 * t + 7)) p 0)) (ms.2 1) F D M := by
            have := H.brk hp4 (v := 0) (Or.inl rfl)
            rwa [fa_upd_same h1] at this
          obtain ⟨cs1, ms1, g1, g2, g3, g4, g5⟩ := H1.tells rfl hp c2 c3
          rw [if_neg c1, wr_nI hp4 (by decide), bd1_s, if_neg c1, c4, bd1_s, g1, bd1_s, c5, bd1_s, rdM0, bd1_s, H.i.hF, if_neg (nI_ge c2 (by omega)), g2, bd1_s]
          obtain ⟨cs', ms', q1, q2, q3, q4, q5⟩ := ih (by omega) n n' cs1 ms1 (by omega) (by omega) g3
          exact ⟨cs', ms', q1, q2, q3, ((frC.arr (by omega) (by omega)).trans g4).trans q4, g5.trans q5⟩
      · rw [if_neg h1, if_neg h1]; exact ⟨cs, ms, rfl, rfl, H, frC.rfl, frM.rfl⟩
/-- one debtor's week -/
theorem TR.passes (H : TR t tr cs (ms.2 1) F D M) (hr : RT t cs ms) (hp : p < D) : ∃ cs' ms', T_passes t NN cs (nI p) = some cs' ∧ ((M_of ms (nI p) 3 = some 0 ∧ ((∃ v, M_of ms (nI p) 2 = some v ∧ v ≤ 0 ∧ ms' = ms) ∨ (∃ v, M_of ms (nI p) 2 = some v ∧ ¬ v ≤ 0 ∧ M_serves NN ms (nI p) = some ms'))) ∨ (∃ v, M_of ms (nI p) 3 = some v ∧ v ≠ 0 ∧ ms' = ms)) ∧ TR t tr cs' (ms'.2 1) F D M ∧ frC t cs cs' ∧ frM ms ms' := by
  have lD := H.i.lD
  have hp4 : p < 4 := by omega
  rw [T_passes, H.brkT hp4, bd1_s]
  by_cases h1 : ms.2 1 (50 + 21 * p + 3) = 0
  · obtain ⟨b, b1, b2, b3⟩ := H.debtT hp4
    rw [if_pos h1, b3, bd1_s]
    by_cases h0 : b = 0
    · rw [if_pos (by rw [h0]; rfl)]
      exact ⟨cs, ms, rfl, Or.inl ⟨by rw [of3 hp4, h1], Or.inl ⟨nI b, by rw [of2 hp4, b2], by rw [h0]; decide, rfl⟩⟩, H, frC.rfl, frM.rfl⟩
    · rw [if_neg (nI_ne0 (by omega) (by omega))]
      obtain ⟨r, r1, r2, r3⟩ := H.due rfl hr hp
      obtain ⟨cs1, ms1, q1, q2, q3, q4, q5⟩ := TR.serve (F := F) (M := M) (t := t) (tr := tr) hp r r1 r (Nat.le_refl _) NN NN cs ms (NN_lt (by omega)) (NN_lt (by omega)) H
      rw [Nat.sub_self] at q2
      have hB := (q3.i.de p hp4).brk
      rw [r2, bd1_s, q1, bd1_s, q3.brkT hp4, bd1_s, q3.overT hp4, bd1_s]
      have hs : M_serves NN ms (nI p) = (if od (ms1.2 1) p (mn (ms1.2 1) p) = 0 then some ms1 else some (sa ms1 1 (upd (ms1.2 1) (50 + 21 * p + 3) 1))) := by
        rw [M_serves, r3, bd1_s, show M_serves_L8 NN (nI p) (nI r) NN ms 0 = some ms1 from q2, bd1_s, q3.overM rfl hp4, bd1_s, sets3 hp4]; rfl
      have hM : ∀ x, M_serves NN ms (nI p) = some x → (M_of ms (nI p) 3 = some 0 ∧ ((∃ v, M_of ms (nI p) 2 = some v ∧ v ≤ 0 ∧ x = ms) ∨ (∃ v, M_of ms (nI p) 2 = some v ∧ ¬ v ≤ 0 ∧ M_serves NN ms (nI p) = some x))) ∨ (∃ v, M_of ms (nI p) 3 = some v ∧ v ≠ 0 ∧ x = ms) := fun x hx => Or.inl ⟨by rw [of3 hp4, h1], Or.inr ⟨nI b, by rw [of2 hp4, b2], nI_nle (by omega) (by omega), hx⟩⟩
      rcases od_01 (ms1.2 1) p (mn (ms1.2 1) p) with ho | ho
      · rw [ho]
        rw [ho, if_pos rfl] at hs
        have e0 : ms1.2 1 (50 + 21 * p + 3) ||| 0 = ms1.2 1 (50 + 21 * p + 3) := by rcases hB with h | h <;> rw [h] <;> rfl
        have ez : zr (ms1.2 1 (50 + 21 * p + 3)) = some (ms1.2 1 (50 + 21 * p + 3)) := by rcases hB with h | h <;> rw [h] <;> rfl
        rw [e0, ez, bd1_s, wr_nI hp4 (by decide), bd1_s]
        refine ⟨_, ms1, rfl, hM _ hs, ?_, q4.trans (frC.arr (by omega) (by omega)), q5⟩
        have := q3.brk hp4 hB
        rwa [fa_upd_same rfl] at this
      · rw [ho]
        rw [ho, if_neg (by decide)] at hs
        have e0 : ms1.2 1 (50 + 21 * p + 3) ||| 1 = 1 := by rcases hB with h | h <;> rw [h] <;> rfl
        rw [e0, zr_1, bd1_s, wr_nI hp4 (by decide), bd1_s]
        refine ⟨_, _, rfl, hM _ hs, ?_, q4.trans (frC.arr (by omega) (by omega)), q5.trans (frM.upd (by omega))⟩
        rw [sa_at]
        exact q3.brk hp4 (Or.inr rfl)
  · rw [if_neg h1]
    exact ⟨cs, ms, rfl, Or.inr ⟨_, of3 hp4, h1, rfl⟩, H, frC.rfl, frM.rfl⟩
/-- a week -/
theorem TR.goes (H : TR t tr cs (ms.2 1) F D M) (hr : RT t cs ms) : ∃ cs' ms', T_goes t NN cs = some cs' ∧ M_aWeek NN ms = some ms' ∧ TR t tr cs' (ms'.2 1) F D M ∧ frC t cs cs' ∧ frM ms ms' := by
  have lD := H.i.lD
  have hl : ∃ cs1 ms1, T_goes_L2 NN t NN cs (nI 0) = some cs1 ∧ M_aWeek_L2 NN NN ms (nI 0) = some ms1 ∧ (TR t tr cs1 (ms1.2 1) F D M ∧ frC t cs cs1 ∧ frM ms ms1) := by
    refine loop2 (T_goes_L2 NN t) (M_aWeek_L2 NN) D (fun _ c m => TR t tr c (m.2 1) F D M ∧ frC t cs c ∧ frM ms m) (fun c m => TR t tr c (m.2 1) F D M ∧ frC t cs c ∧ frM ms m) (fun n n' c m hP => ?_) (fun n n' c m j hj hP => Or.inr ?_) D 0 cs ms NN NN (by omega) (NN_lt (by omega)) (NN_lt (by omega)) ⟨H, frC.rfl, frM.rfl⟩
    · refine ⟨c, m, ?_, ?_, hP⟩
      · rw [T_goes_L2, hP.1.n.h.f6, hP.1.i.hD, if_pos (nI_le (Nat.le_refl _) (by omega))]
      · rw [M_aWeek_L2, rdM1, bd1_s, hP.1.i.hD, if_pos (nI_le (Nat.le_refl _) (by omega))]
    · obtain ⟨h1, h2, h3⟩ := hP
      obtain ⟨cs', ms', q1, q2, q3, q4, q5⟩ := h1.passes (hr.fr h2 h3) hj
      refine ⟨cs', ms', ?_, ?_, q3, h2.trans q4, h3.trans q5⟩
      · rw [T_goes_L2, h1.n.h.f6, h1.i.hD, if_neg (nI_ge hj (by omega)), q1, bd1_s, nI_1]
      · rw [M_aWeek_L2, rdM1, bd1_s, h1.i.hD, if_neg (nI_ge hj (by omega)), nI_1]
        rcases q2 with ⟨e1, ⟨v, e2, e3, e4⟩ | ⟨v, e2, e3, e4⟩⟩ | ⟨v, e1, e2, e3⟩
        · rw [e1, bd1_s, if_pos rfl, e2, bd1_s, if_pos e3, e4]
        · rw [e1, bd1_s, if_pos rfl, e2, bd1_s, if_neg e3, e4, bd1_s]
        · rw [e1, bd1_s, if_neg e2, e3]
  obtain ⟨cs1, ms1, h1, h2, h3, h4, h5⟩ := hl
  refine ⟨_, _, by rw [T_goes, show T_goes_L2 NN t NN cs 0 = some cs1 from h1, bd1_s], by rw [M_aWeek, show M_aWeek_L2 NN NN ms 0 = some ms1 from h2, bd1_s, rdM3, bd1_s, wrM3, bd1_s], ?_, h4.trans (frC.fld (by decide) (by decide)), h5.trans (frM.upd (by decide))⟩
  rw [sa_at, h3.n.h.f13]
  exact h3.week _
end
