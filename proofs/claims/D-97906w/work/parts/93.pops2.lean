/-! the pure stage: acts, second part: facts, meetings, tape, what waits -/
set_option maxRecDepth 100000
section
variable {t tr F D M p nx k : Nat} {cs cs' : CS} {d d' : Nat → Int32} {ms ms' : MSt} {cA : Nat → ClassId} {ad adK : Nat → Nat}
theorem DP.mono {F' : Nat} (H : DP d F p) (h : F ≤ F') : DP d F' p := DP.mk H.mm H.deb H.brk H.mny (fun i hi => ⟨(H.bk i hi).1, by have := (H.bk i hi).2; omega⟩) H.inj
/-- facts change -/
theorem TR.fct {F' : Nat} (H : TR t tr cs d F D M) (hh : TH t cs' d') (ha : ∀ k, 6 ≤ k → k < 16 → cs'.2.1 (20 * t + k) = cs.2.1 (20 * t + k)) (hq : cs'.2.2 = cs.2.2) (hd : ∀ i, i ≠ 0 → (i < 10 ∨ 50 ≤ i) → d' i = d i) (hF : d' 0 = nI F') (lF : F' ≤ 8) (hFF : F ≤ F') (hT : ∀ f, f < 8 → TF t cs' d' f) (hI : ∀ f, f < 8 → DF d' F' f) (hC : DC d' F') : TR t tr cs' d' F' D M := by
  have I := H.i
  have N := H.n
  exact TR.mk (TN.mk hh hT (fun q hq' => TP.congr (by rw [ha 6 (by omega) (by omega)]) (by rw [ha 7 (by omega) (by omega)]) (by rw [ha 8 (by omega) (by omega)]) (fun i hi => by rw [ha 9 (by omega) (by omega)]) (fun i hi => by rw [ha 10 (by omega) (by omega)]) (fun i hi => hd _ (by omega) (by omega)) (N.de q hq')) (fun k hk => TM.congr (fun j hj1 hj => by rw [ha j (by omega) (by omega)]) (fun i hi => hd _ (by omega) (by omega)) (N.me k hk)) (fun i hi => by rw [ha 14 (by omega) (by omega), hd _ (by omega) (by omega)]; exact N.tp i hi) (fun i hi => by rw [ha 15 (by omega) (by omega), hd _ (by omega) (by omega)]; exact N.wt i hi)) (TQ.congr hq I.lD (fun q hq' => ⟨hd _ (by omega) (by omega), hd _ (by omega) (by omega)⟩) (fun i h1 h2 h3 => hd i (by omega) (by omega)) H.q) (DI.mk hF lF (by rw [hd 1 (by omega) (by omega)]; exact I.hD) I.lD (by rw [hd 2 (by omega) (by omega)]; exact I.hM) I.lM (by rw [hd 5 (by omega) (by omega)]; exact I.tp) (by rw [hd 6 (by omega) (by omega)]; exact I.wt) hI hC (fun q hq' => DP.congr (fun i hi => hd _ (by omega) (by omega)) ((I.de q hq').mono hFF)) (fun k hk => DM.congr (fun i hi => hd _ (by omega) (by omega)) (I.me k hk)))
/-- meetings, tape, what waits change -/
theorem TR.low {M' : Nat} (H : TR t tr cs d F D M) (hh : TH t cs' d') (ha : ∀ k, k < 11 → cs'.2.1 (20 * t + k) = cs.2.1 (20 * t + k)) (hq : cs'.2.2 = cs.2.2) (hd : ∀ i, (i < 2 ∨ (7 ≤ i ∧ i < 134) ∨ (170 ≤ i ∧ i < 172) ∨ (192 ≤ i ∧ i < 292)) → d' i = d i) (hM : d' 2 = nI M') (lM : M' ≤ 12) (h5 : ∃ n, d' 5 = nI n ∧ n ≤ 50) (h6 : ∃ n, d' 6 = nI n ∧ n ≤ 20) (hme : ∀ k, k < 12 → TM t cs' d' k) (hdm : ∀ k, k < M' → DM d' k) (htp : ∀ i, i < 50 → cs'.2.1 (20 * t + 14) i &&& 255 = d' (292 + i) ∧ fits .byte (.int (cs'.2.1 (20 * t + 14) i)) = true) (hwt : ∀ i, i < 20 → cs'.2.1 (20 * t + 15) i = d' (172 + i)) : TR t tr cs' d' F D M' := by
  have I := H.i
  have N := H.n
  exact TR.mk (TN.mk hh (fun f hf' => TF.congr (fun k hk => by rw [ha k (by omega)]) (fun i hi => hd _ (by omega)) (N.fa f hf')) (fun q hq' => TP.congr (by rw [ha 6 (by omega)]) (by rw [ha 7 (by omega)]) (by rw [ha 8 (by omega)]) (fun i hi => by rw [ha 9 (by omega)]) (fun i hi => by rw [ha 10 (by omega)]) (fun i hi => hd _ (by omega)) (N.de q hq')) hme htp hwt) (TQ.congr hq I.lD (fun q hq' => ⟨hd _ (by omega), hd _ (by omega)⟩) (fun i h1 h2 h3 => hd i (by omega)) H.q) (DI.mk (by rw [hd 0 (by omega)]; exact I.hF) I.lF (by rw [hd 1 (by omega)]; exact I.hD) I.lD hM lM h5 h6 (fun f hf' => DF.congr (fun i hi => hd _ (by omega)) (I.fa f hf')) (DC.congr (fun f hf' => hd _ (by omega)) I.cls) (fun q hq' => DP.congr (fun i hi => hd _ (by omega)) (I.de q hq')) hdm)
theorem s_book : stp_book ad adK cA (INV tr cA k) (INV tr cA (k + 1)) := by
  intro nx cs ms x1 x2 x3 I fr
  obtain ⟨F, D, M, H⟩ := I.r0
  have lD := H.i.lD
  rw [L_book, M_book]
  rcases H.isD x1 with ⟨h1, h2⟩ | ⟨p, hp, rfl, h1, h2⟩
  · rw [h1, bd1_s, if_pos rfl, need_0, bd2_s, onx_n, bd2_p, h2, bd1_s, if_pos rfl, bd2_p]; exact I.find fr (c := 1) (by decide)
  · have hp4 : p < 4 := by omega
    have l8 := (H.i.de p hp4).mny.2
    rw [h1, bd1_s, if_neg (by decide), h2, bd1_s, if_neg (by decide), Min_0_1]
    rcases in_le x3 1 (by decide) with h | ⟨e, e1, rfl, h⟩
    · rw [show L_in x3 0 1 = some 0 from h, bd1_s, if_pos rfl, need_0, bd2_s, onx_n, bd2_p, bd1_s, if_pos rfl, bd2_p]; exact I.find fr (c := 1) (by decide)
    · rw [show L_in (nI e) 0 1 = some 1 from h, bd1_s, if_neg (c := (1 : Int32) = 0) (by decide), need_1, bd2_s, onx_s, bd1_s, if_neg (c := (1 : Int32) = 0) (by decide), H.mnyT hp4, bd1_s, H.mnyM rfl hp4, bd1_s, Min_0_v]
      rcases in_ix x2 (mn (ms.2 1) p) (by omega) with h | ⟨i, i1, rfl, h⟩
      · rw [h, bd1_s, need_0, bd2_s, onx_n, bd2_p, bd1_s, if_pos rfl, bd2_p]; exact I.find fr (c := 2) (by decide)
      · rw [h, bd1_s, need_1, bd2_s, onx_s, bd1_s, if_neg (c := (1 : Int32) = 0) (by decide)]
        match e, e1 with
        | 0, _ =>
          rw [if_pos (show nI 0 = 0 from rfl), if_pos (show nI 0 = 0 from rfl), H.bkT hp4 i1, H.bkM rfl hp4 i1]
          exact ⟨_, _, _, rfl, rfl, I.stay fr⟩
        | 1, _ =>
          rw [if_neg (show ¬ nI 1 = 0 by decide), if_neg (show ¬ nI 1 = 0 by decide), ixB, rdC _ _ _ (by omega) (by decide), (H.n.de p hp4).bw i (by omega), ofW hp4 (by omega)]
          exact ⟨_, _, _, rfl, rfl, I.stay fr⟩
theorem TR.bwT (H : TR 0 tr cs d F D M) {f : Nat} (hf : f < 32) : L_ofFact_L135 NN cs (nI f) NN 0 0 = some (nI (bwC d f D)) := by
  have lD := H.i.lD
  have e6 : cs.1 (20 * 0) 6 = nI D := H.n.h.f6.trans H.i.hD
  have hz : ∀ k, nfo (fun e n => n + (if bt (bkS d e) f then 1 else 0)) 0 k 0 = nI (bwC d f k) := by
    intro k
    induction k with
    | zero => rfl
    | succ k ih =>
      rw [nfo_succ, ih, Nat.zero_add, bwC, fb_ct_succ]
      cases bt (bkS d k) f
      · exact nI_add _ 0
      · exact nI_add _ 1
  refine (loopF (L_ofFact_L135 NN cs (nI f)) D (fun e n => n + (if bt (bkS d e) f then 1 else 0)) id (fun n a => ?_) (fun n a j hj => ?_) D 0 0 NN (by omega) (NN_lt (by omega))).trans (congrArg some (hz _))
  · rw [L_ofFact_L135, e6, if_pos (nI_le (Nat.le_refl _) (by omega))]; rfl
  · rw [L_ofFact_L135, e6, if_neg (nI_ge hj (by omega)), H.toldT (by omega), bd1_s, isIn_bt hf, bd1_s, nI_1]
    cases bt (bkS d j) f
    · rw [if_pos (by decide)]; rfl
    · rw [if_neg (by decide)]; rfl
theorem s_ofFact : stp_ofFact ad adK cA (INV tr cA k) (INV tr cA (k + 1)) := by
  intro nx cs ms x1 x2 I fr
  obtain ⟨F, D, M, H⟩ := I.r0
  have lF := H.i.lF
  rw [L_ofFact, M_ofFact]
  rcases H.isF x1 with ⟨h1, h2⟩ | ⟨f, hf, rfl, h1, h2⟩
  · rw [h1, bd1_s, if_pos rfl, need_0, bd2_s, onx_n, bd2_p, h2, bd1_s, if_pos rfl, bd2_p]; exact I.find fr (c := 1) (by decide)
  · have hf8 : f < 8 := by omega
    have T := H.n.fa f hf8
    rw [h1, bd1_s, if_neg (by decide), h2, bd1_s, if_neg (by decide), Min_0_5]
    rcases in_le x2 5 (by decide) with h | ⟨e, e1, rfl, h⟩
    · rw [show L_in x2 0 5 = some 0 from h, bd1_s, if_pos rfl, need_0, bd2_s, onx_n, bd2_p, bd1_s, if_pos rfl, bd2_p]; exact I.find fr (c := 1) (by decide)
    · rw [show L_in (nI e) 0 5 = some 1 from h, bd1_s, if_neg (c := (1 : Int32) = 0) (by decide), need_1, bd2_s, onx_s, bd1_s, if_neg (c := (1 : Int32) = 0) (by decide)]
      match e, e1 with
      | 0, _ =>
        rw [if_pos (show nI 0 = 0 from rfl), if_neg (show ¬ 5 ≤ nI 0 by decide), rdC _ _ _ hf8 (by decide), T.need, its_at 0 hf8 (by decide)]
        exact ⟨_, _, _, rfl, rfl, I.stay fr⟩
      | 1, _ =>
        rw [if_neg (show ¬ nI 1 = 0 by decide), if_pos (show nI 1 = 1 from rfl), if_neg (show ¬ 5 ≤ nI 1 by decide), rdC _ _ _ hf8 (by decide), T.cl, its_at 1 hf8 (by decide)]
        exact ⟨_, _, _, rfl, rfl, I.stay fr⟩
      | 2, _ =>
        rw [if_neg (show ¬ nI 2 = 0 by decide), if_neg (show ¬ nI 2 = 1 by decide), if_pos (show nI 2 = 2 from rfl), if_neg (show ¬ 5 ≤ nI 2 by decide), rdC _ _ _ hf8 (by decide), T.wi, its_at 2 hf8 (by decide)]
        exact ⟨_, _, _, rfl, rfl, I.stay fr⟩
      | 3, _ =>
        rw [if_neg (show ¬ nI 3 = 0 by decide), if_neg (show ¬ nI 3 = 1 by decide), if_neg (show ¬ nI 3 = 2 by decide), if_pos (show nI 3 = 3 from rfl), if_neg (show ¬ 5 ≤ nI 3 by decide), rdC _ _ _ hf8 (by decide), bd1_s, T.wi, its_at 3 hf8 (by decide)]
        by_cases h0 : ms.2 1 (10 + 5 * f + 2) = 0
        · rw [if_pos h0, (H.i.fa f hf8).by0 hf h0]
          exact ⟨_, _, _, rfl, rfl, I.stay fr⟩
        · rw [if_neg h0, rdC _ _ _ hf8 (by decide), T.by1 h0]
          exact ⟨_, _, _, rfl, rfl, I.stay fr⟩
      | 4, _ =>
        rw [if_neg (show ¬ nI 4 = 0 by decide), if_neg (show ¬ nI 4 = 1 by decide), if_neg (show ¬ nI 4 = 2 by decide), if_neg (show ¬ nI 4 = 3 by decide), if_pos (show nI 4 = 4 from rfl), if_neg (show ¬ 5 ≤ nI 4 by decide), rdC _ _ _ hf8 (by decide), T.ws, its_at 4 hf8 (by decide)]
        exact ⟨_, _, _, rfl, rfl, I.stay fr⟩
      | 5, _ =>
        rw [if_neg (show ¬ nI 5 = 0 by decide), if_neg (show ¬ nI 5 = 1 by decide), if_neg (show ¬ nI 5 = 2 by decide), if_neg (show ¬ nI 5 = 3 by decide), if_neg (show ¬ nI 5 = 4 by decide), if_pos (show 5 ≤ nI 5 by decide), H.bwT (by omega), H.bwM rfl (by omega)]
        exact ⟨_, _, _, rfl, rfl, I.stay fr⟩
theorem TR.atD (H : TR 0 tr cs d F D M) (hp : p < D) {a : Nat} (ha : cs.2.2.1 (20 * 0 + 17) p = some a) : rdq (cs.2.2.1 (20 * 0 + 17)) 4 (nI p) = some (some a) := by
  have lD := H.i.lD
  unfold rdq
  rw [if_neg (nI_in (by omega) (by decide)), nI_clamp (by omega), ha]
theorem kind_at : ∀ k, k < 7 → ∀ (dn dm : Int32), D_kind k dn dm = some (nI k)
  | 0, _, _, _ => rfl
  | 1, _, _, _ => rfl
  | 2, _, _, _ => rfl
  | 3, _, _, _ => rfl
  | 4, _, _, _ => rfl
  | 5, _, _, _ => rfl
  | 6, _, _, _ => rfl
theorem s_ofDebtor : stp_ofDebtor ad adK cA (INV tr cA k) (INV tr cA (k + 1)) := by
  intro nx cs ms x1 x2 I fr
  obtain ⟨F, D, M, H⟩ := I.r0
  have lD := H.i.lD
  rw [L_ofDebtor, M_ofDebtor, Min_0_9]
  rcases H.isD x1 with ⟨h1, h2⟩ | ⟨p, hp, rfl, h1, h2⟩
  · have hL : ∃ v, L_in x2 0 9 = some v := by rcases in_two x2 0 9 with h | ⟨h, -⟩ <;> exact ⟨_, h⟩
    obtain ⟨v, hv⟩ := hL
    rw [hv, bd1_s, L_debtorAt, h1, bd1_s, if_pos rfl, need_0, bd2_s, onx_n, bd2_s, onx_n, bd2_p, h2, bd1_s, if_pos rfl, bd2_p]; exact I.find fr (c := 1) (by decide)
  · have hp4 : p < 4 := by omega
    obtain ⟨k1, k2, a, k3, k4⟩ := H.kdx hp
    rw [h2, bd1_s, if_neg (by decide)]
    rcases in_le x2 9 (by decide) with h | ⟨e, e1, rfl, h⟩
    · rw [show L_in x2 0 9 = some 0 from h, bd1_s, L_debtorAt, h1, bd1_s, if_neg (by decide), if_pos rfl, need_0, bd2_s, onx_n, bd2_s, onx_n, bd2_p, bd1_s, if_pos rfl, bd2_p]; exact I.find fr (c := 1) (by decide)
    · rw [show L_in (nI e) 0 9 = some 1 from h, bd1_s, L_debtorAt, h1, bd1_s, if_neg (c := (1 : Int32) = 0) (by decide), if_neg (c := (1 : Int32) = 0) (by decide), need_1, bd2_s, onx_s, H.atD hp k3, bd1_s, onq_s, bd2_s, onx_s, bd1_s, if_neg (c := (1 : Int32) = 0) (by decide), k4, bd4_s, bd4_s, bd4_s, kind_at _ k2, L_isOn, M_toldOf, rdC _ _ _ hp4 (by decide), (H.n.de p hp4).deb, H.mnyT hp4, H.toldT hp4, H.brkT hp4, H.openT hp4, H.mayAT hp, of0 hp4, of1 hp4, of2 hp4, of3 hp4, H.mnyM rfl hp4, H.toldM rfl hp4, H.openM rfl hp4, H.mayAM rfl hp, k1]
      match e, e1 with
      | 0, _ => exact ⟨_, _, _, rfl, rfl, I.stay fr⟩
      | 1, _ => exact ⟨_, _, _, rfl, rfl, I.stay fr⟩
      | 2, _ => exact ⟨_, _, _, rfl, rfl, I.stay fr⟩
      | 3, _ => exact ⟨_, _, _, rfl, rfl, I.stay fr⟩
      | 4, _ => exact ⟨_, _, _, rfl, rfl, I.stay fr⟩
      | 5, _ =>
        rcases (H.i.de p hp4).brk with h0 | h0 <;> rw [h0]
        · exact ⟨_, _, _, rfl, rfl, I.stay fr⟩
        · exact ⟨_, _, _, rfl, rfl, I.stay fr⟩
      | 6, _ =>
        obtain ⟨r, -, q2, q3⟩ := H.due rfl ⟨(show cs.1 (20 * 0) 25 = ms.1 12 from I.ro.trans I.mo.symm), Or.inl I.mo⟩ hp
        have hn : ¬ nI p = cs.1 (20 * 0) 25 := fun h => by
          rw [show cs.1 (20 * 0) 25 = -1 from I.ro] at h
          exact absurd (nI_pos' (n := p) (by omega)) (by rw [h]; decide)
        rw [T_due, if_neg hn, H.atD hp k3, bd1_s, onq_s, k4, bd4_s, bd1_p] at q2
        rw [q2, q3]
        exact ⟨_, _, _, rfl, rfl, I.stay fr⟩
      | 7, _ => exact ⟨_, _, _, rfl, rfl, I.stay fr⟩
      | 8, _ => exact ⟨_, _, _, rfl, rfl, I.stay fr⟩
      | 9, _ =>
        obtain ⟨n, n1, n2, n3⟩ := H.debtT hp4
        obtain ⟨v, cs', ms', q1, q2, q3, q4, q5, q6⟩ := H.trust rfl (nI n) (nI (opn (ms.2 1) p)) (nI (mn (ms.2 1) p))
        have e1 : T_trust 0 NN cs (nI p) = some (v, cs') := by rw [T_trust, n3, bd1_s, H.openT hp4, bd1_s, H.mnyT hp4, bd1_s, q1]; rfl
        rw [e1, n2]
        refine ⟨v, cs', ms', rfl, ?_, I.go fr q5 q6.KM (q6.2.1 12 (by omega)) (by rw [q4]; exact q3)⟩
        show (bd2 (bd2 (M_textGives NN ms 1 (nI n) (nI (opn (ms.2 1) p)) (nI (mn (ms.2 1) p))) fun v s => some (v, s)) fun v s => some (v, s)) = _
        rw [q2]; rfl
end
