/-! the pure stage: acts, fourth part -/
set_option maxRecDepth 100000
section
variable {t tr F D M p nx k : Nat} {cs cs' : CS} {d d' : Nat → Int32} {ms ms' : MSt} {cA : Nat → ClassId} {ad adK : Nat → Nat}
def cNF (t : Nat) (cs : CS) (F : Nat) (x y : Int32) : CS := csF (csA (csA (csA (csA (csA cs (20 * t + 1) (upd (cs.2.1 (20 * t + 1)) F x)) (20 * t + 2) (upd (cs.2.1 (20 * t + 2)) F 0)) (20 * t + 3) (upd (cs.2.1 (20 * t + 3)) F 0)) (20 * t + 4) (upd (cs.2.1 (20 * t + 4)) F 0)) (20 * t + 5) (upd (cs.2.1 (20 * t + 5)) F y)) (20 * t) 0 (nI (F + 1))
def dNF (d : Nat → Int32) (F : Nat) (x y : Int32) : Nat → Int32 := upd (upd (upd (upd (upd (upd d 0 (nI (F + 1))) (10 + 5 * F + 0) x) (10 + 5 * F + 1) 0) (10 + 5 * F + 2) 0) (10 + 5 * F + 3) (-1)) (10 + 5 * F + 4) y
theorem TR.newF {a : Nat} {y : Int32} (ha : a < 256) (hF : F < 8) (H : TR t tr cs d F D M) : TR t tr (cNF t cs F (nI a) y) (dNF d F (nI a) y) (F + 1) D M := by
  have ed : ∀ i, i ≠ 0 → (i < 10 + 5 * F ∨ 15 + 5 * F ≤ i) → dNF d F (nI a) y i = d i := fun i h0 h => by
    unfold dNF
    rw [upd_ne (by omega), upd_ne (by omega), upd_ne (by omega), upd_ne (by omega), upd_ne (by omega), upd_ne (by omega)]
  have d0 : dNF d F (nI a) y 0 = nI (F + 1) := by unfold dNF; rw [upd_ne (by omega), upd_ne (by omega), upd_ne (by omega), upd_ne (by omega), upd_ne (by omega), pk_us]
  have n0 : dNF d F (nI a) y (10 + 5 * F + 0) = nI a := by unfold dNF; rw [upd_ne (by omega), upd_ne (by omega), upd_ne (by omega), upd_ne (by omega), pk_us]
  have n1 : dNF d F (nI a) y (10 + 5 * F + 1) = 0 := by unfold dNF; rw [upd_ne (by omega), upd_ne (by omega), upd_ne (by omega), pk_us]
  have n2 : dNF d F (nI a) y (10 + 5 * F + 2) = 0 := by unfold dNF; rw [upd_ne (by omega), upd_ne (by omega), pk_us]
  have n3 : dNF d F (nI a) y (10 + 5 * F + 3) = -1 := by unfold dNF; rw [upd_ne (by omega), pk_us]
  have n4 : dNF d F (nI a) y (10 + 5 * F + 4) = y := by unfold dNF; rw [pk_us]
  have a1 : (cNF t cs F (nI a) y).2.1 (20 * t + 1) = upd (cs.2.1 (20 * t + 1)) F (nI a) := by unfold cNF; rw [cF_a, cA_ne _ _ (by omega), cA_ne _ _ (by omega), cA_ne _ _ (by omega), cA_ne _ _ (by omega), cA_at]
  have a2 : (cNF t cs F (nI a) y).2.1 (20 * t + 2) = upd (cs.2.1 (20 * t + 2)) F 0 := by unfold cNF; rw [cF_a, cA_ne _ _ (by omega), cA_ne _ _ (by omega), cA_ne _ _ (by omega), cA_at]
  have a3 : (cNF t cs F (nI a) y).2.1 (20 * t + 3) = upd (cs.2.1 (20 * t + 3)) F 0 := by unfold cNF; rw [cF_a, cA_ne _ _ (by omega), cA_ne _ _ (by omega), cA_at]
  have a4 : (cNF t cs F (nI a) y).2.1 (20 * t + 4) = upd (cs.2.1 (20 * t + 4)) F 0 := by unfold cNF; rw [cF_a, cA_ne _ _ (by omega), cA_at]
  have a5 : (cNF t cs F (nI a) y).2.1 (20 * t + 5) = upd (cs.2.1 (20 * t + 5)) F y := by unfold cNF; rw [cF_a, cA_at]
  have ao : ∀ j, (j = 0 ∨ 6 ≤ j) → (cNF t cs F (nI a) y).2.1 (20 * t + j) = cs.2.1 (20 * t + j) := fun j h => by unfold cNF; rw [cF_a, cA_ne _ _ (by omega), cA_ne _ _ (by omega), cA_ne _ _ (by omega), cA_ne _ _ (by omega), cA_ne _ _ (by omega)]
  have ff : ∀ j, j ≠ 0 → (cNF t cs F (nI a) y).1 (20 * t) j = cs.1 (20 * t) j := fun j h => by unfold cNF; rw [cF_ne _ _ (by omega)]; rfl
  have f0 : (cNF t cs F (nI a) y).1 (20 * t) 0 = nI (F + 1) := cF_at _ _ _ _
  have h := H.n.h
  refine TR.fct H (TH.mk (f0.trans d0.symm) (by rw [ff 6 (by omega), ed 1 (by omega) (by omega)]; exact h.f6) (by rw [ff 14 (by omega), ed 2 (by omega) (by omega)]; exact h.f14) (by rw [ff 13 (by omega), ed 3 (by omega) (by omega)]; exact h.f13) (by rw [ff 19 (by omega), ed 4 (by omega) (by omega)]; exact h.f19) (by rw [ff 21 (by omega), ed 5 (by omega) (by omega)]; exact h.f21) (by rw [ff 23 (by omega), ed 6 (by omega) (by omega)]; exact h.f23)) (fun j h1 h2 => ao j (by omega)) rfl (fun i h1 h2 => ed i h1 (by omega)) d0 (by omega) (by omega) (fun f hf => ?_) (fun f hf => ?_) (fun f g hf hg hb => ?_)
  · by_cases e : f = F
    · subst e
      exact TF.mk (by rw [a1, pk_us, n0]) (by rw [a2, pk_us, n1]) (by rw [a3, pk_us, n2]) (fun h => absurd n2 h) (by rw [a5, pk_us, n4])
    · refine TF.congr (fun j hj => ?_) (fun i hi => ed _ (by omega) (by omega)) (H.n.fa f hf)
      match j, hj with
      | 0, _ => rw [ao 0 (by omega)]
      | 1, _ => rw [a1, upd_ne e]
      | 2, _ => rw [a2, upd_ne e]
      | 3, _ => rw [a3, upd_ne e]
      | 4, _ => rw [a4, upd_ne e]
      | 5, _ => rw [a5, upd_ne e]
  · by_cases e : f = F
    · subst e
      exact DF.mk ⟨a, n0, ha⟩ ⟨0, n1, by decide⟩ ⟨0, n2, by decide⟩ (fun _ _ => n3)
    · have Q := H.i.fa f hf
      have e' : ∀ i, i < 5 → dNF d F (nI a) y (10 + 5 * f + i) = d (10 + 5 * f + i) := fun i hi => ed _ (by omega) (by omega)
      refine DF.mk (by rw [e' 0 (by omega)]; exact Q.need) (by rw [e' 1 (by omega)]; exact Q.cl) (by rw [e' 2 (by omega)]; exact Q.wi) (fun h1 h2 => ?_)
      rw [e' 2 (by omega)] at h2
      rw [e' 3 (by omega)]
      exact Q.by0 (by omega) h2
  · by_cases e : f = F
    · subst e; rw [n1, b_0] at hb; cases hb
    · rw [ed _ (by omega) (by omega)] at hb
      obtain ⟨q1, q2, q3⟩ := H.i.cls f g hf hg hb
      exact ⟨by omega, by omega, by rw [ed _ (by omega) (by omega)]; exact q3⟩
theorem s_fact : stp_fact ad adK cA (INV tr cA k) (INV tr cA (k + 1)) := by
  intro nx cs ms x1 x2 I fr
  obtain ⟨F, D, M, H⟩ := I.r0
  have lF := H.i.lF
  have e0 : cs.1 (20 * 0) 0 = nI F := H.n.h.f0.trans H.i.hF
  rw [L_fact, M_fact, Min_0_255, Min_0_31]
  rcases in_le x1 255 (by decide) with h | ⟨a, a1, rfl, h⟩
  · rw [show L_in x1 0 255 = some 0 from h, bd1_s, if_pos rfl, need_0, bd2_s, onx_n, bd2_p, bd1_s, if_pos rfl, bd2_p]; exact I.find fr (c := 1) (by decide)
  · rw [show L_in (nI a) 0 255 = some 1 from h, bd1_s, if_neg (c := (1 : Int32) = 0) (by decide), bd1_s, if_neg (c := (1 : Int32) = 0) (by decide), rdM0, bd1_s, H.i.hF]
    rcases in_two x2 0 31 with h | ⟨h, -⟩
    · rw [h, bd1_s, if_pos rfl, need_0, bd2_s, onx_n, bd2_p, bd1_s, if_pos rfl, bd2_p]
      have : ∀ z : Option (Int32 × MSt), (if ((nI a >>> (nI F &&& 31)) &&& 1) = 1 then z else z) = z := fun z => by split <;> rfl
      rw [this]; exact I.find fr (c := 1) (by decide)
    · rw [h, bd1_s, if_neg (c := (1 : Int32) = 0) (by decide), need_1, bd2_s, onx_s, bd1_s, if_neg (c := (1 : Int32) = 0) (by decide), e0]
      by_cases h8 : F = 8
      · have hb : ¬ ((nI a >>> (nI F &&& 31)) &&& 1) = 1 := by
          rw [bit_is1 (by omega), h8, bits_small (by omega) (Nat.le_refl _)]; decide
        rw [if_neg hb, if_pos (c := nI F = 8) (by rw [h8]; rfl), need_1, bd2_s, onx_s, e0, if_pos (c := 8 ≤ nI F) (by rw [h8]; decide), need_0, bd2_s, onx_n, bd2_p, bd1_s, if_pos (c := nI F = 8) (by rw [h8]; rfl), bd2_p]
        exact I.find fr (c := 4) (by decide)
      · have hn : ¬ nI F = 8 := fun h => h8 ((nI_eq (b := 8) (by omega) (by decide)).mp h)
        rw [if_neg (c := nI F = 8) hn]
        by_cases hb : bt (nI a) F = true
        · have hb1 := (bit_is1 (x := nI a) (f := F) (by omega)).mpr hb
          rw [if_neg (c := (nI a >>> (nI F &&& 31)) &&& 1 = 0) (by rw [hb1]; decide), need_0, bd2_s, onx_n, bd2_p, if_pos hb1, bd2_p]
          exact I.find fr (c := 1) (by decide)
        · have hb0 := (bit_is0 (x := nI a) (f := F) (by omega)).mpr (by simpa using hb)
          have H1 := H.newF (a := a) (y := x2) (by omega) (by omega)
          have hF8 : F < 8 := by omega
          rw [if_pos hb0, need_1, bd2_s, onx_s, e0, if_neg (c := 8 ≤ nI F) (nI_ge (b := 8) (by omega) (by decide)), need_1, bd2_s, onx_s, e0, wr_nI hF8 (by decide), bd1_s, cA_ne _ _ (by decide), wr_nI hF8 (by decide), bd1_s, cA_ne _ _ (by decide), cA_ne _ _ (by decide), wr_nI hF8 (by decide), bd1_s, cA_ne _ _ (by decide), cA_ne _ _ (by decide), cA_ne _ _ (by decide), wr_nI hF8 (by decide), bd1_s, cA_ne _ _ (by decide), cA_ne _ _ (by decide), cA_ne _ _ (by decide), cA_ne _ _ (by decide), wr_nI hF8 (by decide), bd1_s, cA_f, cA_f, cA_f, cA_f, cA_f, e0, nI_1, if_neg (c := (nI a >>> (nI F &&& 31)) &&& 1 = 1) (by rw [hb0]; decide), bd1_s, if_neg hn, bd1_s, bd1_s, nI_1, wrM0, bd1_s, puts0 hF8, bd1_s, sa_at, sa_sa, puts1 hF8, bd1_s, sa_at, sa_sa, puts2 hF8, bd1_s, sa_at, sa_sa, puts3 hF8, bd1_s, sa_at, sa_sa, puts4 hF8, bd1_s, sa_at, sa_sa]
          refine ⟨_, _, _, rfl, rfl, I.go (F := F + 1) (D := D) (M := M) fr ?_ (KM.sa1 (Or.inl rfl)) rfl (by rw [sa_at]; exact H1)⟩
          exact (((((frC.arr (by omega) (by omega)).trans (frC.arr (by omega) (by omega))).trans (frC.arr (by omega) (by omega))).trans (frC.arr (by omega) (by omega))).trans (frC.arr (by omega) (by omega))).trans (frC.fld (by decide) (by decide))
theorem s_tell : stp_tell ad adK cA (INV tr cA k) (INV tr cA (k + 1)) := by
  intro nx cs ms x1 I fr
  obtain ⟨F, D, M, H⟩ := I.r0
  obtain ⟨n, n1, n2⟩ := H.i.wt
  have e0 : cs.1 (20 * 0) 23 = nI n := H.n.h.f23.trans n1
  rw [L_tell, M_tell, e0, rdM6, bd1_s, n1]
  by_cases h : n = 20
  · rw [if_pos (c := 20 ≤ nI n) (by rw [h]; decide), need_0, bd2_s, onx_n, bd2_p, if_pos (c := nI n = 20) (by rw [h]; rfl), bd2_p]; exact I.find fr (c := 4) (by decide)
  · have hn : ¬ nI n = 20 := fun h2 => h ((nI_eq (b := 20) (by omega) (by decide)).mp h2)
    rw [if_neg (c := 20 ≤ nI n) (nI_ge (b := 20) (by omega) (by decide)), need_1, bd2_s, onx_s, e0, wr_nI (by omega) (by decide), bd1_s, cF_at, cA_f, e0, nI_1, if_neg hn, bd1_s, show (172 : Int32) + nI n = nI (172 + n) from nI_add 172 n, wrM _ (by omega), bd1_s, sa_at, rdM6, bd1_s, upd_ne (by omega), n1, nI_1, wrM6, bd1_s, rdM6, bd1_s, sa_at, pk_us, sa_sa]
    refine ⟨_, _, _, rfl, rfl, I.go (F := F) (D := D) (M := M) fr ((frC.arr (by omega) (by omega)).trans (frC.fld (by decide) (by decide))) (KM.sa1 (Or.inl rfl)) rfl ?_⟩
    rw [sa_at]
    have H1 : TR 0 tr (csA cs (20 * 0 + 15) (upd (cs.2.1 (20 * 0 + 15)) n x1)) (upd (ms.2 1) (172 + n) x1) F D M := by
      refine TR.low H (TH.congr rfl (fun i hi => upd_ne (by omega)) H.n.h) (fun j hj => cA_ne _ _ (by omega)) rfl (fun i hi => upd_ne (by omega)) (by rw [upd_ne (by omega)]; exact H.i.hM) H.i.lM (by rw [upd_ne (by omega)]; exact H.i.tp) (by rw [upd_ne (by omega)]; exact H.i.wt) (fun j hj => TM.congr (fun i h1 h2 => by rw [cA_ne _ _ (by omega)]) (fun i hi => upd_ne (by omega)) (H.n.me j hj)) (fun j hj => DM.congr (fun i hi => upd_ne (by have := H.i.lM; omega)) (H.i.me j hj)) (fun i hi => ?_) (fun i hi => ?_)
      · rw [cA_ne _ _ (by omega), upd_ne (by omega)]; exact H.n.tp i hi
      · rw [cA_at]
        by_cases e : i = n
        · subst e; rw [pk_us, pk_us]
        · rw [upd_ne e, upd_ne (by omega)]; exact H.n.wt i hi
    exact H1.waits (by omega)
theorem s_meeting : stp_meeting ad adK cA (INV tr cA k) (INV tr cA (k + 1)) := by
  intro nx cs ms x1 x2 x3 I fr
  obtain ⟨F, D, M, H⟩ := I.r0
  have lM := H.i.lM
  have e0 : cs.1 (20 * 0) 14 = nI M := H.n.h.f14.trans H.i.hM
  have z4 : ∀ x, L_isFigure x = L_in x 0 4 := fun x => by
    rw [L_isFigure]; rcases in_two x 0 4 with h | ⟨h, -⟩ <;> rw [h] <;> rfl
  have z9 : ∀ x, L_isWeek x = L_in x 0 999 := fun x => by
    rw [L_isWeek]; rcases in_two x 0 999 with h | ⟨h, -⟩ <;> rw [h] <;> rfl
  rw [L_meeting, M_meeting, Min_0_999, z9]
  rcases in_le x1 999 (by decide) with h | ⟨w, w1, rfl, h⟩
  · rw [show L_in x1 0 999 = some 0 from h, bd1_s, if_pos rfl, need_0, bd2_s, onx_n, bd2_p, bd1_s, if_pos rfl, bd2_p]; exact I.find fr (c := 1) (by decide)
  · rw [show L_in (nI w) 0 999 = some 1 from h, bd1_s, if_neg (c := (1 : Int32) = 0) (by decide), bd1_s, if_neg (c := (1 : Int32) = 0) (by decide), z4, Min_0_4]
    rcases in_le x2 4 (by decide) with h | ⟨a, a1, rfl, h⟩
    · rw [show L_in x2 0 4 = some 0 from h, bd1_s, if_pos rfl, need_0, bd2_s, onx_n, bd2_p, bd1_s, if_pos rfl, bd2_p]; exact I.find fr (c := 1) (by decide)
    · rw [show L_in (nI a) 0 4 = some 1 from h, bd1_s, if_neg (c := (1 : Int32) = 0) (by decide), bd1_s, if_neg (c := (1 : Int32) = 0) (by decide), z4, Min_0_4]
      rcases in_le x3 4 (by decide) with h | ⟨b, b1, rfl, h⟩
      · rw [show L_in x3 0 4 = some 0 from h, bd1_s, if_pos rfl, need_0, bd2_s, onx_n, bd2_p, bd1_s, if_pos rfl, bd2_p]; exact I.find fr (c := 1) (by decide)
      · rw [show L_in (nI b) 0 4 = some 1 from h, bd1_s, if_neg (c := (1 : Int32) = 0) (by decide), bd1_s, if_neg (c := (1 : Int32) = 0) (by decide)]
        by_cases hab : nI a = nI b
        · rw [if_pos hab, need_0, bd2_s, onx_n, bd2_p, if_pos hab, bd2_p]; exact I.find fr (c := 1) (by decide)
        · rw [if_neg hab, need_1, bd2_s, onx_s, e0, if_neg hab, rdM2, bd1_s, H.i.hM]
          by_cases hM : M = 12
          · rw [if_pos (c := 12 ≤ nI M) (by rw [hM]; decide), need_0, bd2_s, onx_n, bd2_p, if_pos (c := nI M = 12) (by rw [hM]; rfl), bd2_p]; exact I.find fr (c := 4) (by decide)
          · have hn : ¬ nI M = 12 := fun h2 => hM ((nI_eq (b := 12) (by omega) (by decide)).mp h2)
            have hM12 : M < 12 := by omega
            have i1 : (134 + 3 * nI M) + 1 = nI (134 + 3 * M + 1) := by rw [ixM]; exact nI_add _ 1
            have i2 : (134 + 3 * nI M) + 2 = nI (134 + 3 * M + 2) := by rw [ixM]; exact nI_add _ 2
            rw [if_neg (c := 12 ≤ nI M) (nI_ge (b := 12) (by omega) (by decide)), need_1, bd2_s, onx_s, e0, wr_nI hM12 (by decide), bd1_s, cA_ne _ _ (by decide), wr_nI hM12 (by decide), bd1_s, cA_ne _ _ (by decide), cA_ne _ _ (by decide), wr_nI hM12 (by decide), bd1_s, cA_f, cA_f, cA_f, e0, nI_1, if_neg hn, bd1_s, bd1_s, nI_1, wrM2, bd1_s, i1, i2, ixM, sa_at, wrM _ (by omega), bd1_s, sa_sa, sa_at, wrM _ (by omega), bd1_s, sa_sa, sa_at, wrM _ (by omega), bd1_s, sa_sa]
            refine ⟨_, _, _, rfl, rfl, I.go (F := F) (D := D) (M := M + 1) fr ((((frC.arr (by omega) (by omega)).trans (frC.arr (by omega) (by omega))).trans (frC.arr (by omega) (by omega))).trans (frC.fld (by decide) (by decide))) (KM.sa1 (Or.inl rfl)) rfl ?_⟩
            rw [sa_at]
            generalize hcs : csF (csA (csA (csA cs (20 * 0 + 11) (upd (cs.2.1 (20 * 0 + 11)) M (nI w))) (20 * 0 + 12) (upd (cs.2.1 (20 * 0 + 12)) M (nI a))) (20 * 0 + 13) (upd (cs.2.1 (20 * 0 + 13)) M (nI b))) (20 * 0) 14 (nI (M + 1)) = c2
            generalize hd2 : upd (upd (upd (upd (ms.2 1) 2 (nI (M + 1))) (134 + 3 * M) (nI w)) (134 + 3 * M + 1) (nI a)) (134 + 3 * M + 2) (nI b) = d2
            have ed : ∀ i, i ≠ 2 → (i < 134 + 3 * M ∨ 137 + 3 * M ≤ i) → d2 i = ms.2 1 i := fun i h1 h2 => by subst hd2; rw [upd_ne (by omega), upd_ne (by omega), upd_ne (by omega), upd_ne (by omega)]
            have e2 : d2 2 = nI (M + 1) := by subst hd2; rw [upd_ne (by omega), upd_ne (by omega), upd_ne (by omega), pk_us]
            have g0 : d2 (134 + 3 * M) = nI w := by subst hd2; rw [upd_ne (by omega), upd_ne (by omega), pk_us]
            have g1 : d2 (134 + 3 * M + 1) = nI a := by subst hd2; rw [upd_ne (by omega), pk_us]
            have g2 : d2 (134 + 3 * M + 2) = nI b := by subst hd2; rw [pk_us]
            have c11 : c2.2.1 (20 * 0 + 11) = upd (cs.2.1 (20 * 0 + 11)) M (nI w) := by subst hcs; rw [cF_a, cA_ne _ _ (by decide), cA_ne _ _ (by decide), cA_at]
            have c12 : c2.2.1 (20 * 0 + 12) = upd (cs.2.1 (20 * 0 + 12)) M (nI a) := by subst hcs; rw [cF_a, cA_ne _ _ (by decide), cA_at]
            have c13 : c2.2.1 (20 * 0 + 13) = upd (cs.2.1 (20 * 0 + 13)) M (nI b) := by subst hcs; rw [cF_a, cA_at]
            have co : ∀ j, (j < 11 ∨ 13 < j) → c2.2.1 (20 * 0 + j) = cs.2.1 (20 * 0 + j) := fun j hj => by subst hcs; rw [cF_a, cA_ne _ _ (by omega), cA_ne _ _ (by omega), cA_ne _ _ (by omega)]
            have cq : c2.2.2 = cs.2.2 := by subst hcs; rfl
            have ff : ∀ j, j ≠ 14 → c2.1 (20 * 0) j = cs.1 (20 * 0) j := fun j hj => by subst hcs; rw [cF_ne _ _ (by omega)]; rfl
            have f14 : c2.1 (20 * 0) 14 = nI (M + 1) := by subst hcs; exact cF_at _ _ _ _
            have hh := H.n.h
            refine TR.low H (TH.mk (by rw [ff 0 (by omega), ed 0 (by omega) (by omega)]; exact hh.f0) (by rw [ff 6 (by omega), ed 1 (by omega) (by omega)]; exact hh.f6) (f14.trans e2.symm) (by rw [ff 13 (by omega), ed 3 (by omega) (by omega)]; exact hh.f13) (by rw [ff 19 (by omega), ed 4 (by omega) (by omega)]; exact hh.f19) (by rw [ff 21 (by omega), ed 5 (by omega) (by omega)]; exact hh.f21) (by rw [ff 23 (by omega), ed 6 (by omega) (by omega)]; exact hh.f23)) (fun j hj => co j (by omega)) cq (fun i hi => ed i (by omega) (by omega)) e2 (by omega) (by rw [ed 5 (by omega) (by omega)]; exact H.i.tp) (by rw [ed 6 (by omega) (by omega)]; exact H.i.wt) (fun j hj => ?_) (fun j hj => ?_) (fun i hi => by rw [co 14 (by omega), ed _ (by omega) (by omega)]; exact H.n.tp i hi) (fun i hi => by rw [co 15 (by omega), ed _ (by omega) (by omega)]; exact H.n.wt i hi)
            · by_cases e : j = M
              · subst e
                exact TM.mk (by rw [c11, pk_us, g0]) (by rw [c12, pk_us, g1]) (by rw [c13, pk_us, g2])
              · have T := H.n.me j hj
                exact TM.mk (by rw [c11, upd_ne e, ed _ (by omega) (by omega)]; exact T.w) (by rw [c12, upd_ne e, ed _ (by omega) (by omega)]; exact T.a) (by rw [c13, upd_ne e, ed _ (by omega) (by omega)]; exact T.b)
            · by_cases e : j = M
              · subst e
                exact DM.mk ⟨w, g0, w1⟩ ⟨a, g1, by omega⟩ ⟨b, g2, by omega⟩
              · exact DM.congr (fun i hi => ed _ (by omega) (by omega)) (H.i.me j (by omega))
end
