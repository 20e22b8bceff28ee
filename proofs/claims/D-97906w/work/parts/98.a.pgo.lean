/-! the pure stage: weeks, loose, then, check -/
set_option maxRecDepth 100000
section
variable {t u tr F D M p nx k : Nat} {cs cs' cs1 cs2 : CS} {d d' : Nat → Int32} {ms ms' ms1 ms2 ms3 : MSt} {cA : Nat → ClassId} {ad adK : Nat → Nat}
theorem rt0 (I : INV tr cA k cs ms) : RT 0 cs ms := ⟨I.ro.trans I.mo.symm, Or.inl I.mo⟩
theorem lend0 (H : TR t tr cs (ms.2 1) F D M) : M_lends ms 0 0 = some ms := by
  obtain ⟨n, n1, n2, n3⟩ := H.debtT (p := 0) (by decide)
  have hm : M_held (nI n + 0) 0 9999 = some (nI n) := by
    rw [show nI n + 0 = nI n from nI_add n 0]
    unfold M_held
    rw [if_pos (nI_pos' (by omega)), if_pos (c := nI n ≤ 9999) (nI_le (b := 9999) n1 (by decide))]
  have h : M_lends ms (nI 0) 0 = some ms := by
    rw [M_lends, of2 (by decide), bd1_s, n2, hm, bd1_s, sets2 (by decide), bd1_s, fa_upd_same n2, sa_id _ _ _ rfl]
  exact h
theorem weekM (H : TR 0 tr cs (ms.2 1) F D M) {n j f : Nat} (hj : j < n) (hn : n ≤ 60) : M_passes_L40 NN (nI n) 0 (f + 1) ms (nI j) = bd1 (M_aWeek NN ms) fun s => M_passes_L40 NN (nI n) 0 f s (nI (j + 1)) := by
  rw [M_passes_L40, if_neg (nI_ge hj (by omega)), if_pos rfl, if_pos rfl, nI_1]
  rcases H.isD 0 with ⟨-, h2⟩ | ⟨p, hp, e, -, h2⟩
  · rw [h2, bd1_s, if_pos rfl]
  · rw [h2, bd1_s, if_neg (c := (1 : Int32) = 0) (by decide), lend0 H, bd1_s, show M_of ms 0 3 = _ from of3 (st := ms) (f := 0) (by decide), bd1_s]
    split <;> rfl
theorem must (I : INV tr cA k cs ms) (fr : FR nx cs) (H : TR 0 tr cs (ms.2 1) F D M) (x y : Int32) (g : CS → Option (Int32 × CS)) (hg : ∀ n, 1 ≤ n → n ≤ 60 → x = nI n → OK tr cA k (g cs) (bd1 (M_passes_L40 NN x y NN ms 0) fun s => bd1 (M_brokenMany NN s) fun v => some (v, s))) : OK tr cA k (bd2 (L_mustGo cs x) fun o s => onx o (bd2 (L_finds s) fun v z => some (v, z)) fun _ => g s) (M_passes NN ms x y) := by
  unfold OK at hg ⊢
  rw [L_mustGo, M_passes, Min_1_60]
  rcases in_rg x 1 60 (by decide) (by decide) with h | ⟨n, n1, n2, rfl, h⟩
  · rw [show L_in x 1 60 = some 0 from h, bd1_s, need_0, bd2_s, onx_n, bd2_s, onx_n, bd2_p, bd1_s, if_pos rfl, bd2_p]; exact I.find fr (c := 1) (by decide)
  · rw [show L_in (nI n) 1 60 = some 1 from h, bd1_s, need_1, bd2_s, onx_s, H.n.h.f13, bd1_s, if_neg (c := (1 : Int32) = 0) (by decide), rdM3, bd1_s]
    by_cases h9 : ms.2 1 3 + nI n ≤ 999
    · rw [if_neg (c := 999 < ms.2 1 3 + nI n) (fun h => by rw [fa_le] at h9; rw [fa_lt] at h; omega), need_1, bd2_s, onx_s, bd2_s, onx_s, if_pos h9]
      exact hg n n1 n2 rfl
    · rw [if_pos (c := 999 < ms.2 1 3 + nI n) (fa_of_nle h9), need_0, bd2_s, onx_n, bd2_s, onx_n, bd2_p, if_neg h9, bd2_p]; exact I.find fr (c := 3) (by decide)
theorem s_weeks : stp_weeks ad adK cA (INV tr cA k) (INV tr cA (k + 1)) := by
  intro nx cs ms x1 I fr
  obtain ⟨F, D, M, H⟩ := I.r0
  have lD := H.i.lD
  rw [L_weeks, M_weeks, bd2_p]
  refine must I fr H x1 0 (fun s => bd1 (L_weeks_L7 NN x1 NN s 0) fun st9 => bd1 (T_broken 0 NN st9) fun v10 => some (v10, st9)) (fun n n1 n2 e => ?_)
  subst e
  have hl : ∃ cs1 ms1, L_weeks_L7 NN (nI n) NN cs (nI 0) = some cs1 ∧ M_passes_L40 NN (nI n) 0 NN ms (nI 0) = some ms1 ∧ (TR 0 tr cs1 (ms1.2 1) F D M ∧ frC 0 cs cs1 ∧ frM ms ms1) := by
    refine loop2 (L_weeks_L7 NN (nI n)) (M_passes_L40 NN (nI n) 0) n (fun _ c m => TR 0 tr c (m.2 1) F D M ∧ frC 0 cs c ∧ frM ms m) (fun c m => TR 0 tr c (m.2 1) F D M ∧ frC 0 cs c ∧ frM ms m) (fun a b c m hP => ⟨c, m, ?_, ?_, hP⟩) (fun a b c m j hj hP => Or.inr ?_) n 0 cs ms NN NN (by omega) (NN_lt (by omega)) (NN_lt (by omega)) ⟨H, frC.rfl, frM.rfl⟩
    · rw [L_weeks_L7, if_pos (nI_le (Nat.le_refl _) (by omega))]
    · rw [M_passes_L40, if_pos (nI_le (Nat.le_refl _) (by omega))]
    · obtain ⟨h1, h2, h3⟩ := hP
      obtain ⟨cs', ms', q1, q2, q3, q4, q5⟩ := h1.goes ((rt0 I).fr h2 h3)
      refine ⟨cs', ms', ?_, ?_, q3, h2.trans q4, h3.trans q5⟩
      · rw [L_weeks_L7, if_neg (nI_ge hj (by omega)), q1, bd1_s, nI_1]
      · rw [weekM h1 hj n2, q2, bd1_s]
  obtain ⟨cs1, ms1, h1, h2, h3, h4, h5⟩ := hl
  show OK tr cA k (bd1 (L_weeks_L7 NN (nI n) NN cs 0) fun st9 => bd1 (T_broken 0 NN st9) fun v10 => some (v10, st9)) _
  unfold OK
  rw [show L_weeks_L7 NN (nI n) NN cs 0 = some cs1 from h1, bd1_s, h3.brokT, bd1_s, show M_passes_L40 NN (nI n) 0 NN ms 0 = some ms1 from h2, bd1_s, h3.brokM rfl, bd1_s]
  exact ⟨_, _, _, rfl, rfl, I.go fr h4 h5.KM (h5.2.1 12 (by omega)) h3⟩
theorem ushr_8 (x : Int32) : ∃ w, w < 16777216 ∧ (x.toUInt32 >>> ((8 : Int32).toUInt32 &&& Int32.toUInt32 31)).toInt32 = nI w := by
  have e : x = nI x.toBitVec.toNat := by
    apply Int32.toBitVec_inj.1
    show x.toBitVec = BitVec.ofNat 32 x.toBitVec.toNat
    simp
  have hl : x.toBitVec.toNat < 2 ^ 32 := x.toBitVec.isLt
  refine ⟨x.toBitVec.toNat / 2 ^ 8, by omega, ?_⟩
  have := pk_ushrN hl 8 8 (by decide)
  rw [← e] at this
  exact this
/-- a loose week -/
theorem TR.loose (H : TR 0 tr cs (ms.2 1) F D M) (hr : RT 0 cs ms) {n j f : Nat} (hj : j < n) (hn : n ≤ 60) : ∃ cs' ms', T_goesLoose 0 NN cs = some cs' ∧ M_passes_L40 NN (nI n) 1 (f + 1) ms (nI j) = M_passes_L40 NN (nI n) 1 f ms' (nI (j + 1)) ∧ TR 0 tr cs' (ms'.2 1) F D M ∧ frC 0 cs cs' ∧ frM ms ms' := by
  have lD := H.i.lD
  obtain ⟨v1, d1⟩ : ∃ z, z = (ms.2 1 4 * 1103515245 + 12345) := ⟨_, rfl⟩
  obtain ⟨v2, d2⟩ : ∃ z, z = (v1 * 1103515245 + 12345) := ⟨_, rfl⟩
  obtain ⟨w1, hw1, e1⟩ := ushr_8 v1
  obtain ⟨w2, hw2, e2⟩ := ushr_8 v2
  have T1 : T_draw 0 cs = some (nI w1, csF cs (20 * 0) 19 v1) := by rw [T_draw, cF_at, H.n.h.f19, ← d1, e1]
  have H1 := H.zz v1
  have T2 : T_draw 0 (csF cs (20 * 0) 19 v1) = some (nI w2, csF (csF cs (20 * 0) 19 v1) (20 * 0) 19 v2) := by rw [T_draw, cF_at, cF_at, ← d2, e2]
  have M1 : M_drawn ms = some (nI w1, sa ms 1 (upd (ms.2 1) 4 v1)) := by rw [M_drawn, rdM4, bd1_s, wrM4, bd1_s, rdM4, bd1_s, sa_at, pk_us, ← d1, e1]
  have M2 : M_drawn (sa ms 1 (upd (ms.2 1) 4 v1)) = some (nI w2, sa ms 1 (upd (upd (ms.2 1) 4 v1) 4 v2)) := by rw [M_drawn, rdM4, bd1_s, wrM4, bd1_s, rdM4, bd1_s, sa_at, sa_sa, sa_at, pk_us, pk_us, ← d2, e2]
  have H2 := H1.zz v2
  have r1 : nI w1 - nI w1 / 4 * 4 = nI (w1 % 4) := pk_rem (d := 4) (by omega) (by decide) (by decide)
  have r2 : nI w2 - nI w2 / 50 * 50 = nI (w2 % 50) := pk_rem (d := 50) (by omega) (by decide) (by decide)
  have l1 := Nat.mod_lt w1 (show 0 < 4 by decide)
  have l2 := Nat.mod_lt w2 (show 0 < 50 by decide)
  have fC : frC 0 cs (csF (csF cs (20 * 0) 19 v1) (20 * 0) 19 v2) := (frC.fld (by decide) (by decide)).trans (frC.fld (by decide) (by decide))
  have fM : frM ms (sa ms 1 (upd (upd (ms.2 1) 4 v1) 4 v2)) := frM.arr (fun i hi => by rw [upd_ne (by omega), upd_ne (by omega)])
  have H3 : TR 0 tr (csF (csF cs (20 * 0) 19 v1) (20 * 0) 19 v2) ((sa ms 1 (upd (upd (ms.2 1) 4 v1) 4 v2)).2 1) F D M := by rw [sa_at]; exact H2
  have n01 : ¬ (1 : Int32) = 0 := by decide
  rw [T_goesLoose, T1, bd2_s, T2, bd2_s, r1, r2, M_passes_L40, if_neg (nI_ge hj (by omega)), if_neg n01, M1, bd2_s, if_neg n01, M2, bd2_s, r1, r2, nI_1, H3.n.h.f6, H3.i.hD]
  generalize hc3 : csF (csF cs (20 * 0) 19 v1) (20 * 0) 19 v2 = c3 at H3 fC ⊢
  generalize hm3 : sa ms 1 (upd (upd (ms.2 1) 4 v1) 4 v2) = m3 at H3 fM ⊢
  rcases Nat.lt_or_ge (w1 % 4) D with hD | hD
  · have hs : M_isDebtor m3 (nI (w1 % 4)) = some 1 := by
      rcases H3.isD (nI (w1 % 4)) with ⟨h, -⟩ | ⟨q, -, -, -, h⟩
      · rw [L_isDebtor, H3.n.h.f6, H3.i.hD] at h
        exfalso
        revert h
        unfold L_in
        rw [if_neg (nI_pos (by omega)), show nI D - 1 = nI (D - 1) from by rw [show D = (D - 1) + 1 by omega, nI_pred]; rfl, if_neg (nI_nlt (by omega) (by omega))]
        intro h; cases h
      · exact h
    rw [if_neg (nI_ge hD (by omega)), H3.brkT l1, bd1_s, hs, bd1_s, if_neg n01, of3 l1, bd1_s]
    by_cases h0 : m3.2 1 (50 + 21 * (w1 % 4) + 3) = 0
    · obtain ⟨cs', ms', q1, q2, q3, q4, q5⟩ := H3.lends l1 (e := w2 % 50) (by omega)
      obtain ⟨cs2, ms2, g1, g2, g3, g4, g5⟩ := q3.goes ((hr.fr fC fM).fr q4 q5)
      rw [if_pos h0, if_pos h0, q1, bd1_s, g1, bd1_s, q2, bd1_s, g2, bd1_s]
      exact ⟨_, _, rfl, rfl, g3, (fC.trans q4).trans g4, (fM.trans q5).trans g5⟩
    · obtain ⟨cs2, ms2, g1, g2, g3, g4, g5⟩ := H3.goes (hr.fr fC fM)
      rw [if_neg h0, if_neg h0, g1, bd1_s, g2, bd1_s]
      exact ⟨_, _, rfl, rfl, g3, fC.trans g4, fM.trans g5⟩
  · have hs : M_isDebtor m3 (nI (w1 % 4)) = some 0 := by
      rcases H3.isD (nI (w1 % 4)) with ⟨-, h⟩ | ⟨q, q1, q2, -, -⟩
      · exact h
      · have := (nI_eq (by omega) (by omega)).mp q2
        omega
    obtain ⟨cs2, ms2, g1, g2, g3, g4, g5⟩ := H3.goes (hr.fr fC fM)
    rw [if_pos (nI_le hD (by omega)), g1, bd1_s, hs, bd1_s, if_pos rfl, g2, bd1_s]
    exact ⟨_, _, rfl, rfl, g3, fC.trans g4, fM.trans g5⟩
theorem s_loose : stp_loose ad adK cA (INV tr cA k) (INV tr cA (k + 1)) := by
  intro nx cs ms x1 I fr
  obtain ⟨F, D, M, H⟩ := I.r0
  have lD := H.i.lD
  rw [L_loose, M_loose, bd2_p]
  refine must I fr H x1 1 (fun s => bd1 (L_loose_L7 NN x1 NN s 0) fun st9 => bd1 (T_broken 0 NN st9) fun v10 => some (v10, st9)) (fun n n1 n2 e => ?_)
  subst e
  have hl : ∃ cs1 ms1, L_loose_L7 NN (nI n) NN cs (nI 0) = some cs1 ∧ M_passes_L40 NN (nI n) 1 NN ms (nI 0) = some ms1 ∧ (TR 0 tr cs1 (ms1.2 1) F D M ∧ frC 0 cs cs1 ∧ frM ms ms1) := by
    refine loop2 (L_loose_L7 NN (nI n)) (M_passes_L40 NN (nI n) 1) n (fun _ c m => TR 0 tr c (m.2 1) F D M ∧ frC 0 cs c ∧ frM ms m) (fun c m => TR 0 tr c (m.2 1) F D M ∧ frC 0 cs c ∧ frM ms m) (fun a b c m hP => ⟨c, m, ?_, ?_, hP⟩) (fun a b c m j hj hP => Or.inr ?_) n 0 cs ms NN NN (by omega) (NN_lt (by omega)) (NN_lt (by omega)) ⟨H, frC.rfl, frM.rfl⟩
    · rw [L_loose_L7, if_pos (nI_le (Nat.le_refl _) (by omega))]
    · rw [M_passes_L40, if_pos (nI_le (Nat.le_refl _) (by omega))]
    · obtain ⟨h1, h2, h3⟩ := hP
      obtain ⟨cs', ms', q1, q2, q3, q4, q5⟩ := h1.loose ((rt0 I).fr h2 h3) (f := b) hj n2
      refine ⟨cs', ms', ?_, q2, q3, h2.trans q4, h3.trans q5⟩
      rw [L_loose_L7, if_neg (nI_ge hj (by omega)), q1, bd1_s, nI_1]
  obtain ⟨cs1, ms1, h1, h2, h3, h4, h5⟩ := hl
  show OK tr cA k (bd1 (L_loose_L7 NN (nI n) NN cs 0) fun st9 => bd1 (T_broken 0 NN st9) fun v10 => some (v10, st9)) _
  unfold OK
  rw [show L_loose_L7 NN (nI n) NN cs 0 = some cs1 from h1, bd1_s, h3.brokT, bd1_s, show M_passes_L40 NN (nI n) 1 NN ms 0 = some ms1 from h2, bd1_s, h3.brokM rfl, bd1_s]
  exact ⟨_, _, _, rfl, rfl, I.go fr h4 h5.KM (h5.2.1 12 (by omega)) h3⟩
end
