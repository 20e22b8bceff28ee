/-! the pure stage: acts, first part -/
set_option maxRecDepth 100000
theorem in_rg (x : Int32) (a b : Nat) (hb : b < 2 ^ 31) (ha : a < 2 ^ 31) : L_in x (nI a) (nI b) = some 0 ∨ ∃ e, a ≤ e ∧ e ≤ b ∧ x = nI e ∧ L_in x (nI a) (nI b) = some 1 := by
  rcases in_two x (nI a) (nI b) with h | ⟨h1, h2, h3⟩
  · exact Or.inl h
  · have h4 : ¬ x < 0 := fun h => by
      have := fa_trans h (nI_pos' ha)
      rw [fa_lt] at this; rw [fa_le] at h2; omega
    obtain ⟨e, he, rfl⟩ := nI_of h4
    exact Or.inr ⟨e, (nI_leI ha he).mp h2, (nI_leI he hb).mp h3, rfl, h1⟩
section
variable {t tr F D M p nx k : Nat} {cs cs' : CS} {d : Nat → Int32} {ms ms' : MSt} {cA : Nat → ClassId} {ad adK : Nat → Nat}
abbrev OK (tr : Nat) (cA : Nat → ClassId) (k : Nat) (l : Option (Int32 × CS)) (m : Option (Int32 × MSt)) : Prop := ∃ (r : Int32) (cs' : CS) (ms' : MSt), l = some (r, cs') ∧ m = some (r, ms') ∧ INV tr cA (k + 1) cs' ms'
theorem TR.lends (H : TR t tr cs (ms.2 1) F D M) (hp : p < 4) {e : Nat} (he : e ≤ 999) : ∃ cs' ms', T_lends t cs (nI p) (nI e) = some cs' ∧ M_lends ms (nI p) (nI e) = some ms' ∧ TR t tr cs' (ms'.2 1) F D M ∧ frC t cs cs' ∧ frM ms ms' := by
  obtain ⟨n, n1, n2, n3⟩ := H.debtT hp
  have hl : J_min 9999 (nI n + nI e) = some (nI (min 9999 (n + e))) := by
    unfold J_min
    rw [nI_add, show (9999 : Int32) = nI 9999 from rfl]
    rcases Nat.lt_or_ge (n + e) 9999 with h | h
    · rw [if_pos (nI_lt h (by decide)), Nat.min_eq_right (by omega)]
    · rw [if_neg (nI_nlt h (by omega)), Nat.min_eq_left h]
  have hm : M_held (nI n + nI e) 0 9999 = some (nI (min 9999 (n + e))) := by
    unfold M_held
    rw [nI_add, if_pos (nI_pos' (by omega)), show (9999 : Int32) = nI 9999 from rfl]
    rcases Nat.lt_or_ge 9999 (n + e) with h | h
    · rw [if_neg (nI_ge h (by omega)), Nat.min_eq_left (by omega)]
    · rw [if_pos (nI_le h (by decide)), Nat.min_eq_right h]
  refine ⟨_, _, by rw [T_lends, n3, bd1_s, hl, bd1_s, wr_nI hp (by decide), bd1_s], by rw [M_lends, of2 hp, bd1_s, n2, hm, bd1_s, sets2 hp, bd1_s], ?_, frC.arr (by omega) (by omega), frM.upd (by omega)⟩
  rw [sa_at]
  exact H.debt hp (by omega)
theorem s_lend : stp_lend ad adK cA (INV tr cA k) (INV tr cA (k + 1)) := by
  intro nx cs ms x1 x2 I fr
  obtain ⟨F, D, M, H⟩ := I.r0
  have lD := H.i.lD
  rw [L_lend, M_lend]
  rcases H.isD x1 with ⟨h1, h2⟩ | ⟨p, hp, rfl, h1, h2⟩
  · rw [h1, bd1_s, if_pos rfl, need_0, bd2_s, onx_n, bd2_p, h2, bd1_s, if_pos rfl, bd2_p]; exact I.find fr (c := 1) (by decide)
  · have hp4 : p < 4 := by omega
    rw [h1, bd1_s, if_neg (by decide), h2, bd1_s, if_neg (by decide), Min_1_999]
    rcases in_rg x2 1 999 (by decide) (by decide) with h | ⟨e, e1, e2, rfl, h⟩
    · rw [show L_in x2 1 999 = some 0 from h, bd1_s, if_pos rfl, need_0, bd2_s, onx_n, bd2_p, bd1_s, if_pos rfl, bd2_p]; exact I.find fr (c := 1) (by decide)
    · rw [show L_in (nI e) 1 999 = some 1 from h, bd1_s, if_neg (by decide), need_1, bd2_s, onx_s, bd1_s, if_neg (by decide), H.brkT hp4, bd1_s, of3 hp4, bd1_s]
      rcases (H.i.de p hp4).brk with h0 | h0
      · rw [h0, if_pos rfl, need_1, bd2_s, onx_s, if_neg (by decide)]
        obtain ⟨cs', ms', q1, q2, q3, q4, q5⟩ := H.lends hp4 e2
        rw [q1, q2, bd1_s, bd1_s, rdC _ _ _ hp4 (by decide), bd1_s, (q3.n.de p hp4).deb, of2 hp4, bd1_s]
        exact ⟨_, _, _, rfl, rfl, I.go fr q4 q5.KM (q5.2.1 12 (by omega)) q3⟩
      · rw [h0, if_neg (by decide), need_0, bd2_s, onx_n, bd2_p, if_pos rfl, bd2_p]; exact I.find fr (c := 3) (by decide)
theorem s_pardon : stp_pardon ad adK cA (INV tr cA k) (INV tr cA (k + 1)) := by
  intro nx cs ms x1 I fr
  obtain ⟨F, D, M, H⟩ := I.r0
  have lD := H.i.lD
  rw [L_pardon, M_pardon]
  rcases H.isD x1 with ⟨h1, h2⟩ | ⟨p, hp, rfl, h1, h2⟩
  · rw [h1, bd1_s, need_0, bd2_s, onx_n, bd2_p, h2, bd1_s, if_pos rfl, bd2_p]; exact I.find fr (c := 1) (by decide)
  · have hp4 : p < 4 := by omega
    rw [h1, bd1_s, need_1, bd2_s, onx_s, h2, bd1_s, if_neg (by decide), H.brkT hp4, bd1_s, of3 hp4, bd1_s]
    rcases (H.i.de p hp4).brk with h0 | h0
    · rw [h0, need_0, bd2_s, onx_n, bd2_p, if_pos rfl, bd2_p]; exact I.find fr (c := 3) (by decide)
    · rw [h0, need_1, bd2_s, onx_s, if_neg (by decide), H.mnyT hp4, bd1_s, wr_nI hp4 (by decide), bd1_s, cA_ne _ _ (by decide), wr_nI hp4 (by decide), bd1_s, cA_ne _ _ (by decide), cA_ne _ _ (by decide), wr_nI hp4 (by decide), bd1_s, H.mnyM rfl hp4, bd1_s, sets2 hp4, bd1_s, sets3 hp4, bd1_s, sa_at, sa_sa, sets4 hp4, bd1_s, sa_at, sa_sa]
      have H3 := ((H.debt hp4 (n := 0) (by omega)).brk hp4 (v := 0) (Or.inl rfl)).cut hp4 (m := 0) (by omega)
      have e : csA (csA (csA cs (20 * 0 + 7) (upd (cs.2.1 (20 * 0 + 7)) p 0)) (20 * 0 + 6) (upd (cs.2.1 (20 * 0 + 6)) p 0)) (20 * 0 + 8) (upd (cs.2.1 (20 * 0 + 8)) p 0) = csA (csA (csA cs (20 * 0 + 6) (upd (cs.2.1 (20 * 0 + 6)) p (nI 0))) (20 * 0 + 7) (upd ((csA cs (20 * 0 + 6) (upd (cs.2.1 (20 * 0 + 6)) p (nI 0))).2.1 (20 * 0 + 7)) p 0)) (20 * 0 + 8) (upd ((csA (csA cs (20 * 0 + 6) (upd (cs.2.1 (20 * 0 + 6)) p (nI 0))) (20 * 0 + 7) (upd ((csA cs (20 * 0 + 6) (upd (cs.2.1 (20 * 0 + 6)) p (nI 0))).2.1 (20 * 0 + 7)) p 0)).2.1 (20 * 0 + 8)) p (nI 0)) := by
        rw [cA_ne _ _ (by decide), cA_ne _ _ (by decide), cA_ne _ _ (by decide)]
        refine congrArg (fun z => csA z (20 * 0 + 8) _) ?_
        unfold csA
        refine Prod.ext rfl (Prod.ext ?_ rfl)
        funext j
        simp only [va_up]
        split
        · split
          · omega
          · rfl
        · rfl
      exact ⟨_, _, _, rfl, rfl, I.go fr (((frC.arr (by omega) (by omega)).trans (frC.arr (by omega) (by omega))).trans (frC.arr (by omega) (by omega))) (KM.sa1 (Or.inl rfl)) rfl (by rw [sa_at, e]; exact H3)⟩
theorem TR.canT (H : TR 0 tr cs (ms.2 1) F D M) (hp : p < D) {f : Nat} (hf : f < 8) : L_canTell NN cs (nI p) (nI f) = some (if ms.2 1 (50 + 21 * p + 3) = 0 then my (ms.2 1) D p f else 0) := by
  have lD := H.i.lD
  rw [L_canTell, H.brkT (by omega), bd1_s]
  by_cases h : ms.2 1 (50 + 21 * p + 3) = 0
  · rw [if_pos h, if_pos h, H.mayT hp hf, bd1_s]
    rcases my_01 (ms.2 1) D p f with e | e <;> rw [e] <;> rfl
  · rw [if_neg h, if_neg h]
theorem s_tells : stp_tells ad adK cA (INV tr cA k) (INV tr cA (k + 1)) := by
  intro nx cs ms x1 x2 I fr
  obtain ⟨F, D, M, H⟩ := I.r0
  have lD := H.i.lD
  have lF := H.i.lF
  rw [L_tells, M_tells]
  rcases H.isD x1 with ⟨h1, h2⟩ | ⟨p, hp, rfl, h1, h2⟩
  · rw [h1, bd1_s, if_pos rfl, need_0, bd2_s, onx_n, bd2_p, h2, bd1_s, if_pos rfl, bd2_p]; exact I.find fr (c := 1) (by decide)
  · have hp4 : p < 4 := by omega
    rw [h1, bd1_s, if_neg (by decide), h2, bd1_s, if_neg (by decide)]
    rcases H.isF x2 with ⟨h1, h2⟩ | ⟨f, hf, rfl, h1, h2⟩
    · rw [h1, bd1_s, if_pos rfl, need_0, bd2_s, onx_n, bd2_p, h2, bd1_s, if_pos rfl, bd2_p]; exact I.find fr (c := 1) (by decide)
    · rw [h1, bd1_s, if_neg (by decide), need_1, bd2_s, onx_s, h2, bd1_s, if_neg (by decide), H.canT hp (by omega), bd1_s, of3 hp4, bd1_s]
      rcases (H.i.de p hp4).brk with h0 | h0
      · rw [h0, if_pos rfl, if_neg (by decide), H.mayM rfl hp (by omega), bd1_s]
        rcases my_01 (ms.2 1) D p f with e | e
        · rw [e, need_0, bd2_s, onx_n, bd2_p, if_pos rfl, bd2_p]; exact I.find fr (c := 3) (by decide)
        · rw [e, need_1, bd2_s, onx_s, if_neg (by decide)]
          obtain ⟨cs', ms', q1, q2, q3, q4, q5⟩ := H.tells rfl hp hf e
          rw [q1, q2, bd1_s, bd1_s, rdC _ _ _ hp4 (by decide), bd1_s, (q3.n.de p hp4).deb, of2 hp4, bd1_s]
          exact ⟨_, _, _, rfl, rfl, I.go fr q4 q5.KM (q5.2.1 12 (by omega)) q3⟩
      · rw [h0, if_neg (by decide), need_0, bd2_s, onx_n, bd2_p, if_pos rfl, bd2_p]; exact I.find fr (c := 3) (by decide)
theorem s_seed : stp_seed ad adK cA (INV tr cA k) (INV tr cA (k + 1)) := by
  intro nx cs ms x1 I fr
  obtain ⟨F, D, M, H⟩ := I.r0
  rw [L_seed, M_seed, rdM4, bd1_s, wrM4, bd1_s, H.n.h.f19]
  exact ⟨_, _, _, rfl, rfl, I.go fr (frC.fld (by decide) (by decide)) (KM.sa1 (Or.inl rfl)) rfl (by rw [sa_at]; exact H.zz x1)⟩
theorem s_told : stp_told ad adK cA (INV tr cA k) (INV tr cA (k + 1)) := by
  intro nx cs ms x1 I fr
  rw [L_told, M_told, Min_1_5]
  rcases in_rg x1 1 5 (by decide) (by decide) with h | ⟨e, e1, e2, rfl, h⟩
  · rw [show L_in x1 1 5 = some 0 from h, bd1_s, need_0, bd2_s, onx_n, bd2_p, bd1_s, if_pos rfl, bd2_p]; exact I.find fr (c := 1) (by decide)
  · rw [show L_in (nI e) 1 5 = some 1 from h, bd1_s, need_1, bd2_s, onx_s, bd1_s, if_neg (by decide), rdC _ _ _ (show e < 6 by omega) (by decide), rdC _ _ _ (show e < 6 by omega) (by decide), bd1_s, bd1_s, I.er e (by omega)]
    exact ⟨_, _, _, rfl, rfl, I.stay fr⟩
theorem s_trace : stp_trace ad adK cA (INV tr cA k) (INV tr cA (k + 1)) := by
  intro nx cs ms x1 I fr
  obtain ⟨j, j1, j2⟩ := I.tmk
  rw [L_trace, M_trace, Min_0_v, I.tm, j1]
  rcases in_ix x1 j (by omega) with h | ⟨e, e1, rfl, h⟩
  · rw [h, bd1_s, need_0, bd2_s, onx_n, bd2_p, bd1_s, if_pos rfl, bd2_p]; exact I.find fr (c := 2) (by decide)
  · rw [h, bd1_s, need_1, bd2_s, onx_s, bd1_s, if_neg (by decide), rdC _ _ _ (show e < 40 by omega) (by decide), rdC _ _ _ (show e < 40 by omega) (by decide), bd1_s, bd1_s, I.td e (by omega)]
    exact ⟨_, _, _, rfl, rfl, I.stay fr⟩
theorem TR.debtsT (H : TR t tr cs d F D M) : T_debts t NN cs = some (nfo (fun p s => s + d (50 + 21 * p + 2)) 0 D 0) := by
  have lD := H.i.lD
  rw [T_debts, bd1_p]
  refine loopF (T_debts_L4 NN t cs) D (fun p s => s + d (50 + 21 * p + 2)) id (fun n a => ?_) (fun n a j hj => ?_) D 0 0 NN (by omega) (NN_lt (by omega))
  · rw [T_debts_L4, H.n.h.f6, H.i.hD, if_pos (nI_le (Nat.le_refl _) (by omega))]; rfl
  · rw [T_debts_L4, H.n.h.f6, H.i.hD, if_neg (nI_ge hj (by omega)), rdC _ _ _ (by omega) (by decide), bd1_s, (H.n.de j (by omega)).deb, nI_1]
theorem TR.debtsM (H : TR t tr cs d F D M) (hd : ms.2 1 = d) : M_debts NN ms = some (nfo (fun p s => s + d (50 + 21 * p + 2)) 0 D 0) := by
  have lD := H.i.lD
  rw [M_debts, bd1_p]
  refine loopF (M_debts_L4 NN ms) D (fun p s => s + d (50 + 21 * p + 2)) id (fun n a => ?_) (fun n a j hj => ?_) D 0 0 NN (by omega) (NN_lt (by omega))
  · rw [M_debts_L4, rdM1, bd1_s, hd, H.i.hD, if_pos (nI_le (Nat.le_refl _) (by omega))]; rfl
  · rw [M_debts_L4, rdM1, bd1_s, hd, H.i.hD, if_neg (nI_ge hj (by omega)), of2 (by omega), bd1_s, hd, nI_1]
theorem TR.brokT (H : TR t tr cs d F D M) : T_broken t NN cs = some (nfo (fun p s => s + d (50 + 21 * p + 3)) 0 D 0) := by
  have lD := H.i.lD
  rw [T_broken, bd1_p]
  refine loopF (T_broken_L4 NN t cs) D (fun p s => s + d (50 + 21 * p + 3)) id (fun n a => ?_) (fun n a j hj => ?_) D 0 0 NN (by omega) (NN_lt (by omega))
  · rw [T_broken_L4, H.n.h.f6, H.i.hD, if_pos (nI_le (Nat.le_refl _) (by omega))]; rfl
  · rw [T_broken_L4, H.n.h.f6, H.i.hD, if_neg (nI_ge hj (by omega)), H.brkT (by omega), bd1_s, nI_1]
    rcases (H.i.de j (by omega)).brk with h | h
    · rw [h, if_pos rfl]
    · rw [h, if_neg (by decide)]
theorem TR.brokM (H : TR t tr cs d F D M) (hd : ms.2 1 = d) : M_brokenMany NN ms = some (nfo (fun p s => s + d (50 + 21 * p + 3)) 0 D 0) := by
  have lD := H.i.lD
  rw [M_brokenMany, bd1_p]
  refine loopF (M_brokenMany_L4 NN ms) D (fun p s => s + d (50 + 21 * p + 3)) id (fun n a => ?_) (fun n a j hj => ?_) D 0 0 NN (by omega) (NN_lt (by omega))
  · rw [M_brokenMany_L4, rdM1, bd1_s, hd, H.i.hD, if_pos (nI_le (Nat.le_refl _) (by omega))]; rfl
  · rw [M_brokenMany_L4, rdM1, bd1_s, hd, H.i.hD, if_neg (nI_ge hj (by omega)), of3 (by omega), bd1_s, hd, nI_1]
theorem M_count_bad (x1 : Int32) (h : L_in x1 0 9 = some 0) (ms : MSt) : M_count NN ms x1 = M_finds ms 1 := by
  have e : ∀ j : Nat, j ≤ 9 → x1 ≠ nI j := fun j hj e => by
    rcases in_le x1 9 (by decide) with h1 | ⟨i, h1, h2, h3⟩
    · subst e
      have : L_in (nI j) 0 (nI 9) = some 1 := by
        unfold L_in
        rw [if_neg (nI_pos (by omega)), if_neg (nI_nlt hj (by omega))]
      rw [this] at h1; cases h1
    · rw [show L_in x1 0 9 = some 1 from h3] at h; cases h
  rw [M_count, if_neg (c := x1 = 0) (e 0 (by decide)), if_neg (c := x1 = 1) (e 1 (by decide)), if_neg (c := x1 = 2) (e 2 (by decide)), if_neg (c := x1 = 3) (e 3 (by decide)), if_neg (c := x1 = 4) (e 4 (by decide)), if_neg (c := x1 = 5) (e 5 (by decide)), if_neg (c := x1 = 6) (e 6 (by decide)), if_neg (c := x1 = 7) (e 7 (by decide)), if_neg (c := x1 = 8) (e 8 (by decide)), if_neg (c := x1 = 9) (e 9 (by decide)), bd2_p]
theorem s_count : stp_count ad adK cA (INV tr cA k) (INV tr cA (k + 1)) := by
  intro nx cs ms x1 I fr
  obtain ⟨F, D, M, H⟩ := I.r0
  rw [L_count]
  rcases in_le x1 9 (by decide) with h | ⟨j, j1, rfl, h⟩
  · have h : L_in x1 0 9 = some 0 := h
    rw [h, bd1_s, need_0, bd2_s, onx_n, bd2_p, M_count_bad x1 h]; exact I.find fr (c := 1) (by decide)
  · rw [show L_in (nI j) 0 9 = some 1 from h, bd1_s, need_1, bd2_s, onx_s, H.n.h.f0, H.n.h.f6, H.n.h.f13, H.n.h.f14, H.n.h.f19, H.n.h.f21, H.n.h.f23, I.tm, H.debtsT, H.brokT, M_count, H.debtsM rfl, H.brokM rfl, rdM0, rdM1, rdM2, rdM3, rdM4, rdM5, rdM6]
    match j, j1 with
    | 0, _ => exact ⟨_, _, _, rfl, rfl, I.stay fr⟩
    | 1, _ => exact ⟨_, _, _, rfl, rfl, I.stay fr⟩
    | 2, _ => exact ⟨_, _, _, rfl, rfl, I.stay fr⟩
    | 3, _ => exact ⟨_, _, _, rfl, rfl, I.stay fr⟩
    | 4, _ => exact ⟨_, _, _, rfl, rfl, I.stay fr⟩
    | 5, _ => exact ⟨_, _, _, rfl, rfl, I.stay fr⟩
    | 6, _ => exact ⟨_, _, _, rfl, rfl, I.stay fr⟩
    | 7, _ => exact ⟨_, _, _, rfl, rfl, I.stay fr⟩
    | 8, _ => exact ⟨_, _, _, rfl, rfl, I.stay fr⟩
    | 9, _ => exact ⟨_, _, _, rfl, rfl, I.stay fr⟩
theorem s_law : stp_law ad adK cA (INV tr cA k) (INV tr cA (k + 1)) := by
  intro nx cs ms x1 x2 x3 x4 I fr
  obtain ⟨F, D, M, H⟩ := I.r0
  rw [L_law, M_law, Min_0_1]
  rcases in_le x1 1 (by decide) with h | ⟨j, j1, rfl, h⟩
  · rw [show L_in x1 0 1 = some 0 from h, bd1_s, need_0, bd2_s, onx_n, bd2_p, bd1_s, if_pos rfl, bd2_p]; exact I.find fr (c := 1) (by decide)
  · rw [show L_in (nI j) 0 1 = some 1 from h, bd1_s, need_1, bd2_s, onx_s, bd1_s, if_neg (c := (1 : Int32) = 0) (by decide), bd2_p, bd2_p, bd2_p]
    match j, j1 with
    | 0, _ =>
      obtain ⟨v, cs', ms', q1, q2, -, q3, q4, q5, q6, -⟩ := H.pay rfl x2 x3 x4
      rw [if_pos (show nI 0 = 0 from rfl), q1, show M_textGives NN ms (nI 0) x2 x3 x4 = _ from q2]
      exact ⟨_, _, _, rfl, rfl, I.go fr q5 q6.KM (q6.2.1 12 (by omega)) (by rw [q4]; exact q3)⟩
    | 1, _ =>
      obtain ⟨v, cs', ms', q1, q2, q3, q4, q5, q6⟩ := H.trust rfl x2 x3 x4
      rw [if_neg (by decide), q1, show M_textGives NN ms (nI 1) x2 x3 x4 = _ from q2]
      exact ⟨_, _, _, rfl, rfl, I.go fr q5 q6.KM (q6.2.1 12 (by omega)) (by rw [q4]; exact q3)⟩
end
