/-! the pure stage: then, check, feed -/
set_option maxRecDepth 100000
section
variable {t u tr F D M p nx k : Nat} {cs cs' cs1 cs2 : CS} {d d' : Nat → Int32} {ms ms' ms1 ms2 ms3 : MSt} {cA : Nat → ClassId} {ad adK : Nat → Nat}
theorem byte_low (x : Int32) : x.toInt8.toInt32 &&& 255 = x &&& 255 := by
  obtain ⟨n, hn, e⟩ := pk_andE x (m := 255) 8 rfl
  rw [← fa_byte_low x, e]
  exact sc_k8 n hn
theorem byte_long (y : Int64) : (y &&& 255).toInt32 = y.toInt32 &&& 255 := by
  rw [Int64.toInt32_and]; rfl
theorem s_feed : stp_feed ad adK cA (INV tr cA k) (INV tr cA (k + 1)) := by
  intro nx cs ms x1 x3 I fr
  obtain ⟨F, D, M, H⟩ := I.r0
  obtain ⟨q, q1, q2⟩ := H.i.tp
  have e0 : cs.1 (20 * 0) 21 = nI q := H.n.h.f21.trans q1
  rw [L_feed, M_feed, Min_1_8]
  rcases in_rg x3 1 8 (by decide) (by decide) with h | ⟨n, n1, n2, rfl, h⟩
  · rw [show L_in x3 1 8 = some 0 from h, bd1_s, need_0, bd2_s, onx_n, bd2_p, bd1_s, if_pos rfl, bd2_p]; exact I.find fr (c := 1) (by decide)
  · rw [show L_in (nI n) 1 8 = some 1 from h, bd1_s, need_1, bd2_s, onx_s, e0, bd1_s, if_neg (c := (1 : Int32) = 0) (by decide), rdM5, bd1_s, q1, nI_add]
    rcases Nat.lt_or_ge 50 (q + n) with hq | hq
    · rw [if_pos (c := 50 < nI (q + n)) (nI_lt (a := 50) hq (by omega)), need_0, bd2_s, onx_n, bd2_p, if_neg (c := nI (q + n) ≤ 50) (nI_ge (a := 50) hq (by omega)), bd2_p]; exact I.find fr (c := 4) (by decide)
    · rw [if_neg (c := 50 < nI (q + n)) (nI_nlt (b := q + n) (a := 50) hq (by decide)), need_1, bd2_s, onx_s, if_pos (c := nI (q + n) ≤ 50) (nI_le (b := 50) hq (by decide))]
      have hl : ∃ c1 m1, L_feed_L39 NN x1 (nI n) NN cs (nI 0) = some c1 ∧ M_feed_L40 NN x1 (nI n) NN ms (nI 0) = some m1 ∧ (TR 0 tr c1 (m1.2 1) F D M ∧ m1.2 1 5 = nI (q + n) ∧ frC 0 cs c1 ∧ KM ms m1 ∧ m1.1 = ms.1) := by
        refine loop2 (L_feed_L39 NN x1 (nI n)) (M_feed_L40 NN x1 (nI n)) n (fun j c m => TR 0 tr c (m.2 1) F D M ∧ m.2 1 5 = nI (q + j) ∧ frC 0 cs c ∧ KM ms m ∧ m.1 = ms.1) (fun c m => TR 0 tr c (m.2 1) F D M ∧ m.2 1 5 = nI (q + n) ∧ frC 0 cs c ∧ KM ms m ∧ m.1 = ms.1) (fun a b c m hP => ⟨c, m, ?_, ?_, hP⟩) (fun a b c m j hj hP => Or.inr ?_) n 0 cs ms NN NN (by omega) (NN_lt (by omega)) (NN_lt (by omega)) ⟨H, q1, frC.rfl, KM.rfl, rfl⟩
        · rw [L_feed_L39, if_pos (nI_le (Nat.le_refl _) (by omega))]
        · rw [M_feed_L40, if_pos (nI_le (Nat.le_refl _) (by omega))]
        · obtain ⟨h1, h2, h3, h4, h5⟩ := hP
          have hf : c.1 (20 * 0) 21 = nI (q + j) := h1.n.h.f21.trans h2
          rw [L_feed_L39, if_neg (nI_ge hj (by omega)), hf, wr_nI (by omega) (by decide), bd1_s, cA_f, hf, nI_1, nI_1, M_feed_L40, if_neg (nI_ge hj (by omega)), rdM5, bd1_s, h2, show (292 : Int32) + nI (q + j) = nI (292 + (q + j)) from nI_add 292 _, wrM _ (by omega), bd1_s, sa_at, rdM5, bd1_s, upd_ne (by omega), h2, nI_1, wrM5, bd1_s, sa_sa, nI_1]
          refine ⟨_, _, rfl, rfl, ?_, by rw [sa_at, pk_us]; rfl, h3.trans ((frC.arr (by omega) (by omega)).trans (frC.fld (by decide) (by decide))), h4.trans (KM.sa1 (Or.inl rfl)), h5⟩
          rw [sa_at]
          refine TR.taped (by omega) ?_
          rw [vp_nar_byte, fb_byte_twice]
          refine TR.low h1 (TH.congr rfl (fun i hi => upd_ne (by omega)) h1.n.h) (fun j hj => cA_ne _ _ (by omega)) rfl (fun i hi => upd_ne (by omega)) (by rw [upd_ne (by omega)]; exact h1.i.hM) h1.i.lM (by rw [upd_ne (by omega)]; exact h1.i.tp) (by rw [upd_ne (by omega)]; exact h1.i.wt) (fun j hj => TM.congr (fun i h1 h2 => by rw [cA_ne _ _ (by omega)]) (fun i hi => upd_ne (by omega)) (h1.n.me j hj)) (fun j hj => DM.congr (fun i hi => upd_ne (by have := h1.i.lM; omega)) (h1.i.me j hj)) (fun i hi => ?_) (fun i hi => ?_)
          · rw [cA_at]
            by_cases e : i = q + j
            · subst e
              rw [pk_us, pk_us, byte_low, byte_long]
              exact ⟨rfl, pk_fb _⟩
            · rw [upd_ne e, upd_ne (by omega)]; exact h1.n.tp i hi
          · rw [cA_ne _ _ (by omega), upd_ne (by omega)]; exact h1.n.wt i hi
      obtain ⟨c1, m1, h1, h2, h3, h4, h5, h6, h7⟩ := hl
      rw [show L_feed_L39 NN x1 (nI n) NN cs 0 = some c1 from h1, bd1_s, h3.n.h.f21, show M_feed_L40 NN x1 (nI n) NN ms 0 = some m1 from h2, bd1_s, rdM5, bd1_s]
      exact ⟨_, _, _, rfl, rfl, I.go fr h5 h6 (by rw [h7]) h3⟩
theorem TR.keep (ms : MSt) (H : TR t tr cs (ms.2 1) F D M) : TR t tr cs ((sa ms 3 (fa_fill (ms.2 1) (ms.2 3) 170)).2 1) F D M := by rw [sa_ne _ _ (by decide)]; exact H
theorem s_then : stp_then ad adK cA (INV tr cA k) (INV tr cA (k + 1)) := by
  intro nx cs ms x1 x2 x3 I fr
  obtain ⟨F, D, M, H⟩ := I.r0
  have lD := H.i.lD
  rw [L_then, M_then, Min_0_60]
  rcases in_le x1 60 (by decide) with h | ⟨n, n1, rfl, h⟩
  · rw [show L_in x1 0 60 = some 0 from h, bd1_s, if_pos rfl, need_0, bd2_s, onx_n, bd2_p, bd1_s, if_pos rfl, bd2_p]; exact I.find fr (c := 1) (by decide)
  · rw [show L_in (nI n) 0 60 = some 1 from h, bd1_s, if_neg (c := (1 : Int32) = 0) (by decide), bd1_s, if_neg (c := (1 : Int32) = 0) (by decide)]
    rcases H.isD x2 with ⟨h1, h2⟩ | ⟨p, hp, rfl, h1, h2⟩
    · rw [h1, bd1_s, if_pos rfl, need_0, bd2_s, onx_n, bd2_p, h2, bd1_s, if_pos rfl, bd2_p]; exact I.find fr (c := 1) (by decide)
    · have hp4 : p < 4 := by omega
      rw [h1, bd1_s, if_neg (c := (1 : Int32) = 0) (by decide), h2, bd1_s, if_neg (c := (1 : Int32) = 0) (by decide), Min_2_7]
      rcases in_rg x3 2 7 (by decide) (by decide) with h | ⟨e, e1, e2, rfl, h⟩
      · rw [show L_in x3 2 7 = some 0 from h, bd1_s, if_pos rfl, need_0, bd2_s, onx_n, bd2_p, bd1_s, if_pos rfl, bd2_p]; exact I.find fr (c := 1) (by decide)
      · rw [show L_in (nI e) 2 7 = some 1 from h, bd1_s, if_neg (c := (1 : Int32) = 0) (by decide), bd1_s, if_neg (c := (1 : Int32) = 0) (by decide)]
        by_cases h6 : nI e = 6
        · rw [if_pos h6, need_0, bd2_s, onx_n, bd2_p, if_pos h6, bd2_p]; exact I.find fr (c := 1) (by decide)
        · obtain ⟨c1, b1, b2, b3, b4⟩ := H.become (t := 2) (by decide)
          rw [if_neg h6, need_1, bd2_s, onx_s, b1, bd1_s, if_neg h6, keep_M, bd1_s]
          have H0 := b2.keep ms
          have R0 : RT 2 c1 (sa ms 3 (fa_fill (ms.2 1) (ms.2 3) 170)) := ⟨b4.trans I.mo.symm, Or.inl I.mo⟩
          generalize hm1 : sa ms 3 (fa_fill (ms.2 1) (ms.2 3) 170) = m1 at H0 R0 ⊢
          have hl : ∃ c2 m2, L_then_L59 NN (nI n) (nI p) (nI e) NN c1 (nI 0) = some c2 ∧ M_then_L53 NN (nI n) (nI p) (nI e) NN m1 (nI 0) = some m2 ∧ (TR 2 tr c2 (m2.2 1) F D M ∧ frC 2 c1 c2 ∧ frM m1 m2) := by
            refine loop2 (L_then_L59 NN (nI n) (nI p) (nI e)) (M_then_L53 NN (nI n) (nI p) (nI e)) n (fun _ c m => TR 2 tr c (m.2 1) F D M ∧ frC 2 c1 c ∧ frM m1 m) (fun c m => TR 2 tr c (m.2 1) F D M ∧ frC 2 c1 c ∧ frM m1 m) (fun a b c m hP => ⟨c, m, ?_, ?_, hP⟩) (fun a b c m j hj hP => Or.inr ?_) n 0 c1 m1 NN NN (by omega) (NN_lt (by omega)) (NN_lt (by omega)) ⟨H0, frC.rfl, frM.rfl⟩
            · rw [L_then_L59, if_pos (nI_le (Nat.le_refl _) (by omega))]
            · rw [M_then_L53, if_pos (nI_le (Nat.le_refl _) (by omega))]
            · obtain ⟨h1, h2, h3⟩ := hP
              obtain ⟨cs', ms', q1, q2, q3, q4, q5⟩ := h1.goes (R0.fr h2 h3)
              refine ⟨cs', ms', ?_, ?_, q3, h2.trans q4, h3.trans q5⟩
              · rw [L_then_L59, if_neg (nI_ge hj (by omega)), q1, bd1_s, nI_1]
              · rw [M_then_L53, if_neg (nI_ge hj (by omega)), q2, bd1_s, nI_1]
          obtain ⟨c2, m2, g1, g2, g3, g4, g5⟩ := hl
          subst hm1
          have J := I.tried fr (b3.trans g4.T) g5
          rw [show L_then_L59 NN (nI n) (nI p) (nI e) NN c1 0 = some c2 from g1, bd1_s, show M_then_L53 NN (nI n) (nI p) (nI e) NN (sa ms 3 (fa_fill (ms.2 1) (ms.2 3) 170)) 0 = some m2 from g2, bd1_s]
          have hv : ∃ v, L_isOn 2 NN c2 (nI p) (nI e) = some v ∧ M_toldOf NN m2 (nI p) (nI e) = some (v, m2) := by
            rw [L_isOn, M_toldOf, rdC _ _ _ hp4 (by decide), (g3.n.de p hp4).deb, g3.mnyT hp4, g3.toldT hp4, g3.brkT hp4, g3.openT hp4, of2 hp4, of3 hp4, g3.mnyM rfl hp4, g3.toldM rfl hp4, g3.openM rfl hp4]
            rcases (show e = 2 ∨ e = 3 ∨ e = 4 ∨ e = 5 ∨ e = 6 ∨ e = 7 by omega) with rfl | rfl | rfl | rfl | rfl | rfl
            · exact ⟨_, rfl, rfl⟩
            · exact ⟨_, rfl, rfl⟩
            · exact ⟨_, rfl, rfl⟩
            · rcases (g3.i.de p hp4).brk with h0 | h0 <;> rw [h0] <;> exact ⟨_, rfl, rfl⟩
            · exact absurd rfl h6
            · exact ⟨_, rfl, rfl⟩
          obtain ⟨v, v1, v2⟩ := hv
          rw [v1, bd1_s, v2, bd2_s, back_M, bd1_s]
          exact ⟨_, _, _, rfl, rfl, J⟩
theorem s_check : stp_check ad adK cA (INV tr cA k) (INV tr cA (k + 1)) := by
  intro nx cs ms I fr
  obtain ⟨F, D, M, H⟩ := I.r0
  have lD := H.i.lD
  obtain ⟨n, n1, n2⟩ := H.i.wt
  have H0 := H.waits (n := 0) (by decide)
  have e0 : cs.1 (20 * 0) 23 = nI n := H.n.h.f23.trans n1
  have I1 : INV tr cA k (csF cs (20 * 0) 23 0) (sa ms 1 (upd (ms.2 1) 6 0)) := I.next fr (Nat.le_refl _) (KI.fld (by omega)) (KM.sa1 (Or.inl rfl)) (by rw [show (csF cs (20 * 0) 23 0).1 0 25 = cs.1 0 25 from cF_ne _ _ (by omega)]; exact I.ro) I.mo ⟨F, D, M, by rw [sa_at]; exact H0⟩
  have fr1 : FR nx (csF cs (20 * 0) 23 0) := fr
  have w0 : ∀ i, i < 20 → (csF cs (20 * 0) 23 0).2.1 (20 * 0 + 15) i = (sa ms 1 (upd (ms.2 1) 6 0)).2 1 (172 + i) := fun i hi => by rw [sa_at]; exact H0.n.wt i hi
  rw [L_check, e0, M_check, rdM6, bd1_s, n1, wrM6, bd1_s]
  have H0' : TR 0 tr (csF cs (20 * 0) 23 0) ((sa ms 1 (upd (ms.2 1) 6 0)).2 1) F D M := by rw [sa_at]; exact H0
  generalize hc0 : csF cs (20 * 0) 23 0 = c0 at I1 fr1 w0 H0' ⊢
  generalize hm0 : sa ms 1 (upd (ms.2 1) 6 0) = m0 at I1 w0 H0' ⊢
  obtain ⟨c1, b1, b2, b3, b4⟩ := H0'.become (t := 2) (by decide)
  rw [b1, bd1_s, keep_M, bd1_s]
  have R0 : RT 2 c1 (sa m0 3 (fa_fill (m0.2 1) (m0.2 3) 170)) := ⟨b4.trans I1.mo.symm, Or.inl I1.mo⟩
  have hl : ∀ (j k f f' : Nat) (c : CS) (m : MSt), j + k = n → k + 1 < f → k + 1 < f' → TR 2 tr c (m.2 1) F D M → frC 2 c1 c → frM (sa m0 3 (fa_fill (m0.2 1) (m0.2 3) 170)) m → ∃ c2 m2 r g, L_check_L32 NN (nI n) f c (nI j) 1 = some (c2, nI r, g) ∧ M_check_L24 NN (nI n) f' m (nI j) 1 = some (m2, nI r) ∧ ((g = 1 ∧ r = n) ∨ (g = 0 ∧ r < n)) ∧ frC 2 c1 c2 ∧ frM (sa m0 3 (fa_fill (m0.2 1) (m0.2 3) 170)) m2 := by
    intro j k
    induction k generalizing j with
    | zero =>
      intro f f' c m hj hf hf' Hc h1 h2
      obtain ⟨f, rfl⟩ : ∃ m, f = m + 1 := ⟨f - 1, by omega⟩
      obtain ⟨f', rfl⟩ : ∃ m, f' = m + 1 := ⟨f' - 1, by omega⟩
      have e : j = n := by omega
      subst e
      exact ⟨c, m, j, 1, by rw [L_check_L32, if_pos (nI_le (Nat.le_refl _) (by omega))], by rw [M_check_L24, if_pos (nI_le (Nat.le_refl _) (by omega))], Or.inl ⟨rfl, rfl⟩, h1, h2⟩
    | succ k ih =>
      intro f f' c m hj hf hf' Hc h1 h2
      obtain ⟨f, rfl⟩ : ∃ m, f = m + 1 := ⟨f - 1, by omega⟩
      obtain ⟨f', rfl⟩ : ∃ m, f' = m + 1 := ⟨f' - 1, by omega⟩
      obtain ⟨cs', ms', q1, q2, q3, q4, q5⟩ := Hc.goes (R0.fr h1 h2)
      have h1' := h1.trans q4
      have h2' := h2.trans q5
      have ew : cs'.2.1 (20 * 0 + 15) j = ms'.2 1 (172 + j) := by
        rw [(h1'.1 15 (by omega)).2, (b3.1 15 (by omega)).2.1, w0 j (by omega), h2'.2.2 _ (by omega), sa_ne _ _ (by decide)]
      rw [L_check_L32, if_neg (nI_ge (by omega) (by omega)), if_neg (c := (1 : Int32) = 0) (by decide), q1, bd1_s, rdC _ _ _ (by omega) (by decide), bd1_s, q3.debtsT, bd1_s, ew, M_check_L24, if_neg (nI_ge (by omega) (by omega)), if_neg (c := (1 : Int32) = 0) (by decide), q2, bd1_s, q3.debtsM rfl, bd1_s, show (172 : Int32) + nI j = nI (172 + j) from nI_add 172 j, rdM _ (by omega), bd1_s, nI_1]
      by_cases hd : ms'.2 1 (172 + j) = nfo (fun p s => s + ms'.2 1 (50 + 21 * p + 2)) 0 D 0
      · rw [if_pos hd, if_pos hd.symm]
        exact ih (j + 1) f f' cs' ms' (by omega) (by omega) (by omega) q3 h1' h2'
      · rw [if_neg hd, if_neg (fun h => hd h.symm)]
        obtain ⟨f, rfl⟩ : ∃ m, f = m + 1 := ⟨f - 1, by omega⟩
        obtain ⟨f', rfl⟩ : ∃ m, f' = m + 1 := ⟨f' - 1, by omega⟩
        refine ⟨cs', ms', j, 0, ?_, ?_, Or.inr ⟨rfl, by omega⟩, h1', h2'⟩
        · rw [show nI j + 0 = nI j from nI_add j 0, L_check_L32, if_neg (nI_ge (by omega) (by omega)), if_pos rfl]
        · rw [show nI j + 0 = nI j from nI_add j 0, M_check_L24, if_neg (nI_ge (by omega) (by omega)), if_pos rfl]
  obtain ⟨c2, m2, r, g, g1, g2, g3, g4, g5⟩ := hl 0 n NN NN c1 (sa m0 3 (fa_fill (m0.2 1) (m0.2 3) 170)) (by omega) (NN_lt (by omega)) (NN_lt (by omega)) (b2.keep m0) frC.rfl frM.rfl
  have J := I1.tried fr1 (b3.trans g4.T) g5
  rw [show L_check_L32 NN (nI n) NN c1 0 1 = some (c2, nI r, g) from g1, bd3_s, show M_check_L24 NN (nI n) NN (sa m0 3 (fa_fill (m0.2 1) (m0.2 3) 170)) 0 1 = some (m2, nI r) from g2, bd2_s, back_M, bd1_s]
  rcases g3 with ⟨rfl, rfl⟩ | ⟨rfl, hr⟩
  · rw [if_neg (c := (1 : Int32) = 0) (by decide), if_pos rfl]; exact ⟨_, _, _, rfl, rfl, J⟩
  · rw [if_pos rfl, if_neg (fun h => by have := (nI_eq (by omega) (by omega)).mp h; omega)]; exact ⟨_, _, _, rfl, rfl, J⟩
end
