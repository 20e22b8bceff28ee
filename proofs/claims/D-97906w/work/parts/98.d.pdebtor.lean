/-! the pure stage: debtor, become -/
set_option maxRecDepth 100000
section
variable {t u tr F D M p nx k : Nat} {cs cs' cs1 cs2 : CS} {d d' : Nat → Int32} {ms ms' ms1 ms2 ms3 : MSt} {cA : Nat → ClassId} {ad adK : Nat → Nat}
def cD (tr p k m : Nat) : va_E := .inr (7 + k, [.ref tr, .int (nI p), .int (nI m)])
theorem cD_dv {tr p k m : Nat} (hk : k < 7) : dvOf (cD tr p k m) = some (k, tr, nI p, nI m) := by
  unfold cD dvOf
  simp only
  rw [if_pos (by omega), Nat.add_sub_cancel_left]
theorem debtorOf_at {tr nx p k m : Nat} (hk : k < 7) (cs : CS) : L_debtorOf tr nx cs (nI k) (nI p) (nI m) = some (csP cs (1000 + nx) (cD tr p k m)) := by
  unfold L_debtorOf cD
  match k, hk with
  | 0, _ => rfl
  | 1, _ => rfl
  | 2, _ => rfl
  | 3, _ => rfl
  | 4, _ => rfl
  | 5, _ => rfl
  | 6, _ => rfl
theorem cP_at (cs : CS) (j : Nat) (e : va_E) : (csP cs j e).2.2.2 j = e := va_up_self _ _ _
theorem cQ_at (cs : CS) (j : Nat) (b : Nat → Option Nat) : (csQ cs j b).2.2.1 j = b := va_up_self _ _ _
theorem csP_ne2 (cs : CS) {i j : Nat} (e : va_E) (h : i ≠ j) : (csP cs j e).2.2.2 i = cs.2.2.2 i := va_up_ne _ _ h
theorem TR.pnew (H : TR t tr cs d F D M) (ht : t < 3) (fr : FR nx cs) (e : va_E) : TR t tr (csP cs (1000 + nx) e) d F D M :=
  H.keepP ht fr rfl (fun _ _ => rfl) rfl rfl (fun a ha => csP_ne2 _ _ (by omega))
/-- kind and m of one -/
theorem TR.kindm {a kk m : Nat} (hp : p < 4) (hm : m ≤ 9) (H : TR t tr cs d F D M) (hv : dvOf (cs.2.2.2 (1000 + a)) = some (kk, tr, nI p, nI m)) : TR t tr (csQ cs (20 * t + 17) (va_up (cs.2.2.1 (20 * t + 17)) p (some a))) (upd (upd d (50 + 21 * p + 0) (nI kk)) (50 + 21 * p + 1) (nI m)) F D M := by
  have I := H.i
  have N := H.n
  have lD := I.lD
  have lM := I.lM
  have ed : ∀ i, i ≠ 50 + 21 * p + 0 → i ≠ 50 + 21 * p + 1 → upd (upd d (50 + 21 * p + 0) (nI kk)) (50 + 21 * p + 1) (nI m) i = d i := fun i h1 h2 => by rw [upd_ne h2, upd_ne h1]
  have e0 : upd (upd d (50 + 21 * p + 0) (nI kk)) (50 + 21 * p + 1) (nI m) (50 + 21 * p + 0) = nI kk := by rw [upd_ne (by omega), pk_us]
  have e1 : upd (upd d (50 + 21 * p + 0) (nI kk)) (50 + 21 * p + 1) (nI m) (50 + 21 * p + 1) = nI m := pk_us
  generalize upd (upd d (50 + 21 * p + 0) (nI kk)) (50 + 21 * p + 1) (nI m) = d2 at ed e0 e1 ⊢
  have q17 : (csQ cs (20 * t + 17) (va_up (cs.2.2.1 (20 * t + 17)) p (some a))).2.2.1 (20 * t + 17) = va_up (cs.2.2.1 (20 * t + 17)) p (some a) := va_up_self _ _ _
  have q18 : (csQ cs (20 * t + 17) (va_up (cs.2.2.1 (20 * t + 17)) p (some a))).2.2.1 (20 * t + 18) = cs.2.2.1 (20 * t + 18) := va_up_ne _ _ (by omega)
  refine TR.mk (TN.mk (TH.congr rfl (fun i hi => ed i (by omega) (by omega)) N.h) (fun f hf' => TF.congr (fun k hk => rfl) (fun i hi => ed _ (by omega) (by omega)) (N.fa f hf')) (fun q hq' => ?_) (fun k hk => TM.congr (fun j hj1 hj => rfl) (fun i hi => ed _ (by omega) (by omega)) (N.me k hk)) (fun i hi => by rw [ed _ (by omega) (by omega)]; exact N.tp i hi) (fun i hi => by rw [ed _ (by omega) (by omega)]; exact N.wt i hi)) (TQ.mk (fun q hq => ?_) (fun q b hq hb => ?_) (fun u hu => ?_)) (DI.mk (by rw [ed 0 (by omega) (by omega)]; exact I.hF) I.lF (by rw [ed 1 (by omega) (by omega)]; exact I.hD) I.lD (by rw [ed 2 (by omega) (by omega)]; exact I.hM) I.lM (by rw [ed 5 (by omega) (by omega)]; exact I.tp) (by rw [ed 6 (by omega) (by omega)]; exact I.wt) (fun f hf' => DF.congr (fun i hi => ed _ (by omega) (by omega)) (I.fa f hf')) (DC.congr (fun f hf' => ed _ (by omega) (by omega)) I.cls) (fun q hq' => ?_) (fun k hk => DM.congr (fun i hi => ed _ (by omega) (by omega)) (I.me k hk)))
  · have T := N.de q hq'
    exact TP.mk (by rw [ed _ (by omega) (by omega)]; exact T.deb) (by rw [ed _ (by omega) (by omega)]; exact T.brk) (by rw [ed _ (by omega) (by omega)]; exact T.mny) (fun i hi => by rw [ed _ (by omega) (by omega)]; exact T.bk i hi) (fun i hi => by rw [ed _ (by omega) (by omega)]; exact T.bw i hi)
  · rw [q17]
    by_cases e : q = p
    · subst e
      exact ⟨a, kk, va_up_self _ _ _, by rw [e1]; exact hv, e0⟩
    · rw [va_up_ne _ _ e, ed _ (by omega) (by omega), ed _ (by omega) (by omega)]
      exact H.q.deb q hq
  · rw [q17] at hb
    by_cases e : q = p
    · subst e
      rw [va_up_self] at hb
      cases hb
      show isDeb cs.2.2.2 a = true
      unfold isDeb
      rw [hv]; rfl
    · rw [va_up_ne _ _ e] at hb
      exact H.q.dq q b hq hb
  · rw [q18, ed _ (by omega) (by omega)]
    rcases H.q.tx u hu with h | ⟨b, v, n, h2, h3, h4, h5, h6, h7⟩
    · exact Or.inl h
    · refine Or.inr ⟨b, v, n, h2, h3, h4, h5, h6, fun ms base hb hi => h7 ms base hb (fun i hin => ?_)⟩
      rw [hi i hin]
      exact ed _ (by omega) (by omega)
  · have Q := I.de q hq'
    have em : mn d2 q = mn d q := mn_congr (ed _ (by omega) (by omega))
    have l8 := Q.mny.2
    have eb : ∀ i, i < 8 → bf d2 q i = bf d q i := fun i hi => bf_congr (ed _ (by omega) (by omega))
    refine DP.mk ?_ (by rw [ed _ (by omega) (by omega)]; exact Q.deb) (by rw [ed _ (by omega) (by omega)]; exact Q.brk) (by rw [em, ed _ (by omega) (by omega)]; exact Q.mny) (fun i hi => ?_) (fun i j hi hj => ?_)
    · by_cases e : q = p
      · subst e; exact ⟨m, e1, hm⟩
      · rw [ed _ (by omega) (by omega)]; exact Q.mm
    · rw [em] at hi; rw [eb i (by omega), ed _ (by omega) (by omega)]; exact Q.bk i hi
    · rw [em] at hi hj; rw [eb i (by omega), eb j (by omega)]; exact Q.inj i j hi hj
/-- one debtor more -/
theorem TR.growD {a kk : Nat} (hD : D < 4) (H : TR t tr cs d F D M) (hq : cs.2.2.1 (20 * t + 17) D = some a) (hv : dvOf (cs.2.2.2 (1000 + a)) = some (kk, tr, nI D, d (50 + 21 * D + 1))) (hk : d (50 + 21 * D + 0) = nI kk) : TR t tr (csF cs (20 * t) 6 (nI (D + 1))) (upd d 1 (nI (D + 1))) F (D + 1) M := by
  have I := H.i
  have N := H.n
  have h := N.h
  have ed : ∀ i, i ≠ 1 → upd d 1 (nI (D + 1)) i = d i := fun i h => upd_ne h
  have ff : ∀ j, j ≠ 6 → (csF cs (20 * t) 6 (nI (D + 1))).1 (20 * t) j = cs.1 (20 * t) j := fun j hj => cF_ne _ _ (by omega)
  refine TR.mk (TN.mk (TH.mk (by rw [ff 0 (by omega), ed 0 (by omega)]; exact h.f0) (by rw [cF_at, pk_us]) (by rw [ff 14 (by omega), ed 2 (by omega)]; exact h.f14) (by rw [ff 13 (by omega), ed 3 (by omega)]; exact h.f13) (by rw [ff 19 (by omega), ed 4 (by omega)]; exact h.f19) (by rw [ff 21 (by omega), ed 5 (by omega)]; exact h.f21) (by rw [ff 23 (by omega), ed 6 (by omega)]; exact h.f23)) (fun f hf' => TF.congr (fun k hk => rfl) (fun i hi => ed _ (by omega)) (N.fa f hf')) (fun q hq' => TP.congr rfl rfl rfl (fun _ _ => rfl) (fun _ _ => rfl) (fun i hi => ed _ (by omega)) (N.de q hq')) (fun k hk => TM.congr (fun j hj1 hj => rfl) (fun i hi => ed _ (by omega)) (N.me k hk)) (fun i hi => by rw [ed _ (by omega)]; exact N.tp i hi) (fun i hi => by rw [ed _ (by omega)]; exact N.wt i hi)) (TQ.mk (fun q hq' => ?_) H.q.dq (fun u hu => ?_)) (DI.mk (by rw [ed 0 (by omega)]; exact I.hF) I.lF pk_us (by omega) (by rw [ed 2 (by omega)]; exact I.hM) I.lM (by rw [ed 5 (by omega)]; exact I.tp) (by rw [ed 6 (by omega)]; exact I.wt) (fun f hf' => DF.congr (fun i hi => ed _ (by omega)) (I.fa f hf')) (DC.congr (fun f hf' => ed _ (by omega)) I.cls) (fun q hq' => DP.congr (fun i hi => ed _ (by omega)) (I.de q hq')) (fun k hk => DM.congr (fun i hi => ed _ (by omega)) (I.me k hk)))
  · rw [ed _ (by omega), ed _ (by omega)]
    rcases Nat.lt_or_ge q D with h | h
    · exact H.q.deb q h
    · rw [show q = D by omega]
      exact ⟨a, kk, hq, hv, hk⟩
  · rw [ed _ (by omega)]
    rcases H.q.tx u hu with h | ⟨b, v, n, h2, h3, h4, h5, h6, h7⟩
    · exact Or.inl h
    · refine Or.inr ⟨b, v, n, h2, h3, h4, h5, h6, fun ms base hb hi => h7 ms base hb (fun i hin => ?_)⟩
      rw [hi i hin]
      exact ed _ (by omega)
theorem wrq_at {q : Nat → Option Nat} {n j : Nat} {v : Option Nat} (h : j < n) (hn : n < 2 ^ 31) : wrq q n (nI j) v = some (va_up q j v) := by
  unfold wrq
  rw [if_neg (nI_in h hn), nI_clamp (by omega)]
theorem km_nI {x : Nat} (h : x ≤ 69) : nI x / 10 = nI (x / 10) ∧ nI x - nI x / 10 * 10 = nI (x % 10) := ⟨pk_div (d := 10) (by omega) (by decide) (by decide), pk_rem (d := 10) (by omega) (by decide) (by decide)⟩
theorem isKind_eq (x : Int32) : L_isKind x = L_in x 0 69 := by
  rw [L_isKind]; rcases in_two x 0 69 with h | ⟨h, -⟩ <;> rw [h] <;> rfl
theorem KI.pnew {e : va_E} : KI nx cs (csP cs (1000 + nx) e) := KI.mk (Eq.refl _) (fun _ _ => Eq.refl _) (Eq.refl _) (Eq.refl _) (fun a ha => csP_ne2 _ _ (by omega)) (Eq.refl _) (Eq.refl _) (Eq.refl _) (Eq.refl _) (fun _ _ => Eq.refl _)
theorem KI.qrr {j : Nat} {b : Nat → Option Nat} (hj : j < 20 ∨ (40 ≤ j ∧ j < 69)) : KI nx cs (csQ cs j b) := KI.mk (Eq.refl _) (fun _ _ => Eq.refl _) (va_up_ne _ _ (by omega)) (va_up_ne _ _ (by omega)) (fun _ _ => Eq.refl _) (Eq.refl _) (Eq.refl _) (Eq.refl _) (Eq.refl _) (fun i hi => va_up_ne _ _ (by omega))
theorem s_become : stp_become ad adK cA (INV (ad 62) cA k) (INV (ad 62) cA (k + 1)) := by
  intro nx cs ms x1 x2 I fr
  obtain ⟨F, D, M, H⟩ := I.r0
  have lD := H.i.lD
  rw [L_become, M_become, isKind_eq, Min_0_69]
  rcases H.isD x1 with ⟨h1, h2⟩ | ⟨p, hp, rfl, h1, h2⟩
  · have hL : ∃ v, L_in x2 0 69 = some v := by rcases in_two x2 0 69 with h | ⟨h, -⟩ <;> exact ⟨_, h⟩
    obtain ⟨v, hv⟩ := hL
    rw [hv, bd1_s, L_debtorAt, h1, bd1_s, if_pos rfl, need_0, bd2_s, onx_n, bd2_s, onx_n, bd2_p, h2, bd1_s, if_pos rfl, bd2_p]; exact I.find fr (c := 1) (by decide)
  · have hp4 : p < 4 := by omega
    obtain ⟨k1, k2, a, k3, k4⟩ := H.kdx hp
    rw [h2, bd1_s, if_neg (c := (1 : Int32) = 0) (by decide)]
    rcases in_le x2 69 (by decide) with h | ⟨e, e1, rfl, h⟩
    · rw [show L_in x2 0 69 = some 0 from h, bd1_s, L_debtorAt, h1, bd1_s, if_neg (by decide), if_pos rfl, need_0, bd2_s, onx_n, bd2_s, onx_n, bd2_p, bd1_s, if_pos rfl, bd2_p]; exact I.find fr (c := 1) (by decide)
    · obtain ⟨m1, m2⟩ := km_nI e1
      have hk7 : e / 10 < 7 := by omega
      have H1 := (H.pnew (by decide) fr (cD (ad 62) p (e / 10) (e % 10))).kindm (a := nx) (kk := e / 10) (m := e % 10) hp4 (by omega) (by rw [cP_at]; exact cD_dv hk7)
      have hd : isDeb (csP cs (1000 + nx) (cD (ad 62) p (e / 10) (e % 10))).2.2.2 nx = true := by unfold isDeb; rw [cP_at, cD_dv hk7]; rfl
      have la : a < nx := by
        obtain ⟨Lv, l1, l2, l3⟩ := fr
        exact l1 a (l2 _ _ _ (by omega) (by omega) (by omega) k3)
      rw [show L_in (nI e) 0 69 = some 1 from h, bd1_s, L_debtorAt, h1, bd1_s, if_neg (c := (1 : Int32) = 0) (by decide), if_neg (c := (1 : Int32) = 0) (by decide), need_1, bd2_s, onx_s, H.atD hp k3, bd1_s, onq_s, bd2_s, onx_s, m2, m1, debtorOf_at hk7, bd1_s, if_pos hd, wrq_at hp4 (by decide), bd1_s]
      rw [show (csQ (csP cs (1000 + nx) (cD (ad 62) p (e / 10) (e % 10))) (20 * 0 + 17) (va_up ((csP cs (1000 + nx) (cD (ad 62) p (e / 10) (e % 10))).2.2.1 (20 * 0 + 17)) p (some nx))).2.2.2 (1000 + a) = cs.2.2.2 (1000 + a) from csP_ne2 _ _ (by omega), k4, bd4_s, kind_at _ k2, bd1_s, bd1_s, if_neg (c := (1 : Int32) = 0) (by decide), of0 hp4, k1, bd1_s, sets0 hp4, bd1_s, sets1 hp4, bd1_s, sa_at, sa_sa]
      refine ⟨_, _, _, rfl, rfl, I.next fr (by omega) (KI.pnew.trans (KI.qrr (by omega))) (KM.sa1 (Or.inl rfl)) I.ro I.mo ⟨F, D, M, ?_⟩⟩
      rw [sa_at]
      exact H1
theorem s_debtor : stp_debtor ad adK cA (INV (ad 62) cA k) (INV (ad 62) cA (k + 1)) := by
  intro nx cs ms x1 x2 I fr
  obtain ⟨F, D, M, H⟩ := I.r0
  have lD := H.i.lD
  have e6 : cs.1 (20 * 0) 6 = nI D := H.n.h.f6.trans H.i.hD
  rw [L_debtor, M_debtor, isKind_eq, Min_0_69]
  rcases in_le x1 69 (by decide) with h | ⟨e, e1, rfl, h⟩
  · rw [show L_in x1 0 69 = some 0 from h, bd1_s, if_pos rfl, need_0, bd2_s, onx_n, bd2_p, bd1_s, if_pos rfl, bd2_p]; exact I.find fr (c := 1) (by decide)
  · rw [show L_in (nI e) 0 69 = some 1 from h, bd1_s, if_neg (c := (1 : Int32) = 0) (by decide), bd1_s, if_neg (c := (1 : Int32) = 0) (by decide), Min_0_9999]
    rcases in_le x2 9999 (by decide) with h | ⟨b, b1, rfl, h⟩
    · rw [show L_in x2 0 9999 = some 0 from h, bd1_s, if_pos rfl, need_0, bd2_s, onx_n, bd2_p, bd1_s, if_pos rfl, bd2_p]; exact I.find fr (c := 1) (by decide)
    · rw [show L_in (nI b) 0 9999 = some 1 from h, bd1_s, if_neg (c := (1 : Int32) = 0) (by decide), need_1, bd2_s, onx_s, bd1_s, if_neg (c := (1 : Int32) = 0) (by decide), e6, rdM1, bd1_s, H.i.hD]
      by_cases h4 : D = 4
      · rw [if_pos (c := 4 ≤ nI D) (by rw [h4]; decide), need_0, bd2_s, onx_n, bd2_p, if_pos (c := nI D = 4) (by rw [h4]; rfl), bd2_p]; exact I.find fr (c := 4) (by decide)
      · have hn : ¬ nI D = 4 := fun h2 => h4 ((nI_eq (b := 4) (by omega) (by decide)).mp h2)
        have hD4 : D < 4 := by omega
        obtain ⟨m1, m2⟩ := km_nI e1
        have hk7 : e / 10 < 7 := by omega
        have hd : isDeb (csP cs (1000 + nx) (cD (ad 62) D (e / 10) (e % 10))).2.2.2 nx = true := by unfold isDeb; rw [cP_at, cD_dv hk7]; rfl
        rw [if_neg (c := 4 ≤ nI D) (nI_ge (b := 4) (by omega) (by decide)), need_1, bd2_s, onx_s, e6, m2, m1, debtorOf_at hk7, bd1_s, if_pos hd, wrq_at hD4 (by decide), bd1_s, wr_nI hD4 (by decide), bd1_s, cA_ne _ _ (by decide), wr_nI hD4 (by decide), bd1_s, cA_ne _ _ (by decide), cA_ne _ _ (by decide), wr_nI hD4 (by decide), bd1_s, cA_f, cA_f, cA_f]
        have H1 := (H.pnew (by decide) fr (cD (ad 62) D (e / 10) (e % 10))).kindm (a := nx) (kk := e / 10) (m := e % 10) hD4 (by omega) (by rw [cP_at]; exact cD_dv hk7)
        have H2 := ((H1.debt hD4 b1).brk hD4 (v := 0) (Or.inl rfl)).cut hD4 (m := 0) (by omega)
        have q17 : (csQ (csP cs (1000 + nx) (cD (ad 62) D (e / 10) (e % 10))) (20 * 0 + 17) (va_up ((csP cs (1000 + nx) (cD (ad 62) D (e / 10) (e % 10))).2.2.1 (20 * 0 + 17)) D (some nx))).2.2.1 (20 * 0 + 17) D = some nx := by
          rw [cQ_at, va_up_self]
        have H3 := H2.growD hD4 (a := nx) (kk := e / 10) q17 (by
          rw [upd_ne (by omega), upd_ne (by omega), upd_ne (by omega), pk_us]
          show dvOf ((csP cs (1000 + nx) (cD (ad 62) D (e / 10) (e % 10))).2.2.2 (1000 + nx)) = _
          rw [cP_at]; exact cD_dv hk7) (by rw [upd_ne (by omega), upd_ne (by omega), upd_ne (by omega), upd_ne (by omega), pk_us])
        rw [show (csQ (csP cs (1000 + nx) (cD (ad 62) D (e / 10) (e % 10))) (20 * 0 + 17) (va_up ((csP cs (1000 + nx) (cD (ad 62) D (e / 10) (e % 10))).2.2.1 (20 * 0 + 17)) D (some nx))).1 (20 * 0) 6 = nI D from e6, nI_1, if_neg hn, bd1_s, bd1_s, nI_1, wrM1, bd1_s, sets0 hD4, bd1_s, sa_at, sa_sa, sets1 hD4, bd1_s, sa_at, sa_sa, sets2 hD4, bd1_s, sa_at, sa_sa, sets3 hD4, bd1_s, sa_at, sa_sa, sets4 hD4, bd1_s, sa_at, sa_sa]
        refine ⟨_, _, _, rfl, rfl, I.next fr (by omega) ((((((KI.pnew.trans (KI.qrr (by omega))).trans (KI.arr (by omega))).trans (KI.arr (by omega))).trans (KI.arr (by omega)))).trans (KI.fld (by omega))) (KM.sa1 (Or.inl rfl)) ?_ I.mo ⟨F, D + 1, M, ?_⟩⟩
        · rw [show ∀ z : CS, (csF z (20 * 0) 6 (nI (D + 1))).1 0 25 = z.1 0 25 from fun z => cF_ne _ _ (by omega)]
          exact I.ro
        · rw [sa_at]
          refine TR.deq H3 (fun i hi => ?_)
          unfold upd
          (repeat' split) <;> first | rfl | omega
end
