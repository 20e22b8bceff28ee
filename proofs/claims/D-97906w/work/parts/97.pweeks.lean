/-! the pure stage: acts that go on by weeks -/
set_option maxRecDepth 100000
section
variable {t u tr F D M p nx k : Nat} {cs cs' cs1 cs2 : CS} {d d' : Nat → Int32} {ms ms' ms1 ms2 ms3 : MSt} {cA : Nat → ClassId} {ad adK : Nat → Nat}
theorem keep_M (ms : MSt) : M_keepAside NN ms = some (sa ms 3 (fa_fill (ms.2 1) (ms.2 3) 170)) := by
  rw [M_keepAside, bd1_p]
  suffices hh : ∃ r, M_keepAside_L2 NN NN ms (nI 0) = some r ∧ r = sa ms 3 (fa_fill (ms.2 1) (ms.2 3) 170) by
    obtain ⟨r, h1, h2⟩ := hh
    rw [← h2]; exact h1
  refine loopP (M_keepAside_L2 NN) 170 (fun j a => a = sa ms 3 (fa_fill (ms.2 1) (ms.2 3) j)) (fun r => r = sa ms 3 (fa_fill (ms.2 1) (ms.2 3) 170)) (fun n a ha => ⟨a, by rw [M_keepAside_L2, if_pos (by decide)], ha⟩) (fun n a j hj ha => Or.inr ⟨sa ms 3 (fa_fill (ms.2 1) (ms.2 3) (j + 1)), by rw [M_keepAside_L2, if_neg (c := 170 ≤ nI j) (nI_ge (b := 170) hj (by decide)), rdM _ (by omega), bd1_s, wr_nI hj (by decide), bd1_s, nI_1, ha, sa_at, sa_ne _ _ (by decide), fa_fill_succ, sa_sa], rfl⟩) 170 0 ms NN (by omega) (NN_lt (by omega)) (by rw [fa_fill_0, sa_id _ _ _ rfl])
theorem back_M (ms : MSt) : M_putBack NN ms = some (sa ms 1 (fa_fill (ms.2 3) (ms.2 1) 170)) := by
  rw [M_putBack, bd1_p]
  suffices hh : ∃ r, M_putBack_L2 NN NN ms (nI 0) = some r ∧ r = sa ms 1 (fa_fill (ms.2 3) (ms.2 1) 170) by
    obtain ⟨r, h1, h2⟩ := hh
    rw [← h2]; exact h1
  refine loopP (M_putBack_L2 NN) 170 (fun j a => a = sa ms 1 (fa_fill (ms.2 3) (ms.2 1) j)) (fun r => r = sa ms 1 (fa_fill (ms.2 3) (ms.2 1) 170)) (fun n a ha => ⟨a, by rw [M_putBack_L2, if_pos (by decide)], ha⟩) (fun n a j hj ha => Or.inr ⟨sa ms 1 (fa_fill (ms.2 3) (ms.2 1) (j + 1)), by rw [M_putBack_L2, if_neg (c := 170 ≤ nI j) (nI_ge (b := 170) hj (by decide)), rdC _ _ _ hj (by decide), bd1_s, wrM _ (by omega), bd1_s, nI_1, ha, sa_at, sa_ne _ _ (by decide), fa_fill_succ, sa_sa], rfl⟩) 170 0 ms NN (by omega) (NN_lt (by omega)) (by rw [fa_fill_0, sa_id _ _ _ rfl])
theorem image_M (ms : MSt) : M_image_L2 NN NN ms 0 = some (sa ms 2 (fa_fill (ms.2 1) (ms.2 2) 342)) := by
  suffices hh : ∃ r, M_image_L2 NN NN ms (nI 0) = some r ∧ r = sa ms 2 (fa_fill (ms.2 1) (ms.2 2) 342) by
    obtain ⟨r, h1, h2⟩ := hh
    rw [← h2]; exact h1
  refine loopP (M_image_L2 NN) 342 (fun j a => a = sa ms 2 (fa_fill (ms.2 1) (ms.2 2) j)) (fun r => r = sa ms 2 (fa_fill (ms.2 1) (ms.2 2) 342)) (fun n a ha => ⟨a, by rw [M_image_L2, if_pos (by decide)], ha⟩) (fun n a j hj ha => Or.inr ⟨sa ms 2 (fa_fill (ms.2 1) (ms.2 2) (j + 1)), by rw [M_image_L2, if_neg (c := 342 ≤ nI j) (nI_ge (b := 342) hj (by decide)), rdM _ hj, bd1_s, wrM _ hj, bd1_s, nI_1, ha, sa_at, sa_ne _ _ (by decide), fa_fill_succ, sa_sa], rfl⟩) 342 0 ms NN (by omega) (NN_lt (by omega)) (by rw [fa_fill_0, sa_id _ _ _ rfl])
theorem restore_M (ms : MSt) : M_restore_L15 NN NN ms 0 = some (sa ms 1 (fa_fill (ms.2 2) (ms.2 1) 342)) := by
  suffices hh : ∃ r, M_restore_L15 NN NN ms (nI 0) = some r ∧ r = sa ms 1 (fa_fill (ms.2 2) (ms.2 1) 342) by
    obtain ⟨r, h1, h2⟩ := hh
    rw [← h2]; exact h1
  refine loopP (M_restore_L15 NN) 342 (fun j a => a = sa ms 1 (fa_fill (ms.2 2) (ms.2 1) j)) (fun r => r = sa ms 1 (fa_fill (ms.2 2) (ms.2 1) 342)) (fun n a ha => ⟨a, by rw [M_restore_L15, if_pos (by decide)], ha⟩) (fun n a j hj ha => Or.inr ⟨sa ms 1 (fa_fill (ms.2 2) (ms.2 1) (j + 1)), by rw [M_restore_L15, if_neg (c := 342 ≤ nI j) (nI_ge (b := 342) hj (by decide)), rdM _ hj, bd1_s, wrM _ hj, bd1_s, nI_1, ha, sa_at, sa_ne _ _ (by decide), fa_fill_succ, sa_sa], rfl⟩) 342 0 ms NN (by omega) (NN_lt (by omega)) (by rw [fa_fill_0, sa_id _ _ _ rfl])
theorem TR.deq (H : TR t tr cs d F D M) (hd : ∀ i, i < 342 → d' i = d i) : TR t tr cs d' F D M := by
  have I := H.i
  have N := H.n
  have lM := I.lM
  exact TR.mk (TN.mk (TH.congr rfl (fun i hi => hd i (by omega)) N.h) (fun f hf' => TF.congr (fun k hk => rfl) (fun i hi => hd _ (by omega)) (N.fa f hf')) (fun q hq' => TP.congr rfl rfl rfl (fun _ _ => rfl) (fun _ _ => rfl) (fun i hi => hd _ (by omega)) (N.de q hq')) (fun k hk => TM.congr (fun j hj1 hj => rfl) (fun i hi => hd _ (by omega)) (N.me k hk)) (fun i hi => by rw [hd _ (by omega)]; exact N.tp i hi) (fun i hi => by rw [hd _ (by omega)]; exact N.wt i hi)) (TQ.congr rfl I.lD (fun q hq' => ⟨hd _ (by omega), hd _ (by omega)⟩) (fun i h1 h2 h3 => hd i (by omega)) H.q) (DI.mk (by rw [hd 0 (by omega)]; exact I.hF) I.lF (by rw [hd 1 (by omega)]; exact I.hD) I.lD (by rw [hd 2 (by omega)]; exact I.hM) I.lM (by rw [hd 5 (by omega)]; exact I.tp) (by rw [hd 6 (by omega)]; exact I.wt) (fun f hf' => DF.congr (fun i hi => hd _ (by omega)) (I.fa f hf')) (DC.congr (fun f hf' => hd _ (by omega)) I.cls) (fun q hq' => DP.congr (fun i hi => hd _ (by omega)) (I.de q hq')) (fun k hk => DM.congr (fun i hi => hd _ (by omega)) (I.me k hk)))
theorem TR.other {v : Nat} (H : TR v tr cs d F D M) (h : frT t cs cs') (hv : v ≠ t) : TR v tr cs' d F D M := by
  have e : ∀ k, k < 20 → cs'.1 (20 * v + k) = cs.1 (20 * v + k) ∧ cs'.2.1 (20 * v + k) = cs.2.1 (20 * v + k) ∧ cs'.2.2.1 (20 * v + k) = cs.2.2.1 (20 * v + k) := fun k hk => h.1 _ (by omega)
  exact TR.move H (fun j _ => by rw [show cs'.1 (20 * v) = cs.1 (20 * v) from (e 0 (by omega)).1]) (fun j i hj => by rw [(e j (by omega)).2.1]) (fun i hi => by rw [(e 17 (by omega)).2.2]) (fun i hi => by rw [(e 18 (by omega)).2.2]) h.2
theorem frT.rfl : frT t cs cs := ⟨fun _ _ => ⟨Eq.refl _, Eq.refl _, Eq.refl _⟩, Eq.refl _⟩
theorem frT.trans (h : frT t cs cs1) (g : frT t cs1 cs2) : frT t cs cs2 := ⟨fun k hk => ⟨(g.1 k hk).1.trans (h.1 k hk).1, (g.1 k hk).2.1.trans (h.1 k hk).2.1, (g.1 k hk).2.2.trans (h.1 k hk).2.2⟩, g.2.trans h.2⟩
theorem frC.T (h : frC t cs cs') : frT t cs cs' := ⟨fun k hk => ⟨(h.1 k hk).1, (h.1 k hk).2, by rw [h.2.1]⟩, by rw [h.2.1]⟩
theorem frT.fld {j : Nat} {x : Int32} : frT t cs (csF cs (20 * t) j x) := ⟨fun k hk => ⟨cF_nk _ _ (by omega), Eq.refl _, Eq.refl _⟩, Eq.refl _⟩
theorem frT.KI (h : frT t cs cs') (ht : t = 0 ∨ t = 2) : KI nx cs cs' := by
  have q : ∀ k, 20 ≤ k → (k < 40 ∨ 60 ≤ k) → cs'.1 k = cs.1 k ∧ cs'.2.1 k = cs.2.1 k ∧ cs'.2.2.1 k = cs.2.2.1 k := fun k h1 h2 => h.1 k (by rcases ht with rfl | rfl <;> omega)
  exact KI.mk (q 20 (by omega) (by omega)).1 (fun j hj => (q (20 + j) (by omega) (by omega)).2.1) (q 37 (by omega) (by omega)).2.2 (q 38 (by omega) (by omega)).2.2 (fun a _ => by rw [h.2]) (by rw [(q 60 (by omega) (by omega)).1]) (q 62 (by omega) (by omega)).1 (q 63 (by omega) (by omega)).2.1 (q 64 (by omega) (by omega)).2.1 (fun j _ => (q (69 + j) (by omega) (by omega)).2.2)
/-- the model tries and puts back -/
theorem tried_M (h : frM (sa ms 3 (fa_fill (ms.2 1) (ms.2 3) 170)) ms2) : (sa ms2 1 (fa_fill (ms2.2 3) (ms2.2 1) 170)).2 1 = ms.2 1 ∧ KM ms (sa ms2 1 (fa_fill (ms2.2 3) (ms2.2 1) 170)) ∧ (∀ j, (j < 5 ∨ 10 < j) → (sa ms2 1 (fa_fill (ms2.2 3) (ms2.2 1) 170)).1 j = ms.1 j) := by
  refine ⟨?_, ((KM.sa1 (by omega)).trans h.KM).trans (KM.sa1 (by omega)), fun j hj => h.2.1 j hj⟩
  rw [sa_at]
  funext i
  unfold fa_fill
  split
  · rename_i hi
    rw [h.1 3 (by decide) (by decide), sa_at]
    exact if_pos hi
  · rename_i hi
    rw [h.2.2 i (by omega), sa_ne _ _ (by decide)]
theorem INV.tried (I : INV tr cA k cs ms) (fr : FR nx cs) (h1 : frT 2 cs cs2) (h : frM (sa ms 3 (fa_fill (ms.2 1) (ms.2 3) 170)) ms2) : INV tr cA (k + 1) cs2 (sa ms2 1 (fa_fill (ms2.2 3) (ms2.2 1) 170)) := by
  obtain ⟨e1, e2, e3⟩ := tried_M h
  exact I.rest fr (h1.KI (Or.inr rfl)) (h1.1 0 (by omega)).1 (fun j hj => (h1.1 j (by omega)).2.1) (h1.1 17 (by omega)).2.2 (h1.1 18 (by omega)).2.2 e2 ((e3 12 (by omega)).trans I.mo) e1
theorem s_image (hk : k < 64) : stp_image ad adK cA (INV tr cA k) (INV tr cA (k + 1)) := by
  intro nx cs ms I fr
  obtain ⟨F, D, M, H⟩ := I.r0
  obtain ⟨j, j1, j2⟩ := I.imk
  obtain ⟨c1, b1, b2, b3, b4⟩ := H.become (t := 1) (by decide)
  have hf : ∀ x, x < 20 ∨ 40 ≤ x → c1.1 x = cs.1 x ∧ c1.2.1 x = cs.2.1 x ∧ c1.2.2.1 x = cs.2.2.1 x := fun x hx => b3.1 x (by omega)
  have e4 : c1.1 60 4 = ms.1 3 := by rw [(hf 60 (by omega)).1]; exact I.im
  rw [L_image, b1, bd1_s, e4, M_image, image_M, bd1_s, cF_at, sf_at]
  have ho : ∀ x, x ≠ 60 → (csF c1 60 4 (ms.1 3 + 1)).1 x = c1.1 x := fun x hx => cF_nk _ _ hx
  refine ⟨_, _, _, rfl, rfl, INV.mk ⟨F, D, M, ?_⟩ (by rw [cF_at, sf_at]; rfl) ?_ (fun _ => ⟨F, D, M, ?_⟩) (fun i hi => ?_) ?_ I.tmk (fun i hi => ?_) ?_ ?_ I.mo⟩
  · rw [show (sf (sa ms 2 (fa_fill (ms.2 1) (ms.2 2) 342)) 3 ((sa ms 2 (fa_fill (ms.2 1) (ms.2 2) 342)).1 3 + 1)).2 1 = ms.2 1 from sa_ne ms (k := 2) (j := 1) (fa_fill (ms.2 1) (ms.2 2) 342) (by decide)]
    exact (H.other b3 (by decide)).same (ho _ (by decide)) (fun _ _ => rfl) rfl
  · rw [sf_at]
    refine ⟨j + 1, ?_, by omega⟩
    show ms.1 3 + 1 = _
    rw [j1, nI_1]
  · rw [show (sf (sa ms 2 (fa_fill (ms.2 1) (ms.2 2) 342)) 3 ((sa ms 2 (fa_fill (ms.2 1) (ms.2 2) 342)).1 3 + 1)).2 2 = fa_fill (ms.2 1) (ms.2 2) 342 from sa_at ms 2 _]
    exact (b2.deq (fun i hi => fa_fill_in hi)).same (ho _ (by decide)) (fun _ _ => rfl) rfl
  · rw [show (csF c1 60 4 (ms.1 3 + 1)).2.1 64 = c1.2.1 64 from rfl, (hf 64 (by omega)).2.1]
    exact I.er i hi
  · rw [ho 62 (by decide), (hf 62 (by omega)).1]; exact I.tm
  · rw [show (csF c1 60 4 (ms.1 3 + 1)).2.1 63 = c1.2.1 63 from rfl, (hf 63 (by omega)).2.1]
    exact I.td i hi
  · obtain ⟨b, g1, g2⟩ := I.sh
    have e : ∀ x, x < 4 → (csF c1 60 4 (ms.1 3 + 1)).2.2.1 (69 + x) = cs.2.2.1 (69 + x) := fun x _ => (hf (69 + x) (by omega)).2.2
    refine ⟨b, fun i j hi hj h1 h2 => ?_, fun x hx => ?_⟩
    · rw [e i hi] at h1; rw [e j hj] at h2; exact g1 i j hi hj h1 h2
    · unfold shR
      rw [e x hx, show (csF c1 60 4 (ms.1 3 + 1)).2.2.2 = cs.2.2.2 from b3.2]
      exact g2 x hx
  · rw [ho 0 (by decide), (hf 0 (by omega)).1]; exact I.ro
theorem s_restore (hk : k < 64) : stp_restore ad adK cA (INV tr cA k) (INV tr cA (k + 1)) := by
  intro nx cs ms I fr
  obtain ⟨j, j1, j2⟩ := I.imk
  rw [L_restore, I.im, M_restore, j1]
  by_cases h : j = 0
  · rw [if_pos (c := nI j ≤ 0) (by rw [h]; decide), need_0, bd2_s, onx_n, bd2_p, if_pos (c := nI j = 0) (by rw [h]; rfl), bd2_p]; exact I.find fr (c := 2) (by decide)
  · have hn : ¬ nI j = 0 := fun h2 => h ((nI_zero_eq (by omega)).mp h2)
    obtain ⟨F, D, M, H⟩ := I.r1 (by rw [j1]; exact hn)
    obtain ⟨c1, b1, b2, b3, b4⟩ := H.become (t := 0) (by decide)
    rw [if_neg (c := nI j ≤ 0) (nI_nle (by omega) (by omega)), need_1, bd2_s, onx_s, b1, bd1_s, if_neg hn, restore_M, bd1_s, rdM3, bd1_s, sa_at, fa_fill_in (show 3 < 342 by decide), b2.n.h.f13]
    refine ⟨_, _, _, rfl, rfl, I.next fr (by omega) (b3.KI (Or.inl rfl)) (KM.sa1 (Or.inl rfl)) b4 I.mo ⟨F, D, M, ?_⟩⟩
    rw [sa_at]
    exact b2.deq (fun i hi => fa_fill_in hi)
end
