/-! the pure stage: single cells -/
set_option maxRecDepth 100000
theorem DF.congr {d d' : Nat → Int32} {F f : Nat} (h : ∀ i, i < 5 → d' (10 + 5 * f + i) = d (10 + 5 * f + i)) (H : DF d F f) : DF d' F f := by
  unfold DF at H ⊢
  rw [h 0 (by omega), h 1 (by omega), h 2 (by omega), h 3 (by omega)]
  exact H
theorem mn_congr {d d' : Nat → Int32} {p : Nat} (h : d' (50 + 21 * p + 4) = d (50 + 21 * p + 4)) : mn d' p = mn d p := by unfold mn; rw [h]
theorem bf_congr {d d' : Nat → Int32} {p i : Nat} (h : d' (50 + 21 * p + 5 + i) = d (50 + 21 * p + 5 + i)) : bf d' p i = bf d p i := by unfold bf; rw [h]
theorem DP.congr {d d' : Nat → Int32} {F p : Nat} (h : ∀ i, i < 21 → d' (50 + 21 * p + i) = d (50 + 21 * p + i)) (H : DP d F p) : DP d' F p := by
  have e : mn d' p = mn d p := mn_congr (h 4 (by omega))
  have hb : ∀ i, i < 8 → d' (50 + 21 * p + 5 + i) = d (50 + 21 * p + 5 + i) := fun i hi => by rw [Nat.add_assoc]; exact h _ (by omega)
  have l8 := H.mny.2
  refine DP.mk (by rw [h 1 (by omega)]; exact H.mm) (by rw [h 2 (by omega)]; exact H.deb) (by rw [h 3 (by omega)]; exact H.brk) (by rw [e, h 4 (by omega)]; exact H.mny) (fun i hi => ?_) (fun i j hi hj => ?_)
  · rw [e] at hi
    rw [bf_congr (hb i (by omega)), hb i (by omega)]; exact H.bk i hi
  · rw [e] at hi hj
    rw [bf_congr (hb i (by omega)), bf_congr (hb j (by omega))]; exact H.inj i j hi hj
theorem DM.congr {d d' : Nat → Int32} {k : Nat} (h : ∀ i, i < 3 → d' (134 + 3 * k + i) = d (134 + 3 * k + i)) (H : DM d k) : DM d' k := by
  unfold DM at H ⊢
  rw [h 1 (by omega), h 2 (by omega), show d' (134 + 3 * k) = d (134 + 3 * k) from h 0 (by omega)]
  exact H
theorem DC.congr {d d' : Nat → Int32} {F : Nat} (h : ∀ f, f < 8 → d' (10 + 5 * f + 1) = d (10 + 5 * f + 1)) (H : DC d F) : DC d' F := fun f g hf hg => by
  rw [h f hf, h g hg]; exact H f g hf hg
theorem TH.congr {t : Nat} {cs cs' : CS} {d d' : Nat → Int32} (h : cs'.1 (20 * t) = cs.1 (20 * t)) (hd : ∀ i, i < 7 → d' i = d i) (H : TH t cs d) : TH t cs' d' := by
  unfold TH at H ⊢
  rw [h, hd 0 (by omega), hd 1 (by omega), hd 2 (by omega), hd 3 (by omega), hd 4 (by omega), hd 5 (by omega), hd 6 (by omega)]
  exact H
theorem TF.congr {t f : Nat} {cs cs' : CS} {d d' : Nat → Int32} (h : ∀ k, k < 6 → cs'.2.1 (20 * t + k) f = cs.2.1 (20 * t + k) f) (hd : ∀ i, i < 5 → d' (10 + 5 * f + i) = d (10 + 5 * f + i)) (H : TF t cs d f) : TF t cs' d' f := by
  unfold TF at H ⊢
  rw [h 1 (by omega), h 2 (by omega), h 3 (by omega), h 4 (by omega), h 5 (by omega), hd 0 (by omega), hd 1 (by omega), hd 2 (by omega), hd 3 (by omega), hd 4 (by omega)]
  exact H
theorem TP.congr {t p : Nat} {cs cs' : CS} {d d' : Nat → Int32} (h6 : cs'.2.1 (20 * t + 6) p = cs.2.1 (20 * t + 6) p) (h7 : cs'.2.1 (20 * t + 7) p = cs.2.1 (20 * t + 7) p) (h8 : cs'.2.1 (20 * t + 8) p = cs.2.1 (20 * t + 8) p) (h9 : ∀ i, i < 8 → cs'.2.1 (20 * t + 9) (8 * p + i) = cs.2.1 (20 * t + 9) (8 * p + i)) (h10 : ∀ i, i < 8 → cs'.2.1 (20 * t + 10) (8 * p + i) = cs.2.1 (20 * t + 10) (8 * p + i)) (hd : ∀ i, i < 21 → d' (50 + 21 * p + i) = d (50 + 21 * p + i)) (H : TP t cs d p) : TP t cs' d' p := by
  refine TP.mk (by rw [h6, hd 2 (by omega)]; exact H.deb) (by rw [h7, hd 3 (by omega)]; exact H.brk) (by rw [h8, hd 4 (by omega)]; exact H.mny) (fun i hi => ?_) (fun i hi => ?_)
  · rw [h9 i hi, H.bk i hi, Nat.add_assoc, hd _ (by omega)]
  · rw [h10 i hi, H.bw i hi, Nat.add_assoc, hd _ (by omega)]
theorem TM.congr {t k : Nat} {cs cs' : CS} {d d' : Nat → Int32} (h : ∀ j, 10 < j → j < 14 → cs'.2.1 (20 * t + j) k = cs.2.1 (20 * t + j) k) (hd : ∀ i, i < 3 → d' (134 + 3 * k + i) = d (134 + 3 * k + i)) (H : TM t cs d k) : TM t cs' d' k := by
  unfold TM at H ⊢
  rw [h 11 (by omega) (by omega), h 12 (by omega) (by omega), h 13 (by omega) (by omega), hd 1 (by omega), hd 2 (by omega), show d' (134 + 3 * k) = d (134 + 3 * k) from hd 0 (by omega)]
  exact H
theorem TQ.congr {t tr D : Nat} {cs cs' : CS} {d d' : Nat → Int32} (hq : cs'.2.2 = cs.2.2) (hD : D ≤ 4) (hd : ∀ p, p < 4 → d' (50 + 21 * p + 0) = d (50 + 21 * p + 0) ∧ d' (50 + 21 * p + 1) = d (50 + 21 * p + 1)) (ht : ∀ i, 170 ≤ i → i < 292 → (i < 172 ∨ 192 ≤ i) → d' i = d i) (H : TQ t tr cs d D) : TQ t tr cs' d' D := by
  refine TQ.mk (fun p hp => ?_) (fun p a hp => ?_) (fun u hu => ?_)
  · rw [hq, (hd p (by omega)).1, (hd p (by omega)).2]; exact H.deb p hp
  · rw [hq]; exact H.dq p a hp
  · have h1 : d' (170 + u) = d (170 + u) := ht _ (by omega) (by omega) (by omega)
    rw [hq, h1]
    rcases H.tx u hu with h | ⟨a, v, n, h2, h3, h4, h5, h6, h7⟩
    · exact Or.inl h
    · refine Or.inr ⟨a, v, n, h2, h3, h4, h5, h6, fun ms base hb hi => h7 ms base hb (fun i hin => ?_)⟩
      rw [hi i hin]
      exact ht _ (by omega) (by omega) (by omega)
/-- a debtor's numbers change -/
theorem TR.debtor {t tr F D M p : Nat} {cs cs' : CS} {d d' : Nat → Int32} (hp : p < 4) (H : TR t tr cs d F D M) (hf : cs'.1 (20 * t) = cs.1 (20 * t)) (hq : cs'.2.2 = cs.2.2) (ha : ∀ k, k < 20 → (k < 6 ∨ 10 < k) → cs'.2.1 (20 * t + k) = cs.2.1 (20 * t + k)) (h6 : ∀ i, i ≠ p → cs'.2.1 (20 * t + 6) i = cs.2.1 (20 * t + 6) i) (h7 : ∀ i, i ≠ p → cs'.2.1 (20 * t + 7) i = cs.2.1 (20 * t + 7) i) (h8 : ∀ i, i ≠ p → cs'.2.1 (20 * t + 8) i = cs.2.1 (20 * t + 8) i) (h9 : ∀ i, (i < 8 * p ∨ 8 * p + 8 ≤ i) → cs'.2.1 (20 * t + 9) i = cs.2.1 (20 * t + 9) i) (h10 : ∀ i, (i < 8 * p ∨ 8 * p + 8 ≤ i) → cs'.2.1 (20 * t + 10) i = cs.2.1 (20 * t + 10) i)
    (hd : ∀ i, (i < 50 + 21 * p + 2 ∨ 50 + 21 * p + 21 ≤ i) → d' i = d i) (hT : TP t cs' d' p) (hI : DP d' F p) : TR t tr cs' d' F D M := by
  have I := H.i
  have N := H.n
  refine TR.mk (TN.mk (TH.congr hf (fun i hi => hd i (by omega)) N.h) (fun f hf' => TF.congr (fun k hk => by rw [ha k (by omega) (by omega)]) (fun i hi => hd _ (by omega)) (N.fa f hf')) (fun q hq' => ?_) (fun k hk => TM.congr (fun j hj1 hj => by rw [ha j (by omega) (by omega)]) (fun i hi => hd _ (by omega)) (N.me k hk)) (fun i hi => by rw [ha 14 (by omega) (by omega), hd _ (by omega)]; exact N.tp i hi) (fun i hi => by rw [ha 15 (by omega) (by omega), hd _ (by omega)]; exact N.wt i hi)) (TQ.congr hq I.lD (fun q hq' => ⟨?_, ?_⟩) (fun i h1 h2 h3 => hd i (by omega)) H.q) (DI.mk (by rw [hd 0 (by omega)]; exact I.hF) I.lF (by rw [hd 1 (by omega)]; exact I.hD) I.lD (by rw [hd 2 (by omega)]; exact I.hM) I.lM (by rw [hd 5 (by omega)]; exact I.tp) (by rw [hd 6 (by omega)]; exact I.wt) (fun f hf' => DF.congr (fun i hi => hd _ (by omega)) (I.fa f hf')) (DC.congr (fun f hf' => hd _ (by omega)) I.cls) (fun q hq' => ?_) (fun k hk => DM.congr (fun i hi => hd _ (by omega)) (I.me k hk)))
  · by_cases e : q = p
    · subst e; exact hT
    · refine TP.congr (h6 q e) (h7 q e) (h8 q e) (fun i hi => h9 _ ?_) (fun i hi => h10 _ ?_) (fun i hi => hd _ ?_) (N.de q hq') <;> (rcases Nat.lt_or_gt_of_ne e with h | h <;> omega)
  · by_cases e : q = p
    · subst e; exact hd _ (by omega)
    · exact hd _ (by rcases Nat.lt_or_gt_of_ne e with h | h <;> omega)
  · by_cases e : q = p
    · subst e; exact hd _ (by omega)
    · exact hd _ (by rcases Nat.lt_or_gt_of_ne e with h | h <;> omega)
  · by_cases e : q = p
    · subst e; exact hI
    · exact DP.congr (fun i hi => hd _ (by rcases Nat.lt_or_gt_of_ne e with h | h <;> omega)) (I.de q hq')
