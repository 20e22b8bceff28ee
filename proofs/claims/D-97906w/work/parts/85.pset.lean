/-! the pure stage: a debtor's cells are set -/
set_option maxRecDepth 100000
theorem upd_ne {f : Nat → Int32} {k j : Nat} {x : Int32} (h : j ≠ k) : upd f k x j = f j := pk_un h
theorem TR.debt {t tr F D M p n : Nat} {cs : CS} {d : Nat → Int32} (hp : p < 4) (H : TR t tr cs d F D M) (hn : n ≤ 9999) : TR t tr (csA cs (20 * t + 6) (upd (cs.2.1 (20 * t + 6)) p (nI n))) (upd d (50 + 21 * p + 2) (nI n)) F D M := by
  have T := H.n.de p hp
  have I := H.i.de p hp
  have e : mn (upd d (50 + 21 * p + 2) (nI n)) p = mn d p := mn_congr (upd_ne (by omega))
  have eb : ∀ i, bf (upd d (50 + 21 * p + 2) (nI n)) p i = bf d p i := fun i => bf_congr (upd_ne (by omega))
  refine TR.debtor hp H rfl rfl (fun k hk e => cA_ne _ _ (by omega)) (fun i e => by rw [cA_at]; exact upd_ne e) (fun i e => by rw [cA_ne _ _ (by omega)]) (fun i e => by rw [cA_ne _ _ (by omega)]) (fun i e => by rw [cA_ne _ _ (by omega)]) (fun i e => by rw [cA_ne _ _ (by omega)]) (fun i e => upd_ne (by omega)) ?_ ?_
  · refine TP.mk (by rw [cA_at, pk_us, pk_us]) ?_ ?_ (fun i hi => ?_) (fun i hi => ?_) <;> rw [cA_ne _ _ (by omega), upd_ne (by omega)]
    · exact T.brk
    · exact T.mny
    · exact T.bk i hi
    · exact T.bw i hi
  · refine DP.mk (by rw [upd_ne (by omega)]; exact I.mm) ⟨n, pk_us, hn⟩ (by rw [upd_ne (by omega)]; exact I.brk) (by rw [e, upd_ne (by omega)]; exact I.mny) (fun i hi => ?_) (fun i j hi hj => ?_)
    · rw [e] at hi; rw [eb, upd_ne (by omega)]; exact I.bk i hi
    · rw [e] at hi hj; rw [eb, eb]; exact I.inj i j hi hj
theorem TR.brk {t tr F D M p : Nat} {v : Int32} {cs : CS} {d : Nat → Int32} (hp : p < 4) (H : TR t tr cs d F D M) (hv : v = 0 ∨ v = 1) : TR t tr (csA cs (20 * t + 7) (upd (cs.2.1 (20 * t + 7)) p v)) (upd d (50 + 21 * p + 3) v) F D M := by
  have T := H.n.de p hp
  have I := H.i.de p hp
  have e : mn (upd d (50 + 21 * p + 3) v) p = mn d p := mn_congr (upd_ne (by omega))
  have eb : ∀ i, bf (upd d (50 + 21 * p + 3) v) p i = bf d p i := fun i => bf_congr (upd_ne (by omega))
  refine TR.debtor hp H rfl rfl (fun k hk e => cA_ne _ _ (by omega)) (fun i e => by rw [cA_ne _ _ (by omega)]) (fun i e => by rw [cA_at]; exact upd_ne e) (fun i e => by rw [cA_ne _ _ (by omega)]) (fun i e => by rw [cA_ne _ _ (by omega)]) (fun i e => by rw [cA_ne _ _ (by omega)]) (fun i e => upd_ne (by omega)) ?_ ?_
  · refine TP.mk ?_ (by rw [cA_at, pk_us, pk_us]) ?_ (fun i hi => ?_) (fun i hi => ?_) <;> rw [cA_ne _ _ (by omega), upd_ne (by omega)]
    · exact T.deb
    · exact T.mny
    · exact T.bk i hi
    · exact T.bw i hi
  · refine DP.mk (by rw [upd_ne (by omega)]; exact I.mm) (by rw [upd_ne (by omega)]; exact I.deb) (by rw [pk_us]; exact hv) (by rw [e, upd_ne (by omega)]; exact I.mny) (fun i hi => ?_) (fun i j hi hj => ?_)
    · rw [e] at hi; rw [eb, upd_ne (by omega)]; exact I.bk i hi
    · rw [e] at hi hj; rw [eb, eb]; exact I.inj i j hi hj
/-- a book is cut -/
theorem TR.cut {t tr F D M p m : Nat} {cs : CS} {d : Nat → Int32} (hp : p < 4) (H : TR t tr cs d F D M) (hm : m ≤ mn d p) : TR t tr (csA cs (20 * t + 8) (upd (cs.2.1 (20 * t + 8)) p (nI m))) (upd d (50 + 21 * p + 4) (nI m)) F D M := by
  have T := H.n.de p hp
  have I := H.i.de p hp
  have l8 := I.mny.2
  have e : mn (upd d (50 + 21 * p + 4) (nI m)) p = m := by unfold mn; rw [pk_us]; exact nI_clamp (by omega)
  have eb : ∀ i, bf (upd d (50 + 21 * p + 4) (nI m)) p i = bf d p i := fun i => bf_congr (upd_ne (by omega))
  refine TR.debtor hp H rfl rfl (fun k hk e => cA_ne _ _ (by omega)) (fun i e => by rw [cA_ne _ _ (by omega)]) (fun i e => by rw [cA_ne _ _ (by omega)]) (fun i e => by rw [cA_at]; exact upd_ne e) (fun i e => by rw [cA_ne _ _ (by omega)]) (fun i e => by rw [cA_ne _ _ (by omega)]) (fun i e => upd_ne (by omega)) ?_ ?_
  · refine TP.mk ?_ ?_ (by rw [cA_at, pk_us, pk_us]) (fun i hi => ?_) (fun i hi => ?_) <;> rw [cA_ne _ _ (by omega), upd_ne (by omega)]
    · exact T.deb
    · exact T.brk
    · exact T.bk i hi
    · exact T.bw i hi
  · refine DP.mk (by rw [upd_ne (by omega)]; exact I.mm) (by rw [upd_ne (by omega)]; exact I.deb) (by rw [upd_ne (by omega)]; exact I.brk) ⟨by rw [e, pk_us], by rw [e]; omega⟩ (fun i hi => ?_) (fun i j hi hj => ?_)
    · rw [e] at hi; rw [eb, upd_ne (by omega)]; exact I.bk i (by omega)
    · rw [e] at hi hj; rw [eb, eb]; exact I.inj i j (by omega) (by omega)
/-- a fact is written at the end of a book -/
def dW (d : Nat → Int32) (p f : Nat) : Nat → Int32 := upd (upd (upd d (50 + 21 * p + 5 + mn d p) (nI f)) (50 + 21 * p + 13 + mn d p) (d 3)) (50 + 21 * p + 4) (nI (mn d p + 1))
def cW_ (t : Nat) (cs : CS) (p m f : Nat) : CS := csA (csA (csA cs (20 * t + 9) (upd (cs.2.1 (20 * t + 9)) (8 * p + m) (nI f))) (20 * t + 10) (upd (cs.2.1 (20 * t + 10)) (8 * p + m) (cs.1 (20 * t) 13))) (20 * t + 8) (upd (cs.2.1 (20 * t + 8)) p (nI (m + 1)))
theorem dW_ne {d : Nat → Int32} {p f i : Nat} (h : i ≠ 50 + 21 * p + 5 + mn d p) (h2 : i ≠ 50 + 21 * p + 13 + mn d p) (h3 : i ≠ 50 + 21 * p + 4) : dW d p f i = d i := by
  unfold dW; rw [upd_ne h3, upd_ne h2, upd_ne h]
theorem TR.wrt {t tr F D M p f : Nat} {cs : CS} {d : Nat → Int32} (hp : p < 4) (H : TR t tr cs d F D M) (hf : f < F) (hm : mn d p < 8) (hn : ∀ i, i < mn d p → bf d p i ≠ f) : TR t tr (cW_ t cs p (mn d p) f) (dW d p f) F D M := by
  have T := H.n.de p hp
  have I := H.i.de p hp
  have lF := H.i.lF
  have e : mn (dW d p f) p = mn d p + 1 := by unfold dW; unfold mn; rw [pk_us]; exact nI_clamp (by have : mn d p = (d (50 + 21 * p + 4)).toNatClampNeg := rfl; omega)
  have eo : ∀ i, i < mn d p → bf (dW d p f) p i = bf d p i := fun i hi => bf_congr (dW_ne (by omega) (by omega) (by omega))
  have ea : dW d p f (50 + 21 * p + 5 + mn d p) = nI f := by unfold dW; rw [upd_ne (by omega), upd_ne (by omega), pk_us]
  have en : bf (dW d p f) p (mn d p) = f := by unfold bf; rw [ea]; exact nI_clamp (by omega)
  have k9 : (cW_ t cs p (mn d p) f).2.1 (20 * t + 9) = upd (cs.2.1 (20 * t + 9)) (8 * p + mn d p) (nI f) := by unfold cW_; rw [cA_ne _ _ (by omega), cA_ne _ _ (by omega), cA_at]
  have k10 : (cW_ t cs p (mn d p) f).2.1 (20 * t + 10) = upd (cs.2.1 (20 * t + 10)) (8 * p + mn d p) (cs.1 (20 * t) 13) := by unfold cW_; rw [cA_ne _ _ (by omega), cA_at]
  have k8 : (cW_ t cs p (mn d p) f).2.1 (20 * t + 8) = upd (cs.2.1 (20 * t + 8)) p (nI (mn d p + 1)) := by unfold cW_; rw [cA_at]
  have ko : ∀ k, k ≠ 8 → k ≠ 9 → k ≠ 10 → (cW_ t cs p (mn d p) f).2.1 (20 * t + k) = cs.2.1 (20 * t + k) := fun k h1 h2 h3 => by unfold cW_; rw [cA_ne _ _ (by omega), cA_ne _ _ (by omega), cA_ne _ _ (by omega)]
  refine TR.debtor hp H rfl rfl (fun k hk e => ko k (by omega) (by omega) (by omega)) (fun i e => by rw [ko 6 (by omega) (by omega) (by omega)]) (fun i e => by rw [ko 7 (by omega) (by omega) (by omega)]) (fun i e => by rw [k8]; exact upd_ne e) (fun i e => by rw [k9]; exact upd_ne (by omega)) (fun i e => by rw [k10]; exact upd_ne (by omega)) (fun i e => dW_ne (by omega) (by omega) (by omega)) ?_ ?_
  · refine TP.mk ?_ ?_ ?_ (fun i hi => ?_) (fun i hi => ?_)
    · rw [ko 6 (by omega) (by omega) (by omega), dW_ne (by omega) (by omega) (by omega)]; exact T.deb
    · rw [ko 7 (by omega) (by omega) (by omega), dW_ne (by omega) (by omega) (by omega)]; exact T.brk
    · rw [k8, pk_us]; unfold dW; rw [pk_us]
    · rw [k9]
      by_cases h : i = mn d p
      · subst h; rw [pk_us, ea]
      · rw [upd_ne (by omega), dW_ne (by omega) (by omega) (by omega)]; exact T.bk i hi
    · rw [k10]
      by_cases h : i = mn d p
      · subst h; rw [pk_us, H.n.h.f13]; unfold dW; rw [upd_ne (by omega), pk_us]
      · rw [upd_ne (by omega), dW_ne (by omega) (by omega) (by omega)]; exact T.bw i hi
  · refine DP.mk (by rw [dW_ne (by omega) (by omega) (by omega)]; exact I.mm) (by rw [dW_ne (by omega) (by omega) (by omega)]; exact I.deb) (by rw [dW_ne (by omega) (by omega) (by omega)]; exact I.brk) ⟨by rw [e]; unfold dW; rw [pk_us], by rw [e]; omega⟩ (fun i hi => ?_) (fun i j hi hj h => ?_)
    · rw [e] at hi
      by_cases h : i = mn d p
      · subst h; rw [en, ea]; exact ⟨rfl, hf⟩
      · rw [eo i (by omega), dW_ne (by omega) (by omega) (by omega)]; exact I.bk i (by omega)
    · rw [e] at hi hj
      by_cases h1 : i = mn d p
      · by_cases h2 : j = mn d p
        · omega
        · subst h1; rw [en, eo j (by omega)] at h; exact absurd h.symm (hn j (by omega))
      · by_cases h2 : j = mn d p
        · subst h2; rw [en, eo i (by omega)] at h; exact absurd h (hn i (by omega))
        · rw [eo i (by omega), eo j (by omega)] at h; exact I.inj i j (by omega) (by omega) h
/-- week, z -/
theorem TR.head {t tr F D M : Nat} {cs cs' : CS} {d d' : Nat → Int32} (H : TR t tr cs d F D M) (hh : TH t cs' d') (ha : ∀ k, k < 16 → cs'.2.1 (20 * t + k) = cs.2.1 (20 * t + k)) (hq : cs'.2.2 = cs.2.2) (hd : ∀ i, i ≠ 3 → i ≠ 4 → i ≠ 5 → i ≠ 6 → d' i = d i) (h5 : ∃ n, d' 5 = nI n ∧ n ≤ 50) (h6 : ∃ n, d' 6 = nI n ∧ n ≤ 20) : TR t tr cs' d' F D M := by
  have I := H.i
  have N := H.n
  exact TR.mk (TN.mk hh (fun f hf' => TF.congr (fun k hk => by rw [ha k (by omega)]) (fun i hi => hd _ (by omega) (by omega) (by omega) (by omega)) (N.fa f hf')) (fun q hq' => TP.congr (by rw [ha 6 (by omega)]) (by rw [ha 7 (by omega)]) (by rw [ha 8 (by omega)]) (fun i hi => by rw [ha 9 (by omega)]) (fun i hi => by rw [ha 10 (by omega)]) (fun i hi => hd _ (by omega) (by omega) (by omega) (by omega)) (N.de q hq')) (fun k hk => TM.congr (fun j hj1 hj => by rw [ha j (by omega)]) (fun i hi => hd _ (by omega) (by omega) (by omega) (by omega)) (N.me k hk)) (fun i hi => by rw [ha 14 (by omega), hd _ (by omega) (by omega) (by omega) (by omega)]; exact N.tp i hi) (fun i hi => by rw [ha 15 (by omega), hd _ (by omega) (by omega) (by omega) (by omega)]; exact N.wt i hi)) (TQ.congr hq I.lD (fun q hq' => ⟨hd _ (by omega) (by omega) (by omega) (by omega), hd _ (by omega) (by omega) (by omega) (by omega)⟩) (fun i h1 h2 h3 => hd i (by omega) (by omega) (by omega) (by omega)) H.q) (DI.mk (by rw [hd 0 (by omega) (by omega) (by omega) (by omega)]; exact I.hF) I.lF (by rw [hd 1 (by omega) (by omega) (by omega) (by omega)]; exact I.hD) I.lD (by rw [hd 2 (by omega) (by omega) (by omega) (by omega)]; exact I.hM) I.lM h5 h6 (fun f hf' => DF.congr (fun i hi => hd _ (by omega) (by omega) (by omega) (by omega)) (I.fa f hf')) (DC.congr (fun f hf' => hd _ (by omega) (by omega) (by omega) (by omega)) I.cls) (fun q hq' => DP.congr (fun i hi => hd _ (by omega) (by omega) (by omega) (by omega)) (I.de q hq')) (fun k hk => DM.congr (fun i hi => hd _ (by omega) (by omega) (by omega) (by omega)) (I.me k hk)))
theorem TR.week {t tr F D M : Nat} {cs : CS} {d : Nat → Int32} (x : Int32) (H : TR t tr cs d F D M) : TR t tr (csF cs (20 * t) 13 x) (upd d 3 x) F D M := by
  refine TR.head H ?_ (fun _ _ => rfl) rfl (fun i h _ _ _ => upd_ne h) (by rw [upd_ne (by omega)]; exact H.i.tp) (by rw [upd_ne (by omega)]; exact H.i.wt)
  have h := H.n.h
  unfold TH at h ⊢
  rw [cF_at, cF_ne _ _ (by omega), cF_ne _ _ (by omega), cF_ne _ _ (by omega), cF_ne _ _ (by omega), cF_ne _ _ (by omega), cF_ne _ _ (by omega), pk_us, upd_ne (by omega), upd_ne (by omega), upd_ne (by omega), upd_ne (by omega), upd_ne (by omega), upd_ne (by omega)]
  exact ⟨h.1, h.2.1, h.2.2.1, rfl, h.2.2.2.2⟩
theorem TR.zz {t tr F D M : Nat} {cs : CS} {d : Nat → Int32} (x : Int32) (H : TR t tr cs d F D M) : TR t tr (csF cs (20 * t) 19 x) (upd d 4 x) F D M := by
  refine TR.head H ?_ (fun _ _ => rfl) rfl (fun i _ h _ _ => upd_ne h) (by rw [upd_ne (by omega)]; exact H.i.tp) (by rw [upd_ne (by omega)]; exact H.i.wt)
  have h := H.n.h
  unfold TH at h ⊢
  rw [cF_at, cF_ne _ _ (by omega), cF_ne _ _ (by omega), cF_ne _ _ (by omega), cF_ne _ _ (by omega), cF_ne _ _ (by omega), cF_ne _ _ (by omega), pk_us, upd_ne (by omega), upd_ne (by omega), upd_ne (by omega), upd_ne (by omega), upd_ne (by omega), upd_ne (by omega)]
  exact ⟨h.1, h.2.1, h.2.2.1, h.2.2.2.1, rfl, h.2.2.2.2.2⟩
theorem TR.taped {t tr F D M n : Nat} {cs : CS} {d : Nat → Int32} (hn : n ≤ 50) (H : TR t tr cs d F D M) : TR t tr (csF cs (20 * t) 21 (nI n)) (upd d 5 (nI n)) F D M := by
  refine TR.head H ?_ (fun _ _ => rfl) rfl (fun i _ _ h _ => upd_ne h) ⟨n, pk_us, hn⟩ (by rw [upd_ne (by omega)]; exact H.i.wt)
  have h := H.n.h
  unfold TH at h ⊢
  rw [cF_at, cF_ne _ _ (by omega), cF_ne _ _ (by omega), cF_ne _ _ (by omega), cF_ne _ _ (by omega), cF_ne _ _ (by omega), cF_ne _ _ (by omega), pk_us, upd_ne (by omega), upd_ne (by omega), upd_ne (by omega), upd_ne (by omega), upd_ne (by omega), upd_ne (by omega)]
  exact ⟨h.1, h.2.1, h.2.2.1, h.2.2.2.1, h.2.2.2.2.1, rfl, h.2.2.2.2.2.2⟩
theorem TR.waits {t tr F D M n : Nat} {cs : CS} {d : Nat → Int32} (hn : n ≤ 20) (H : TR t tr cs d F D M) : TR t tr (csF cs (20 * t) 23 (nI n)) (upd d 6 (nI n)) F D M := by
  refine TR.head H ?_ (fun _ _ => rfl) rfl (fun i _ _ _ h => upd_ne h) (by rw [upd_ne (by omega)]; exact H.i.tp) ⟨n, pk_us, hn⟩
  have h := H.n.h
  unfold TH at h ⊢
  rw [cF_at, cF_ne _ _ (by omega), cF_ne _ _ (by omega), cF_ne _ _ (by omega), cF_ne _ _ (by omega), cF_ne _ _ (by omega), cF_ne _ _ (by omega), pk_us, upd_ne (by omega), upd_ne (by omega), upd_ne (by omega), upd_ne (by omega), upd_ne (by omega), upd_ne (by omega)]
  exact ⟨h.1, h.2.1, h.2.2.1, h.2.2.2.1, h.2.2.2.2.1, h.2.2.2.2.2.1, rfl⟩
