/-! the pure stage: the invariant -/
set_option maxRecDepth 100000
section
variable {t tr F D M p nx k : Nat} {cs cs' cs2 : CS} {d : Nat → Int32} {ms ms' ms2 : MSt} {cA : Nat → ClassId}
theorem TR.keepP (H : TR t tr cs d F D M) (ht : t < 3) (fr : FR nx cs) (hf : cs'.1 (20 * t) = cs.1 (20 * t)) (ha : ∀ k, k < 16 → cs'.2.1 (20 * t + k) = cs.2.1 (20 * t + k)) (h17 : cs'.2.2.1 (20 * t + 17) = cs.2.2.1 (20 * t + 17)) (h18 : cs'.2.2.1 (20 * t + 18) = cs.2.2.1 (20 * t + 18)) (hP : ∀ a, a < nx → cs'.2.2.2 (1000 + a) = cs.2.2.2 (1000 + a)) : TR t tr cs' d F D M := by
  obtain ⟨Lv, l1, l2, l3⟩ := fr
  have I := H.i
  have N := H.n
  refine TR.mk (TN.mk (TH.congr hf (fun _ _ => rfl) N.h) (fun f hf' => TF.congr (fun k hk => by rw [ha k (by omega)]) (fun _ _ => rfl) (N.fa f hf')) (fun q hq' => TP.congr (by rw [ha 6 (by omega)]) (by rw [ha 7 (by omega)]) (by rw [ha 8 (by omega)]) (fun i hi => by rw [ha 9 (by omega)]) (fun i hi => by rw [ha 10 (by omega)]) (fun _ _ => rfl) (N.de q hq')) (fun k hk => TM.congr (fun j hj1 hj => by rw [ha j (by omega)]) (fun _ _ => rfl) (N.me k hk)) (fun i hi => by rw [ha 14 (by omega)]; exact N.tp i hi) (fun i hi => by rw [ha 15 (by omega)]; exact N.wt i hi)) (TQ.mk (fun p hp => ?_) (fun p a hp h => ?_) (fun u hu => ?_)) I
  · obtain ⟨a, k, h1, h2, h3⟩ := H.q.deb p hp
    exact ⟨a, k, by rw [h17]; exact h1, by rw [hP a (l1 a (l2 _ _ _ (by omega) (by omega) (by omega) h1))]; exact h2, h3⟩
  · rw [h17] at h
    unfold isDeb
    rw [hP a (l1 a (l2 _ _ _ (by omega) (by omega) (by omega) h))]
    exact H.q.dq p a hp h
  · rw [h18]
    rcases H.q.tx u hu with h | ⟨a, v, n, h2, h3, h4⟩
    · exact Or.inl h
    · exact Or.inr ⟨a, v, n, h2, rep_keep l3 (fun a ha => hP a (l1 a ha)) 60 a v (l2 _ _ _ (by omega) (by omega) (by omega) h2) h3, h4⟩
/-- what stays as it is, but for town 0 and the tried one -/
def KI (nx : Nat) (cs cs' : CS) : Prop := (cs'.1 20 = cs.1 20) ∧ (∀ j, j < 16 → cs'.2.1 (20 + j) = cs.2.1 (20 + j)) ∧ (cs'.2.2.1 37 = cs.2.2.1 37) ∧ (cs'.2.2.1 38 = cs.2.2.1 38) ∧ (∀ a, a < nx → cs'.2.2.2 (1000 + a) = cs.2.2.2 (1000 + a)) ∧ (cs'.1 60 4 = cs.1 60 4) ∧ (cs'.1 62 = cs.1 62) ∧ (cs'.2.1 63 = cs.2.1 63) ∧ (cs'.2.1 64 = cs.2.1 64) ∧ (∀ j, j < 4 → cs'.2.2.1 (69 + j) = cs.2.2.1 (69 + j))
theorem KI.f20 {nx : Nat} {cs cs' : CS} (h : KI nx cs cs') : cs'.1 20 = cs.1 20 := h.1
theorem KI.a20 {nx : Nat} {cs cs' : CS} (h : KI nx cs cs') : ∀ j, j < 16 → cs'.2.1 (20 + j) = cs.2.1 (20 + j) := h.2.1
theorem KI.q37 {nx : Nat} {cs cs' : CS} (h : KI nx cs cs') : cs'.2.2.1 37 = cs.2.2.1 37 := h.2.2.1
theorem KI.q38 {nx : Nat} {cs cs' : CS} (h : KI nx cs cs') : cs'.2.2.1 38 = cs.2.2.1 38 := h.2.2.2.1
theorem KI.pp {nx : Nat} {cs cs' : CS} (h : KI nx cs cs') : ∀ a, a < nx → cs'.2.2.2 (1000 + a) = cs.2.2.2 (1000 + a) := h.2.2.2.2.1
theorem KI.im {nx : Nat} {cs cs' : CS} (h : KI nx cs cs') : cs'.1 60 4 = cs.1 60 4 := h.2.2.2.2.2.1
theorem KI.f62 {nx : Nat} {cs cs' : CS} (h : KI nx cs cs') : cs'.1 62 = cs.1 62 := h.2.2.2.2.2.2.1
theorem KI.a63 {nx : Nat} {cs cs' : CS} (h : KI nx cs cs') : cs'.2.1 63 = cs.2.1 63 := h.2.2.2.2.2.2.2.1
theorem KI.a64 {nx : Nat} {cs cs' : CS} (h : KI nx cs cs') : cs'.2.1 64 = cs.2.1 64 := h.2.2.2.2.2.2.2.2.1
theorem KI.qs {nx : Nat} {cs cs' : CS} (h : KI nx cs cs') : ∀ j, j < 4 → cs'.2.2.1 (69 + j) = cs.2.2.1 (69 + j) := h.2.2.2.2.2.2.2.2.2
theorem KI.mk {nx : Nat} {cs cs' : CS} (f20 : cs'.1 20 = cs.1 20) (a20 : ∀ j, j < 16 → cs'.2.1 (20 + j) = cs.2.1 (20 + j)) (q37 : cs'.2.2.1 37 = cs.2.2.1 37) (q38 : cs'.2.2.1 38 = cs.2.2.1 38) (pp : ∀ a, a < nx → cs'.2.2.2 (1000 + a) = cs.2.2.2 (1000 + a)) (im : cs'.1 60 4 = cs.1 60 4) (f62 : cs'.1 62 = cs.1 62) (a63 : cs'.2.1 63 = cs.2.1 63) (a64 : cs'.2.1 64 = cs.2.1 64) (qs : ∀ j, j < 4 → cs'.2.2.1 (69 + j) = cs.2.2.1 (69 + j)) : KI nx cs cs' := And.intro f20 (And.intro a20 (And.intro q37 (And.intro q38 (And.intro pp (And.intro im (And.intro f62 (And.intro a63 (And.intro a64 (qs)))))))))
def KM (ms ms' : MSt) : Prop := (ms'.1 3 = ms.1 3) ∧ (ms'.1 20 = ms.1 20) ∧ (ms'.2 2 = ms.2 2) ∧ (ms'.2 4 = ms.2 4) ∧ (ms'.2 10 = ms.2 10) ∧ (ms'.2 11 = ms.2 11) ∧ (ms'.2 12 = ms.2 12) ∧ (ms'.2 13 = ms.2 13)
theorem KM.f3 {ms ms' : MSt} (h : KM ms ms') : ms'.1 3 = ms.1 3 := h.1
theorem KM.f20 {ms ms' : MSt} (h : KM ms ms') : ms'.1 20 = ms.1 20 := h.2.1
theorem KM.a2 {ms ms' : MSt} (h : KM ms ms') : ms'.2 2 = ms.2 2 := h.2.2.1
theorem KM.a4 {ms ms' : MSt} (h : KM ms ms') : ms'.2 4 = ms.2 4 := h.2.2.2.1
theorem KM.a10 {ms ms' : MSt} (h : KM ms ms') : ms'.2 10 = ms.2 10 := h.2.2.2.2.1
theorem KM.a11 {ms ms' : MSt} (h : KM ms ms') : ms'.2 11 = ms.2 11 := h.2.2.2.2.2.1
theorem KM.a12 {ms ms' : MSt} (h : KM ms ms') : ms'.2 12 = ms.2 12 := h.2.2.2.2.2.2.1
theorem KM.a13 {ms ms' : MSt} (h : KM ms ms') : ms'.2 13 = ms.2 13 := h.2.2.2.2.2.2.2
theorem KM.mk {ms ms' : MSt} (f3 : ms'.1 3 = ms.1 3) (f20 : ms'.1 20 = ms.1 20) (a2 : ms'.2 2 = ms.2 2) (a4 : ms'.2 4 = ms.2 4) (a10 : ms'.2 10 = ms.2 10) (a11 : ms'.2 11 = ms.2 11) (a12 : ms'.2 12 = ms.2 12) (a13 : ms'.2 13 = ms.2 13) : KM ms ms' := And.intro f3 (And.intro f20 (And.intro a2 (And.intro a4 (And.intro a10 (And.intro a11 (And.intro a12 (a13)))))))
theorem KI.rfl : KI nx cs cs := KI.mk (Eq.refl _) (fun _ _ => Eq.refl _) (Eq.refl _) (Eq.refl _) (fun _ _ => Eq.refl _) (Eq.refl _) (Eq.refl _) (Eq.refl _) (Eq.refl _) (fun _ _ => Eq.refl _)
theorem KM.rfl : KM ms ms := KM.mk (Eq.refl _) (Eq.refl _) (Eq.refl _) (Eq.refl _) (Eq.refl _) (Eq.refl _) (Eq.refl _) (Eq.refl _)
theorem KI.trans (h : KI nx cs cs') (g : KI nx cs' cs2) : KI nx cs cs2 := KI.mk (g.f20.trans h.f20) (fun j hj => (g.a20 j hj).trans (h.a20 j hj)) (g.q37.trans h.q37) (g.q38.trans h.q38) (fun a ha => (g.pp a ha).trans (h.pp a ha)) (g.im.trans h.im) (g.f62.trans h.f62) (g.a63.trans h.a63) (g.a64.trans h.a64) (fun j hj => (g.qs j hj).trans (h.qs j hj))
theorem KM.trans (h : KM ms ms') (g : KM ms' ms2) : KM ms ms2 := KM.mk (g.f3.trans h.f3) (g.f20.trans h.f20) (g.a2.trans h.a2) (g.a4.trans h.a4) (g.a10.trans h.a10) (g.a11.trans h.a11) (g.a12.trans h.a12) (g.a13.trans h.a13)
theorem frC.KI (h : frC t cs cs') (ht : t = 0 ∨ t = 2) : KI nx cs cs' := by
  have q : ∀ k, 20 ≤ k → (k < 40 ∨ 60 ≤ k) → cs'.1 k = cs.1 k ∧ cs'.2.1 k = cs.2.1 k := fun k h1 h2 => h.1 k (by rcases ht with rfl | rfl <;> omega)
  exact KI.mk (q 20 (by omega) (by omega)).1 (fun j hj => (q (20 + j) (by omega) (by omega)).2) (by rw [h.2.1]) (by rw [h.2.1]) (fun a _ => by rw [h.2.1]) (by rw [(q 60 (by omega) (by omega)).1]) (q 62 (by omega) (by omega)).1 (q 63 (by omega) (by omega)).2 (q 64 (by omega) (by omega)).2 (fun j _ => by rw [h.2.1])
theorem frM.KM (h : frM ms ms') : KM ms ms' := KM.mk (h.2.1 3 (by omega)) (h.2.1 20 (by omega)) (h.1 2 (by omega) (by omega)) (h.1 4 (by omega) (by omega)) (h.1 10 (by omega) (by omega)) (h.1 11 (by omega) (by omega)) (h.1 12 (by omega) (by omega)) (h.1 13 (by omega) (by omega))
theorem KM.sa1 {b : Nat → Int32} {j : Nat} (hj : j = 1 ∨ j = 3 ∨ j = 5 ∨ j = 6 ∨ j = 7 ∨ j = 8 ∨ j = 9) : KM ms (sa ms j b) := by
  refine KM.mk (Eq.refl _) (Eq.refl _) ?_ ?_ ?_ ?_ ?_ ?_ <;> exact sa_ne _ _ (by omega)
theorem KI.arr {b : Nat → Int32} {j : Nat} (hj : j < 20 ∨ (40 ≤ j ∧ j < 63) ∨ 64 < j) : KI nx cs (csA cs j b) := by
  refine KI.mk (Eq.refl _) (fun i hi => ?_) (Eq.refl _) (Eq.refl _) (fun _ _ => Eq.refl _) (Eq.refl _) (Eq.refl _) ?_ ?_ (fun _ _ => Eq.refl _) <;> exact cA_ne _ _ (by omega)
theorem KI.fld {x : Int32} {j i : Nat} (hj : j < 20 ∨ (40 ≤ j ∧ j < 60) ∨ j = 61 ∨ (j = 60 ∧ i ≠ 4)) : KI nx cs (csF cs j i x) := by
  refine KI.mk (cF_nk _ _ (by omega)) (fun i hi => Eq.refl _) (Eq.refl _) (Eq.refl _) (fun _ _ => Eq.refl _) (cF_ne _ _ (by omega)) (cF_nk _ _ (by omega)) (Eq.refl _) (Eq.refl _) (fun _ _ => Eq.refl _)
theorem shOf_keep {P P' : Nat → va_E} {a : Nat} {w b n : Nat} {f : Nat → Int32} (h : shOf cA P a = some (w, b, n, f)) : (∃ ci, 19 ≤ ci ∧ P (1000 + a) = .inr (ci, [.ref b])) ∧ (P' (1000 + a) = P (1000 + a) → P' (1000 + b) = P (1000 + b) → shOf cA P' a = some (w, b, n, f)) := by
  unfold shOf at h
  split at h
  · rename_i ci b' e1
    split at h
    · rename_i x n' f' e2
      have e : b' = b ∧ 19 ≤ ci := by
        split at h
        · rename_i hc; cases h; exact ⟨rfl, by omega⟩
        · split at h
          · rename_i hc; cases h; exact ⟨rfl, by omega⟩
          · split at h
            · rename_i hc; cases h; exact ⟨rfl, by omega⟩
            · cases h
      obtain ⟨rfl, hci⟩ := e
      refine ⟨⟨ci, hci, e1⟩, fun q1 q2 => ?_⟩
      unfold shOf
      rw [q1, e1]
      simp only
      rw [q2, e2]
      exact h
    · cases h
  · cases h
/-- the rest stays -/
theorem INV.next {k' : Nat} (I : INV tr cA k cs ms) (fr : FR nx cs) (hk : k ≤ k') (h : KI nx cs cs') (g : KM ms ms') (ro : cs'.1 0 25 = -1) (mo : ms'.1 12 = -1) (h0 : ∃ F D M, TR 0 tr cs' (ms'.2 1) F D M) : INV tr cA k' cs' ms' := by
  refine INV.mk h0 (by rw [h.im, g.f3]; exact I.im) ?_ (fun hn => ?_) (fun i hi => by rw [h.a64, g.a4]; exact I.er i hi) (by rw [h.f62, g.f20]; exact I.tm) (by rw [g.f20]; exact I.tmk) (fun i hi => by rw [h.a63, g.a10]; exact I.td i hi) ?_ ro mo
  · obtain ⟨j, h1, h2⟩ := I.imk
    exact ⟨j, by rw [g.f3]; exact h1, by omega⟩
  · rw [g.f3] at hn
    obtain ⟨F, D, M, H⟩ := I.r1 hn
    exact ⟨F, D, M, by rw [g.a2]; exact H.keepP (by decide) fr h.f20 h.a20 h.q37 h.q38 h.pp⟩
  · obtain ⟨b, b1, b2⟩ := I.sh
    refine ⟨b, fun i j hi hj h1 h2 => ?_, fun j hj => ?_⟩
    · rw [h.qs i hi] at h1; rw [h.qs j hj] at h2; exact b1 i j hi hj h1 h2
    · unfold shR
      rw [h.qs j hj, g.a11, g.a12, g.a13]
      rcases b2 j hj with h1 | ⟨a, w, n, f, h1, h2, h3⟩
      · exact Or.inl h1
      · obtain ⟨Lv, l1, l2, l3⟩ := fr
        obtain ⟨⟨ci, c1, c2⟩, c3⟩ := shOf_keep (P' := cs'.2.2.2) h2
        have la := l2 _ _ _ (by omega) (by omega) (by omega) h1
        have lb := l3 a ci _ (b j) la c2 (Or.inr c1) (by simp)
        exact Or.inr ⟨a, w, n, f, h1, c3 (h.pp a (l1 a la)) (h.pp _ (l1 _ lb)), h3⟩
/-- town 0 goes on -/
theorem INV.go (I : INV tr cA k cs ms) (fr : FR nx cs) (h : frC 0 cs cs') (g : KM ms ms') (mo : ms'.1 12 = ms.1 12) (h0 : TR 0 tr cs' (ms'.2 1) F D M) : INV tr cA (k + 1) cs' ms' :=
  I.next fr (by omega) (h.KI (Or.inl rfl)) g (by have := h.2.2.1; rw [show 20 * 0 = 0 from rfl] at this; rw [this]; exact I.ro) (mo.trans I.mo) ⟨F, D, M, h0⟩
/-- nothing changes -/
theorem INV.stay (I : INV tr cA k cs ms) (fr : FR nx cs) : INV tr cA (k + 1) cs ms := I.next fr (by omega) KI.rfl KM.rfl I.ro I.mo I.r0
/-- town 0 and the model's row stay -/
theorem INV.rest (I : INV tr cA k cs ms) (fr : FR nx cs) (h : KI nx cs cs') (hf : cs'.1 0 = cs.1 0) (ha : ∀ j, j < 16 → cs'.2.1 j = cs.2.1 j) (h17 : cs'.2.2.1 17 = cs.2.2.1 17) (h18 : cs'.2.2.1 18 = cs.2.2.1 18) (g : KM ms ms') (mo : ms'.1 12 = -1) (h1 : ms'.2 1 = ms.2 1) : INV tr cA (k + 1) cs' ms' := by
  obtain ⟨F, D, M, H⟩ := I.r0
  exact I.next fr (by omega) h g (by rw [hf]; exact I.ro) mo ⟨F, D, M, by rw [h1]; exact H.keepP (by decide) fr hf (fun j hj => by rw [show 20 * 0 + j = j by omega]; exact ha j hj) h17 h18 h.pp⟩
/-- a finding -/
theorem INV.find0 (I : INV tr cA k cs ms) {c : Nat} (hc : c < 6) : ∃ r cs' ms', L_finds (csF cs 61 6 (nI c)) = some (r, cs') ∧ M_finds ms (nI c) = some (r, ms') ∧ INV tr cA (k + 1) cs' ms' := by
  have e : (csF cs 61 6 (nI c)).1 61 6 = nI c := cF_at _ _ _ _
  have ek : cs.2.1 64 c = ms.2 4 c := I.er c hc
  refine ⟨_, csA (csF cs 61 6 (nI c)) 64 (upd (cs.2.1 64) c (ms.2 4 c + 1)), sa ms 4 (upd (ms.2 4) c (ms.2 4 c + 1)), by rw [L_finds, e, cF_a, rdC _ _ _ hc (by decide), bd1_s, ek, wr_nI hc (by decide), bd1_s, cA_f, e], by rw [M_finds, rdC _ _ _ hc (by decide), bd1_s, wr_nI hc (by decide), bd1_s], ?_⟩
  have h0 : ∀ j, j ≠ 64 → (csA (csF cs 61 6 (nI c)) 64 (upd (cs.2.1 64) c (ms.2 4 c + 1))).2.1 j = cs.2.1 j := fun j hj => cA_ne _ _ hj
  have hf : ∀ j, j ≠ 61 → (csA (csF cs 61 6 (nI c)) 64 (upd (cs.2.1 64) c (ms.2 4 c + 1))).1 j = cs.1 j := fun j hj => cF_nk _ _ hj
  obtain ⟨F, D, M, H⟩ := I.r0
  refine INV.mk ⟨F, D, M, ?_⟩ (by rw [hf 60 (by decide)]; exact I.im) ?_ (fun hn => ?_) (fun i hi => ?_) (by rw [hf 62 (by decide)]; exact I.tm) I.tmk (fun i hi => ?_) I.sh (by rw [hf 0 (by decide)]; exact I.ro) I.mo
  · rw [sa_ne _ _ (by decide)]
    exact H.same (hf _ (by decide)) (fun k hk => h0 _ (by omega)) rfl
  · obtain ⟨j, h1, h2⟩ := I.imk
    exact ⟨j, h1, by omega⟩
  · obtain ⟨F, D, M, H⟩ := I.r1 hn
    exact ⟨F, D, M, by rw [sa_ne _ _ (by decide)]; exact H.same (hf _ (by decide)) (fun k hk => h0 _ (by omega)) rfl⟩
  · rw [cA_at, sa_at]
    by_cases h : i = c
    · subst h; rw [pk_us, pk_us]
    · rw [upd_ne h, upd_ne h]; exact I.er i hi
  · rw [h0 63 (by decide), sa_ne _ _ (by decide)]; exact I.td i hi
theorem INV.find (I : INV tr cA k cs ms) (fr : FR nx cs) {c : Nat} (hc : c < 6) : ∃ r cs' ms', L_finds (csF cs 61 6 (nI c)) = some (r, cs') ∧ M_finds ms (nI c) = some (r, ms') ∧ INV tr cA (k + 1) cs' ms' := I.find0 hc
/-- who is a debtor, what a fact -/
theorem TR.isD (H : TR 0 tr cs (ms.2 1) F D M) (x : Int32) : (L_isDebtor cs x = some 0 ∧ M_isDebtor ms x = some 0) ∨ ∃ p, p < D ∧ x = nI p ∧ L_isDebtor cs x = some 1 ∧ M_isDebtor ms x = some 1 := by
  have lD := H.i.lD
  rw [L_isDebtor, M_isDebtor, rdM1, bd1_s, Min_0_v, H.n.h.f6, H.i.hD]
  rcases in_ix x D (by omega) with h | ⟨p, h1, h2, h3⟩
  · exact Or.inl ⟨by rw [h]; rfl, by rw [h]; rfl⟩
  · exact Or.inr ⟨p, h1, h2, by rw [h3]; rfl, by rw [h3]; rfl⟩
theorem TR.isF (H : TR 0 tr cs (ms.2 1) F D M) (x : Int32) : (L_isFact cs x = some 0 ∧ M_isFact ms x = some 0) ∨ ∃ p, p < F ∧ x = nI p ∧ L_isFact cs x = some 1 ∧ M_isFact ms x = some 1 := by
  have lF := H.i.lF
  rw [L_isFact, M_isFact, rdM0, bd1_s, Min_0_v, H.n.h.f0, H.i.hF]
  rcases in_ix x F (by omega) with h | ⟨p, h1, h2, h3⟩
  · exact Or.inl ⟨by rw [h]; rfl, by rw [h]; rfl⟩
  · exact Or.inr ⟨p, h1, h2, by rw [h3]; rfl, by rw [h3]; rfl⟩
end
