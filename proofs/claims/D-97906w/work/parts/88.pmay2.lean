/-! the pure stage: what may be told -/
set_option maxRecDepth 100000
section
variable {t tr F D M p : Nat} {cs : CS} {d : Nat → Int32} {ms : MSt}
def kd (d : Nat → Int32) (p : Nat) : Nat := (d (50 + 21 * p + 0)).toNatClampNeg
theorem TR.kdx (H : TR t tr cs d F D M) (hp : p < D) : d (50 + 21 * p + 0) = nI (kd d p) ∧ kd d p < 7 ∧ ∃ a, cs.2.2.1 (20 * t + 17) p = some a ∧ dvOf (cs.2.2.2 (1000 + a)) = some (kd d p, tr, nI p, d (50 + 21 * p + 1)) := by
  obtain ⟨a, k, h1, h2, h3⟩ := H.q.deb p hp
  have hk := (dvOf_some h2).1
  have e : kd d p = k := by unfold kd; rw [h3]; exact nI_clamp (by omega)
  rw [e]
  exact ⟨h3, hk, a, h1, h2⟩
theorem D_may_s (k : Nat) (dn dm a0 a1 a2 a3 : Int32) : ∃ v, D_may k dn dm a0 a1 a2 a3 = some v ∧ (v = 0 ∨ v = 1) := by
  have h0 : ∃ v, B0_may dn dm a0 a1 a2 a3 = some v ∧ (v = 0 ∨ v = 1) := by unfold B0_may; (repeat' split) <;> exact ⟨_, rfl, by decide⟩
  have h2 : ∃ v, B2_may dn dm a0 a1 a2 a3 = some v ∧ (v = 0 ∨ v = 1) := by unfold B2_may; (repeat' split) <;> exact ⟨_, rfl, by decide⟩
  have h3 : ∃ v, B3_may dn dm a0 a1 a2 a3 = some v ∧ (v = 0 ∨ v = 1) := by unfold B3_may; (repeat' split) <;> exact ⟨_, rfl, by decide⟩
  have h1 : ∃ v, B1_may dn dm a0 a1 a2 a3 = some v ∧ (v = 0 ∨ v = 1) := by
    obtain ⟨v, hv, -⟩ := h0
    unfold B1_may; rw [hv, bd1_s]; (repeat' split) <;> exact ⟨_, rfl, by decide⟩
  have h5 : ∃ v, B5_may dn dm a0 a1 a2 a3 = some v ∧ (v = 0 ∨ v = 1) := by
    obtain ⟨v, hv, -⟩ := h2
    unfold B5_may; rw [hv, bd1_s]; (repeat' split) <;> exact ⟨_, rfl, by decide⟩
  have h6 : ∃ v, B6_may dn dm a0 a1 a2 a3 = some v ∧ (v = 0 ∨ v = 1) := by
    obtain ⟨v, hv, -⟩ := h3
    unfold B6_may; rw [hv, bd1_s]; (repeat' split) <;> exact ⟨_, rfl, by decide⟩
  unfold D_may
  split <;> assumption
def myR (d : Nat → Int32) (D p f : Nat) (g : Int32) : Int32 := (D_may (kd d p) (nI p) (d (50 + 21 * p + 1)) (nI f) (oc (d (10 + 5 * f + 0) &&& (bkS d p ^^^ (-1)))) g (els d D p f)).getD 0
/-- whether it may be told: 0 or 1 -/
def my (d : Nat → Int32) (D p f : Nat) : Int32 := if bt (bkS d p) f then 0 else myR d D p f (if d (10 + 5 * f + 1) &&& bkS d p = 0 then 1 else 0)
theorem my_01 (d : Nat → Int32) (D p f : Nat) : my d D p f = 0 ∨ my d D p f = 1 := by
  unfold my
  split
  · exact Or.inl rfl
  · unfold myR
    obtain ⟨v, hv, h⟩ := D_may_s (kd d p) (nI p) (d (50 + 21 * p + 1)) (nI f) (oc (d (10 + 5 * f + 0) &&& (bkS d p ^^^ (-1)))) (if d (10 + 5 * f + 1) &&& bkS d p = 0 then 1 else 0) (els d D p f)
    rw [hv]; exact h
theorem TR.mayT (H : TR t tr cs d F D M) (hp : p < D) {f : Nat} (hf : f < 8) : T_may t NN cs (nI p) (nI f) = some (my d D p f) := by
  have lD := H.i.lD
  obtain ⟨k1, k2, a, k3, k4⟩ := H.kdx hp
  have hel : T_isElsewhere t NN cs (nI p) (nI f) = some (els d D p f) := by
    rw [T_isElsewhere, H.elsT (by omega) (by omega), bd1_s]
    rcases els_is d p f D with ⟨h, -⟩ | ⟨h, -⟩ <;> rw [h] <;> rfl
  have hq : rdq (cs.2.2.1 (20 * t + 17)) 4 (nI p) = some (some a) := by
    unfold rdq
    rw [if_neg (nI_in (by omega) (by decide)), nI_clamp (by omega), k3]
  rw [T_may, H.toldT (by omega), bd1_s, rdC _ _ _ hf (by decide), bd1_s, (H.n.fa f hf).need, oc_J, bd1_s, isIn_bt (by omega), bd1_s]
  unfold my
  cases hb : bt (bkS d p) f
  · rw [if_pos (by decide), hq, bd1_s, onq_s, rdC _ _ _ hf (by decide), bd1_s, (H.n.fa f hf).cl, hel, bd1_s, bd1_s, k4, bd4_s, bd4_s, if_neg (c := false = true) (by decide)]
    by_cases hc : d (10 + 5 * f + 1) &&& bkS d p = 0
    · rw [if_pos hc, if_pos hc]
      unfold myR
      obtain ⟨v, hv, h⟩ := D_may_s (kd d p) (nI p) (d (50 + 21 * p + 1)) (nI f) (oc (d (10 + 5 * f + 0) &&& (bkS d p ^^^ (-1)))) 1 (els d D p f)
      rw [hv, bd1_s]
      rcases h with rfl | rfl <;> rfl
    · rw [if_neg hc, if_neg hc]
      unfold myR
      obtain ⟨v, hv, h⟩ := D_may_s (kd d p) (nI p) (d (50 + 21 * p + 1)) (nI f) (oc (d (10 + 5 * f + 0) &&& (bkS d p ^^^ (-1)))) 0 (els d D p f)
      rw [hv, bd1_s]
      rcases h with rfl | rfl <;> rfl
  · rw [if_neg (by decide), if_pos rfl]
theorem TR.mayM (H : TR t tr cs d F D M) (hd : ms.2 1 = d) (hp : p < D) {f : Nat} (hf : f < 8) : M_mayTell NN ms (nI p) (nI f) = some (my d D p f) := by
  have lD := H.i.lD
  obtain ⟨k1, k2, -⟩ := H.kdx hp
  obtain ⟨nn, hn1, hn2⟩ := (H.i.fa f hf).need
  have ho : M_ones NN (d (10 + 5 * f + 0) &&& (bkS d p ^^^ (-1))) = some (oc (d (10 + 5 * f + 0) &&& (bkS d p ^^^ (-1)))) := by
    rw [hn1]
    obtain ⟨j, hj, e⟩ := and_small hn2 (bkS d p ^^^ (-1))
    rw [e]; exact oc_M j hj
  rw [M_mayTell, H.toldM hd (by omega), bd1_s]
  unfold my
  cases hb : bt (bkS d p) f
  · rw [if_neg (fun h => by rw [(bit_is1 (by omega)).mp h] at hb; cases hb), its0 hf, hd, bd1_s, ho, bd1_s, its1 hf, hd, bd1_s, of1 (by omega), of0 (by omega), hd, bd1_s, bd1_s, bd1_s, bd1_s, k1, if_neg (c := false = true) (by decide), H.bwM hd (show f < 32 by omega)]
    have hE : (els d D p f = 0 ∧ nI (bwC d f D) ≤ 0) ∨ (els d D p f = 1 ∧ ¬ nI (bwC d f D) ≤ 0) := by
      have hle : bwC d f D ≤ D := fb_ct_le _ D
      rw [nI_zero_le (by omega)]
      rcases els_is d p f D with ⟨h1, h2⟩ | ⟨h1, e, h2, h3, h4⟩
      · refine Or.inl ⟨h1, fb_ct_zero.mpr (fun k hk => ?_)⟩
        by_cases e : k = p
        · rw [e]; exact hb
        · exact h2 k hk e
      · refine Or.inr ⟨h1, fun h5 => ?_⟩
        have := fb_ct_zero.mp h5 e h2
        rw [h4] at this; cases this
    unfold myR
    generalize oc (d (10 + 5 * f + 0) &&& (bkS d p ^^^ (-1))) = lk
    generalize d (50 + 21 * p + 1) = m
    generalize els d D p f = el at hE ⊢
    generalize bwC d f D = bw at hE ⊢
    generalize kd d p = k at k2 ⊢
    by_cases hc : d (10 + 5 * f + 1) &&& bkS d p = 0
    · rw [if_pos hc, if_pos hc]
      match k, k2 with
      | 0, _ =>
        rw [if_neg (by decide), if_neg (by decide), if_neg (by decide), if_neg (by decide), if_neg (by decide), if_neg (by decide)]
        show _ = some ((B0_may (nI p) m (nI f) lk 1 el).getD 0)
        by_cases hl : lk = 0 <;> simp [B0_may, hl]
      | 1, _ =>
        rw [if_pos (by decide)]
        show _ = some ((B1_may (nI p) m (nI f) lk 1 el).getD 0)
        rcases hE with ⟨h1, h2⟩ | ⟨h1, h2⟩ <;> by_cases hl : lk = 0 <;> simp [B1_may, B0_may, hl, h1, h2, bd1_s]
      | 2, _ =>
        rw [if_neg (by decide), if_pos (by decide)]
        show _ = some ((B2_may (nI p) m (nI f) lk 1 el).getD 0)
        by_cases hl : m - m / 3 * 3 < lk <;> simp [B2_may, hl]
      | 3, _ =>
        rw [if_neg (by decide), if_neg (by decide), if_pos (by decide)]
        show _ = some ((B3_may (nI p) m (nI f) lk 1 el).getD 0)
        by_cases hl : lk = 0 <;> simp [B3_may, hl]
      | 4, _ =>
        rw [if_neg (by decide), if_neg (by decide), if_neg (by decide), if_pos (by decide)]
        show _ = some ((B1_may (nI p) m (nI f) lk 1 el).getD 0)
        rcases hE with ⟨h1, h2⟩ | ⟨h1, h2⟩ <;> by_cases hl : lk = 0 <;> simp [B1_may, B0_may, hl, h1, h2, bd1_s]
      | 5, _ =>
        rw [if_neg (by decide), if_neg (by decide), if_neg (by decide), if_neg (by decide), if_pos (by decide)]
        show _ = some ((B5_may (nI p) m (nI f) lk 1 el).getD 0)
        by_cases hl : m - m / 3 * 3 < lk <;> by_cases hm : nI f = m <;> simp [B5_may, B2_may, hl, hm, bd1_s]
      | 6, _ =>
        rw [if_neg (by decide), if_neg (by decide), if_neg (by decide), if_neg (by decide), if_neg (by decide), if_pos (by decide)]
        show _ = some ((B6_may (nI p) m (nI f) lk 1 el).getD 0)
        by_cases hl : lk = 0 <;> simp [B6_may, B3_may, hl, bd1_s]
    · rw [if_neg hc, if_neg hc]
      match k, k2 with
      | 0, _ =>
        rw [if_neg (by decide), if_neg (by decide), if_neg (by decide), if_neg (by decide), if_neg (by decide), if_neg (by decide)]
        show _ = some ((B0_may (nI p) m (nI f) lk 0 el).getD 0)
        by_cases hl : lk = 0 <;> simp [B0_may, hl]
      | 1, _ =>
        rw [if_pos (by decide)]
        show _ = some ((B1_may (nI p) m (nI f) lk 0 el).getD 0)
        rcases hE with ⟨h1, h2⟩ | ⟨h1, h2⟩ <;> by_cases hl : lk = 0 <;> simp [B1_may, B0_may, hl, h1, h2, bd1_s]
      | 2, _ =>
        rw [if_neg (by decide), if_pos (by decide)]
        show _ = some ((B2_may (nI p) m (nI f) lk 0 el).getD 0)
        by_cases hl : m - m / 3 * 3 < lk <;> simp [B2_may, hl]
      | 3, _ =>
        rw [if_neg (by decide), if_neg (by decide), if_pos (by decide)]
        show _ = some ((B3_may (nI p) m (nI f) lk 0 el).getD 0)
        by_cases hl : lk = 0 <;> simp [B3_may, hl]
      | 4, _ =>
        rw [if_neg (by decide), if_neg (by decide), if_neg (by decide), if_pos (by decide)]
        show _ = some ((B1_may (nI p) m (nI f) lk 0 el).getD 0)
        rcases hE with ⟨h1, h2⟩ | ⟨h1, h2⟩ <;> by_cases hl : lk = 0 <;> simp [B1_may, B0_may, hl, h1, h2, bd1_s]
      | 5, _ =>
        rw [if_neg (by decide), if_neg (by decide), if_neg (by decide), if_neg (by decide), if_pos (by decide)]
        show _ = some ((B5_may (nI p) m (nI f) lk 0 el).getD 0)
        by_cases hl : m - m / 3 * 3 < lk <;> by_cases hm : nI f = m <;> simp [B5_may, B2_may, hl, hm, bd1_s]
      | 6, _ =>
        rw [if_neg (by decide), if_neg (by decide), if_neg (by decide), if_neg (by decide), if_neg (by decide), if_pos (by decide)]
        show _ = some ((B6_may (nI p) m (nI f) lk 0 el).getD 0)
        by_cases hl : lk = 0 <;> by_cases hm : m - m / 2 * 2 = 1 <;> simp [B6_may, B3_may, hl, hm, bd1_s]
  · rw [if_pos ((bit_is1 (by omega)).mpr hb), if_pos rfl]
/-- all that may be told -/
def mA (d : Nat → Int32) (D p F : Nat) : Int32 := nfo (fun f s => if my d D p f = 0 then s ||| 0 else s ||| (1 <<< (nI f &&& 31))) 0 F 0
theorem TR.mayAT (H : TR t tr cs d F D M) (hp : p < D) : T_mayAll t NN cs (nI p) = some (mA d D p F) := by
  have lF := H.i.lF
  have e0 : cs.1 (20 * t) 0 = nI F := H.n.h.f0.trans H.i.hF
  rw [T_mayAll, bd1_p]
  refine loopF (T_mayAll_L4 NN t cs (nI p)) F (fun f s => if my d D p f = 0 then s ||| 0 else s ||| (1 <<< (nI f &&& 31))) id (fun n a => ?_) (fun n a j hj => ?_) F 0 0 NN (by omega) (NN_lt (by omega))
  · rw [T_mayAll_L4, e0, if_pos (nI_le (Nat.le_refl _) (by omega))]; rfl
  · rw [T_mayAll_L4, e0, if_neg (nI_ge hj (by omega)), H.mayT hp (by omega), bd1_s, nI_1]
    split <;> rfl
theorem TR.mayAM (H : TR t tr cs d F D M) (hd : ms.2 1 = d) (hp : p < D) : M_allMay NN ms (nI p) = some (mA d D p F) := by
  have lF := H.i.lF
  have e0 : ms.2 1 0 = nI F := by rw [hd]; exact H.i.hF
  rw [M_allMay, bd1_p]
  refine loopF (M_allMay_L4 NN ms (nI p)) F (fun f s => if my d D p f = 0 then s ||| 0 else s ||| (1 <<< (nI f &&& 31))) id (fun n a => ?_) (fun n a j hj => ?_) F 0 0 NN (by omega) (NN_lt (by omega))
  · rw [M_allMay_L4, rdM0, bd1_s, e0, if_pos (nI_le (Nat.le_refl _) (by omega))]; rfl
  · rw [M_allMay_L4, rdM0, bd1_s, e0, if_neg (nI_ge hj (by omega)), H.mayM hd hp (by omega), bd1_s, nI_1]
    split <;> rfl
theorem mA_s (d : Nat → Int32) (D p k : Nat) : mA d D p (k + 1) = if my d D p k = 0 then mA d D p k ||| 0 else mA d D p k ||| (1 <<< (nI k &&& 31)) := by
  rw [mA, nfo_succ, Nat.zero_add]; rfl
theorem mA_bt (d : Nat → Int32) (D p : Nat) : ∀ k, k ≤ 8 → ∀ f, f < 32 → (bt (mA d D p k) f = true ↔ f < k ∧ my d D p f = 1) := by
  intro k
  induction k with
  | zero =>
    intro _ f hf
    refine ⟨fun h => ?_, fun h => by omega⟩
    have h : bt 0 f = true := h
    rw [b_0] at h; cases h
  | succ k ih =>
    intro hk f hf
    rw [mA_s]
    split
    · rename_i h0
      rw [b_or, b_0, Bool.or_false, ih (by omega) f hf]
      constructor
      · rintro ⟨h1, h2⟩; exact ⟨by omega, h2⟩
      · rintro ⟨h1, h2⟩
        refine ⟨?_, h2⟩
        rcases Nat.lt_or_ge f k with h | h
        · exact h
        · rw [show f = k by omega, h0] at h2; exact absurd h2 (by decide)
    · rename_i h0
      rw [b_or, Bool.or_eq_true, ih (by omega) f hf, bit_one (by omega) hf, decide_eq_true_iff]
      constructor
      · rintro (⟨h1, h2⟩ | h)
        · exact ⟨by omega, h2⟩
        · subst h; exact ⟨by omega, (my_01 d D p f).resolve_left h0⟩
      · rintro ⟨h1, h2⟩
        rcases Nat.lt_or_ge f k with h | h
        · exact Or.inl ⟨h, h2⟩
        · exact Or.inr (by omega)
theorem mA_small {d : Nat → Int32} {D p k : Nat} (hk : k ≤ 8) : ∃ n, n < 256 ∧ mA d D p k = nI n := by
  have h : mA d D p k = mA d D p k &&& 255 := by
    refine b_ext (fun i hi => ?_)
    rw [b_and, b_255]
    cases h : bt (mA d D p k) i
    · rfl
    · have := ((mA_bt d D p k hk i hi).mp h).1
      rw [decide_eq_true (by omega)]; rfl
  rw [h]
  obtain ⟨j, hj, h2⟩ := pk_andE (mA d D p k) (m := 255) 8 rfl
  exact ⟨j, hj, h2⟩
theorem ntz_8 : ∀ n, n < 256 → n ≠ 0 → ∃ j, j < 8 ∧ J_ntz (nI n) = some (nI j) ∧ bt (nI n) j = true ∧ ∀ i, i < j → bt (nI n) i = false := by decide +kernel
/-- the first that may be told -/
theorem TR.first (H : TR t tr cs d F D M) (hd : ms.2 1 = d) (hp : p < D) (x2 x3 : Int32) : (mA d D p F = 0 ∧ M_serves_L34 NN ms (nI p) x2 x3 NN 0 = some (nI F)) ∨ (mA d D p F ≠ 0 ∧ ∃ f, f < F ∧ my d D p f = 1 ∧ J_ntz (mA d D p F) = some (nI f) ∧ M_serves_L34 NN ms (nI p) x2 x3 NN 0 = some (nI f)) := by
  have lF := H.i.lF
  have e0 : ms.2 1 0 = nI F := by rw [hd]; exact H.i.hF
  have hs : ∀ g, g ≤ F → (∀ i, i < g → my d D p i = 0) → (g = F ∨ my d D p g = 1) → M_serves_L34 NN ms (nI p) x2 x3 NN 0 = some (nI g) := by
    intro g hg h1 h2
    suffices hh : ∃ r, M_serves_L34 NN ms (nI p) x2 x3 NN (nI 0) = some r ∧ r = nI g by
      obtain ⟨r, h3, h4⟩ := hh
      rw [← h4]; exact h3
    refine loopP (fun n (_ : Unit) x => M_serves_L34 NN ms (nI p) x2 x3 n x) g (fun _ _ => True) (fun r => r = nI g) (fun n _ _ => ?_) (fun n _ j hj _ => Or.inr ⟨(), ?_, trivial⟩) g 0 () NN (by omega) (NN_lt (by omega)) trivial
    · show ∃ r, M_serves_L34 NN ms (nI p) x2 x3 (n + 1) (nI g) = some r ∧ r = nI g
      rw [M_serves_L34, rdM0, bd1_s, e0]
      rcases h2 with rfl | h2
      · exact ⟨_, if_pos (nI_le (Nat.le_refl _) (by omega)), rfl⟩
      · rcases Nat.lt_or_ge g F with h5 | h5
        · rw [if_neg (nI_ge h5 (by omega)), H.mayM hd hp (by omega), bd1_s, h2, if_neg (by decide)]
          exact ⟨_, rfl, rfl⟩
        · rw [show g = F by omega]
          exact ⟨_, if_pos (nI_le (Nat.le_refl _) (by omega)), rfl⟩
    · show M_serves_L34 NN ms (nI p) x2 x3 (n + 1) (nI j) = M_serves_L34 NN ms (nI p) x2 x3 n (nI (j + 1))
      rw [M_serves_L34, rdM0, bd1_s, e0, if_neg (nI_ge (by omega) (by omega)), H.mayM hd hp (by omega), bd1_s, h1 j hj, if_pos rfl, nI_1]
  obtain ⟨n, hn, e⟩ := mA_small (d := d) (D := D) (p := p) lF
  by_cases h0 : n = 0
  · subst h0
    refine Or.inl ⟨e, hs F (Nat.le_refl _) (fun i hi => ?_) (Or.inl rfl)⟩
    rcases my_01 d D p i with h | h
    · exact h
    · have := (mA_bt d D p F lF i (by omega)).mpr ⟨hi, h⟩
      rw [e, show nI 0 = 0 from rfl, b_0] at this; cases this
  · obtain ⟨j, h1, h2, h3, h4⟩ := ntz_8 n hn h0
    rw [← e] at h3
    have h5 := (mA_bt d D p F lF j (by omega)).mp h3
    refine Or.inr ⟨by rw [e]; exact nI_ne0 (by omega) (by omega), j, h5.1, h5.2, by rw [e]; exact h2, hs j (by omega) (fun i hi => ?_) (Or.inr h5.2)⟩
    rcases my_01 d D p i with h | h
    · exact h
    · have := (mA_bt d D p F lF i (by omega)).mpr ⟨by omega, h⟩
      rw [e, h4 i hi] at this; cases this
/-- what may be told isn't in the book; there is room -/
theorem TR.room (H : TR t tr cs d F D M) (hp : p < D) {f : Nat} (hf : f < F) (hm : my d D p f = 1) : mn d p < F ∧ ∀ i, i < mn d p → bf d p i ≠ f := by
  have lD := H.i.lD
  have lF := H.i.lF
  have hb : bt (bkS d p) f = false := by
    cases h : bt (bkS d p) f
    · rfl
    · unfold my at hm
      rw [h, if_pos rfl] at hm; exact absurd hm (by decide)
  have hn : ∀ i, i < mn d p → bf d p i ≠ f := fun i hi e => by
    have := (H.toldB (by omega) (by omega)).mpr ⟨i, hi, e⟩
    rw [hb] at this; cases this
  refine ⟨?_, hn⟩
  have I := H.i.de p (by omega)
  have := fb_holes F (mn d p + 1) (fun i => if i = mn d p then f else bf d p i) (fun i hi => by
    by_cases e : i = mn d p
    · simp only [e, if_true]; exact hf
    · simp only [e, if_false]; exact (I.bk i (by omega)).2) (fun i j hij hj => by
    by_cases e : j = mn d p
    · simp only [e, if_true, show i ≠ mn d p by omega, if_false]; exact hn i (by omega)
    · simp only [e, if_false, show i ≠ mn d p by omega]
      intro h
      have := I.inj i j (by omega) (by omega) h
      omega)
  omega
end
