/-! the pure stage: texts are asked; a fact is told -/
set_option maxRecDepth 100000
theorem rep_ext {P : Nat → va_E} {u : Nat} : ∀ (e a : Nat) (v : (Nat → Int32) → Int32), rep P u e a v → ∀ m m' : Nat → Int32, (∀ k, k < 3 → m k = m' k) → v m = v m' := by
  intro e
  induction e with
  | zero => intro a v h; exact h.elim
  | succ e ih =>
    intro a v h m m' hm
    rcases h with ⟨x, -, rfl⟩ | ⟨k, hk, -, rfl⟩ | ⟨b, w, -, h2, rfl⟩ | ⟨s, b, c, w1, w2, -, -, h2, h3, rfl⟩
    · rfl
    · exact hm k hk
    · show (if w m = 0 then (1 : Int32) else 0) = if w m' = 0 then 1 else 0
      rw [ih b w h2 m m' hm]
    · show twoV s (w1 m) (w2 m) = twoV s (w1 m') (w2 m')
      rw [ih b w1 h2 m m' hm, ih c w2 h3 m m' hm]
theorem held_eq (x lo hi : Int32) (h : lo ≤ hi) : L_held x lo hi = M_held x lo hi := by
  unfold L_held M_held J_min J_max
  rw [fa_le] at h
  by_cases h1 : x < hi
  · rw [if_pos h1, bd1_s]
    by_cases h2 : lo < x
    · rw [if_pos h2, if_pos (by rw [fa_le]; rw [fa_lt] at h2; omega), if_pos (by rw [fa_le]; rw [fa_lt] at h1; omega)]; rfl
    · rw [if_neg h2]
      by_cases h3 : lo ≤ x
      · have : lo = x := by rw [fa_eq]; rw [fa_le] at h3; rw [fa_lt] at h2; omega
        rw [if_pos h3, if_pos (by rw [fa_le]; rw [fa_lt] at h1; omega), this]; rfl
      · rw [if_neg h3]; rfl
  · rw [if_neg h1, bd1_s]
    have h4 : lo ≤ x := by rw [fa_le]; rw [fa_lt] at h1; omega
    rw [if_pos h4]
    by_cases h5 : x ≤ hi
    · have e : x = hi := by rw [fa_eq]; rw [fa_le] at h5; rw [fa_lt] at h1; omega
      subst e
      rw [if_pos h5]
      by_cases h2 : lo < x
      · rw [if_pos h2]; rfl
      · rw [if_neg h2]
        have : lo = x := by rw [fa_eq]; rw [fa_le] at h4; rw [fa_lt] at h2; omega
        rw [this]; rfl
    · rw [if_neg h5]
      by_cases h2 : lo < hi
      · rw [if_pos h2]; rfl
      · rw [if_neg h2]
        have : lo = hi := by rw [fa_eq]; rw [fa_lt] at h2; omega
        rw [this]; rfl
theorem M_held_s (x lo hi : Int32) : ∃ v, M_held x lo hi = some v := by unfold M_held; (repeat' split) <;> exact ⟨_, rfl⟩
theorem held_999 {x v : Int32} (h : M_held x 0 999 = some v) : ∃ n, n ≤ 999 ∧ v = nI n := by
  unfold M_held at h
  split at h
  · rename_i h1
    split at h
    · rename_i h2
      cases h
      obtain ⟨j, hj, e⟩ := nI_of2 (x := x) (M := 999) (n := 999) rfl (fun h => by rw [fa_le] at h1; rw [fa_lt] at h; omega) h2
      exact ⟨j, hj, e⟩
    · cases h; exact ⟨999, by omega, rfl⟩
  · cases h; exact ⟨0, by omega, rfl⟩
/-- what an act on a town may change -/
def frC (t : Nat) (cs cs' : CS) : Prop := (∀ k, (k < 20 * t ∨ 20 * t + 20 ≤ k) → cs'.1 k = cs.1 k ∧ cs'.2.1 k = cs.2.1 k) ∧ cs'.2.2 = cs.2.2 ∧ cs'.1 (20 * t) 25 = cs.1 (20 * t) 25 ∧ cs'.1 (20 * t) 26 = cs.1 (20 * t) 26
def frM (ms ms' : MSt) : Prop := (∀ k, k ≠ 1 → k ≠ 5 → ms'.2 k = ms.2 k) ∧ (∀ j, (j < 5 ∨ 10 < j) → ms'.1 j = ms.1 j) ∧ ∀ i, 170 ≤ i → ms'.2 1 i = ms.2 1 i
theorem frC.rfl {t : Nat} {cs : CS} : frC t cs cs := ⟨fun _ _ => ⟨Eq.refl _, Eq.refl _⟩, Eq.refl _, Eq.refl _, Eq.refl _⟩
theorem frM.rfl {ms : MSt} : frM ms ms := ⟨fun _ _ _ => Eq.refl _, fun _ _ => Eq.refl _, fun _ _ => Eq.refl _⟩
theorem frC.trans {t : Nat} {a b c : CS} (h : frC t a b) (h2 : frC t b c) : frC t a c := ⟨fun k hk => ⟨(h2.1 k hk).1.trans (h.1 k hk).1, (h2.1 k hk).2.trans (h.1 k hk).2⟩, h2.2.1.trans h.2.1, h2.2.2.1.trans h.2.2.1, h2.2.2.2.trans h.2.2.2⟩
theorem frM.trans {a b c : MSt} (h : frM a b) (h2 : frM b c) : frM a c := ⟨fun k h1 h3 => (h2.1 k h1 h3).trans (h.1 k h1 h3), fun j hj => (h2.2.1 j hj).trans (h.2.1 j hj), fun i hi => (h2.2.2 i hi).trans (h.2.2 i hi)⟩
theorem frC.arr {t k : Nat} {cs : CS} {b : Nat → Int32} (h : 20 * t ≤ k) (h2 : k < 20 * t + 20) : frC t cs (csA cs k b) := ⟨fun j hj => ⟨Eq.refl _, cA_ne _ _ (by omega)⟩, Eq.refl _, Eq.refl _, Eq.refl _⟩
theorem frC.fld {t j : Nat} {cs : CS} {x : Int32} (h : j ≠ 25) (h2 : j ≠ 26) : frC t cs (csF cs (20 * t) j x) := ⟨fun k hk => ⟨cF_nk _ _ (by omega), Eq.refl _⟩, Eq.refl _, cF_ne _ _ (by omega), cF_ne _ _ (by omega)⟩
theorem frM.arr {ms : MSt} {b : Nat → Int32} (h : ∀ i, 170 ≤ i → b i = ms.2 1 i) : frM ms (sa ms 1 b) := ⟨fun k h1 _ => sa_ne _ _ h1, fun _ _ => Eq.refl _, fun i hi => by rw [sa_at]; exact h i hi⟩
theorem frM.upd {ms : MSt} {k : Nat} {x : Int32} (h : k < 170) : frM ms (sa ms 1 (upd (ms.2 1) k x)) := frM.arr (fun i hi => upd_ne (by omega))
section
variable {t tr F D M p : Nat} {cs : CS} {d : Nat → Int32} {ms : MSt}
theorem TR.same {cs' : CS} (H : TR t tr cs d F D M) (hf : cs'.1 (20 * t) = cs.1 (20 * t)) (ha : ∀ k, k < 16 → cs'.2.1 (20 * t + k) = cs.2.1 (20 * t + k)) (hq : cs'.2.2 = cs.2.2) : TR t tr cs' d F D M :=
  TR.head H (TH.congr hf (fun _ _ => rfl) H.n.h) ha hq (fun _ _ _ _ _ => rfl) H.i.tp H.i.wt
theorem with_at (t : Nat) (cs : CS) (k : Nat) (x : Int32) (hk : k < 128) : T_with t cs (nI k) x = some (csA cs (20 * t + 16) (upd (cs.2.1 (20 * t + 16)) k x)) := by
  rw [T_with, wr_nI hk (by decide)]; rfl
theorem with_3 (t : Nat) (cs : CS) (a b c : Nat) (x y z : Int32) (ha : a < 128) (hb : b < 128) (hc : c < 128) : T_with t cs (nI a) x = some (csA cs (20 * t + 16) (upd (cs.2.1 (20 * t + 16)) a x)) ∧ T_with t (csA cs (20 * t + 16) (upd (cs.2.1 (20 * t + 16)) a x)) (nI b) y = some (csA cs (20 * t + 16) (upd (upd (cs.2.1 (20 * t + 16)) a x) b y)) ∧ T_with t (csA cs (20 * t + 16) (upd (upd (cs.2.1 (20 * t + 16)) a x) b y)) (nI c) z = some (csA cs (20 * t + 16) (upd (upd (upd (cs.2.1 (20 * t + 16)) a x) b y) c z)) := by
  have e : ∀ (u v : Nat → Int32), csA (csA cs (20 * t + 16) u) (20 * t + 16) v = csA cs (20 * t + 16) v := fun u v => by unfold csA; rw [bx_uu]
  refine ⟨with_at _ _ _ _ ha, ?_, ?_⟩
  · rw [with_at _ _ _ _ hb, cA_at, e]
  · rw [with_at _ _ _ _ hc, cA_at, e]
def nm3 (ms : MSt) (x y z : Int32) : MSt := sa ms 5 (upd (upd (upd (ms.2 5) 0 x) 1 y) 2 z)
theorem nm3_w (ms : MSt) (x y z : Int32) : wr (ms.2 5) 3 0 x = some (upd (ms.2 5) 0 x) ∧ wr ((sa ms 5 (upd (ms.2 5) 0 x)).2 5) 3 1 y = some (upd (upd (ms.2 5) 0 x) 1 y) ∧ wr ((sa (sa ms 5 (upd (ms.2 5) 0 x)) 5 (upd (upd (ms.2 5) 0 x) 1 y)).2 5) 3 2 z = some (upd (upd (upd (ms.2 5) 0 x) 1 y) 2 z) := by
  refine ⟨wr_nI (k := 0) (by decide) (by decide), ?_, ?_⟩
  · rw [sa_at]; exact wr_nI (k := 1) (by decide) (by decide)
  · rw [sa_at]; exact wr_nI (k := 2) (by decide) (by decide)
theorem wk_fr (ms : MSt) (x y z : Int32) (b n u : Nat) : (wk (nm3 ms x y z) b n u).2 1 = ms.2 1 ∧ frM ms (wk (nm3 ms x y z) b n u) := by
  have e : ∀ k, k ≠ 5 → (wk (nm3 ms x y z) b n u).2 k = ms.2 k := fun k hk => sa_ne _ _ hk
  refine ⟨e 1 (by decide), fun k _ h5 => e k h5, fun j hj => ?_, fun i _ => by rw [e 1 (by decide)]⟩
  unfold wk
  rw [sf_ne _ _ (by omega), sf_ne _ _ (by omega), sf_ne _ _ (by omega), sf_ne _ _ (by omega), sf_ne _ _ (by omega), sf_ne _ _ (by omega)]
  rfl
theorem TR.pay (H : TR t tr cs d F D M) (hd : ms.2 1 = d) (x y z : Int32) : ∃ v cs' ms', T_payBy t cs x y z = some (v, cs') ∧ M_textGives NN ms 0 x y z = some (v, ms') ∧ (∃ n, n ≤ 999 ∧ v = nI n) ∧ TR t tr cs' d F D M ∧ ms'.2 1 = d ∧ frC t cs cs' ∧ frM ms ms' ∧ (∀ k, k < 16 → cs'.2.1 (20 * t + k) = cs.2.1 (20 * t + k)) ∧ cs'.1 = cs.1 := by
  have hr : ∀ v, rd (ms.2 1) 342 (170 + 0) = some v ↔ d 170 = v := fun v => by
    rw [show (170 : Int32) + 0 = nI 170 from rfl, rdM 170 (by decide), hd]; exact ⟨fun h => Option.some.inj h, fun h => by rw [h]⟩
  have hq : rdq (cs.2.2.1 (20 * t + 18)) 2 0 = some (cs.2.2.1 (20 * t + 18) 0) := rfl
  rw [T_payBy, hq, bd1_s, M_textGives, if_pos rfl]
  rcases H.q.tx 0 (by decide) with ⟨h1, h2⟩ | ⟨a, v, n, h1, h2, h3, h4, h5, h6⟩
  · rw [h1, onq_n, (hr 0).mpr h2, bd1_s, if_pos (by decide), if_pos rfl]
    exact ⟨10, cs, ms, rfl, rfl, ⟨10, by decide, rfl⟩, H, hd, frC.rfl, frM.rfl, fun _ _ => rfl, rfl⟩
  · obtain ⟨w1, w2, w3⟩ := with_3 t cs 102 119 100 x y z (by decide) (by decide) (by decide)
    obtain ⟨n1, n2, n3⟩ := nm3_w ms x y z
    have hv := rep_tmV (upd (upd (upd (cs.2.1 (20 * t + 16)) 102 x) 119 y) 100 z) 60 a v h2
    have hm : M_worked NN (nm3 ms x y z) (192 + 50 * 0) (nI n) 0 = some (v ((nm3 ms x y z).2 5), wk (nm3 ms x y z) 192 n 0) := h6 (nm3 ms x y z) 192 (by omega) (fun i hi => by
      show (sa ms 5 _).2 1 (192 + i) = _
      rw [sa_ne _ _ (by decide), hd])
    have he : v (fun k => upd (upd (upd (cs.2.1 (20 * t + 16)) 102 x) 119 y) 100 z (lc 0 k)) = v ((nm3 ms x y z).2 5) := rep_ext 60 a v h2 _ _ (fun k hk => by
      show _ = (sa ms 5 _).2 5 k
      rw [sa_at]
      match k, hk with
      | 0, _ => rfl
      | 1, _ => rfl
      | 2, _ => rfl)
    rw [h1, onq_s, bd1_s, onq_s, show (102 : Int32) = nI 102 from rfl, w1, bd1_s, show (119 : Int32) = nI 119 from rfl, w2, bd1_s, show (100 : Int32) = nI 100 from rfl, w3, bd1_s, cA_q, cA_at, hv, bd1_s, he, (hr _).mpr h3, bd1_s, if_neg (nI_nle h4 (by omega)), n1, bd1_s, n2, bd1_s, n3, bd1_s, sa_sa, sa_sa]
    rw [show rd ((sa ms 5 (upd (upd (upd (ms.2 5) 0 x) 1 y) 2 z)).2 1) 342 (170 + 0) = some (nI n) from by rw [sa_ne _ _ (by decide)]; exact (hr _).mpr h3, bd1_s]
    rw [show M_worked NN (sa ms 5 (upd (upd (upd (ms.2 5) 0 x) 1 y) 2 z)) (192 + 50 * 0) (nI n) 0 = _ from hm, bd2_s, if_pos rfl, held_eq _ _ _ (by decide)]
    obtain ⟨r, hr2⟩ := M_held_s (v ((nm3 ms x y z).2 5)) 0 999
    obtain ⟨f1, f2⟩ := wk_fr ms x y z 192 n 0
    rw [hr2]
    exact ⟨r, _, _, rfl, rfl, held_999 hr2, H.same rfl (fun k hk => cA_ne _ _ (by omega)) rfl, f1.trans hd, frC.arr (by omega) (by omega), f2, fun k hk => cA_ne _ _ (by omega), rfl⟩
theorem TR.trust (H : TR t tr cs d F D M) (hd : ms.2 1 = d) (x y z : Int32) : ∃ v cs' ms', T_trustBy t cs x y z = some (v, cs') ∧ M_textGives NN ms 1 x y z = some (v, ms') ∧ TR t tr cs' d F D M ∧ ms'.2 1 = d ∧ frC t cs cs' ∧ frM ms ms' := by
  have hr : ∀ v, rd (ms.2 1) 342 (170 + 1) = some v ↔ d 171 = v := fun v => by
    rw [show (170 : Int32) + 1 = nI 171 from rfl, rdM 171 (by decide), hd]; exact ⟨fun h => Option.some.inj h, fun h => by rw [h]⟩
  have hq : rdq (cs.2.2.1 (20 * t + 18)) 2 1 = some (cs.2.2.1 (20 * t + 18) 1) := rfl
  rw [T_trustBy, hq, bd1_s, M_textGives, if_neg (by decide)]
  rcases H.q.tx 1 (by decide) with ⟨h1, h2⟩ | ⟨a, v, n, h1, h2, h3, h4, h5, h6⟩
  · rw [h1, onq_n, (hr 0).mpr h2, bd1_s, if_pos (by decide), if_neg (by decide), held_eq _ _ _ (by decide)]
    obtain ⟨r, hr2⟩ := M_held_s (10 * z - 5 * y - x) (-999) 999
    rw [hr2]
    exact ⟨r, cs, ms, rfl, rfl, H, hd, frC.rfl, frM.rfl⟩
  · obtain ⟨w1, w2, w3⟩ := with_3 t cs 100 111 110 x y z (by decide) (by decide) (by decide)
    obtain ⟨n1, n2, n3⟩ := nm3_w ms x y z
    have hv := rep_tmV (upd (upd (upd (cs.2.1 (20 * t + 16)) 100 x) 111 y) 110 z) 60 a v h2
    have hm : M_worked NN (nm3 ms x y z) (192 + 50 * 1) (nI n) 1 = some (v ((nm3 ms x y z).2 5), wk (nm3 ms x y z) 242 n 1) := h6 (nm3 ms x y z) 242 (by omega) (fun i hi => by
      show (sa ms 5 _).2 1 (242 + i) = _
      rw [sa_ne _ _ (by decide), hd])
    have he : v (fun k => upd (upd (upd (cs.2.1 (20 * t + 16)) 100 x) 111 y) 110 z (lc 1 k)) = v ((nm3 ms x y z).2 5) := rep_ext 60 a v h2 _ _ (fun k hk => by
      show _ = (sa ms 5 _).2 5 k
      rw [sa_at]
      match k, hk with
      | 0, _ => rfl
      | 1, _ => rfl
      | 2, _ => rfl)
    rw [h1, onq_s, bd1_s, onq_s, show (100 : Int32) = nI 100 from rfl, w1, bd1_s, show (111 : Int32) = nI 111 from rfl, w2, bd1_s, show (110 : Int32) = nI 110 from rfl, w3, bd1_s, cA_q, cA_at, hv, bd1_s, he, (hr _).mpr h3, bd1_s, if_neg (nI_nle h4 (by omega)), n1, bd1_s, n2, bd1_s, n3, bd1_s, sa_sa, sa_sa]
    rw [show rd ((sa ms 5 (upd (upd (upd (ms.2 5) 0 x) 1 y) 2 z)).2 1) 342 (170 + 1) = some (nI n) from by rw [sa_ne _ _ (by decide)]; exact (hr _).mpr h3, bd1_s]
    rw [show M_worked NN (sa ms 5 (upd (upd (upd (ms.2 5) 0 x) 1 y) 2 z)) (192 + 50 * 1) (nI n) 1 = _ from hm, bd2_s, if_neg (by decide), held_eq _ _ _ (by decide)]
    obtain ⟨r, hr2⟩ := M_held_s (v ((nm3 ms x y z).2 5)) (-999) 999
    obtain ⟨f1, f2⟩ := wk_fr ms x y z 242 n 1
    rw [hr2]
    exact ⟨r, _, _, rfl, rfl, H.same rfl (fun k hk => cA_ne _ _ (by omega)) rfl, f1.trans hd, frC.arr (by omega) (by omega), f2⟩
end
