/-! the pure stage: what is open, overdue; what may be told -/
set_option maxRecDepth 100000
section
variable {t tr F D M p : Nat} {cs : CS} {d : Nat → Int32} {ms : MSt}
theorem cnt_bij (h : Nat → Nat) (Q : Nat → Bool) (F : Nat) : ∀ (m : Nat) (P : Nat → Bool), (∀ i, i < m → h i < F) → (∀ i j, i < m → j < m → h i = h j → i = j) → (∀ f, f < F → (P f = true ↔ ∃ i, i < m ∧ h i = f)) → fb_ct (fun f => P f && Q f) F = fb_ct (fun i => Q (h i)) m := by
  intro m
  induction m with
  | zero =>
    intro P _ _ h3
    refine fb_ct_zero.mpr (fun k hk => ?_)
    cases hp : P k
    · rfl
    · obtain ⟨i, h1, -⟩ := (h3 k hk).mp hp
      omega
  | succ m ih =>
    intro P h1 h2 h3
    have hm := h1 m (by omega)
    have e := ih (fun f => P f && decide (f ≠ h m)) (fun i hi => h1 i (by omega)) (fun i j hi hj => h2 i j (by omega) (by omega)) (fun f hf => by
      rw [Bool.and_eq_true, decide_eq_true_iff, h3 f hf]
      constructor
      · rintro ⟨⟨i, h4, h5⟩, h6⟩
        rcases Nat.lt_or_ge i m with h7 | h7
        · exact ⟨i, h7, h5⟩
        · rw [show i = m by omega] at h5; exact absurd h5.symm h6
      · rintro ⟨i, h4, h5⟩
        refine ⟨⟨i, by omega, h5⟩, fun h6 => ?_⟩
        have := h2 i m (by omega) (by omega) (h5.trans h6)
        omega)
    rw [fb_ct_succ, ← e]
    have u := fb_ct_upd (fun f => (P f && decide (f ≠ h m)) && Q f) (Q (h m)) (i := h m) hm
    have hc : fb_ct (fun k => if k = h m then Q (h m) else (P k && decide (k ≠ h m)) && Q k) F = fb_ct (fun f => P f && Q f) F := by
      refine fb_ct_cong (fun k hk => ?_)
      by_cases hk2 : k = h m
      · subst hk2
        rw [if_pos rfl, (h3 _ hm).mpr ⟨m, by omega, rfl⟩]; rfl
      · rw [if_neg hk2, decide_eq_true hk2, Bool.and_true]
    rw [hc] at u
    rw [if_neg (by simp)] at u
    omega
/-- how many are open -/
def opn (d : Nat → Int32) (p : Nat) : Nat := fb_ct (fun i => io d (bkS d p) (bf d p i)) (mn d p)
theorem TR.openM (H : TR t tr cs d F D M) (hd : ms.2 1 = d) (hp : p < 4) : M_openOf NN ms (nI p) = some (nI (opn d p)) := by
  have l8 := (H.i.de p hp).mny.2
  have lF := H.i.lF
  have hz : ∀ k, nfo (fun i n => n + (if io d (bkS d p) (bf d p i) then 1 else 0)) 0 k 0 = nI (fb_ct (fun i => io d (bkS d p) (bf d p i)) k) := by
    intro k
    induction k with
    | zero => rfl
    | succ k ih =>
      rw [nfo_succ, ih, Nat.zero_add, fb_ct_succ]
      cases io d (bkS d p) (bf d p k)
      · exact nI_add _ 0
      · exact nI_add _ 1
  rw [M_openOf, H.toldM hd hp, bd1_s, bd1_p]
  refine (loopF (M_openOf_L11 NN ms (nI p) (bkS d p)) (mn d p) (fun i n => n + (if io d (bkS d p) (bf d p i) then 1 else 0)) id (fun n a => ?_) (fun n a j hj => ?_) (mn d p) 0 0 NN (by omega) (NN_lt (by omega))).trans (congrArg some (hz _))
  · rw [M_openOf_L11, H.mnyM hd hp, bd1_s, if_pos (nI_le (Nat.le_refl _) (by omega))]; rfl
  · have hb := ((H.i.de p hp).bk j hj).2
    rw [M_openOf_L11, H.mnyM hd hp, bd1_s, if_neg (nI_ge hj (by omega)), H.bkM hd hp hj, bd1_s, H.ioM hd (by omega), bd1_s, nI_1]
    cases io d (bkS d p) (bf d p j)
    · rw [if_pos (by decide)]; rfl
    · rw [if_neg (by decide)]; rfl
theorem TR.openT (H : TR t tr cs d F D M) (hp : p < 4) : T_open t NN cs (nI p) = some (nI (opn d p)) := by
  have l8 := (H.i.de p hp).mny.2
  have lF := H.i.lF
  have e0 : cs.1 (20 * t) 0 = nI F := H.n.h.f0.trans H.i.hF
  have hz : ∀ k, nfo (fun f n => n + (if bt (bkS d p) f && io d (bkS d p) f then 1 else 0)) 0 k 0 = nI (fb_ct (fun f => bt (bkS d p) f && io d (bkS d p) f) k) := by
    intro k
    induction k with
    | zero => rfl
    | succ k ih =>
      rw [nfo_succ, ih, Nat.zero_add, fb_ct_succ]
      cases bt (bkS d p) k && io d (bkS d p) k
      · exact nI_add _ 0
      · exact nI_add _ 1
  have hb : fb_ct (fun f => bt (bkS d p) f && io d (bkS d p) f) F = opn d p := cnt_bij (bf d p) (io d (bkS d p)) F (mn d p) (bt (bkS d p)) (fun i hi => ((H.i.de p hp).bk i hi).2) (fun i j hi hj => (H.i.de p hp).inj i j hi hj) (fun f hf => H.toldB hp (by omega))
  rw [T_open, H.toldT hp, bd1_s, bd1_p, ← hb, ← hz]
  refine loopF (T_open_L11 NN t cs (bkS d p)) F (fun f n => n + (if bt (bkS d p) f && io d (bkS d p) f then 1 else 0)) id (fun n a => ?_) (fun n a j hj => ?_) F 0 0 NN (by omega) (NN_lt (by omega))
  · rw [T_open_L11, e0, if_pos (nI_le (Nat.le_refl _) (by omega))]; rfl
  · rw [T_open_L11, e0, if_neg (nI_ge hj (by omega)), isIn_bt (by omega), bd1_s, nI_1, H.ioT (by omega), bd1_s]
    cases bt (bkS d p) j
    · rw [if_pos (by decide)]; rfl
    · rw [if_neg (by decide)]
      cases io d (bkS d p) j
      · rw [if_pos (by decide)]; rfl
      · rw [if_neg (by decide)]; rfl
/-- whether one fact is overdue -/
def odI (d : Nat → Int32) (p i : Nat) : Bool := io d (bkS d p) (bf d p i) && !(decide (d 3 < d (50 + 21 * p + 13 + i) + d (10 + 5 * bf d p i + 2)))
def od (d : Nat → Int32) (p k : Nat) : Int32 := nfo (fun i x => if x = 0 then (if odI d p i then 1 else 0) else 1) 0 k 0
theorem od_01 (d : Nat → Int32) (p : Nat) : ∀ k, od d p k = 0 ∨ od d p k = 1 := by
  intro k
  induction k with
  | zero => exact Or.inl rfl
  | succ k ih =>
    rw [od, nfo_succ]
    show (if od d p k = 0 then _ else _) = 0 ∨ (if od d p k = 0 then _ else _) = 1
    split
    · split
      · exact Or.inr rfl
      · exact Or.inl rfl
    · exact Or.inr rfl
theorem od_s (d : Nat → Int32) (p k : Nat) : od d p (k + 1) = if od d p k = 0 then (if odI d p k then 1 else 0) else 1 := by
  rw [od, nfo_succ, Nat.zero_add]; rfl
theorem TR.overM (H : TR t tr cs d F D M) (hd : ms.2 1 = d) (hp : p < 4) : M_isOverdue NN ms (nI p) = some (od d p (mn d p)) := by
  have l8 := (H.i.de p hp).mny.2
  have lF := H.i.lF
  rw [M_isOverdue, H.toldM hd hp, bd1_s]
  have h : M_isOverdue_L11 NN ms (nI p) (bkS d p) NN 0 0 = some (od d p (mn d p)) := by
    suffices hh : ∃ r, M_isOverdue_L11 NN ms (nI p) (bkS d p) NN 0 (nI 0) = some r ∧ r = od d p (mn d p) by
      obtain ⟨r, h1, h2⟩ := hh
      rw [← h2]; exact h1
    refine loopP (M_isOverdue_L11 NN ms (nI p) (bkS d p)) (mn d p) (fun j a => a = od d p j) (fun r => r = od d p (mn d p)) (fun n a ha => ?_) (fun n a j hj ha => Or.inr ?_) (mn d p) 0 0 NN (by omega) (NN_lt (by omega)) rfl
    · exact ⟨a, by rw [M_isOverdue_L11, H.mnyM hd hp, bd1_s, if_pos (nI_le (Nat.le_refl _) (by omega))], ha⟩
    · have hb := ((H.i.de p hp).bk j hj).2
      rw [M_isOverdue_L11, H.mnyM hd hp, bd1_s, if_neg (nI_ge hj (by omega)), H.bkM hd hp hj, bd1_s, nI_1]
      by_cases h0 : a = 0
      · rw [if_pos h0, H.ioM hd (by omega), bd1_s]
        cases hio : io d (bkS d p) (bf d p j)
        · rw [if_pos (by decide)]
          refine ⟨_, rfl, ?_⟩
          rw [od_s, ← ha, if_pos h0, odI, hio]; rfl
        · rw [if_neg (by decide), rdM3, bd1_s, ofW hp (by omega), bd1_s, its2 (by omega), bd1_s, hd]
          by_cases h3 : d 3 < d (50 + 21 * p + 13 + j) + d (10 + 5 * bf d p j + 2)
          · rw [if_pos h3]
            refine ⟨_, rfl, ?_⟩
            rw [od_s, ← ha, if_pos h0, odI, hio, decide_eq_true h3]; rfl
          · rw [if_neg h3]
            refine ⟨_, rfl, ?_⟩
            rw [od_s, ← ha, if_pos h0, odI, hio, decide_eq_false h3]; rfl
      · rw [if_neg h0]
        refine ⟨_, rfl, ?_⟩
        rw [od_s, ← ha, if_neg h0]
  rw [h, bd1_s]
  rcases od_01 d p (mn d p) with h1 | h1 <;> rw [h1] <;> rfl
theorem TR.overT (H : TR t tr cs d F D M) (hp : p < 4) : T_isOverdue t NN cs (nI p) = some (od d p (mn d p)) := by
  have l8 := (H.i.de p hp).mny.2
  have lF := H.i.lF
  rw [T_isOverdue, H.toldT hp, bd1_s]
  have h : T_isOverdue_L11 NN t cs (nI p) (bkS d p) NN 0 0 = some (od d p (mn d p)) := by
    suffices hh : ∃ r, T_isOverdue_L11 NN t cs (nI p) (bkS d p) NN 0 (nI 0) = some r ∧ r = od d p (mn d p) by
      obtain ⟨r, h1, h2⟩ := hh
      rw [← h2]; exact h1
    refine loopP (T_isOverdue_L11 NN t cs (nI p) (bkS d p)) (mn d p) (fun j a => a = od d p j) (fun r => r = od d p (mn d p)) (fun n a ha => ?_) (fun n a j hj ha => Or.inr ?_) (mn d p) 0 0 NN (by omega) (NN_lt (by omega)) rfl
    · exact ⟨a, by rw [T_isOverdue_L11, H.mnyT hp, bd1_s, if_pos (nI_le (Nat.le_refl _) (by omega))], ha⟩
    · have hb := ((H.i.de p hp).bk j hj).2
      have o1 := od_01 d p j
      have e0 : a ||| 0 = if a = 0 then 0 else 1 := by rw [ha]; rcases o1 with h | h <;> rw [h] <;> rfl
      have e1 : a ||| 1 = 1 := by rw [ha]; rcases o1 with h | h <;> rw [h] <;> rfl
      rw [T_isOverdue_L11, H.mnyT hp, bd1_s, if_neg (nI_ge hj (by omega)), H.bkT hp hj, bd1_s, nI_1, H.ioT (by omega), bd1_s]
      cases hio : io d (bkS d p) (bf d p j)
      · rw [if_pos (by decide), e0]
        refine ⟨_, rfl, ?_⟩
        rw [od_s, ← ha, odI, hio]; rfl
      · rw [if_neg (by decide), ixB, rdC _ _ _ (by omega) (by decide), bd1_s, (H.n.de p hp).bw j (by omega), rdC _ _ _ (by omega) (by decide), bd1_s, (H.n.fa _ (by omega)).wi, H.n.h.f13]
        by_cases h3 : d 3 < d (50 + 21 * p + 13 + j) + d (10 + 5 * bf d p j + 2)
        · rw [if_pos h3, e0]
          refine ⟨_, rfl, ?_⟩
          rw [od_s, ← ha, odI, hio, decide_eq_true h3]; rfl
        · rw [if_neg h3, e1]
          refine ⟨_, rfl, ?_⟩
          rw [od_s, ← ha, odI, hio, decide_eq_false h3]
          split <;> rfl
  rw [h, bd1_s]
  rcases od_01 d p (mn d p) with h1 | h1 <;> rw [h1] <;> rfl
/-- bits of eight -/
def oc (x : Int32) : Int32 := (J_bitCount x).getD 0
theorem oc_J (x : Int32) : J_bitCount x = some (oc x) := rfl
theorem oc_M : ∀ n, n < 256 → M_ones NN (nI n) = some (oc (nI n)) := by decide +kernel
theorem and_small {n : Nat} (hn : n < 256) (y : Int32) : ∃ j, j < 256 ∧ nI n &&& y = nI j := by
  have h : nI n &&& y = (nI n &&& y) &&& 255 := by
    refine b_ext (fun i hi => ?_)
    have e : nI n = nI n &&& 255 := by rw [pk_andN (by omega) 8 rfl, Nat.mod_eq_of_lt hn]
    rw [b_and, b_and, b_and, b_255]
    cases h1 : bt y i
    · simp
    · rw [e, b_and, b_255]
      simp
  rw [h]
  obtain ⟨j, hj, h2⟩ := pk_andE (nI n &&& y) (m := 255) 8 rfl
  exact ⟨j, hj, h2⟩
end
