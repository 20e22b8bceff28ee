/-! the pure stage: voice -/
set_option maxRecDepth 100000
section
variable {t u tr F D M p nx k : Nat} {cs cs' c0 c c1 : CS} {d d' : Nat → Int32} {ms ms' m0 m m1 : MSt} {cA : Nat → ClassId} {ad adK : Nat → Nat}
/-- both traces -/
def VR (c0 : CS) (m0 : MSt) (c : CS) (m : MSt) : Prop := (c.1 62 1 = m.1 20 ∧ (∃ j, m.1 20 = nI j ∧ j ≤ 40) ∧ ∀ i, i < 40 → c.2.1 63 i = m.2 10 i) ∧ (∀ j, j ≠ 62 → c.1 j = c0.1 j) ∧ (∀ j, j ≠ 63 → c.2.1 j = c0.2.1 j) ∧ c.2.2 = c0.2.2 ∧ (∀ j, j ≠ 20 → m.1 j = m0.1 j) ∧ ∀ j, j ≠ 10 → m.2 j = m0.2 j
def sim (c0 : CS) (m0 : MSt) (l : Option (Int32 × CS)) (r : Option (Int32 × MSt)) : Prop := ∃ v c m, l = some (v, c) ∧ r = some (v, m) ∧ VR c0 m0 c m
theorem sim_ret {v w : Int32} (h : VR c0 m0 c m) (e : v = w) : sim c0 m0 (some (v, c)) (some (w, m)) := ⟨v, c, m, rfl, by rw [e], h⟩
theorem sim_seq {l : Option (Int32 × CS)} {r : Option (Int32 × MSt)} {f : Int32 → CS → Option (Int32 × CS)} {g : Int32 → MSt → Option (Int32 × MSt)} (h : sim c0 m0 l r) (kk : ∀ v c m, VR c0 m0 c m → sim c0 m0 (f v c) (g v m)) : sim c0 m0 (bd2 l f) (bd2 r g) := by
  obtain ⟨v, c, m, rfl, rfl, hv⟩ := h
  exact kk v c m hv
theorem sim_ran {b : Int32} {f : CS → Option (Int32 × CS)} {g : MSt → Option (Int32 × MSt)} (h : VR c0 m0 c m) (kk : ∀ c m, VR c0 m0 c m → sim c0 m0 (f c) (g m)) : sim c0 m0 (bd1 (J_begins c b) f) (bd1 (M_ran m b) g) := by
  obtain ⟨⟨h1, ⟨j, j1, j2⟩, h3⟩, h4, h5, h6, h7, h8⟩ := h
  rw [J_begins, M_ran, h1, j1]
  by_cases hj : j = 40
  · rw [if_pos (c := 40 ≤ nI j) (by rw [hj]; decide), if_pos (c := 40 ≤ nI j) (by rw [hj]; decide)]
    exact kk c m ⟨⟨h1, ⟨j, j1, j2⟩, h3⟩, h4, h5, h6, h7, h8⟩
  · have hj : j < 40 := by omega
    rw [if_neg (c := 40 ≤ nI j) (nI_ge (b := 40) hj (by decide)), if_neg (c := 40 ≤ nI j) (nI_ge (b := 40) hj (by decide)), wr_nI hj (by decide), bd1_s, bd1_s, wr_nI hj (by decide), bd1_s, bd1_s, cA_f, sa_f, h1, j1, nI_1]
    refine kk _ _ ⟨⟨by rw [cF_at, sf_at], ⟨j + 1, by rw [sf_at], by omega⟩, fun i hi => ?_⟩, fun i hi => ?_, fun i hi => ?_, h6, fun i hi => ?_, fun i hi => ?_⟩
    · rw [cF_a, sf_a, cA_at, sa_at]
      by_cases e : i = j
      · subst e; rw [pk_us, pk_us]
      · rw [upd_ne e, upd_ne e]; exact h3 i hi
    · rw [cF_nk _ _ hi, cA_f]; exact h4 i hi
    · rw [cF_a, cA_ne _ _ hi]; exact h5 i hi
    · rw [sf_ne _ _ hi, sa_f]; exact h7 i hi
    · rw [sf_a, sa_ne _ _ hi]; exact h8 i hi
theorem VR.who (h : VR c0 m0 c m) : m.1 21 = m0.1 21 := h.2.2.2.2.1 21 (by decide)
theorem VR.own (h : VR c0 m0 c m) (hp : p < 4) (e : m0.1 21 = nI p) (hk : m0.2 1 (50 + 21 * p + 0) = nI k) : M_own m = some (nI k) := by
  rw [M_own, h.who, e, of0 hp, bd1_p, h.2.2.2.2.2 1 (by decide), hk]
theorem VR.mm (h : VR c0 m0 c m) (hp : p < 4) (e : m0.1 21 = nI p) : M_of m (m.1 21) 1 = some (m0.2 1 (50 + 21 * p + 1)) := by
  rw [h.who, e, of1 hp, h.2.2.2.2.2 1 (by decide)]
def o0 (m : MSt) (x : Int32) : Option (Int32 × MSt) := bd1 (M_ran m 10) fun s => some (x + s.1 21, s)
def r0 (m : MSt) (x : Int32) : Option (Int32 × MSt) := bd1 (M_ran m 12) fun s => bd1 (M_of s (s.1 21) 1) fun v => some (x - v, s)
theorem oM_0 (m : MSt) (x : Int32) : M_owesBy 4 m (nI 0) x = (o0 m x) := by
  show (o0 m x) = _
  simp only [bd2_p]
theorem oM_1 (m : MSt) (x : Int32) : M_owesBy 4 m (nI 1) x = (o0 m x) := by
  show (bd2 ((o0 m x)) fun v s => some (v, s)) = _
  simp only [bd2_p]
theorem oM_2 (m : MSt) (x : Int32) : M_owesBy 4 m (nI 2) x = (bd1 (M_ran m 30) fun s => bd2 (o0 s x) fun v s => some (v * 3, s)) := by
  show (bd1 (M_ran m 30) fun s => bd2 (o0 s x) fun v s => some (v * 3, s)) = _
  simp only [bd2_p]
theorem oM_3 (m : MSt) (x : Int32) : M_owesBy 4 m (nI 3) x = (o0 m x) := by
  show (bd2 ((o0 m x)) fun v s => some (v, s)) = _
  simp only [bd2_p]
theorem oM_4 (m : MSt) (x : Int32) : M_owesBy 4 m (nI 4) x = (o0 m x) := by
  show (bd2 ((bd2 ((o0 m x)) fun v s => some (v, s))) fun v s => some (v, s)) = _
  simp only [bd2_p]
theorem oM_5 (m : MSt) (x : Int32) : M_owesBy 4 m (nI 5) x = (bd1 (M_ran m 30) fun s => bd2 (o0 s x) fun v s => some (v * 3, s)) := by
  show (bd2 ((bd1 (M_ran m 30) fun s => bd2 (o0 s x) fun v s => some (v * 3, s))) fun v s => some (v, s)) = _
  simp only [bd2_p]
theorem oM_6 (m : MSt) (x : Int32) : M_owesBy 4 m (nI 6) x = (o0 m x) := by
  show (bd2 ((bd2 ((o0 m x)) fun v s => some (v, s))) fun v s => some (v, s)) = _
  simp only [bd2_p]
theorem rM_0 (m : MSt) (x : Int32) : M_readsBy 4 m (nI 0) x = (r0 m x) := by
  show (r0 m x) = _
  simp only [bd2_p]
theorem rM_1 (m : MSt) (x : Int32) : M_readsBy 4 m (nI 1) x = (r0 m x) := by
  show (bd2 ((r0 m x)) fun v s => some (v, s)) = _
  simp only [bd2_p]
theorem rM_2 (m : MSt) (x : Int32) : M_readsBy 4 m (nI 2) x = (r0 m x) := by
  show (bd2 ((r0 m x)) fun v s => some (v, s)) = _
  simp only [bd2_p]
theorem rM_3 (m : MSt) (x : Int32) : M_readsBy 4 m (nI 3) x = (bd1 (M_ran m 40) fun s => bd2 (r0 s x) fun v s => some (-v, s)) := by
  show (bd1 (M_ran m 40) fun s => bd2 (r0 s x) fun v s => some (-v, s)) = _
  simp only [bd2_p]
theorem rM_4 (m : MSt) (x : Int32) : M_readsBy 4 m (nI 4) x = (r0 m x) := by
  show (bd2 ((bd2 ((r0 m x)) fun v s => some (v, s))) fun v s => some (v, s)) = _
  simp only [bd2_p]
theorem rM_5 (m : MSt) (x : Int32) : M_readsBy 4 m (nI 5) x = (r0 m x) := by
  show (bd2 ((bd2 ((r0 m x)) fun v s => some (v, s))) fun v s => some (v, s)) = _
  simp only [bd2_p]
theorem rM_6 (m : MSt) (x : Int32) : M_readsBy 4 m (nI 6) x = (bd1 (M_ran m 70) fun s => bd2 (bd1 (M_ran s 40) fun s => bd2 (r0 s x) fun v s => some (-v, s)) fun v s => some (v ^^^ s.1 21, s)) := by
  show (bd1 (M_ran m 70) fun s => bd2 (bd1 (M_ran s 40) fun s => bd2 (r0 s x) fun v s => some (-v, s)) fun v s => some (v ^^^ s.1 21, s)) = _
  simp only [bd2_p]
theorem wM_0 (m : MSt) (x : Int32) : M_writesBy 4 m (nI 0) x = (bd1 (M_ran m 11) fun s => bd1 (M_own s) fun o => bd2 (M_owesBy 4 s o x) fun v s => some (v * 2, s)) := by
  show (bd1 (M_ran m 11) fun s => bd1 (M_own s) fun o => bd2 (M_owesBy 4 s o x) fun v s => some (v * 2, s)) = _
  simp only [bd2_p]
theorem wM_1 (m : MSt) (x : Int32) : M_writesBy 4 m (nI 1) x = (bd1 (M_ran m 20) fun s => bd2 (bd1 (M_ran s 11) fun s => bd1 (M_own s) fun o => bd2 (M_owesBy 4 s o x) fun v s => some (v * 2, s)) fun v s => bd1 (M_own s) fun o => bd2 (M_readsBy 4 s o 1) fun w s => some (v - w, s)) := by
  show (bd1 (M_ran m 20) fun s => bd2 (bd1 (M_ran s 11) fun s => bd1 (M_own s) fun o => bd2 (M_owesBy 4 s o x) fun v s => some (v * 2, s)) fun v s => bd1 (M_own s) fun o => bd2 (M_readsBy 4 s o 1) fun w s => some (v - w, s)) = _
  simp only [bd2_p]
theorem wM_2 (m : MSt) (x : Int32) : M_writesBy 4 m (nI 2) x = (bd1 (M_ran m 11) fun s => bd1 (M_own s) fun o => bd2 (M_owesBy 4 s o x) fun v s => some (v * 2, s)) := by
  show (bd2 ((bd1 (M_ran m 11) fun s => bd1 (M_own s) fun o => bd2 (M_owesBy 4 s o x) fun v s => some (v * 2, s))) fun v s => some (v, s)) = _
  simp only [bd2_p]
theorem wM_3 (m : MSt) (x : Int32) : M_writesBy 4 m (nI 3) x = (bd1 (M_ran m 11) fun s => bd1 (M_own s) fun o => bd2 (M_owesBy 4 s o x) fun v s => some (v * 2, s)) := by
  show (bd2 ((bd1 (M_ran m 11) fun s => bd1 (M_own s) fun o => bd2 (M_owesBy 4 s o x) fun v s => some (v * 2, s))) fun v s => some (v, s)) = _
  simp only [bd2_p]
theorem wM_4 (m : MSt) (x : Int32) : M_writesBy 4 m (nI 4) x = (bd1 (M_ran m 50) fun s => bd2 (bd1 (M_ran s 20) fun s => bd2 (bd1 (M_ran s 11) fun s => bd1 (M_own s) fun o => bd2 (M_owesBy 4 s o (x + 1)) fun v s => some (v * 2, s)) fun v s => bd1 (M_own s) fun o => bd2 (M_readsBy 4 s o 1) fun w s => some (v - w, s)) fun v s => some (v, s)) := by
  show (bd1 (M_ran m 50) fun s => bd2 (bd1 (M_ran s 20) fun s => bd2 (bd1 (M_ran s 11) fun s => bd1 (M_own s) fun o => bd2 (M_owesBy 4 s o (x + 1)) fun v s => some (v * 2, s)) fun v s => bd1 (M_own s) fun o => bd2 (M_readsBy 4 s o 1) fun w s => some (v - w, s)) fun v s => some (v, s)) = _
  simp only [bd2_p]
theorem wM_5 (m : MSt) (x : Int32) : M_writesBy 4 m (nI 5) x = (bd1 (M_ran m 11) fun s => bd1 (M_own s) fun o => bd2 (M_owesBy 4 s o x) fun v s => some (v * 2, s)) := by
  show (bd2 ((bd2 ((bd1 (M_ran m 11) fun s => bd1 (M_own s) fun o => bd2 (M_owesBy 4 s o x) fun v s => some (v * 2, s))) fun v s => some (v, s))) fun v s => some (v, s)) = _
  simp only [bd2_p]
theorem wM_6 (m : MSt) (x : Int32) : M_writesBy 4 m (nI 6) x = (bd1 (M_ran m 11) fun s => bd1 (M_own s) fun o => bd2 (M_owesBy 4 s o x) fun v s => some (v * 2, s)) := by
  show (bd2 ((bd2 ((bd1 (M_ran m 11) fun s => bd1 (M_own s) fun o => bd2 (M_owesBy 4 s o x) fun v s => some (v * 2, s))) fun v s => some (v, s))) fun v s => some (v, s)) = _
  simp only [bd2_p]
theorem tM_0 (m : MSt) (x : Int32) : M_tellsBy 4 m (nI 0) x = (bd1 (M_ran m 13) fun s => bd1 (M_own s) fun o => bd2 (M_writesBy 4 s o x) fun v s => bd1 (M_own s) fun o => bd2 (M_readsBy 4 s o x) fun w s => some (v ^^^ w, s)) := by
  show (bd1 (M_ran m 13) fun s => bd1 (M_own s) fun o => bd2 (M_writesBy 4 s o x) fun v s => bd1 (M_own s) fun o => bd2 (M_readsBy 4 s o x) fun w s => some (v ^^^ w, s)) = _
  simp only [bd2_p]
theorem tM_1 (m : MSt) (x : Int32) : M_tellsBy 4 m (nI 1) x = (bd1 (M_ran m 13) fun s => bd1 (M_own s) fun o => bd2 (M_writesBy 4 s o x) fun v s => bd1 (M_own s) fun o => bd2 (M_readsBy 4 s o x) fun w s => some (v ^^^ w, s)) := by
  show (bd2 ((bd1 (M_ran m 13) fun s => bd1 (M_own s) fun o => bd2 (M_writesBy 4 s o x) fun v s => bd1 (M_own s) fun o => bd2 (M_readsBy 4 s o x) fun w s => some (v ^^^ w, s))) fun v s => some (v, s)) = _
  simp only [bd2_p]
theorem tM_2 (m : MSt) (x : Int32) : M_tellsBy 4 m (nI 2) x = (bd1 (M_ran m 13) fun s => bd1 (M_own s) fun o => bd2 (M_writesBy 4 s o x) fun v s => bd1 (M_own s) fun o => bd2 (M_readsBy 4 s o x) fun w s => some (v ^^^ w, s)) := by
  show (bd2 ((bd1 (M_ran m 13) fun s => bd1 (M_own s) fun o => bd2 (M_writesBy 4 s o x) fun v s => bd1 (M_own s) fun o => bd2 (M_readsBy 4 s o x) fun w s => some (v ^^^ w, s))) fun v s => some (v, s)) = _
  simp only [bd2_p]
theorem tM_3 (m : MSt) (x : Int32) : M_tellsBy 4 m (nI 3) x = (bd1 (M_ran m 13) fun s => bd1 (M_own s) fun o => bd2 (M_writesBy 4 s o x) fun v s => bd1 (M_own s) fun o => bd2 (M_readsBy 4 s o x) fun w s => some (v ^^^ w, s)) := by
  show (bd2 ((bd1 (M_ran m 13) fun s => bd1 (M_own s) fun o => bd2 (M_writesBy 4 s o x) fun v s => bd1 (M_own s) fun o => bd2 (M_readsBy 4 s o x) fun w s => some (v ^^^ w, s))) fun v s => some (v, s)) = _
  simp only [bd2_p]
theorem tM_4 (m : MSt) (x : Int32) : M_tellsBy 4 m (nI 4) x = (bd1 (M_ran m 13) fun s => bd1 (M_own s) fun o => bd2 (M_writesBy 4 s o x) fun v s => bd1 (M_own s) fun o => bd2 (M_readsBy 4 s o x) fun w s => some (v ^^^ w, s)) := by
  show (bd2 ((bd2 ((bd1 (M_ran m 13) fun s => bd1 (M_own s) fun o => bd2 (M_writesBy 4 s o x) fun v s => bd1 (M_own s) fun o => bd2 (M_readsBy 4 s o x) fun w s => some (v ^^^ w, s))) fun v s => some (v, s))) fun v s => some (v, s)) = _
  simp only [bd2_p]
theorem tM_5 (m : MSt) (x : Int32) : M_tellsBy 4 m (nI 5) x = (bd1 (M_ran m 60) fun s => bd2 (bd1 (M_ran s 13) fun s => bd1 (M_own s) fun o => bd2 (M_writesBy 4 s o x) fun v s => bd1 (M_own s) fun o => bd2 (M_readsBy 4 s o x) fun w s => some (v ^^^ w, s)) fun v s => bd1 (M_own s) fun o => bd2 (M_owesBy 4 s o 2) fun w s => some (v - w, s)) := by
  show (bd1 (M_ran m 60) fun s => bd2 (bd2 ((bd1 (M_ran s 13) fun s => bd1 (M_own s) fun o => bd2 (M_writesBy 4 s o x) fun v s => bd1 (M_own s) fun o => bd2 (M_readsBy 4 s o x) fun w s => some (v ^^^ w, s))) fun v s => some (v, s)) fun v s => bd1 (M_own s) fun o => bd2 (M_owesBy 4 s o 2) fun w s => some (v - w, s)) = _
  simp only [bd2_p]
theorem tM_6 (m : MSt) (x : Int32) : M_tellsBy 4 m (nI 6) x = (bd1 (M_ran m 71) fun s => bd1 (M_own s) fun o => bd2 (M_writesBy 4 s o x) fun v s => bd2 (bd1 (M_ran s 13) fun s => bd1 (M_own s) fun o => bd2 (M_writesBy 4 s o x) fun v s => bd1 (M_own s) fun o => bd2 (M_readsBy 4 s o x) fun w s => some (v ^^^ w, s)) fun w s => some (v - w, s)) := by
  show (bd1 (M_ran m 71) fun s => bd1 (M_own s) fun o => bd2 (M_writesBy 4 s o x) fun v s => bd2 (bd2 ((bd1 (M_ran s 13) fun s => bd1 (M_own s) fun o => bd2 (M_writesBy 4 s o x) fun v s => bd1 (M_own s) fun o => bd2 (M_readsBy 4 s o x) fun w s => some (v ^^^ w, s))) fun v s => some (v, s)) fun w s => some (v - w, s)) = _
  simp only [bd2_p]
theorem o0_s {dm : Int32} (hp : p < 4) (e : m0.1 21 = nI p) (hm : m0.2 1 (50 + 21 * p + 1) = dm) (h : VR c0 m0 c m) (x : Int32) : sim c0 m0 (bd1 (J_begins c 10) fun s => some (x + nI p, s)) (o0 m x) := sim_ran h (fun c m h => sim_ret h (by rw [h.who, e]))
theorem r0_s {dm : Int32} (hp : p < 4) (e : m0.1 21 = nI p) (hm : m0.2 1 (50 + 21 * p + 1) = dm) (h : VR c0 m0 c m) (x : Int32) : sim c0 m0 (bd1 (J_begins c 12) fun s => some (x - dm, s)) (r0 m x) := sim_ran h (fun c m h => by rw [h.mm hp e, bd1_s, hm]; exact sim_ret h rfl)
theorem so_0 {dm : Int32} (hp : p < 4) (e : m0.1 21 = nI p) (hm : m0.2 1 (50 + 21 * p + 1) = dm) (h : VR c0 m0 c m) (hk : m0.2 1 (50 + 21 * p + 0) = nI 0) (x : Int32) : sim c0 m0 (V0_0_owes c (nI p) dm x) (M_owesBy 4 m (nI 0) x) := by
  rw [oM_0]
  exact o0_s hp e hm h x
theorem so_1 {dm : Int32} (hp : p < 4) (e : m0.1 21 = nI p) (hm : m0.2 1 (50 + 21 * p + 1) = dm) (h : VR c0 m0 c m) (hk : m0.2 1 (50 + 21 * p + 0) = nI 1) (x : Int32) : sim c0 m0 (V1_0_owes c (nI p) dm x) (M_owesBy 4 m (nI 1) x) := by
  rw [oM_1]
  exact o0_s hp e hm h x
theorem so_2 {dm : Int32} (hp : p < 4) (e : m0.1 21 = nI p) (hm : m0.2 1 (50 + 21 * p + 1) = dm) (h : VR c0 m0 c m) (hk : m0.2 1 (50 + 21 * p + 0) = nI 2) (x : Int32) : sim c0 m0 (V2_2_owes c (nI p) dm x) (M_owesBy 4 m (nI 2) x) := by
  rw [oM_2]
  exact sim_ran h (fun c m h => sim_seq (o0_s hp e hm h x) (fun v c m h => sim_ret h rfl))
theorem so_3 {dm : Int32} (hp : p < 4) (e : m0.1 21 = nI p) (hm : m0.2 1 (50 + 21 * p + 1) = dm) (h : VR c0 m0 c m) (hk : m0.2 1 (50 + 21 * p + 0) = nI 3) (x : Int32) : sim c0 m0 (V3_0_owes c (nI p) dm x) (M_owesBy 4 m (nI 3) x) := by
  rw [oM_3]
  exact o0_s hp e hm h x
theorem so_4 {dm : Int32} (hp : p < 4) (e : m0.1 21 = nI p) (hm : m0.2 1 (50 + 21 * p + 1) = dm) (h : VR c0 m0 c m) (hk : m0.2 1 (50 + 21 * p + 0) = nI 4) (x : Int32) : sim c0 m0 (V4_0_owes c (nI p) dm x) (M_owesBy 4 m (nI 4) x) := by
  rw [oM_4]
  exact o0_s hp e hm h x
theorem so_5 {dm : Int32} (hp : p < 4) (e : m0.1 21 = nI p) (hm : m0.2 1 (50 + 21 * p + 1) = dm) (h : VR c0 m0 c m) (hk : m0.2 1 (50 + 21 * p + 0) = nI 5) (x : Int32) : sim c0 m0 (V5_2_owes c (nI p) dm x) (M_owesBy 4 m (nI 5) x) := by
  rw [oM_5]
  exact sim_ran h (fun c m h => sim_seq (o0_s hp e hm h x) (fun v c m h => sim_ret h rfl))
theorem so_6 {dm : Int32} (hp : p < 4) (e : m0.1 21 = nI p) (hm : m0.2 1 (50 + 21 * p + 1) = dm) (h : VR c0 m0 c m) (hk : m0.2 1 (50 + 21 * p + 0) = nI 6) (x : Int32) : sim c0 m0 (V6_0_owes c (nI p) dm x) (M_owesBy 4 m (nI 6) x) := by
  rw [oM_6]
  exact o0_s hp e hm h x
theorem sr_0 {dm : Int32} (hp : p < 4) (e : m0.1 21 = nI p) (hm : m0.2 1 (50 + 21 * p + 1) = dm) (h : VR c0 m0 c m) (hk : m0.2 1 (50 + 21 * p + 0) = nI 0) (x : Int32) : sim c0 m0 (V0_0_reads c (nI p) dm x) (M_readsBy 4 m (nI 0) x) := by
  rw [rM_0]
  exact r0_s hp e hm h x
theorem sr_1 {dm : Int32} (hp : p < 4) (e : m0.1 21 = nI p) (hm : m0.2 1 (50 + 21 * p + 1) = dm) (h : VR c0 m0 c m) (hk : m0.2 1 (50 + 21 * p + 0) = nI 1) (x : Int32) : sim c0 m0 (V1_0_reads c (nI p) dm x) (M_readsBy 4 m (nI 1) x) := by
  rw [rM_1]
  exact r0_s hp e hm h x
theorem sr_2 {dm : Int32} (hp : p < 4) (e : m0.1 21 = nI p) (hm : m0.2 1 (50 + 21 * p + 1) = dm) (h : VR c0 m0 c m) (hk : m0.2 1 (50 + 21 * p + 0) = nI 2) (x : Int32) : sim c0 m0 (V2_0_reads c (nI p) dm x) (M_readsBy 4 m (nI 2) x) := by
  rw [rM_2]
  exact r0_s hp e hm h x
theorem sr_3 {dm : Int32} (hp : p < 4) (e : m0.1 21 = nI p) (hm : m0.2 1 (50 + 21 * p + 1) = dm) (h : VR c0 m0 c m) (hk : m0.2 1 (50 + 21 * p + 0) = nI 3) (x : Int32) : sim c0 m0 (V3_3_reads c (nI p) dm x) (M_readsBy 4 m (nI 3) x) := by
  rw [rM_3]
  exact sim_ran h (fun c m h => sim_seq (r0_s hp e hm h x) (fun v c m h => sim_ret h rfl))
theorem sr_4 {dm : Int32} (hp : p < 4) (e : m0.1 21 = nI p) (hm : m0.2 1 (50 + 21 * p + 1) = dm) (h : VR c0 m0 c m) (hk : m0.2 1 (50 + 21 * p + 0) = nI 4) (x : Int32) : sim c0 m0 (V4_0_reads c (nI p) dm x) (M_readsBy 4 m (nI 4) x) := by
  rw [rM_4]
  exact r0_s hp e hm h x
theorem sr_5 {dm : Int32} (hp : p < 4) (e : m0.1 21 = nI p) (hm : m0.2 1 (50 + 21 * p + 1) = dm) (h : VR c0 m0 c m) (hk : m0.2 1 (50 + 21 * p + 0) = nI 5) (x : Int32) : sim c0 m0 (V5_0_reads c (nI p) dm x) (M_readsBy 4 m (nI 5) x) := by
  rw [rM_5]
  exact r0_s hp e hm h x
theorem sr_6 {dm : Int32} (hp : p < 4) (e : m0.1 21 = nI p) (hm : m0.2 1 (50 + 21 * p + 1) = dm) (h : VR c0 m0 c m) (hk : m0.2 1 (50 + 21 * p + 0) = nI 6) (x : Int32) : sim c0 m0 (V6_6_reads c (nI p) dm x) (M_readsBy 4 m (nI 6) x) := by
  rw [rM_6]
  exact sim_ran h (fun c m h => sim_seq (sim_ran h (fun c m h => sim_seq (r0_s hp e hm h x) (fun v c m h => sim_ret h rfl))) (fun v c m h => sim_ret h (by rw [h.who, e])))
theorem sw_0 {dm : Int32} (hp : p < 4) (e : m0.1 21 = nI p) (hm : m0.2 1 (50 + 21 * p + 1) = dm) (h : VR c0 m0 c m) (hk : m0.2 1 (50 + 21 * p + 0) = nI 0) (x : Int32) : sim c0 m0 (V0_0_writes c (nI p) dm x) (M_writesBy 4 m (nI 0) x) := by
  rw [wM_0]
  exact sim_ran h (fun c m h => by rw [h.own hp e hk, bd1_s]; exact sim_seq (so_0 hp e hm h hk x) (fun v c m h => sim_ret h rfl))
theorem sw_1 {dm : Int32} (hp : p < 4) (e : m0.1 21 = nI p) (hm : m0.2 1 (50 + 21 * p + 1) = dm) (h : VR c0 m0 c m) (hk : m0.2 1 (50 + 21 * p + 0) = nI 1) (x : Int32) : sim c0 m0 (V1_1_writes c (nI p) dm x) (M_writesBy 4 m (nI 1) x) := by
  rw [wM_1]
  exact sim_ran h (fun c m h => sim_seq (sim_ran h (fun c m h => by rw [h.own hp e hk, bd1_s]; exact sim_seq (so_1 hp e hm h hk x) (fun v c m h => sim_ret h rfl))) (fun v c m h => by rw [h.own hp e hk, bd1_s]; exact sim_seq (sr_1 hp e hm h hk 1) (fun w c m h => sim_ret h rfl)))
theorem sw_2 {dm : Int32} (hp : p < 4) (e : m0.1 21 = nI p) (hm : m0.2 1 (50 + 21 * p + 1) = dm) (h : VR c0 m0 c m) (hk : m0.2 1 (50 + 21 * p + 0) = nI 2) (x : Int32) : sim c0 m0 (V2_0_writes c (nI p) dm x) (M_writesBy 4 m (nI 2) x) := by
  rw [wM_2]
  exact sim_ran h (fun c m h => by rw [h.own hp e hk, bd1_s]; exact sim_seq (so_2 hp e hm h hk x) (fun v c m h => sim_ret h rfl))
theorem sw_3 {dm : Int32} (hp : p < 4) (e : m0.1 21 = nI p) (hm : m0.2 1 (50 + 21 * p + 1) = dm) (h : VR c0 m0 c m) (hk : m0.2 1 (50 + 21 * p + 0) = nI 3) (x : Int32) : sim c0 m0 (V3_0_writes c (nI p) dm x) (M_writesBy 4 m (nI 3) x) := by
  rw [wM_3]
  exact sim_ran h (fun c m h => by rw [h.own hp e hk, bd1_s]; exact sim_seq (so_3 hp e hm h hk x) (fun v c m h => sim_ret h rfl))
theorem sw_4 {dm : Int32} (hp : p < 4) (e : m0.1 21 = nI p) (hm : m0.2 1 (50 + 21 * p + 1) = dm) (h : VR c0 m0 c m) (hk : m0.2 1 (50 + 21 * p + 0) = nI 4) (x : Int32) : sim c0 m0 (V4_4_writes c (nI p) dm x) (M_writesBy 4 m (nI 4) x) := by
  rw [wM_4]
  exact sim_ran h (fun c m h => sim_seq (sim_ran h (fun c m h => sim_seq (sim_ran h (fun c m h => by rw [h.own hp e hk, bd1_s]; exact sim_seq (so_4 hp e hm h hk (x + 1)) (fun v c m h => sim_ret h rfl))) (fun v c m h => by rw [h.own hp e hk, bd1_s]; exact sim_seq (sr_4 hp e hm h hk 1) (fun w c m h => sim_ret h rfl)))) (fun v c m h => sim_ret h rfl))
theorem sw_5 {dm : Int32} (hp : p < 4) (e : m0.1 21 = nI p) (hm : m0.2 1 (50 + 21 * p + 1) = dm) (h : VR c0 m0 c m) (hk : m0.2 1 (50 + 21 * p + 0) = nI 5) (x : Int32) : sim c0 m0 (V5_0_writes c (nI p) dm x) (M_writesBy 4 m (nI 5) x) := by
  rw [wM_5]
  exact sim_ran h (fun c m h => by rw [h.own hp e hk, bd1_s]; exact sim_seq (so_5 hp e hm h hk x) (fun v c m h => sim_ret h rfl))
theorem sw_6 {dm : Int32} (hp : p < 4) (e : m0.1 21 = nI p) (hm : m0.2 1 (50 + 21 * p + 1) = dm) (h : VR c0 m0 c m) (hk : m0.2 1 (50 + 21 * p + 0) = nI 6) (x : Int32) : sim c0 m0 (V6_0_writes c (nI p) dm x) (M_writesBy 4 m (nI 6) x) := by
  rw [wM_6]
  exact sim_ran h (fun c m h => by rw [h.own hp e hk, bd1_s]; exact sim_seq (so_6 hp e hm h hk x) (fun v c m h => sim_ret h rfl))
theorem st_0 {dm : Int32} (hp : p < 4) (e : m0.1 21 = nI p) (hm : m0.2 1 (50 + 21 * p + 1) = dm) (h : VR c0 m0 c m) (hk : m0.2 1 (50 + 21 * p + 0) = nI 0) (x : Int32) : sim c0 m0 (V0_0_tells c (nI p) dm x) (M_tellsBy 4 m (nI 0) x) := by
  rw [tM_0]
  exact sim_ran h (fun c m h => by rw [h.own hp e hk, bd1_s]; exact sim_seq (sw_0 hp e hm h hk x) (fun v c m h => by rw [h.own hp e hk, bd1_s]; exact sim_seq (sr_0 hp e hm h hk x) (fun w c m h => sim_ret h rfl)))
theorem st_1 {dm : Int32} (hp : p < 4) (e : m0.1 21 = nI p) (hm : m0.2 1 (50 + 21 * p + 1) = dm) (h : VR c0 m0 c m) (hk : m0.2 1 (50 + 21 * p + 0) = nI 1) (x : Int32) : sim c0 m0 (V1_0_tells c (nI p) dm x) (M_tellsBy 4 m (nI 1) x) := by
  rw [tM_1]
  exact sim_ran h (fun c m h => by rw [h.own hp e hk, bd1_s]; exact sim_seq (sw_1 hp e hm h hk x) (fun v c m h => by rw [h.own hp e hk, bd1_s]; exact sim_seq (sr_1 hp e hm h hk x) (fun w c m h => sim_ret h rfl)))
theorem st_2 {dm : Int32} (hp : p < 4) (e : m0.1 21 = nI p) (hm : m0.2 1 (50 + 21 * p + 1) = dm) (h : VR c0 m0 c m) (hk : m0.2 1 (50 + 21 * p + 0) = nI 2) (x : Int32) : sim c0 m0 (V2_0_tells c (nI p) dm x) (M_tellsBy 4 m (nI 2) x) := by
  rw [tM_2]
  exact sim_ran h (fun c m h => by rw [h.own hp e hk, bd1_s]; exact sim_seq (sw_2 hp e hm h hk x) (fun v c m h => by rw [h.own hp e hk, bd1_s]; exact sim_seq (sr_2 hp e hm h hk x) (fun w c m h => sim_ret h rfl)))
theorem st_3 {dm : Int32} (hp : p < 4) (e : m0.1 21 = nI p) (hm : m0.2 1 (50 + 21 * p + 1) = dm) (h : VR c0 m0 c m) (hk : m0.2 1 (50 + 21 * p + 0) = nI 3) (x : Int32) : sim c0 m0 (V3_0_tells c (nI p) dm x) (M_tellsBy 4 m (nI 3) x) := by
  rw [tM_3]
  exact sim_ran h (fun c m h => by rw [h.own hp e hk, bd1_s]; exact sim_seq (sw_3 hp e hm h hk x) (fun v c m h => by rw [h.own hp e hk, bd1_s]; exact sim_seq (sr_3 hp e hm h hk x) (fun w c m h => sim_ret h rfl)))
theorem st_4 {dm : Int32} (hp : p < 4) (e : m0.1 21 = nI p) (hm : m0.2 1 (50 + 21 * p + 1) = dm) (h : VR c0 m0 c m) (hk : m0.2 1 (50 + 21 * p + 0) = nI 4) (x : Int32) : sim c0 m0 (V4_0_tells c (nI p) dm x) (M_tellsBy 4 m (nI 4) x) := by
  rw [tM_4]
  exact sim_ran h (fun c m h => by rw [h.own hp e hk, bd1_s]; exact sim_seq (sw_4 hp e hm h hk x) (fun v c m h => by rw [h.own hp e hk, bd1_s]; exact sim_seq (sr_4 hp e hm h hk x) (fun w c m h => sim_ret h rfl)))
theorem st_5 {dm : Int32} (hp : p < 4) (e : m0.1 21 = nI p) (hm : m0.2 1 (50 + 21 * p + 1) = dm) (h : VR c0 m0 c m) (hk : m0.2 1 (50 + 21 * p + 0) = nI 5) (x : Int32) : sim c0 m0 (V5_5_tells c (nI p) dm x) (M_tellsBy 4 m (nI 5) x) := by
  rw [tM_5]
  exact sim_ran h (fun c m h => sim_seq (sim_ran h (fun c m h => by rw [h.own hp e hk, bd1_s]; exact sim_seq (sw_5 hp e hm h hk x) (fun v c m h => by rw [h.own hp e hk, bd1_s]; exact sim_seq (sr_5 hp e hm h hk x) (fun w c m h => sim_ret h rfl)))) (fun v c m h => by rw [h.own hp e hk, bd1_s]; exact sim_seq (so_5 hp e hm h hk 2) (fun w c m h => sim_ret h rfl)))
theorem st_6 {dm : Int32} (hp : p < 4) (e : m0.1 21 = nI p) (hm : m0.2 1 (50 + 21 * p + 1) = dm) (h : VR c0 m0 c m) (hk : m0.2 1 (50 + 21 * p + 0) = nI 6) (x : Int32) : sim c0 m0 (V6_6_tells c (nI p) dm x) (M_tellsBy 4 m (nI 6) x) := by
  rw [tM_6]
  exact sim_ran h (fun c m h => by rw [h.own hp e hk, bd1_s]; exact sim_seq (sw_6 hp e hm h hk x) (fun v c m h => sim_seq (sim_ran h (fun c m h => by rw [h.own hp e hk, bd1_s]; exact sim_seq (sw_6 hp e hm h hk x) (fun v c m h => by rw [h.own hp e hk, bd1_s]; exact sim_seq (sr_6 hp e hm h hk x) (fun w c m h => sim_ret h rfl)))) (fun w c m h => sim_ret h rfl)))
theorem so_k {dm : Int32} (hp : p < 4) (e : m0.1 21 = nI p) (hm : m0.2 1 (50 + 21 * p + 1) = dm) (h : VR c0 m0 c m) (k : Nat) (hk7 : k < 7) (hk : m0.2 1 (50 + 21 * p + 0) = nI k) (x : Int32) : sim c0 m0 (V_owes k c (nI p) dm x) (M_owesBy 4 m (nI k) x) := by
  match k, hk7 with
  | 0, _ => exact so_0 hp e hm h hk x
  | 1, _ => exact so_1 hp e hm h hk x
  | 2, _ => exact so_2 hp e hm h hk x
  | 3, _ => exact so_3 hp e hm h hk x
  | 4, _ => exact so_4 hp e hm h hk x
  | 5, _ => exact so_5 hp e hm h hk x
  | 6, _ => exact so_6 hp e hm h hk x
theorem sr_k {dm : Int32} (hp : p < 4) (e : m0.1 21 = nI p) (hm : m0.2 1 (50 + 21 * p + 1) = dm) (h : VR c0 m0 c m) (k : Nat) (hk7 : k < 7) (hk : m0.2 1 (50 + 21 * p + 0) = nI k) (x : Int32) : sim c0 m0 (V_reads k c (nI p) dm x) (M_readsBy 4 m (nI k) x) := by
  match k, hk7 with
  | 0, _ => exact sr_0 hp e hm h hk x
  | 1, _ => exact sr_1 hp e hm h hk x
  | 2, _ => exact sr_2 hp e hm h hk x
  | 3, _ => exact sr_3 hp e hm h hk x
  | 4, _ => exact sr_4 hp e hm h hk x
  | 5, _ => exact sr_5 hp e hm h hk x
  | 6, _ => exact sr_6 hp e hm h hk x
theorem sw_k {dm : Int32} (hp : p < 4) (e : m0.1 21 = nI p) (hm : m0.2 1 (50 + 21 * p + 1) = dm) (h : VR c0 m0 c m) (k : Nat) (hk7 : k < 7) (hk : m0.2 1 (50 + 21 * p + 0) = nI k) (x : Int32) : sim c0 m0 (V_writes k c (nI p) dm x) (M_writesBy 4 m (nI k) x) := by
  match k, hk7 with
  | 0, _ => exact sw_0 hp e hm h hk x
  | 1, _ => exact sw_1 hp e hm h hk x
  | 2, _ => exact sw_2 hp e hm h hk x
  | 3, _ => exact sw_3 hp e hm h hk x
  | 4, _ => exact sw_4 hp e hm h hk x
  | 5, _ => exact sw_5 hp e hm h hk x
  | 6, _ => exact sw_6 hp e hm h hk x
theorem st_k {dm : Int32} (hp : p < 4) (e : m0.1 21 = nI p) (hm : m0.2 1 (50 + 21 * p + 1) = dm) (h : VR c0 m0 c m) (k : Nat) (hk7 : k < 7) (hk : m0.2 1 (50 + 21 * p + 0) = nI k) (x : Int32) : sim c0 m0 (V_tells k c (nI p) dm x) (M_tellsBy 4 m (nI k) x) := by
  match k, hk7 with
  | 0, _ => exact st_0 hp e hm h hk x
  | 1, _ => exact st_1 hp e hm h hk x
  | 2, _ => exact st_2 hp e hm h hk x
  | 3, _ => exact st_3 hp e hm h hk x
  | 4, _ => exact st_4 hp e hm h hk x
  | 5, _ => exact st_5 hp e hm h hk x
  | 6, _ => exact st_6 hp e hm h hk x
theorem s_voice : stp_voice ad adK cA (INV (ad 62) cA k) (INV (ad 62) cA (k + 1)) := by
  intro nx cs ms x1 x2 x3 I fr
  obtain ⟨F, D, M, H⟩ := I.r0
  have lD := H.i.lD
  rw [L_voice, M_voice, Min_0_3]
  rcases H.isD x1 with ⟨h1, h2⟩ | ⟨p, hp, rfl, h1, h2⟩
  · have hL : ∃ v, L_in x2 0 3 = some v := by rcases in_two x2 0 3 with h | ⟨h, -⟩ <;> exact ⟨_, h⟩
    obtain ⟨v, hv⟩ := hL
    rw [hv, bd1_s, L_debtorAt, h1, bd1_s, if_pos rfl, need_0, bd2_s, onx_n, bd2_s, onx_n, bd2_p, h2, bd1_s, if_pos rfl, bd2_p]; exact I.find fr (c := 1) (by decide)
  · have hp4 : p < 4 := by omega
    obtain ⟨k1, k2, a, k3, k4⟩ := H.kdx hp
    rw [h2, bd1_s, if_neg (c := (1 : Int32) = 0) (by decide)]
    rcases in_le x2 3 (by decide) with h | ⟨e, e1, rfl, h⟩
    · rw [show L_in x2 0 3 = some 0 from h, bd1_s, L_debtorAt, h1, bd1_s, if_neg (by decide), if_pos rfl, need_0, bd2_s, onx_n, bd2_s, onx_n, bd2_p, bd1_s, if_pos rfl, bd2_p]; exact I.find fr (c := 1) (by decide)
    · have V0 : VR (csF cs 62 1 0) (sf (sf ms 20 0) 21 (nI p)) (csF cs 62 1 0) (sf (sf ms 20 0) 21 (nI p)) := ⟨⟨by rw [cF_at, sf_ne _ _ (by decide), sf_at], ⟨0, by rw [sf_ne _ _ (by decide), sf_at]; rfl, by omega⟩, fun i hi => I.td i hi⟩, fun _ _ => rfl, fun _ _ => rfl, rfl, fun _ _ => rfl, fun _ _ => rfl⟩
      have w : (sf (sf ms 20 0) 21 (nI p)).1 21 = nI p := sf_at _ _ _
      have ho := V0.own hp4 w (k := kd (ms.2 1) p) k1
      have fin : ∀ l r, sim (csF cs 62 1 0) (sf (sf ms 20 0) 21 (nI p)) l r → OK (ad 62) cA k l r := fun l r hs => by
        obtain ⟨v, c, m, e1, e2, ⟨v1, v2, v3⟩, v4, v5, v6, v7, v8⟩ := hs
        have g1 : ∀ j, j ≠ 62 → c.1 j = cs.1 j := fun j hj => (v4 j hj).trans (cF_nk _ _ hj)
        have g2 : ∀ j, j ≠ 20 → j ≠ 21 → m.1 j = ms.1 j := fun j h1 h2 => (v7 j h1).trans (by rw [sf_ne _ _ h2, sf_ne _ _ h1])
        refine ⟨v, c, m, e1, e2, INV.mk ⟨F, D, M, ?_⟩ (by rw [g1 60 (by decide), g2 3 (by decide) (by decide)]; exact I.im) ?_ (fun hn => ?_) (fun i hi => ?_) v1 v2 v3 ?_ (by rw [g1 0 (by decide)]; exact I.ro) (by rw [g2 12 (by decide) (by decide)]; exact I.mo)⟩
        · rw [v8 1 (by decide)]
          exact H.same (g1 _ (by decide)) (fun j hj => v5 _ (by omega)) v6
        · obtain ⟨j, j1, j2⟩ := I.imk
          exact ⟨j, by rw [g2 3 (by decide) (by decide)]; exact j1, by omega⟩
        · rw [g2 3 (by decide) (by decide)] at hn
          obtain ⟨F, D, M, H⟩ := I.r1 hn
          exact ⟨F, D, M, by rw [v8 2 (by decide)]; exact H.same (g1 _ (by decide)) (fun j hj => v5 _ (by omega)) v6⟩
        · rw [v5 64 (by decide), v8 4 (by decide)]; exact I.er i hi
        · obtain ⟨b, b1, b2⟩ := I.sh
          refine ⟨b, fun i j hi hj h1 h2 => ?_, fun j hj => ?_⟩
          · rw [v6] at h1 h2; exact b1 i j hi hj h1 h2
          · unfold shR
            rw [v6, v8 11 (by decide), v8 12 (by decide), v8 13 (by decide)]
            exact b2 j hj
      rw [show L_in (nI e) 0 3 = some 1 from h, bd1_s, L_debtorAt, h1, bd1_s, if_neg (c := (1 : Int32) = 0) (by decide), if_neg (c := (1 : Int32) = 0) (by decide), need_1, bd2_s, onx_s, H.atD hp k3, bd1_s, onq_s, bd2_s, onx_s, bd1_s, if_neg (c := (1 : Int32) = 0) (by decide), show dvOf ((csF cs 62 1 0).2.2.2 (1000 + a)) = _ from k4, bd4_s, bd4_s, bd4_s, bd4_s, if_pos rfl, if_pos rfl, if_pos rfl, if_pos rfl, ho, bd1_s, bd2_p, bd2_p, bd2_p, bd2_p, bd2_p, bd2_p, bd2_p, bd2_p]
      match e, e1 with
      | 0, _ => exact fin _ _ (so_k hp4 w rfl V0 _ k2 k1 x3)
      | 1, _ => exact fin _ _ (sw_k hp4 w rfl V0 _ k2 k1 x3)
      | 2, _ => exact fin _ _ (sr_k hp4 w rfl V0 _ k2 k1 x3)
      | 3, _ => exact fin _ _ (st_k hp4 w rfl V0 _ k2 k1 x3)
end
