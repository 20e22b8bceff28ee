/-! the pure stage: what is read of a town -/
set_option maxRecDepth 100000
theorem NN_lt {k : Nat} (h : k < 1000) : k < NN := Nat.lt_of_lt_of_le h (Nat.le_of_ble_eq_true rfl)
theorem and1 (y : Int32) : y &&& 1 = 0 ∨ y &&& 1 = 1 := by
  obtain ⟨j, hj, h⟩ := pk_andE y (m := 1) 1 rfl
  rw [h]
  match j, hj with
  | 0, _ => exact Or.inl rfl
  | 1, _ => exact Or.inr rfl
theorem nI_zero_le {n : Nat} (h : n < 2 ^ 31) : nI n ≤ 0 ↔ n = 0 := by
  rw [show (0 : Int32) = nI 0 from rfl, nI_leI h (by decide)]; omega
theorem nI_zero_eq {n : Nat} (h : n < 2 ^ 31) : nI n = 0 ↔ n = 0 := by
  rw [show (0 : Int32) = nI 0 from rfl, nI_eq h (by decide)]
section
variable {t tr F D M p : Nat} {cs : CS} {d : Nat → Int32} {ms : MSt}
theorem rdC (a : Nat → Int32) (n k : Nat) (h : k < n) (hn : n < 2 ^ 31) : rd a n (nI k) = some (a k) := rd_nI h hn
theorem TR.mnyT (H : TR t tr cs d F D M) (hp : p < 4) : rd (cs.2.1 (20 * t + 8)) 4 (nI p) = some (nI (mn d p)) := by
  rw [rdC _ _ _ hp (by decide), (H.n.de p hp).mny, ← (H.i.de p hp).mny.1]
theorem TR.mnyM (H : TR t tr cs d F D M) (hd : ms.2 1 = d) (hp : p < 4) : M_of ms (nI p) 4 = some (nI (mn d p)) := by
  rw [of4 hp, hd, ← (H.i.de p hp).mny.1]
theorem TR.bkT {i : Nat} (H : TR t tr cs d F D M) (hp : p < 4) (hi : i < mn d p) : T_factAt t cs (nI p) (nI i) = some (nI (bf d p i)) := by
  have l8 := (H.i.de p hp).mny.2
  rw [T_factAt, ixB, rdC _ _ _ (by omega) (by decide), (H.n.de p hp).bk i (by omega), ← ((H.i.de p hp).bk i hi).1]; rfl
theorem TR.bkM {i : Nat} (H : TR t tr cs d F D M) (hd : ms.2 1 = d) (hp : p < 4) (hi : i < mn d p) : M_of ms (nI p) (5 + nI i) = some (nI (bf d p i)) := by
  have l8 := (H.i.de p hp).mny.2
  rw [ofB hp (by omega), hd, ← ((H.i.de p hp).bk i hi).1]
/-- what is told, as a set -/
def bkS (d : Nat → Int32) (p : Nat) : Int32 := nfo (fun i s => s ||| (1 <<< (nI (bf d p i) &&& 31))) 0 (mn d p) 0
theorem TR.toldT (H : TR t tr cs d F D M) (hp : p < 4) : T_told t NN cs (nI p) = some (bkS d p) := by
  have l8 := (H.i.de p hp).mny.2
  rw [T_told, show (0 : Int32) = nI 0 from rfl, loopF (T_told_L4 NN t cs (nI p)) (mn d p) (fun i s => s ||| (1 <<< (nI (bf d p i) &&& 31))) id (fun n a => ?_) (fun n a j hj => ?_) (mn d p) 0 _ NN (by omega) (NN_lt (by omega))]
  · rfl
  · rw [T_told_L4, H.mnyT hp, bd1_s, if_pos (nI_le (Nat.le_refl _) (by omega))]; rfl
  · rw [T_told_L4, H.mnyT hp, bd1_s, if_neg (nI_ge hj (by omega)), H.bkT hp hj, bd1_s, nI_1]
theorem TR.toldM (H : TR t tr cs d F D M) (hd : ms.2 1 = d) (hp : p < 4) : M_bookOf NN ms (nI p) = some (bkS d p) := by
  have l8 := (H.i.de p hp).mny.2
  rw [M_bookOf, show (0 : Int32) = nI 0 from rfl, loopF (M_bookOf_L4 NN ms (nI p)) (mn d p) (fun i s => s ||| (1 <<< (nI (bf d p i) &&& 31))) id (fun n a => ?_) (fun n a j hj => ?_) (mn d p) 0 _ NN (by omega) (NN_lt (by omega))]
  · rfl
  · rw [M_bookOf_L4, H.mnyM hd hp, bd1_s, if_pos (nI_le (Nat.le_refl _) (by omega))]; rfl
  · rw [M_bookOf_L4, H.mnyM hd hp, bd1_s, if_neg (nI_ge hj (by omega)), H.bkM hd hp hj, bd1_s, nI_1]
theorem fold_bt (h : Nat → Nat) (f : Nat) (hf : f < 32) : ∀ k, (∀ i, i < k → h i < 32) → (bt (nfo (fun i s => s ||| (1 <<< (nI (h i) &&& 31))) 0 k 0) f = true ↔ ∃ i, i < k ∧ h i = f) := by
  intro k
  induction k with
  | zero =>
    intro _
    refine ⟨fun h => ?_, fun ⟨i, h, _⟩ => by omega⟩
    have h : bt 0 f = true := h
    rw [b_0] at h; cases h
  | succ k ih =>
    intro hk
    rw [nfo_succ, b_or, Bool.or_eq_true, ih (fun i hi => hk i (by omega)), Nat.zero_add, bit_one (hk k (by omega)) hf, decide_eq_true_iff]
    constructor
    · rintro (⟨i, h1, h2⟩ | h)
      · exact ⟨i, by omega, h2⟩
      · exact ⟨k, by omega, h.symm⟩
    · rintro ⟨i, h1, h2⟩
      rcases Nat.lt_or_ge i k with h | h
      · exact Or.inl ⟨i, h, h2⟩
      · exact Or.inr (by rw [← h2, show i = k by omega])
theorem TR.toldB (H : TR t tr cs d F D M) (hp : p < 4) {f : Nat} (hf : f < 32) : bt (bkS d p) f = true ↔ ∃ i, i < mn d p ∧ bf d p i = f :=
  fold_bt _ f hf _ (fun i hi => by have := ((H.i.de p hp).bk i hi).2; have := H.i.lF; omega)
/-- whether another one has told it -/
def els (d : Nat → Int32) (D p f : Nat) : Int32 := nfo (fun e x => x ||| (if e = p then 0 else if bt (bkS d e) f then 1 else 0)) 0 D 0
theorem TR.elsT (H : TR t tr cs d F D M) (hp : p < 4) {f : Nat} (hf : f < 32) : T_isElsewhere_L5 NN t cs (nI p) (nI f) NN 0 0 = some (els d D p f) := by
  have lD := H.i.lD
  have e6 : cs.1 (20 * t) 6 = nI D := H.n.h.f6.trans H.i.hD
  rw [show T_isElsewhere_L5 NN t cs (nI p) (nI f) NN 0 0 = T_isElsewhere_L5 NN t cs (nI p) (nI f) NN 0 (nI 0) from rfl]
  refine loopF (T_isElsewhere_L5 NN t cs (nI p) (nI f)) D (fun e x => x ||| (if e = p then 0 else if bt (bkS d e) f then 1 else 0)) id (fun n a => ?_) (fun n a j hj => ?_) D 0 _ NN (by omega) (NN_lt (by omega))
  · rw [T_isElsewhere_L5, e6, if_pos (nI_le (Nat.le_refl _) (by omega))]; rfl
  · rw [T_isElsewhere_L5, e6, if_neg (nI_ge hj (by omega))]
    by_cases e : j = p
    · rw [if_pos (by rw [e]), if_pos e, nI_1]
    · rw [if_neg (fun h => e ((nI_eq (by omega) (by omega)).mp h)), if_neg e, H.toldT (by omega), bd1_s, isIn_bt hf, bd1_s]
      cases bt (bkS d j) f
      · rw [if_pos (by decide), nI_1]; rfl
      · rw [if_neg (by decide), nI_1]; rfl
theorem els_is (d : Nat → Int32) (p f : Nat) : ∀ D, (els d D p f = 0 ∧ ∀ e, e < D → e ≠ p → bt (bkS d e) f = false) ∨ (els d D p f = 1 ∧ ∃ e, e < D ∧ e ≠ p ∧ bt (bkS d e) f = true) := by
  intro D
  induction D with
  | zero => exact Or.inl ⟨rfl, fun e h => by omega⟩
  | succ D ih =>
    rw [show els d (D + 1) p f = els d D p f ||| (if D = p then 0 else if bt (bkS d D) f then 1 else 0) from by rw [els, nfo_succ, Nat.zero_add, els]]
    by_cases e : D = p
    · rw [if_pos e]
      rcases ih with ⟨h1, h2⟩ | ⟨h1, e2, h2, h3⟩
      · exact Or.inl ⟨by rw [h1]; rfl, fun e3 h4 h5 => h2 e3 (by omega) h5⟩
      · exact Or.inr ⟨by rw [h1]; rfl, e2, by omega, h3⟩
    · rw [if_neg e]
      cases hb : bt (bkS d D) f
      · rw [if_neg (by decide)]
        rcases ih with ⟨h1, h2⟩ | ⟨h1, e2, h2, h3⟩
        · refine Or.inl ⟨by rw [h1]; rfl, fun e3 h4 h5 => ?_⟩
          rcases Nat.lt_or_ge e3 D with h | h
          · exact h2 e3 h h5
          · rw [show e3 = D by omega]; exact hb
        · exact Or.inr ⟨by rw [h1]; rfl, e2, by omega, h3⟩
      · rw [if_pos rfl]
        refine Or.inr ⟨?_, D, by omega, e, hb⟩
        rcases ih with ⟨h1, -⟩ | ⟨h1, -⟩ <;> rw [h1] <;> rfl
def bwC (d : Nat → Int32) (f : Nat) : Nat → Nat := fb_ct (fun e => bt (bkS d e) f)
theorem TR.bwM (H : TR t tr cs d F D M) (hd : ms.2 1 = d) {f : Nat} (hf : f < 32) : M_booksWith NN ms (nI f) = some (nI (bwC d f D)) := by
  have lD := H.i.lD
  have e6 : ms.2 1 1 = nI D := by rw [hd]; exact H.i.hD
  have hz : ∀ k, nfo (fun e n => n + (if bt (bkS d e) f then 1 else 0)) 0 k 0 = nI (bwC d f k) := by
    intro k
    induction k with
    | zero => rfl
    | succ k ih =>
      rw [nfo_succ, ih, Nat.zero_add, bwC, fb_ct_succ]
      cases bt (bkS d k) f
      · exact nI_add _ 0
      · exact nI_add _ 1
  rw [M_booksWith, show M_booksWith_L4 NN ms (nI f) NN 0 0 = M_booksWith_L4 NN ms (nI f) NN 0 (nI 0) from rfl, loopF (M_booksWith_L4 NN ms (nI f)) D (fun e n => n + (if bt (bkS d e) f then 1 else 0)) id (fun n a => ?_) (fun n a j hj => ?_) D 0 _ NN (by omega) (NN_lt (by omega)), bd1_p, hz]
  · rfl
  · rw [M_booksWith_L4, rdM1, e6, bd1_s, if_pos (nI_le (Nat.le_refl _) (by omega))]; rfl
  · rw [M_booksWith_L4, rdM1, e6, bd1_s, if_neg (nI_ge hj (by omega)), H.toldM hd (by omega), bd1_s, bit_and hf, nI_1]
/-- whether a fact is open by a book -/
def io (d : Nat → Int32) (b : Int32) (f : Nat) : Bool := !(decide (d (10 + 5 * f + 2) ≤ 0)) && !(decide ((b >>> (d (10 + 5 * f + 3) &&& 31)) &&& 1 = 1))
theorem TR.ioT (H : TR t tr cs d F D M) {f : Nat} (hf : f < 8) (b : Int32) : T_isOpen t cs b (nI f) = some (if io d b f then 1 else 0) := by
  rw [T_isOpen, rdC _ _ _ hf (by decide), (H.n.fa f hf).wi, bd1_s]
  unfold io
  by_cases h : d (10 + 5 * f + 2) ≤ 0
  · rw [if_pos h, decide_eq_true h]; rfl
  · rw [if_neg h, decide_eq_false h, rdC _ _ _ hf (by decide), (H.n.fa f hf).by1 (fun h2 => h (by rw [h2]; decide)), bd1_s]
    unfold L_isIn
    by_cases h2 : (b >>> (d (10 + 5 * f + 3) &&& 31)) &&& 1 = 1
    · rw [if_pos h2, decide_eq_true h2]; rfl
    · rw [if_neg h2, decide_eq_false h2]; rfl
theorem TR.ioM (H : TR t tr cs d F D M) (hd : ms.2 1 = d) {f : Nat} (hf : f < 8) (b : Int32) : M_isOpen ms (nI f) b = some (if io d b f then 1 else 0) := by
  rw [M_isOpen, its2 hf, hd, bd1_s]
  unfold io
  by_cases h : d (10 + 5 * f + 2) ≤ 0
  · rw [if_pos h, decide_eq_true h]; rfl
  · rw [if_neg h, decide_eq_false h, its3 hf, hd, bd1_s]
    by_cases h2 : (b >>> (d (10 + 5 * f + 3) &&& 31)) &&& 1 = 1
    · rw [if_neg (by rw [h2]; decide), decide_eq_true h2]; rfl
    · rw [if_pos ((and1 _).resolve_right h2), decide_eq_false h2]; rfl
end
