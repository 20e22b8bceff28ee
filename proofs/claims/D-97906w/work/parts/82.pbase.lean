/-! the pure stage: base rows -/
set_option maxRecDepth 100000
/-- k steps from j -/
def nfo {α : Type} (f : Nat → α → α) : Nat → Nat → α → α
  | _, 0, a => a
  | j, k + 1, a => nfo f (j + 1) k (f j a)
theorem nfo_cong {α : Type} {f g : Nat → α → α} : ∀ (k j : Nat) (a : α), (∀ i, j ≤ i → i < j + k → ∀ a, f i a = g i a) → nfo f j k a = nfo g j k a
  | 0, _, _, _ => rfl
  | k + 1, j, a, h => by
    rw [nfo, nfo, h j (by omega) (by omega)]
    exact nfo_cong k (j + 1) _ (fun i h1 h2 => h i (by omega) (by omega))
theorem nfo_succ {α : Type} (f : Nat → α → α) : ∀ (k j : Nat) (a : α), nfo f j (k + 1) a = f (j + k) (nfo f j k a)
  | 0, _, _ => rfl
  | k + 1, j, a => by
    rw [nfo, nfo_succ f k (j + 1), nfo, show j + 1 + k = j + (k + 1) by omega]
theorem loopF {α β : Type} (L : Nat → α → Int32 → Option β) (K : Nat) (f : Nat → α → α) (fin : α → β) (h0 : ∀ n a, L (n + 1) a (nI K) = some (fin a)) (h1 : ∀ n a j, j < K → L (n + 1) a (nI j) = L n (f j a) (nI (j + 1))) : ∀ k j a n, j + k = K → k < n → L n a (nI j) = some (fin (nfo f j k a)) := by
  intro k
  induction k with
  | zero =>
    intro j a n hj hn
    obtain ⟨n, rfl⟩ : ∃ m, n = m + 1 := ⟨n - 1, by omega⟩
    rw [show j = K by omega, h0]; rfl
  | succ k ih =>
    intro j a n hj hn
    obtain ⟨n, rfl⟩ : ∃ m, n = m + 1 := ⟨n - 1, by omega⟩
    rw [h1 n a j (by omega), ih (j + 1) _ n (by omega) (by omega)]; rfl
/-- a loop with what holds in it -/
theorem loopP {α β : Type} (L : Nat → α → Int32 → Option β) (K : Nat) (P : Nat → α → Prop) (R : β → Prop) (h0 : ∀ n a, P K a → ∃ r, L (n + 1) a (nI K) = some r ∧ R r) (h1 : ∀ n a j, j < K → P j a → (∃ r, L (n + 1) a (nI j) = some r ∧ R r) ∨ ∃ a', L (n + 1) a (nI j) = L n a' (nI (j + 1)) ∧ P (j + 1) a') : ∀ k j a n, j + k = K → k < n → P j a → ∃ r, L n a (nI j) = some r ∧ R r := by
  intro k
  induction k with
  | zero =>
    intro j a n hj hn hp
    obtain ⟨n, rfl⟩ : ∃ m, n = m + 1 := ⟨n - 1, by omega⟩
    rw [show j = K by omega] at hp ⊢
    exact h0 n a hp
  | succ k ih =>
    intro j a n hj hn hp
    obtain ⟨n, rfl⟩ : ∃ m, n = m + 1 := ⟨n - 1, by omega⟩
    rcases h1 n a j (by omega) hp with h | ⟨a', h2, h3⟩
    · exact h
    · rw [h2]
      exact ih (j + 1) a' n (by omega) (by omega) h3
/-- two loops in step -/
theorem loop2 {α β α' β' : Type} (L : Nat → α → Int32 → Option β) (L' : Nat → α' → Int32 → Option β') (K : Nat) (P : Nat → α → α' → Prop) (R : β → β' → Prop)
    (h0 : ∀ n n' a a', P K a a' → ∃ r r', L (n + 1) a (nI K) = some r ∧ L' (n' + 1) a' (nI K) = some r' ∧ R r r')
    (h1 : ∀ n n' a a' j, j < K → P j a a' → (∃ r r', L (n + 1) a (nI j) = some r ∧ L' (n' + 1) a' (nI j) = some r' ∧ R r r') ∨ ∃ b b', L (n + 1) a (nI j) = L n b (nI (j + 1)) ∧ L' (n' + 1) a' (nI j) = L' n' b' (nI (j + 1)) ∧ P (j + 1) b b') : ∀ k j a a' n n', j + k = K → k < n → k < n' → P j a a' → ∃ r r', L n a (nI j) = some r ∧ L' n' a' (nI j) = some r' ∧ R r r' := by
  intro k
  induction k with
  | zero =>
    intro j a a' n n' hj hn hn' hp
    obtain ⟨n, rfl⟩ : ∃ m, n = m + 1 := ⟨n - 1, by omega⟩
    obtain ⟨n', rfl⟩ : ∃ m, n' = m + 1 := ⟨n' - 1, by omega⟩
    rw [show j = K by omega] at hp ⊢
    exact h0 n n' a a' hp
  | succ k ih =>
    intro j a a' n n' hj hn hn' hp
    obtain ⟨n, rfl⟩ : ∃ m, n = m + 1 := ⟨n - 1, by omega⟩
    obtain ⟨n', rfl⟩ : ∃ m, n' = m + 1 := ⟨n' - 1, by omega⟩
    rcases h1 n n' a a' j (by omega) hp with h | ⟨b, b', h2, h3, h4⟩
    · exact h
    · rw [h2, h3]
      exact ih (j + 1) b b' n n' (by omega) (by omega) (by omega) h4
-- binds
theorem bd1_s {α β : Type} (a : α) (f : α → Option β) : bd1 (some a) f = f a := rfl
theorem bd2_s {α α2 β : Type} (a : α) (b : α2) (f : α → α2 → Option β) : bd2 (some (a, b)) f = f a b := rfl
theorem bd3_s {α α2 α3 β : Type} (a : α) (b : α2) (c : α3) (f : α → α2 → α3 → Option β) : bd3 (some (a, b, c)) f = f a b c := rfl
theorem bd4_s {α α2 α3 α4 β : Type} (a : α) (b : α2) (c : α3) (e : α4) (f : α → α2 → α3 → α4 → Option β) : bd4 (some (a, b, c, e)) f = f a b c e := rfl
theorem bd2_p {α β : Type} (x : Option (α × β)) : (bd2 x fun v s => some (v, s)) = x := by cases x <;> rfl
theorem bd1_p {α : Type} (x : Option α) : (bd1 x fun v => some v) = x := by cases x <;> rfl
theorem onx_n {ρ β : Type} (x : Option β) (f : ρ → Option β) : onx none x f = x := rfl
theorem onx_s {ρ β : Type} (a : ρ) (x : Option β) (f : ρ → Option β) : onx (some a) x f = f a := rfl
theorem onq_n {β : Type} (x : Option β) (f : Nat → Option β) : onq none x f = x := rfl
theorem onq_s {β : Type} (a : Nat) (x : Option β) (f : Nat → Option β) : onq (some a) x f = f a := rfl
theorem zr_0 : zr 0 = some 0 := rfl
theorem zr_1 : zr 1 = some 1 := rfl
theorem need_0 (st : CS) (c : Int32) : L_need st 0 c = some (none, csF st 61 6 c) := rfl
theorem need_1 (st : CS) (c : Int32) : L_need st 1 c = some (some (), st) := rfl
-- reads and writes
theorem rdM {d : Nat → Int32} (k : Nat) (h : k < 342) : rd d 342 (nI k) = some (d k) := rd_nI h (by decide)
theorem wrM {d : Nat → Int32} {v : Int32} (k : Nat) (h : k < 342) : wr d 342 (nI k) v = some (upd d k v) := wr_nI h (by decide)
theorem rdM0 {d : Nat → Int32} : rd d 342 0 = some (d 0) := rdM 0 (by decide)
theorem rdM1 {d : Nat → Int32} : rd d 342 1 = some (d 1) := rdM 1 (by decide)
theorem rdM2 {d : Nat → Int32} : rd d 342 2 = some (d 2) := rdM 2 (by decide)
theorem rdM3 {d : Nat → Int32} : rd d 342 3 = some (d 3) := rdM 3 (by decide)
theorem rdM4 {d : Nat → Int32} : rd d 342 4 = some (d 4) := rdM 4 (by decide)
theorem rdM5 {d : Nat → Int32} : rd d 342 5 = some (d 5) := rdM 5 (by decide)
theorem rdM6 {d : Nat → Int32} : rd d 342 6 = some (d 6) := rdM 6 (by decide)
theorem wrM0 {d : Nat → Int32} {v : Int32} : wr d 342 0 v = some (upd d 0 v) := wrM 0 (by decide)
theorem wrM1 {d : Nat → Int32} {v : Int32} : wr d 342 1 v = some (upd d 1 v) := wrM 1 (by decide)
theorem wrM2 {d : Nat → Int32} {v : Int32} : wr d 342 2 v = some (upd d 2 v) := wrM 2 (by decide)
theorem wrM3 {d : Nat → Int32} {v : Int32} : wr d 342 3 v = some (upd d 3 v) := wrM 3 (by decide)
theorem wrM4 {d : Nat → Int32} {v : Int32} : wr d 342 4 v = some (upd d 4 v) := wrM 4 (by decide)
theorem wrM5 {d : Nat → Int32} {v : Int32} : wr d 342 5 v = some (upd d 5 v) := wrM 5 (by decide)
theorem wrM6 {d : Nat → Int32} {v : Int32} : wr d 342 6 v = some (upd d 6 v) := wrM 6 (by decide)
theorem ixF (f k : Nat) : (10 + 5 * nI f) + nI k = nI (10 + 5 * f + k) := by
  show nI 10 + nI 5 * nI f + nI k = _
  rw [pk_mul, nI_add, nI_add]
theorem ixD (f k : Nat) : (50 + 21 * nI f) + nI k = nI (50 + 21 * f + k) := by
  show nI 50 + nI 21 * nI f + nI k = _
  rw [pk_mul, nI_add, nI_add]
theorem ixB (f k : Nat) : 8 * nI f + nI k = nI (8 * f + k) := by
  show nI 8 * nI f + nI k = _
  rw [pk_mul, nI_add]
theorem ixM (k : Nat) : 134 + 3 * nI k = nI (134 + 3 * k) := by
  show nI 134 + nI 3 * nI k = _
  rw [pk_mul, nI_add]
theorem its_at {st : MSt} {f : Nat} (k : Nat) (hf : f < 8) (hk : k < 5) : M_its st (nI f) (nI k) = some (st.2 1 (10 + 5 * f + k)) := by
  rw [M_its, ixF, rdM _ (by omega)]; rfl
theorem of_at {st : MSt} {f : Nat} (k : Nat) (hf : f < 4) (hk : k < 21) : M_of st (nI f) (nI k) = some (st.2 1 (50 + 21 * f + k)) := by
  rw [M_of, ixD, rdM _ (by omega)]; rfl
theorem puts_at {st : MSt} {f : Nat} {v : Int32} (k : Nat) (hf : f < 8) (hk : k < 5) : M_puts st (nI f) (nI k) v = some (sa st 1 (upd (st.2 1) (10 + 5 * f + k) v)) := by
  rw [M_puts, ixF, wrM _ (by omega)]; rfl
theorem sets_at {st : MSt} {f : Nat} {v : Int32} (k : Nat) (hf : f < 4) (hk : k < 21) : M_sets st (nI f) (nI k) v = some (sa st 1 (upd (st.2 1) (50 + 21 * f + k) v)) := by
  rw [M_sets, ixD, wrM _ (by omega)]; rfl
theorem its0 {st : MSt} {f : Nat} (hf : f < 8) : M_its st (nI f) 0 = some (st.2 1 (10 + 5 * f + 0)) := its_at 0 hf (by decide)
theorem its1 {st : MSt} {f : Nat} (hf : f < 8) : M_its st (nI f) 1 = some (st.2 1 (10 + 5 * f + 1)) := its_at 1 hf (by decide)
theorem its2 {st : MSt} {f : Nat} (hf : f < 8) : M_its st (nI f) 2 = some (st.2 1 (10 + 5 * f + 2)) := its_at 2 hf (by decide)
theorem its3 {st : MSt} {f : Nat} (hf : f < 8) : M_its st (nI f) 3 = some (st.2 1 (10 + 5 * f + 3)) := its_at 3 hf (by decide)
theorem its4 {st : MSt} {f : Nat} (hf : f < 8) : M_its st (nI f) 4 = some (st.2 1 (10 + 5 * f + 4)) := its_at 4 hf (by decide)
theorem puts0 {st : MSt} {f : Nat} {v : Int32} (hf : f < 8) : M_puts st (nI f) 0 v = some (sa st 1 (upd (st.2 1) (10 + 5 * f + 0) v)) := puts_at 0 hf (by decide)
theorem puts1 {st : MSt} {f : Nat} {v : Int32} (hf : f < 8) : M_puts st (nI f) 1 v = some (sa st 1 (upd (st.2 1) (10 + 5 * f + 1) v)) := puts_at 1 hf (by decide)
theorem puts2 {st : MSt} {f : Nat} {v : Int32} (hf : f < 8) : M_puts st (nI f) 2 v = some (sa st 1 (upd (st.2 1) (10 + 5 * f + 2) v)) := puts_at 2 hf (by decide)
theorem puts3 {st : MSt} {f : Nat} {v : Int32} (hf : f < 8) : M_puts st (nI f) 3 v = some (sa st 1 (upd (st.2 1) (10 + 5 * f + 3) v)) := puts_at 3 hf (by decide)
theorem puts4 {st : MSt} {f : Nat} {v : Int32} (hf : f < 8) : M_puts st (nI f) 4 v = some (sa st 1 (upd (st.2 1) (10 + 5 * f + 4) v)) := puts_at 4 hf (by decide)
theorem of0 {st : MSt} {f : Nat} (hf : f < 4) : M_of st (nI f) 0 = some (st.2 1 (50 + 21 * f + 0)) := of_at 0 hf (by decide)
theorem of1 {st : MSt} {f : Nat} (hf : f < 4) : M_of st (nI f) 1 = some (st.2 1 (50 + 21 * f + 1)) := of_at 1 hf (by decide)
theorem of2 {st : MSt} {f : Nat} (hf : f < 4) : M_of st (nI f) 2 = some (st.2 1 (50 + 21 * f + 2)) := of_at 2 hf (by decide)
theorem of3 {st : MSt} {f : Nat} (hf : f < 4) : M_of st (nI f) 3 = some (st.2 1 (50 + 21 * f + 3)) := of_at 3 hf (by decide)
theorem of4 {st : MSt} {f : Nat} (hf : f < 4) : M_of st (nI f) 4 = some (st.2 1 (50 + 21 * f + 4)) := of_at 4 hf (by decide)
theorem sets0 {st : MSt} {f : Nat} {v : Int32} (hf : f < 4) : M_sets st (nI f) 0 v = some (sa st 1 (upd (st.2 1) (50 + 21 * f + 0) v)) := sets_at 0 hf (by decide)
theorem sets1 {st : MSt} {f : Nat} {v : Int32} (hf : f < 4) : M_sets st (nI f) 1 v = some (sa st 1 (upd (st.2 1) (50 + 21 * f + 1) v)) := sets_at 1 hf (by decide)
theorem sets2 {st : MSt} {f : Nat} {v : Int32} (hf : f < 4) : M_sets st (nI f) 2 v = some (sa st 1 (upd (st.2 1) (50 + 21 * f + 2) v)) := sets_at 2 hf (by decide)
theorem sets3 {st : MSt} {f : Nat} {v : Int32} (hf : f < 4) : M_sets st (nI f) 3 v = some (sa st 1 (upd (st.2 1) (50 + 21 * f + 3) v)) := sets_at 3 hf (by decide)
theorem sets4 {st : MSt} {f : Nat} {v : Int32} (hf : f < 4) : M_sets st (nI f) 4 v = some (sa st 1 (upd (st.2 1) (50 + 21 * f + 4) v)) := sets_at 4 hf (by decide)
theorem ofB {st : MSt} {f i : Nat} (hf : f < 4) (hi : i < 8) : M_of st (nI f) (5 + nI i) = some (st.2 1 (50 + 21 * f + 5 + i)) := by
  rw [show (5 : Int32) + nI i = nI (5 + i) from nI_add 5 i, of_at _ hf (by omega), ← Nat.add_assoc]
theorem ofW {st : MSt} {f i : Nat} (hf : f < 4) (hi : i < 8) : M_of st (nI f) (13 + nI i) = some (st.2 1 (50 + 21 * f + 13 + i)) := by
  rw [show (13 : Int32) + nI i = nI (13 + i) from nI_add 13 i, of_at _ hf (by omega), ← Nat.add_assoc]
theorem setsB {st : MSt} {f i : Nat} {v : Int32} (hf : f < 4) (hi : i < 8) : M_sets st (nI f) (5 + nI i) v = some (sa st 1 (upd (st.2 1) (50 + 21 * f + 5 + i) v)) := by
  rw [show (5 : Int32) + nI i = nI (5 + i) from nI_add 5 i, sets_at _ hf (by omega), ← Nat.add_assoc]
theorem setsW {st : MSt} {f i : Nat} {v : Int32} (hf : f < 4) (hi : i < 8) : M_sets st (nI f) (13 + nI i) v = some (sa st 1 (upd (st.2 1) (50 + 21 * f + 13 + i) v)) := by
  rw [show (13 : Int32) + nI i = nI (13 + i) from nI_add 13 i, sets_at _ hf (by omega), ← Nat.add_assoc]
-- states
theorem sa_at (st : MSt) (k : Nat) (b : Nat → Int32) : (sa st k b).2 k = b := va_up_self _ _ _
theorem sa_ne (st : MSt) {k j : Nat} (b : Nat → Int32) (h : j ≠ k) : (sa st k b).2 j = st.2 j := va_up_ne _ _ h
theorem sa_f (st : MSt) (k : Nat) (b : Nat → Int32) : (sa st k b).1 = st.1 := rfl
theorem sf_a (st : MSt) (k : Nat) (x : Int32) : (sf st k x).2 = st.2 := rfl
theorem sf_at (st : MSt) (k : Nat) (x : Int32) : (sf st k x).1 k = x := va_up_self _ _ _
theorem sf_ne (st : MSt) {k j : Nat} (x : Int32) (h : j ≠ k) : (sf st k x).1 j = st.1 j := va_up_ne _ _ h
theorem sa_sa (st : MSt) (k : Nat) (b c : Nat → Int32) : sa (sa st k b) k c = sa st k c := by unfold sa; rw [bx_uu]
theorem sf_sf (st : MSt) (k : Nat) (b c : Int32) : sf (sf st k b) k c = sf st k c := by unfold sf; rw [bx_uu]
theorem sa_id (st : MSt) (k : Nat) (b : Nat → Int32) (h : b = st.2 k) : sa st k b = st := by
  subst h
  unfold sa
  refine Prod.ext rfl (funext fun j => ?_)
  show va_up st.2 k (st.2 k) j = _
  unfold va_up
  split
  · subst_vars; rfl
  · rfl
theorem sf_id (st : MSt) (k : Nat) (b : Int32) (h : b = st.1 k) : sf st k b = st := by
  subst h
  unfold sf
  refine Prod.ext (funext fun j => ?_) rfl
  show va_up st.1 k (st.1 k) j = _
  unfold va_up
  split
  · subst_vars; rfl
  · rfl
theorem cA_at (st : CS) (k : Nat) (b : Nat → Int32) : (csA st k b).2.1 k = b := va_up_self _ _ _
theorem cA_ne (st : CS) {k j : Nat} (b : Nat → Int32) (h : j ≠ k) : (csA st k b).2.1 j = st.2.1 j := va_up_ne _ _ h
theorem cA_f (st : CS) (k : Nat) (b : Nat → Int32) : (csA st k b).1 = st.1 := rfl
theorem cA_q (st : CS) (k : Nat) (b : Nat → Int32) : (csA st k b).2.2 = st.2.2 := rfl
theorem cF_a (st : CS) (k j : Nat) (x : Int32) : (csF st k j x).2 = st.2 := rfl
theorem cF_at (st : CS) (k j : Nat) (x : Int32) : (csF st k j x).1 k j = x := by unfold csF; simp [va_up]
theorem cF_ne (st : CS) {k j k2 j2 : Nat} (x : Int32) (h : k2 ≠ k ∨ j2 ≠ j) : (csF st k j x).1 k2 j2 = st.1 k2 j2 := by
  unfold csF va_up
  show (if k2 = k then _ else _ : Nat → Int32) j2 = _
  split
  · subst_vars
    simp only [ne_eq, not_true_eq_false, false_or] at h
    simp [h]
  · rfl
theorem cF_nk (st : CS) {k j k2 : Nat} (x : Int32) (h : k2 ≠ k) : (csF st k j x).1 k2 = st.1 k2 := va_up_ne _ _ h
-- ranges
theorem Min_eq (x a b : Int32) : M_in x.toInt64 a.toInt64 b.toInt64 = L_in x a b := by
  unfold M_in L_in
  have h1 : lg_cmp x.toInt64 a.toInt64 < 0 ↔ x < a := by
    unfold lg_cmp
    simp only [gt_iff_lt, fa_wide_lt, fa_wide_eq]
    rcases fa_three x a with h | h | h
    · have q := fa_of_lt h
      rw [if_neg q.2.2.1, if_neg q.2.2.2.1]
      exact ⟨fun _ => h, fun _ => by decide⟩
    · subst h
      rw [if_neg (fun h => Int32.lt_irrefl h), if_pos rfl]
      exact ⟨fun h => absurd h (by decide), fun h => absurd h (fun h => Int32.lt_irrefl h)⟩
    · have q := fa_of_lt h
      rw [if_pos h]
      exact ⟨fun h => absurd h (by decide), fun h => absurd h q.2.2.1⟩
  have h2 : 0 < lg_cmp x.toInt64 b.toInt64 ↔ b < x := by
    unfold lg_cmp
    simp only [gt_iff_lt, fa_wide_lt, fa_wide_eq]
    rcases fa_three x b with h | h | h
    · have q := fa_of_lt h
      rw [if_neg q.2.2.1, if_neg q.2.2.2.1]
      exact ⟨fun h => absurd h (by decide), fun h => absurd h q.2.2.1⟩
    · subst h
      rw [if_neg (fun h => Int32.lt_irrefl h), if_pos rfl]
      exact ⟨fun h => absurd h (by decide), fun h => absurd h (fun h => Int32.lt_irrefl h)⟩
    · rw [if_pos h]
      exact ⟨fun _ => h, fun _ => by decide⟩
  simp only [h1, h2]
theorem Min_0_255 (x : Int32) : M_in x.toInt64 0 255 = L_in x 0 255 := Min_eq x 0 255
theorem Min_0_31 (x : Int32) : M_in x.toInt64 0 31 = L_in x 0 31 := Min_eq x 0 31
theorem Min_0_1 (x : Int32) : M_in x.toInt64 0 1 = L_in x 0 1 := Min_eq x 0 1
theorem Min_0_3 (x : Int32) : M_in x.toInt64 0 3 = L_in x 0 3 := Min_eq x 0 3
theorem Min_0_4 (x : Int32) : M_in x.toInt64 0 4 = L_in x 0 4 := Min_eq x 0 4
theorem Min_0_5 (x : Int32) : M_in x.toInt64 0 5 = L_in x 0 5 := Min_eq x 0 5
theorem Min_0_6 (x : Int32) : M_in x.toInt64 0 6 = L_in x 0 6 := Min_eq x 0 6
theorem Min_0_9 (x : Int32) : M_in x.toInt64 0 9 = L_in x 0 9 := Min_eq x 0 9
theorem Min_0_60 (x : Int32) : M_in x.toInt64 0 60 = L_in x 0 60 := Min_eq x 0 60
theorem Min_0_69 (x : Int32) : M_in x.toInt64 0 69 = L_in x 0 69 := Min_eq x 0 69
theorem Min_0_999 (x : Int32) : M_in x.toInt64 0 999 = L_in x 0 999 := Min_eq x 0 999
theorem Min_0_9999 (x : Int32) : M_in x.toInt64 0 9999 = L_in x 0 9999 := Min_eq x 0 9999
theorem Min_1_4 (x : Int32) : M_in x.toInt64 1 4 = L_in x 1 4 := Min_eq x 1 4
theorem Min_1_5 (x : Int32) : M_in x.toInt64 1 5 = L_in x 1 5 := Min_eq x 1 5
theorem Min_1_8 (x : Int32) : M_in x.toInt64 1 8 = L_in x 1 8 := Min_eq x 1 8
theorem Min_1_31 (x : Int32) : M_in x.toInt64 1 31 = L_in x 1 31 := Min_eq x 1 31
theorem Min_1_60 (x : Int32) : M_in x.toInt64 1 60 = L_in x 1 60 := Min_eq x 1 60
theorem Min_1_999 (x : Int32) : M_in x.toInt64 1 999 = L_in x 1 999 := Min_eq x 1 999
theorem Min_2_7 (x : Int32) : M_in x.toInt64 2 7 = L_in x 2 7 := Min_eq x 2 7
theorem Min_m1_7 (x : Int32) : M_in x.toInt64 (-1) 7 = L_in x (-1) 7 := Min_eq x (-1) 7
theorem Min_48_57 (x : Int32) : M_in x.toInt64 48 57 = L_in x 48 57 := Min_eq x 48 57
theorem Min_0_v (x v : Int32) : M_in x.toInt64 0 v.toInt64 = L_in x 0 v := Min_eq x 0 v
/-- an index into a row of n -/
theorem in_ix (x : Int32) (n : Nat) (hn : n < 2 ^ 31) : L_in x 0 (nI n - 1) = some 0 ∨ ∃ j, j < n ∧ x = nI j ∧ L_in x 0 (nI n - 1) = some 1 := by
  unfold L_in
  rcases Nat.eq_zero_or_pos n with h | h
  · subst h
    left
    split
    · rfl
    · rename_i h1
      rw [if_pos]
      have h2 := fa_of_nlt h1
      exact fa_trans (show nI 0 - 1 < 0 by decide) h2
  · obtain ⟨m, rfl⟩ : ∃ m, n = m + 1 := ⟨n - 1, by omega⟩
    rw [nI_pred]
    rcases pk_ix x hn with h1 | h1 | ⟨j, hj, rfl⟩
    · left; rw [if_pos h1]
    · left
      have h2 : nI m < x := by
        rw [fa_lt, nI_toInt (by omega)]
        rw [fa_le, nI_toInt hn] at h1
        omega
      rw [if_pos h2]
      split <;> rfl
    · right
      refine ⟨j, hj, rfl, ?_⟩
      rw [if_neg (nI_pos (by omega)), if_neg (nI_nlt (by omega) (by omega))]
/-- a number between two -/
theorem in_le (x : Int32) (n : Nat) (hn : n < 2 ^ 31) : L_in x 0 (nI n) = some 0 ∨ ∃ j, j ≤ n ∧ x = nI j ∧ L_in x 0 (nI n) = some 1 := by
  unfold L_in
  rcases pk_ix x hn with h1 | h1 | ⟨j, hj, rfl⟩
  · left; rw [if_pos h1]
  · by_cases h2 : x = nI n
    · subst h2
      right
      refine ⟨n, Nat.le_refl _, rfl, ?_⟩
      rw [if_neg (nI_pos hn), if_neg (fun h => Int32.lt_irrefl h)]
    · left
      rw [if_pos (c := nI n < x) (fa_le_ne h1 (Ne.symm h2))]
      split <;> rfl
  · right
    refine ⟨j, by omega, rfl, ?_⟩
    rw [if_neg (nI_pos (by omega)), if_neg (nI_nlt (by omega) (by omega))]
theorem in_two (x a b : Int32) : L_in x a b = some 0 ∨ (L_in x a b = some 1 ∧ a ≤ x ∧ x ≤ b) := by
  unfold L_in
  split
  · exact Or.inl rfl
  · split
    · exact Or.inl rfl
    · rename_i h1 h2
      exact Or.inr ⟨rfl, fa_of_nlt h1, fa_of_nlt h2⟩
/-- fold over a book: a bit each -/
theorem bit_one {g i : Nat} (hg : g < 32) (hi : i < 32) : bt (1 <<< (nI g &&& 31)) i = decide (i = g) := by
  rw [b_shl g hg 1 hi]
  by_cases h : i = g
  · subst h
    have : bt 1 0 = true := by decide
    simp [this]
  · by_cases h2 : g ≤ i
    · have h3 : ∀ k, k < 32 → 0 < k → bt 1 k = false := by decide
      simp [h, h3 (i - g) (by omega) (by omega)]
    · simp [h, h2]
/-- one bit as a number -/
theorem bit_and {x : Int32} {f : Nat} (hf : f < 32) : (x >>> (nI f &&& 31)) &&& 1 = if bt x f then 1 else 0 := by
  refine b_ext (fun i hi => ?_)
  have h1 : ∀ k, k < 32 → bt 1 k = decide (k = 0) := by decide
  rw [b_and, b_sshr f hf x hi, h1 i hi]
  by_cases h : i = 0
  · subst h
    rw [if_pos (by omega), Nat.add_zero]
    cases bt x f <;> decide
  · cases bt x f
    · simp [h, b_0]
    · simp [h, h1 i hi]
theorem bit_is1 {x : Int32} {f : Nat} (hf : f < 32) : (x >>> (nI f &&& 31)) &&& 1 = 1 ↔ bt x f = true := by
  rw [bit_and hf]; cases bt x f <;> decide
theorem bit_is0 {x : Int32} {f : Nat} (hf : f < 32) : (x >>> (nI f &&& 31)) &&& 1 = 0 ↔ bt x f = false := by
  rw [bit_and hf]; cases bt x f <;> decide
theorem isIn_bt {x : Int32} {f : Nat} (hf : f < 32) : L_isIn x (nI f) = some (if bt x f then 1 else 0) := by
  unfold L_isIn
  by_cases h : bt x f = true
  · rw [if_pos ((bit_is1 hf).mpr h), if_pos h]
  · rw [if_neg (fun h2 => h ((bit_is1 hf).mp h2)), if_neg h]
