/-! the pure stage: what ties the two -/
set_option maxRecDepth 100000
/-- the letter of a name -/
def lc (u k : Nat) : Nat := if u = 0 then (if k = 0 then 102 else if k = 1 then 119 else 100) else (if k = 0 then 100 else if k = 1 then 111 else 110)
def okS (s : Int32) : Prop := s = 43 ∨ s = 45 ∨ s = 42 ∨ s = 47 ∨ s = 37 ∨ s = 60 ∨ s = 61 ∨ s = 62 ∨ s = 38 ∨ s = 124
def twoV (s x y : Int32) : Int32 := if s = 43 then x + y else if s = 45 then x - y else if s = 42 then x * y else if s = 47 then (if y = 0 then 0 else x / y) else if s = 37 then (if y = 0 then 0 else x - x / y * y) else if s = 60 then (if y ≤ x then 0 else 1) else if s = 61 then (if x = y then 1 else 0) else if s = 62 then (if x ≤ y then 0 else 1) else if s = 38 then (if x = 0 then 0 else if y = 0 then 0 else 1) else (if x = 0 then if y = 0 then 0 else 1 else 1)
/-- a tree stands in the pool; what it gives by what names are -/
def rep (P : Nat → va_E) (u : Nat) : Nat → Nat → ((Nat → Int32) → Int32) → Prop
  | 0, _, _ => False
  | e + 1, a, v => (∃ x, P (1000 + a) = .inr (14, [.int x]) ∧ v = fun _ => x) ∨ (∃ k, k < 3 ∧ P (1000 + a) = .inr (15, [.int (nI (lc u k))]) ∧ v = fun m => m k) ∨ (∃ b w, P (1000 + a) = .inr (16, [.ref b]) ∧ rep P u e b w ∧ v = fun m => if w m = 0 then 1 else 0) ∨ ∃ s b c w1 w2, okS s ∧ P (1000 + a) = .inr (17, [.int s, .ref b, .ref c]) ∧ rep P u e b w1 ∧ rep P u e c w2 ∧ v = fun m => twoV s (w1 m) (w2 m)
theorem lc_lt (u k : Nat) : lc u k < 128 := by unfold lc; split <;> split <;> (try split) <;> omega
theorem L_is_0 : L_is 0 = some 0 := rfl
theorem L_is_1 : L_is 1 = some 1 := rfl
theorem E_43 {f : Nat → Option Int32} {a b : Nat} : E_two f 43 a b = bd1 (f a) fun v1 => bd1 (f b) fun v2 => some (v1 + v2) := rfl
theorem E_45 {f : Nat → Option Int32} {a b : Nat} : E_two f 45 a b = bd1 (f a) fun v1 => bd1 (f b) fun v2 => some (v1 - v2) := rfl
theorem E_42 {f : Nat → Option Int32} {a b : Nat} : E_two f 42 a b = bd1 (f a) fun v1 => bd1 (f b) fun v2 => some (v1 * v2) := rfl
theorem E_47 {f : Nat → Option Int32} {a b : Nat} : E_two f 47 a b = bd1 (f a) fun v1 => bd1 (f b) fun v2 => if v2 = 0 then some 0 else bd1 (dv v1 v2) fun v => some v := rfl
theorem E_37 {f : Nat → Option Int32} {a b : Nat} : E_two f 37 a b = bd1 (f a) fun v1 => bd1 (f b) fun v2 => if v2 = 0 then some 0 else bd1 (rmd v1 v2) fun v => some v := rfl
theorem E_60 {f : Nat → Option Int32} {a b : Nat} : E_two f 60 a b = bd1 (f a) fun v1 => bd1 (f b) fun v2 => if v2 ≤ v1 then bd1 (L_is 0) fun v => some v else bd1 (L_is 1) fun v => some v := rfl
theorem E_61 {f : Nat → Option Int32} {a b : Nat} : E_two f 61 a b = bd1 (f a) fun v1 => bd1 (f b) fun v2 => if v1 = v2 then bd1 (L_is 1) fun v => some v else bd1 (L_is 0) fun v => some v := rfl
theorem E_62 {f : Nat → Option Int32} {a b : Nat} : E_two f 62 a b = bd1 (f a) fun v1 => bd1 (f b) fun v2 => if v1 ≤ v2 then bd1 (L_is 0) fun v => some v else bd1 (L_is 1) fun v => some v := rfl
theorem E_38 {f : Nat → Option Int32} {a b : Nat} : E_two f 38 a b = bd1 (f a) fun v1 => bd1 (f b) fun v2 => if v1 = 0 then bd1 (L_is 0) fun v => some v else if v2 = 0 then bd1 (L_is 0) fun v => some v else bd1 (L_is 1) fun v => some v := rfl
theorem E_124 {f : Nat → Option Int32} {a b : Nat} : E_two f 124 a b = bd1 (f a) fun v1 => bd1 (f b) fun v2 => if v1 = 0 then if v2 = 0 then bd1 (L_is 0) fun v => some v else bd1 (L_is 1) fun v => some v else bd1 (L_is 1) fun v => some v := rfl
theorem V_43 (x y : Int32) : twoV 43 x y = x + y := rfl
theorem V_45 (x y : Int32) : twoV 45 x y = x - y := rfl
theorem V_42 (x y : Int32) : twoV 42 x y = x * y := rfl
theorem V_47 (x y : Int32) : twoV 47 x y = if y = 0 then 0 else x / y := rfl
theorem V_37 (x y : Int32) : twoV 37 x y = if y = 0 then 0 else x - x / y * y := rfl
theorem V_60 (x y : Int32) : twoV 60 x y = if y ≤ x then 0 else 1 := rfl
theorem V_61 (x y : Int32) : twoV 61 x y = if x = y then 1 else 0 := rfl
theorem V_62 (x y : Int32) : twoV 62 x y = if x ≤ y then 0 else 1 := rfl
theorem V_38 (x y : Int32) : twoV 38 x y = if x = 0 then 0 else if y = 0 then 0 else 1 := rfl
theorem V_124 (x y : Int32) : twoV 124 x y = if x = 0 then if y = 0 then 0 else 1 else 1 := rfl
theorem E_two_v {f : Nat → Option Int32} {s x y : Int32} {a b : Nat} (hs : okS s) (ha : f a = some x) (hb : f b = some y) : E_two f s a b = some (twoV s x y) := by
  rcases hs with rfl | rfl | rfl | rfl | rfl | rfl | rfl | rfl | rfl | rfl
  · rw [E_43, ha, hb, V_43]
    rfl
  · rw [E_45, ha, hb, V_45]
    rfl
  · rw [E_42, ha, hb, V_42]
    rfl
  · rw [E_47, ha, hb, V_47]
    simp only [bd1_s, dv, rmd]
    by_cases h : y = 0
    · simp [h, bd1_s]
    · simp [h, bd1_s]
  · rw [E_37, ha, hb, V_37]
    simp only [bd1_s, dv, rmd]
    by_cases h : y = 0
    · simp [h, bd1_s]
    · simp [h, bd1_s]
  · rw [E_60, ha, hb, V_60]
    simp only [bd1_s, L_is_0, L_is_1]
    (repeat' split) <;> rfl
  · rw [E_61, ha, hb, V_61]
    simp only [bd1_s, L_is_0, L_is_1]
    (repeat' split) <;> rfl
  · rw [E_62, ha, hb, V_62]
    simp only [bd1_s, L_is_0, L_is_1]
    (repeat' split) <;> rfl
  · rw [E_38, ha, hb, V_38]
    simp only [bd1_s, L_is_0, L_is_1]
    (repeat' split) <;> rfl
  · rw [E_124, ha, hb, V_124]
    simp only [bd1_s, L_is_0, L_is_1]
    (repeat' split) <;> rfl
theorem rep_tmV {P : Nat → va_E} {u : Nat} (nm : Nat → Int32) : ∀ (e a : Nat) (v : (Nat → Int32) → Int32), rep P u e a v → tmV P nm e a = some (v (fun k => nm (lc u k))) := by
  intro e
  induction e with
  | zero => intro a v h; exact h.elim
  | succ e ih =>
    intro a v h
    rw [tmV]
    rcases h with ⟨x, h, rfl⟩ | ⟨k, hk, h, rfl⟩ | ⟨b, w, h, h2, rfl⟩ | ⟨s, b, c, w1, w2, hs, h, h2, h3, rfl⟩
    · rw [h]; rfl
    · rw [h]
      show E_named nm (nI (lc u k)) = _
      rw [E_named, rd_nI (lc_lt u k) (by decide)]; rfl
    · rw [h]
      show E_turned (tmV P nm e) b = _
      rw [E_turned, ih b w h2, bd1_s]
      show _ = some (if w (fun k => nm (lc u k)) = 0 then 1 else 0)
      split <;> rfl
    · rw [h]
      show E_two (tmV P nm e) s b c = _
      exact E_two_v hs (ih b w1 h2) (ih c w2 h3)
theorem rep_up {P : Nat → va_E} {u : Nat} : ∀ (e a : Nat) (v : (Nat → Int32) → Int32), rep P u e a v → rep P u (e + 1) a v := by
  intro e
  induction e with
  | zero => intro a v h; exact h.elim
  | succ e ih =>
    intro a v h
    rcases h with h | h | ⟨b, w, h, h2, rfl⟩ | ⟨s, b, c, w1, w2, hs, h, h2, h3, rfl⟩
    · exact Or.inl h
    · exact Or.inr (Or.inl h)
    · exact Or.inr (Or.inr (Or.inl ⟨b, w, h, ih b w h2, rfl⟩))
    · exact Or.inr (Or.inr (Or.inr ⟨s, b, c, w1, w2, hs, h, ih b w1 h2, ih c w2 h3, rfl⟩))
theorem rep_le {P : Nat → va_E} {u e e2 a : Nat} {v : (Nat → Int32) → Int32} (h : rep P u e a v) (he : e ≤ e2) : rep P u e2 a v := by
  obtain ⟨k, rfl⟩ : ∃ k, e2 = e + k := ⟨e2 - e, by omega⟩
  clear he
  induction k with
  | zero => exact h
  | succ k ih => exact rep_up _ _ _ ih
theorem rep_keep {P P' : Nat → va_E} {u : Nat} {Lv : Nat → Prop} (hc : ∀ a ci fs b, Lv a → P (1000 + a) = .inr (ci, fs) → ((14 ≤ ci ∧ ci ≤ 17) ∨ 19 ≤ ci) → Value.ref b ∈ fs → Lv b) (hP : ∀ a, Lv a → P' (1000 + a) = P (1000 + a)) : ∀ (e a : Nat) (v : (Nat → Int32) → Int32), Lv a → rep P u e a v → rep P' u e a v := by
  intro e
  induction e with
  | zero => intro a v _ h; exact h
  | succ e ih =>
    intro a v ha h
    rcases h with ⟨x, h, h2⟩ | ⟨k, hk, h, h2⟩ | ⟨b, w, h, h2, rfl⟩ | ⟨s, b, c, w1, w2, hs, h, h2, h3, rfl⟩
    · exact Or.inl ⟨x, (hP a ha).trans h, h2⟩
    · exact Or.inr (Or.inl ⟨k, hk, (hP a ha).trans h, h2⟩)
    · exact Or.inr (Or.inr (Or.inl ⟨b, w, (hP a ha).trans h, ih b w (hc a _ _ b ha h (by omega) (by simp)) h2, rfl⟩))
    · exact Or.inr (Or.inr (Or.inr ⟨s, b, c, w1, w2, hs, (hP a ha).trans h, ih b w1 (hc a _ _ b ha h (by omega) (by simp)) h2, ih c w2 (hc a _ _ c ha h (by omega) (by simp)) h3, rfl⟩))
theorem rep_isTm {P : Nat → va_E} {u e a : Nat} {v : (Nat → Int32) → Int32} (h : rep P u e a v) : isTm P a = true := by
  unfold isTm
  cases e with
  | zero => exact h.elim
  | succ e =>
    rcases h with ⟨x, h, -⟩ | ⟨k, -, h, -⟩ | ⟨b, w, h, -⟩ | ⟨s, b, c, w1, w2, -, h, -⟩ <;> rw [h] <;> rfl
/-- the model at the end of working a text out -/
def wk (ms : MSt) (base n u : Nat) : MSt := sf (sf (sf (sf (sf (sf ms 5 (nI base)) 6 (nI n)) 7 (nI n)) 8 (-1)) 9 0) 10 (nI u)
def parses (b : Nat → Int32) (n u : Nat) (v : (Nat → Int32) → Int32) : Prop := ∀ (ms : MSt) (base : Nat), base + n ≤ 342 → (∀ i, i < n → ms.2 1 (base + i) = b i) → M_worked NN ms (nI base) (nI n) (nI u) = some (v (ms.2 5), wk ms base n u)
/-- many of a book; its facts -/
def mn (d : Nat → Int32) (p : Nat) : Nat := (d (50 + 21 * p + 4)).toNatClampNeg
def bf (d : Nat → Int32) (p i : Nat) : Nat := (d (50 + 21 * p + 5 + i)).toNatClampNeg
/-- a fact's cells; a debtor's cells -/
def DF (d : Nat → Int32) (F f : Nat) : Prop := (∃ n, d (10 + 5 * f + 0) = nI n ∧ n < 256) ∧ (∃ n, d (10 + 5 * f + 1) = nI n ∧ n < 256) ∧ (∃ n, d (10 + 5 * f + 2) = nI n ∧ n < 10) ∧ (f < F → d (10 + 5 * f + 2) = 0 → d (10 + 5 * f + 3) = -1)
theorem DF.need {d : Nat → Int32} {F f : Nat} (h : DF d F f) : ∃ n, d (10 + 5 * f + 0) = nI n ∧ n < 256 := h.1
theorem DF.cl {d : Nat → Int32} {F f : Nat} (h : DF d F f) : ∃ n, d (10 + 5 * f + 1) = nI n ∧ n < 256 := h.2.1
theorem DF.wi {d : Nat → Int32} {F f : Nat} (h : DF d F f) : ∃ n, d (10 + 5 * f + 2) = nI n ∧ n < 10 := h.2.2.1
theorem DF.by0 {d : Nat → Int32} {F f : Nat} (h : DF d F f) : f < F → d (10 + 5 * f + 2) = 0 → d (10 + 5 * f + 3) = -1 := h.2.2.2
theorem DF.mk {d : Nat → Int32} {F f : Nat} (need : ∃ n, d (10 + 5 * f + 0) = nI n ∧ n < 256) (cl : ∃ n, d (10 + 5 * f + 1) = nI n ∧ n < 256) (wi : ∃ n, d (10 + 5 * f + 2) = nI n ∧ n < 10) (by0 : f < F → d (10 + 5 * f + 2) = 0 → d (10 + 5 * f + 3) = -1) : DF d F f := And.intro need (And.intro cl (And.intro wi (by0)))
def DP (d : Nat → Int32) (F p : Nat) : Prop := (∃ n, d (50 + 21 * p + 1) = nI n ∧ n ≤ 9) ∧ (∃ n, d (50 + 21 * p + 2) = nI n ∧ n ≤ 9999) ∧ (d (50 + 21 * p + 3) = 0 ∨ d (50 + 21 * p + 3) = 1) ∧ (d (50 + 21 * p + 4) = nI (mn d p) ∧ mn d p ≤ 8) ∧ (∀ i, i < mn d p → d (50 + 21 * p + 5 + i) = nI (bf d p i) ∧ bf d p i < F) ∧ (∀ i j, i < mn d p → j < mn d p → bf d p i = bf d p j → i = j)
theorem DP.mm {d : Nat → Int32} {F p : Nat} (h : DP d F p) : ∃ n, d (50 + 21 * p + 1) = nI n ∧ n ≤ 9 := h.1
theorem DP.deb {d : Nat → Int32} {F p : Nat} (h : DP d F p) : ∃ n, d (50 + 21 * p + 2) = nI n ∧ n ≤ 9999 := h.2.1
theorem DP.brk {d : Nat → Int32} {F p : Nat} (h : DP d F p) : d (50 + 21 * p + 3) = 0 ∨ d (50 + 21 * p + 3) = 1 := h.2.2.1
theorem DP.mny {d : Nat → Int32} {F p : Nat} (h : DP d F p) : d (50 + 21 * p + 4) = nI (mn d p) ∧ mn d p ≤ 8 := h.2.2.2.1
theorem DP.bk {d : Nat → Int32} {F p : Nat} (h : DP d F p) : ∀ i, i < mn d p → d (50 + 21 * p + 5 + i) = nI (bf d p i) ∧ bf d p i < F := h.2.2.2.2.1
theorem DP.inj {d : Nat → Int32} {F p : Nat} (h : DP d F p) : ∀ i j, i < mn d p → j < mn d p → bf d p i = bf d p j → i = j := h.2.2.2.2.2
theorem DP.mk {d : Nat → Int32} {F p : Nat} (mm : ∃ n, d (50 + 21 * p + 1) = nI n ∧ n ≤ 9) (deb : ∃ n, d (50 + 21 * p + 2) = nI n ∧ n ≤ 9999) (brk : d (50 + 21 * p + 3) = 0 ∨ d (50 + 21 * p + 3) = 1) (mny : d (50 + 21 * p + 4) = nI (mn d p) ∧ mn d p ≤ 8) (bk : ∀ i, i < mn d p → d (50 + 21 * p + 5 + i) = nI (bf d p i) ∧ bf d p i < F) (inj : ∀ i j, i < mn d p → j < mn d p → bf d p i = bf d p j → i = j) : DP d F p := And.intro mm (And.intro deb (And.intro brk (And.intro mny (And.intro bk (inj)))))
def DM (d : Nat → Int32) (k : Nat) : Prop := (∃ w, d (134 + 3 * k) = nI w ∧ w ≤ 999) ∧ (∃ a, d (134 + 3 * k + 1) = nI a ∧ a < 5) ∧ (∃ a, d (134 + 3 * k + 2) = nI a ∧ a < 5)
theorem DM.w {d : Nat → Int32} {k : Nat} (h : DM d k) : ∃ w, d (134 + 3 * k) = nI w ∧ w ≤ 999 := h.1
theorem DM.a {d : Nat → Int32} {k : Nat} (h : DM d k) : ∃ a, d (134 + 3 * k + 1) = nI a ∧ a < 5 := h.2.1
theorem DM.b {d : Nat → Int32} {k : Nat} (h : DM d k) : ∃ a, d (134 + 3 * k + 2) = nI a ∧ a < 5 := h.2.2
theorem DM.mk {d : Nat → Int32} {k : Nat} (w : ∃ w, d (134 + 3 * k) = nI w ∧ w ≤ 999) (a : ∃ a, d (134 + 3 * k + 1) = nI a ∧ a < 5) (b : ∃ a, d (134 + 3 * k + 2) = nI a ∧ a < 5) : DM d k := And.intro w (And.intro a (b))
def DC (d : Nat → Int32) (F : Nat) : Prop := ∀ f g, f < 8 → g < 8 → bt (d (10 + 5 * f + 1)) g = true → f < F ∧ g < F ∧ bt (d (10 + 5 * g + 1)) f = true
def DI (d : Nat → Int32) (F D M : Nat) : Prop := (d 0 = nI F) ∧ (F ≤ 8) ∧ (d 1 = nI D) ∧ (D ≤ 4) ∧ (d 2 = nI M) ∧ (M ≤ 12) ∧ (∃ n, d 5 = nI n ∧ n ≤ 50) ∧ (∃ n, d 6 = nI n ∧ n ≤ 20) ∧ (∀ f, f < 8 → DF d F f) ∧ (DC d F) ∧ (∀ p, p < 4 → DP d F p) ∧ (∀ k, k < M → DM d k)
theorem DI.hF {d : Nat → Int32} {F D M : Nat} (h : DI d F D M) : d 0 = nI F := h.1
theorem DI.lF {d : Nat → Int32} {F D M : Nat} (h : DI d F D M) : F ≤ 8 := h.2.1
theorem DI.hD {d : Nat → Int32} {F D M : Nat} (h : DI d F D M) : d 1 = nI D := h.2.2.1
theorem DI.lD {d : Nat → Int32} {F D M : Nat} (h : DI d F D M) : D ≤ 4 := h.2.2.2.1
theorem DI.hM {d : Nat → Int32} {F D M : Nat} (h : DI d F D M) : d 2 = nI M := h.2.2.2.2.1
theorem DI.lM {d : Nat → Int32} {F D M : Nat} (h : DI d F D M) : M ≤ 12 := h.2.2.2.2.2.1
theorem DI.tp {d : Nat → Int32} {F D M : Nat} (h : DI d F D M) : ∃ n, d 5 = nI n ∧ n ≤ 50 := h.2.2.2.2.2.2.1
theorem DI.wt {d : Nat → Int32} {F D M : Nat} (h : DI d F D M) : ∃ n, d 6 = nI n ∧ n ≤ 20 := h.2.2.2.2.2.2.2.1
theorem DI.fa {d : Nat → Int32} {F D M : Nat} (h : DI d F D M) : ∀ f, f < 8 → DF d F f := h.2.2.2.2.2.2.2.2.1
theorem DI.cls {d : Nat → Int32} {F D M : Nat} (h : DI d F D M) : DC d F := h.2.2.2.2.2.2.2.2.2.1
theorem DI.de {d : Nat → Int32} {F D M : Nat} (h : DI d F D M) : ∀ p, p < 4 → DP d F p := h.2.2.2.2.2.2.2.2.2.2.1
theorem DI.me {d : Nat → Int32} {F D M : Nat} (h : DI d F D M) : ∀ k, k < M → DM d k := h.2.2.2.2.2.2.2.2.2.2.2
theorem DI.mk {d : Nat → Int32} {F D M : Nat} (hF : d 0 = nI F) (lF : F ≤ 8) (hD : d 1 = nI D) (lD : D ≤ 4) (hM : d 2 = nI M) (lM : M ≤ 12) (tp : ∃ n, d 5 = nI n ∧ n ≤ 50) (wt : ∃ n, d 6 = nI n ∧ n ≤ 20) (fa : ∀ f, f < 8 → DF d F f) (cls : DC d F) (de : ∀ p, p < 4 → DP d F p) (me : ∀ k, k < M → DM d k) : DI d F D M := And.intro hF (And.intro lF (And.intro hD (And.intro lD (And.intro hM (And.intro lM (And.intro tp (And.intro wt (And.intro fa (And.intro cls (And.intro de (me)))))))))))
def TH (t : Nat) (cs : CS) (d : Nat → Int32) : Prop := (cs.1 (20 * t) 0 = d 0) ∧ (cs.1 (20 * t) 6 = d 1) ∧ (cs.1 (20 * t) 14 = d 2) ∧ (cs.1 (20 * t) 13 = d 3) ∧ (cs.1 (20 * t) 19 = d 4) ∧ (cs.1 (20 * t) 21 = d 5) ∧ (cs.1 (20 * t) 23 = d 6)
theorem TH.f0 {t : Nat} {cs : CS} {d : Nat → Int32} (h : TH t cs d) : cs.1 (20 * t) 0 = d 0 := h.1
theorem TH.f6 {t : Nat} {cs : CS} {d : Nat → Int32} (h : TH t cs d) : cs.1 (20 * t) 6 = d 1 := h.2.1
theorem TH.f14 {t : Nat} {cs : CS} {d : Nat → Int32} (h : TH t cs d) : cs.1 (20 * t) 14 = d 2 := h.2.2.1
theorem TH.f13 {t : Nat} {cs : CS} {d : Nat → Int32} (h : TH t cs d) : cs.1 (20 * t) 13 = d 3 := h.2.2.2.1
theorem TH.f19 {t : Nat} {cs : CS} {d : Nat → Int32} (h : TH t cs d) : cs.1 (20 * t) 19 = d 4 := h.2.2.2.2.1
theorem TH.f21 {t : Nat} {cs : CS} {d : Nat → Int32} (h : TH t cs d) : cs.1 (20 * t) 21 = d 5 := h.2.2.2.2.2.1
theorem TH.f23 {t : Nat} {cs : CS} {d : Nat → Int32} (h : TH t cs d) : cs.1 (20 * t) 23 = d 6 := h.2.2.2.2.2.2
theorem TH.mk {t : Nat} {cs : CS} {d : Nat → Int32} (f0 : cs.1 (20 * t) 0 = d 0) (f6 : cs.1 (20 * t) 6 = d 1) (f14 : cs.1 (20 * t) 14 = d 2) (f13 : cs.1 (20 * t) 13 = d 3) (f19 : cs.1 (20 * t) 19 = d 4) (f21 : cs.1 (20 * t) 21 = d 5) (f23 : cs.1 (20 * t) 23 = d 6) : TH t cs d := And.intro f0 (And.intro f6 (And.intro f14 (And.intro f13 (And.intro f19 (And.intro f21 (f23))))))
def TF (t : Nat) (cs : CS) (d : Nat → Int32) (f : Nat) : Prop := (cs.2.1 (20 * t + 1) f = d (10 + 5 * f + 0)) ∧ (cs.2.1 (20 * t + 2) f = d (10 + 5 * f + 1)) ∧ (cs.2.1 (20 * t + 3) f = d (10 + 5 * f + 2)) ∧ (d (10 + 5 * f + 2) ≠ 0 → cs.2.1 (20 * t + 4) f = d (10 + 5 * f + 3)) ∧ (cs.2.1 (20 * t + 5) f = d (10 + 5 * f + 4))
theorem TF.need {t : Nat} {cs : CS} {d : Nat → Int32} {f : Nat} (h : TF t cs d f) : cs.2.1 (20 * t + 1) f = d (10 + 5 * f + 0) := h.1
theorem TF.cl {t : Nat} {cs : CS} {d : Nat → Int32} {f : Nat} (h : TF t cs d f) : cs.2.1 (20 * t + 2) f = d (10 + 5 * f + 1) := h.2.1
theorem TF.wi {t : Nat} {cs : CS} {d : Nat → Int32} {f : Nat} (h : TF t cs d f) : cs.2.1 (20 * t + 3) f = d (10 + 5 * f + 2) := h.2.2.1
theorem TF.by1 {t : Nat} {cs : CS} {d : Nat → Int32} {f : Nat} (h : TF t cs d f) : d (10 + 5 * f + 2) ≠ 0 → cs.2.1 (20 * t + 4) f = d (10 + 5 * f + 3) := h.2.2.2.1
theorem TF.ws {t : Nat} {cs : CS} {d : Nat → Int32} {f : Nat} (h : TF t cs d f) : cs.2.1 (20 * t + 5) f = d (10 + 5 * f + 4) := h.2.2.2.2
theorem TF.mk {t : Nat} {cs : CS} {d : Nat → Int32} {f : Nat} (need : cs.2.1 (20 * t + 1) f = d (10 + 5 * f + 0)) (cl : cs.2.1 (20 * t + 2) f = d (10 + 5 * f + 1)) (wi : cs.2.1 (20 * t + 3) f = d (10 + 5 * f + 2)) (by1 : d (10 + 5 * f + 2) ≠ 0 → cs.2.1 (20 * t + 4) f = d (10 + 5 * f + 3)) (ws : cs.2.1 (20 * t + 5) f = d (10 + 5 * f + 4)) : TF t cs d f := And.intro need (And.intro cl (And.intro wi (And.intro by1 (ws))))
def TP (t : Nat) (cs : CS) (d : Nat → Int32) (p : Nat) : Prop := (cs.2.1 (20 * t + 6) p = d (50 + 21 * p + 2)) ∧ (cs.2.1 (20 * t + 7) p = d (50 + 21 * p + 3)) ∧ (cs.2.1 (20 * t + 8) p = d (50 + 21 * p + 4)) ∧ (∀ i, i < 8 → cs.2.1 (20 * t + 9) (8 * p + i) = d (50 + 21 * p + 5 + i)) ∧ (∀ i, i < 8 → cs.2.1 (20 * t + 10) (8 * p + i) = d (50 + 21 * p + 13 + i))
theorem TP.deb {t : Nat} {cs : CS} {d : Nat → Int32} {p : Nat} (h : TP t cs d p) : cs.2.1 (20 * t + 6) p = d (50 + 21 * p + 2) := h.1
theorem TP.brk {t : Nat} {cs : CS} {d : Nat → Int32} {p : Nat} (h : TP t cs d p) : cs.2.1 (20 * t + 7) p = d (50 + 21 * p + 3) := h.2.1
theorem TP.mny {t : Nat} {cs : CS} {d : Nat → Int32} {p : Nat} (h : TP t cs d p) : cs.2.1 (20 * t + 8) p = d (50 + 21 * p + 4) := h.2.2.1
theorem TP.bk {t : Nat} {cs : CS} {d : Nat → Int32} {p : Nat} (h : TP t cs d p) : ∀ i, i < 8 → cs.2.1 (20 * t + 9) (8 * p + i) = d (50 + 21 * p + 5 + i) := h.2.2.2.1
theorem TP.bw {t : Nat} {cs : CS} {d : Nat → Int32} {p : Nat} (h : TP t cs d p) : ∀ i, i < 8 → cs.2.1 (20 * t + 10) (8 * p + i) = d (50 + 21 * p + 13 + i) := h.2.2.2.2
theorem TP.mk {t : Nat} {cs : CS} {d : Nat → Int32} {p : Nat} (deb : cs.2.1 (20 * t + 6) p = d (50 + 21 * p + 2)) (brk : cs.2.1 (20 * t + 7) p = d (50 + 21 * p + 3)) (mny : cs.2.1 (20 * t + 8) p = d (50 + 21 * p + 4)) (bk : ∀ i, i < 8 → cs.2.1 (20 * t + 9) (8 * p + i) = d (50 + 21 * p + 5 + i)) (bw : ∀ i, i < 8 → cs.2.1 (20 * t + 10) (8 * p + i) = d (50 + 21 * p + 13 + i)) : TP t cs d p := And.intro deb (And.intro brk (And.intro mny (And.intro bk (bw))))
def TM (t : Nat) (cs : CS) (d : Nat → Int32) (k : Nat) : Prop := (cs.2.1 (20 * t + 11) k = d (134 + 3 * k)) ∧ (cs.2.1 (20 * t + 12) k = d (134 + 3 * k + 1)) ∧ (cs.2.1 (20 * t + 13) k = d (134 + 3 * k + 2))
theorem TM.w {t : Nat} {cs : CS} {d : Nat → Int32} {k : Nat} (h : TM t cs d k) : cs.2.1 (20 * t + 11) k = d (134 + 3 * k) := h.1
theorem TM.a {t : Nat} {cs : CS} {d : Nat → Int32} {k : Nat} (h : TM t cs d k) : cs.2.1 (20 * t + 12) k = d (134 + 3 * k + 1) := h.2.1
theorem TM.b {t : Nat} {cs : CS} {d : Nat → Int32} {k : Nat} (h : TM t cs d k) : cs.2.1 (20 * t + 13) k = d (134 + 3 * k + 2) := h.2.2
theorem TM.mk {t : Nat} {cs : CS} {d : Nat → Int32} {k : Nat} (w : cs.2.1 (20 * t + 11) k = d (134 + 3 * k)) (a : cs.2.1 (20 * t + 12) k = d (134 + 3 * k + 1)) (b : cs.2.1 (20 * t + 13) k = d (134 + 3 * k + 2)) : TM t cs d k := And.intro w (And.intro a (b))
/-- a town's numbers -/
def TN (t : Nat) (cs : CS) (d : Nat → Int32) : Prop := (TH t cs d) ∧ (∀ f, f < 8 → TF t cs d f) ∧ (∀ p, p < 4 → TP t cs d p) ∧ (∀ k, k < 12 → TM t cs d k) ∧ (∀ i, i < 50 → cs.2.1 (20 * t + 14) i &&& 255 = d (292 + i) ∧ fits .byte (.int (cs.2.1 (20 * t + 14) i)) = true) ∧ (∀ i, i < 20 → cs.2.1 (20 * t + 15) i = d (172 + i))
theorem TN.h {t : Nat} {cs : CS} {d : Nat → Int32} (h : TN t cs d) : TH t cs d := h.1
theorem TN.fa {t : Nat} {cs : CS} {d : Nat → Int32} (h : TN t cs d) : ∀ f, f < 8 → TF t cs d f := h.2.1
theorem TN.de {t : Nat} {cs : CS} {d : Nat → Int32} (h : TN t cs d) : ∀ p, p < 4 → TP t cs d p := h.2.2.1
theorem TN.me {t : Nat} {cs : CS} {d : Nat → Int32} (h : TN t cs d) : ∀ k, k < 12 → TM t cs d k := h.2.2.2.1
theorem TN.tp {t : Nat} {cs : CS} {d : Nat → Int32} (h : TN t cs d) : ∀ i, i < 50 → cs.2.1 (20 * t + 14) i &&& 255 = d (292 + i) ∧ fits .byte (.int (cs.2.1 (20 * t + 14) i)) = true := h.2.2.2.2.1
theorem TN.wt {t : Nat} {cs : CS} {d : Nat → Int32} (h : TN t cs d) : ∀ i, i < 20 → cs.2.1 (20 * t + 15) i = d (172 + i) := h.2.2.2.2.2
theorem TN.mk {t : Nat} {cs : CS} {d : Nat → Int32} (h : TH t cs d) (fa : ∀ f, f < 8 → TF t cs d f) (de : ∀ p, p < 4 → TP t cs d p) (me : ∀ k, k < 12 → TM t cs d k) (tp : ∀ i, i < 50 → cs.2.1 (20 * t + 14) i &&& 255 = d (292 + i) ∧ fits .byte (.int (cs.2.1 (20 * t + 14) i)) = true) (wt : ∀ i, i < 20 → cs.2.1 (20 * t + 15) i = d (172 + i)) : TN t cs d := And.intro h (And.intro fa (And.intro de (And.intro me (And.intro tp (wt)))))
/-- a town's objects -/
def TQ (t tr : Nat) (cs : CS) (d : Nat → Int32) (D : Nat) : Prop := (∀ p, p < D → ∃ a k, cs.2.2.1 (20 * t + 17) p = some a ∧ dvOf (cs.2.2.2 (1000 + a)) = some (k, tr, nI p, d (50 + 21 * p + 1)) ∧ d (50 + 21 * p + 0) = nI k) ∧ (∀ p a, p < 4 → cs.2.2.1 (20 * t + 17) p = some a → isDeb cs.2.2.2 a = true) ∧ (∀ u, u < 2 → (cs.2.2.1 (20 * t + 18) u = none ∧ d (170 + u) = 0) ∨ ∃ a v n, cs.2.2.1 (20 * t + 18) u = some a ∧ rep cs.2.2.2 u 60 a v ∧ d (170 + u) = nI n ∧ 0 < n ∧ n ≤ 50 ∧ parses (fun i => d (192 + 50 * u + i)) n u v)
theorem TQ.deb {t tr : Nat} {cs : CS} {d : Nat → Int32} {D : Nat} (h : TQ t tr cs d D) : ∀ p, p < D → ∃ a k, cs.2.2.1 (20 * t + 17) p = some a ∧ dvOf (cs.2.2.2 (1000 + a)) = some (k, tr, nI p, d (50 + 21 * p + 1)) ∧ d (50 + 21 * p + 0) = nI k := h.1
theorem TQ.dq {t tr : Nat} {cs : CS} {d : Nat → Int32} {D : Nat} (h : TQ t tr cs d D) : ∀ p a, p < 4 → cs.2.2.1 (20 * t + 17) p = some a → isDeb cs.2.2.2 a = true := h.2.1
theorem TQ.tx {t tr : Nat} {cs : CS} {d : Nat → Int32} {D : Nat} (h : TQ t tr cs d D) : ∀ u, u < 2 → (cs.2.2.1 (20 * t + 18) u = none ∧ d (170 + u) = 0) ∨ ∃ a v n, cs.2.2.1 (20 * t + 18) u = some a ∧ rep cs.2.2.2 u 60 a v ∧ d (170 + u) = nI n ∧ 0 < n ∧ n ≤ 50 ∧ parses (fun i => d (192 + 50 * u + i)) n u v := h.2.2
theorem TQ.mk {t tr : Nat} {cs : CS} {d : Nat → Int32} {D : Nat} (deb : ∀ p, p < D → ∃ a k, cs.2.2.1 (20 * t + 17) p = some a ∧ dvOf (cs.2.2.2 (1000 + a)) = some (k, tr, nI p, d (50 + 21 * p + 1)) ∧ d (50 + 21 * p + 0) = nI k) (dq : ∀ p a, p < 4 → cs.2.2.1 (20 * t + 17) p = some a → isDeb cs.2.2.2 a = true) (tx : ∀ u, u < 2 → (cs.2.2.1 (20 * t + 18) u = none ∧ d (170 + u) = 0) ∨ ∃ a v n, cs.2.2.1 (20 * t + 18) u = some a ∧ rep cs.2.2.2 u 60 a v ∧ d (170 + u) = nI n ∧ 0 < n ∧ n ≤ 50 ∧ parses (fun i => d (192 + 50 * u + i)) n u v) : TQ t tr cs d D := And.intro deb (And.intro dq (tx))
/-- a town of the component and a row of the model -/
def TR (t tr : Nat) (cs : CS) (d : Nat → Int32) (F D M : Nat) : Prop := (TN t cs d) ∧ (TQ t tr cs d D) ∧ (DI d F D M)
theorem TR.n {t tr : Nat} {cs : CS} {d : Nat → Int32} {F D M : Nat} (h : TR t tr cs d F D M) : TN t cs d := h.1
theorem TR.q {t tr : Nat} {cs : CS} {d : Nat → Int32} {F D M : Nat} (h : TR t tr cs d F D M) : TQ t tr cs d D := h.2.1
theorem TR.i {t tr : Nat} {cs : CS} {d : Nat → Int32} {F D M : Nat} (h : TR t tr cs d F D M) : DI d F D M := h.2.2
theorem TR.mk {t tr : Nat} {cs : CS} {d : Nat → Int32} {F D M : Nat} (n : TN t cs d) (q : TQ t tr cs d D) (i : DI d F D M) : TR t tr cs d F D M := And.intro n (And.intro q (i))
def wB (w : Nat) : Int32 := if w = 0 then 8 else if w = 1 then 16 else 32
def shR (cA : Nat → ClassId) (cs : CS) (ms : MSt) (j : Nat) (b : Nat) : Prop := (cs.2.2.1 (69 + j) 0 = none ∧ ms.2 11 j = 0) ∨ ∃ a w n f, cs.2.2.1 (69 + j) 0 = some a ∧ shOf cA cs.2.2.2 a = some (w, b, n, f) ∧ w < 3 ∧ ms.2 11 j = wB w ∧ ms.2 12 j = nI n ∧ n ≤ 40 ∧ ∀ i, i < n → f i = ms.2 13 (40 * j + i) ∧ shN w (f i) = f i
def INV (tr : Nat) (cA : Nat → ClassId) (k : Nat) (cs : CS) (ms : MSt) : Prop := (∃ F D M, TR 0 tr cs (ms.2 1) F D M) ∧ (cs.1 60 4 = ms.1 3) ∧ (∃ j, ms.1 3 = nI j ∧ j ≤ k) ∧ (ms.1 3 ≠ 0 → ∃ F D M, TR 1 tr cs (ms.2 2) F D M) ∧ (∀ i, i < 6 → cs.2.1 64 i = ms.2 4 i) ∧ (cs.1 62 1 = ms.1 20) ∧ (∃ j, ms.1 20 = nI j ∧ j ≤ 40) ∧ (∀ i, i < 40 → cs.2.1 63 i = ms.2 10 i) ∧ (∃ b : Nat → Nat, (∀ i j, i < 4 → j < 4 → cs.2.2.1 (69 + i) 0 ≠ none → cs.2.2.1 (69 + j) 0 ≠ none → b i = b j → i = j) ∧ ∀ j, j < 4 → shR cA cs ms j (b j)) ∧ (cs.1 0 25 = -1) ∧ (ms.1 12 = -1)
theorem INV.r0 {tr : Nat} {cA : Nat → ClassId} {k : Nat} {cs : CS} {ms : MSt} (h : INV tr cA k cs ms) : ∃ F D M, TR 0 tr cs (ms.2 1) F D M := h.1
theorem INV.im {tr : Nat} {cA : Nat → ClassId} {k : Nat} {cs : CS} {ms : MSt} (h : INV tr cA k cs ms) : cs.1 60 4 = ms.1 3 := h.2.1
theorem INV.imk {tr : Nat} {cA : Nat → ClassId} {k : Nat} {cs : CS} {ms : MSt} (h : INV tr cA k cs ms) : ∃ j, ms.1 3 = nI j ∧ j ≤ k := h.2.2.1
theorem INV.r1 {tr : Nat} {cA : Nat → ClassId} {k : Nat} {cs : CS} {ms : MSt} (h : INV tr cA k cs ms) : ms.1 3 ≠ 0 → ∃ F D M, TR 1 tr cs (ms.2 2) F D M := h.2.2.2.1
theorem INV.er {tr : Nat} {cA : Nat → ClassId} {k : Nat} {cs : CS} {ms : MSt} (h : INV tr cA k cs ms) : ∀ i, i < 6 → cs.2.1 64 i = ms.2 4 i := h.2.2.2.2.1
theorem INV.tm {tr : Nat} {cA : Nat → ClassId} {k : Nat} {cs : CS} {ms : MSt} (h : INV tr cA k cs ms) : cs.1 62 1 = ms.1 20 := h.2.2.2.2.2.1
theorem INV.tmk {tr : Nat} {cA : Nat → ClassId} {k : Nat} {cs : CS} {ms : MSt} (h : INV tr cA k cs ms) : ∃ j, ms.1 20 = nI j ∧ j ≤ 40 := h.2.2.2.2.2.2.1
theorem INV.td {tr : Nat} {cA : Nat → ClassId} {k : Nat} {cs : CS} {ms : MSt} (h : INV tr cA k cs ms) : ∀ i, i < 40 → cs.2.1 63 i = ms.2 10 i := h.2.2.2.2.2.2.2.1
theorem INV.sh {tr : Nat} {cA : Nat → ClassId} {k : Nat} {cs : CS} {ms : MSt} (h : INV tr cA k cs ms) : ∃ b : Nat → Nat, (∀ i j, i < 4 → j < 4 → cs.2.2.1 (69 + i) 0 ≠ none → cs.2.2.1 (69 + j) 0 ≠ none → b i = b j → i = j) ∧ ∀ j, j < 4 → shR cA cs ms j (b j) := h.2.2.2.2.2.2.2.2.1
theorem INV.ro {tr : Nat} {cA : Nat → ClassId} {k : Nat} {cs : CS} {ms : MSt} (h : INV tr cA k cs ms) : cs.1 0 25 = -1 := h.2.2.2.2.2.2.2.2.2.1
theorem INV.mo {tr : Nat} {cA : Nat → ClassId} {k : Nat} {cs : CS} {ms : MSt} (h : INV tr cA k cs ms) : ms.1 12 = -1 := h.2.2.2.2.2.2.2.2.2.2
theorem INV.mk {tr : Nat} {cA : Nat → ClassId} {k : Nat} {cs : CS} {ms : MSt} (r0 : ∃ F D M, TR 0 tr cs (ms.2 1) F D M) (im : cs.1 60 4 = ms.1 3) (imk : ∃ j, ms.1 3 = nI j ∧ j ≤ k) (r1 : ms.1 3 ≠ 0 → ∃ F D M, TR 1 tr cs (ms.2 2) F D M) (er : ∀ i, i < 6 → cs.2.1 64 i = ms.2 4 i) (tm : cs.1 62 1 = ms.1 20) (tmk : ∃ j, ms.1 20 = nI j ∧ j ≤ 40) (td : ∀ i, i < 40 → cs.2.1 63 i = ms.2 10 i) (sh : ∃ b : Nat → Nat, (∀ i j, i < 4 → j < 4 → cs.2.2.1 (69 + i) 0 ≠ none → cs.2.2.1 (69 + j) 0 ≠ none → b i = b j → i = j) ∧ ∀ j, j < 4 → shR cA cs ms j (b j)) (ro : cs.1 0 25 = -1) (mo : ms.1 12 = -1) : INV tr cA k cs ms := And.intro r0 (And.intro im (And.intro imk (And.intro r1 (And.intro er (And.intro tm (And.intro tmk (And.intro td (And.intro sh (And.intro ro (mo))))))))))
