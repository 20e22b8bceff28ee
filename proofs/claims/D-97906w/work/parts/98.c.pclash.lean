/-! the pure stage: clashOf, joined, debtor, become -/
set_option maxRecDepth 100000
section
variable {t u tr F D M p nx k : Nat} {cs cs' cs1 cs2 : CS} {d d' : Nat → Int32} {ms ms' ms1 ms2 ms3 : MSt} {cA : Nat → ClassId} {ad adK : Nat → Nat}
def cnd (d : Nat → Int32) (x : Int32) (a b : Nat) : Prop := bt x a = true ∧ bt x b = true ∧ bt (d (10 + 5 * a + 1)) b = true
theorem TR.innerT (H : TR 0 tr cs d F D M) (x : Int32) {a : Nat} (ha : a < F) : ∀ (n f : Nat) (y : Int32), a + n < F → n < f → ∃ r, L_clashOf_L48 NN cs x (nI a) f y (nI (a + n)) = some r ∧ ((∃ b, a < b ∧ b ≤ a + n ∧ cnd d x a b ∧ (∀ c, a < c → c < b → ¬ cnd d x a c) ∧ r = nI (10 * a + b)) ∨ ((∀ c, a < c → c ≤ a + n → ¬ cnd d x a c) ∧ r = y)) := by
  have lF := H.i.lF
  intro n
  induction n with
  | zero =>
    intro f y h1 h2
    obtain ⟨f, rfl⟩ : ∃ m, f = m + 1 := ⟨f - 1, by omega⟩
    exact ⟨y, by rw [L_clashOf_L48, if_pos (nI_le (by omega) (by omega))], Or.inr ⟨fun c h3 h4 => by omega, rfl⟩⟩
  | succ n ih =>
    intro f y h1 h2
    obtain ⟨f, rfl⟩ : ∃ m, f = m + 1 := ⟨f - 1, by omega⟩
    rw [L_clashOf_L48, if_neg (nI_ge (by omega) (by omega)), isIn_bt (by omega), bd1_s, isIn_bt (by omega), bd1_s, rdC _ _ _ (by omega) (by decide), bd1_s, (H.n.fa a (by omega)).cl, isIn_bt (by omega), bd1_s, show nI (a + (n + 1)) + (-1) = nI (a + n) from pk_m1 _]
    have hno : ¬ cnd d x a (a + (n + 1)) → ∃ r, L_clashOf_L48 NN cs x (nI a) f y (nI (a + n)) = some r ∧ ((∃ b, a < b ∧ b ≤ a + (n + 1) ∧ cnd d x a b ∧ (∀ c, a < c → c < b → ¬ cnd d x a c) ∧ r = nI (10 * a + b)) ∨ ((∀ c, a < c → c ≤ a + (n + 1) → ¬ cnd d x a c) ∧ r = y)) := fun hc => by
      obtain ⟨r, q1, q2⟩ := ih f y (by omega) (by omega)
      refine ⟨r, q1, ?_⟩
      rcases q2 with ⟨b, b1, b2, b3⟩ | ⟨b1, b2⟩
      · exact Or.inl ⟨b, b1, by omega, b3⟩
      · refine Or.inr ⟨fun c c1 c2 => ?_, b2⟩
        rcases Nat.lt_or_ge c (a + (n + 1)) with h | h
        · exact b1 c c1 (by omega)
        · rw [show c = a + (n + 1) by omega]; exact hc
    cases e1 : bt x a
    · rw [if_pos (by decide)]; exact hno (fun h => by rw [h.1] at e1; cases e1)
    · rw [if_neg (by decide)]
      cases e2 : bt x (a + (n + 1))
      · rw [if_pos (by decide)]; exact hno (fun h => by rw [h.2.1] at e2; cases e2)
      · rw [if_neg (by decide)]
        cases e3 : bt (d (10 + 5 * a + 1)) (a + (n + 1))
        · rw [if_pos (by decide)]; exact hno (fun h => by rw [h.2.2] at e3; cases e3)
        · rw [if_neg (by decide), show 10 * nI a + nI (a + (n + 1)) = nI (10 * a + (a + (n + 1))) from by rw [show (10 : Int32) * nI a = nI (10 * a) from pk_mul 10 a, nI_add]]
          obtain ⟨r, q1, q2⟩ := ih f (nI (10 * a + (a + (n + 1)))) (by omega) (by omega)
          refine ⟨r, q1, Or.inl ?_⟩
          rcases q2 with ⟨b, b1, b2, b3⟩ | ⟨b1, b2⟩
          · exact ⟨b, b1, by omega, b3⟩
          · exact ⟨a + (n + 1), by omega, by omega, ⟨e1, e2, e3⟩, fun c c1 c2 => b1 c c1 (by omega), b2⟩
theorem TR.outerT (H : TR 0 tr cs d F D M) (x : Int32) : ∀ (n f : Nat) (y : Int32), n ≤ F → n < f → ∃ r, L_clashOf_L33 NN cs x f y (nI n - 1) = some r ∧ ((∃ a b, a < b ∧ b < F ∧ a < n ∧ cnd d x a b ∧ (∀ c, a < c → c < b → ¬ cnd d x a c) ∧ (∀ a', a' < a → ∀ c, a' < c → c < F → ¬ cnd d x a' c) ∧ r = nI (10 * a + b)) ∨ ((∀ a', a' < n → ∀ c, a' < c → c < F → ¬ cnd d x a' c) ∧ r = y)) := by
  have lF := H.i.lF
  intro n
  induction n with
  | zero =>
    intro f y h1 h2
    obtain ⟨f, rfl⟩ : ∃ m, f = m + 1 := ⟨f - 1, by omega⟩
    exact ⟨y, by rw [L_clashOf_L33, if_pos (by decide)], Or.inr ⟨fun c h3 => by omega, rfl⟩⟩
  | succ n ih =>
    intro f y h1 h2
    obtain ⟨f, rfl⟩ : ∃ m, f = m + 1 := ⟨f - 1, by omega⟩
    obtain ⟨r, q1, q2⟩ := H.innerT x (a := n) (by omega) (F - 1 - n) NN y (by omega) (NN_lt (by omega))
    rw [show n + (F - 1 - n) = F - 1 by omega] at q1 q2
    have e0 : cs.1 (20 * 0) 0 - 1 = nI (F - 1) := by rw [H.n.h.f0, H.i.hF, show F = (F - 1) + 1 by omega, nI_pred]; rfl
    rw [nI_pred, L_clashOf_L33, if_neg (nI_pos (by omega)), e0, q1, bd1_s]
    rw [show nI n + (-1) = nI n - 1 from (Int32.sub_eq_add_neg (a := nI n) (b := 1)).symm]
    obtain ⟨r2, g1, g2⟩ := ih f r (by omega) (by omega)
    refine ⟨r2, g1, ?_⟩
    rcases g2 with ⟨a, b, a1, a2, a3, a4⟩ | ⟨a1, a2⟩
    · exact Or.inl ⟨a, b, a1, a2, by omega, a4⟩
    · rcases q2 with ⟨b, b1, b2, b3, b4, b5⟩ | ⟨b1, b2⟩
      · exact Or.inl ⟨n, b, b1, by omega, by omega, b3, b4, a1, a2.trans b5⟩
      · refine Or.inr ⟨fun a' h3 c c1 c2 => ?_, a2.trans b2⟩
        rcases Nat.lt_or_ge a' n with h | h
        · exact a1 a' h c c1 c2
        · rw [show a' = n by omega] at c1 ⊢; exact b1 c c1 (by omega)
theorem TR.innerM (H : TR 0 tr cs (ms.2 1) F D M) (x : Int32) {a : Nat} (ha : a < F) (kk : Option (Int32 × MSt)) : ∀ (n b f : Nat), b + n = F → a < b → n < f → (∀ c, a < c → c < b → ¬ cnd (ms.2 1) x a c) → ((∀ c, a < c → c < F → ¬ cnd (ms.2 1) x a c) → M_clashOf_L42 NN ms x (nI a) kk f (nI b) = kk) ∧ ∀ e, a < e → e < F → cnd (ms.2 1) x a e → (∀ c, a < c → c < e → ¬ cnd (ms.2 1) x a c) → M_clashOf_L42 NN ms x (nI a) kk f (nI b) = some (nI (10 * a + e), ms) := by
  have lF := H.i.lF
  intro n
  induction n with
  | zero =>
    intro b f h1 h2 h3 h4
    obtain ⟨f, rfl⟩ : ∃ m, f = m + 1 := ⟨f - 1, by omega⟩
    rw [M_clashOf_L42, rdM0, bd1_s, H.i.hF, if_pos (nI_le (by omega) (by omega))]
    exact ⟨fun _ => rfl, fun e e1 e2 e3 => absurd e3 (h4 e e1 (by omega))⟩
  | succ n ih =>
    intro b f h1 h2 h3 h4
    obtain ⟨f, rfl⟩ : ∃ m, f = m + 1 := ⟨f - 1, by omega⟩
    have stp : ¬ cnd (ms.2 1) x a b → M_clashOf_L42 NN ms x (nI a) kk (f + 1) (nI b) = M_clashOf_L42 NN ms x (nI a) kk f (nI (b + 1)) := fun hc => by
      rw [M_clashOf_L42, rdM0, bd1_s, H.i.hF, if_neg (nI_ge (by omega) (by omega)), its1 (by omega), bd1_s, nI_1]
      by_cases e1 : ((x >>> (nI a &&& 31)) &&& 1) = 1
      · rw [if_pos e1]
        by_cases e2 : ((x >>> (nI b &&& 31)) &&& 1) = 1
        · rw [if_pos e2]
          by_cases e3 : (((ms.2 1 (10 + 5 * a + 1)) >>> (nI b &&& 31)) &&& 1) = 1
          · exact absurd ⟨(bit_is1 (by omega)).mp e1, (bit_is1 (by omega)).mp e2, (bit_is1 (by omega)).mp e3⟩ hc
          · rw [if_neg e3]
        · rw [if_neg e2]
      · rw [if_neg e1]
    refine ⟨fun hn => ?_, fun e e1 e2 e3 e4 => ?_⟩
    · rw [stp (hn b h2 (by omega))]
      exact (ih (b + 1) f (by omega) (by omega) (by omega) (fun c c1 c2 => hn c c1 (by omega))).1 hn
    · by_cases hb : e = b
      · subst hb
        rw [M_clashOf_L42, rdM0, bd1_s, H.i.hF, if_neg (nI_ge (by omega) (by omega)), its1 (by omega), bd1_s, if_pos ((bit_is1 (by omega)).mpr e3.1), if_pos ((bit_is1 (by omega)).mpr e3.2.1), if_pos ((bit_is1 (by omega)).mpr e3.2.2), show (10 : Int32) * nI a = nI (10 * a) from pk_mul 10 a, nI_add]
      · have hlt : b < e := by
          rcases Nat.lt_or_ge b e with h | h
          · exact h
          · exact absurd e3 (h4 e e1 (by omega))
        rw [stp (e4 b h2 hlt)]
        exact (ih (b + 1) f (by omega) (by omega) (by omega) (fun c c1 c2 => e4 c c1 (by omega))).2 e e1 e2 e3 e4
theorem TR.outerM (H : TR 0 tr cs (ms.2 1) F D M) (x : Int32) (kk : Option (Int32 × MSt)) : ∀ (n a f : Nat), a + n = F → n < f → (∀ a', a' < a → ∀ c, a' < c → c < F → ¬ cnd (ms.2 1) x a' c) → ((∀ a', a' < F → ∀ c, a' < c → c < F → ¬ cnd (ms.2 1) x a' c) → M_clashOf_L28 NN ms x kk f (nI a) = kk) ∧ ∀ e b, e < b → b < F → cnd (ms.2 1) x e b → (∀ c, e < c → c < b → ¬ cnd (ms.2 1) x e c) → (∀ a', a' < e → ∀ c, a' < c → c < F → ¬ cnd (ms.2 1) x a' c) → M_clashOf_L28 NN ms x kk f (nI a) = some (nI (10 * e + b), ms) := by
  have lF := H.i.lF
  intro n
  induction n with
  | zero =>
    intro a f h1 h2 h3
    obtain ⟨f, rfl⟩ : ∃ m, f = m + 1 := ⟨f - 1, by omega⟩
    rw [M_clashOf_L28, rdM0, bd1_s, H.i.hF, if_pos (nI_le (by omega) (by omega))]
    exact ⟨fun _ => rfl, fun e b e1 e2 e3 => absurd e3 (h3 e (by omega) b e1 e2)⟩
  | succ n ih =>
    intro a f h1 h2 h3
    obtain ⟨f, rfl⟩ : ∃ m, f = m + 1 := ⟨f - 1, by omega⟩
    rw [M_clashOf_L28, rdM0, bd1_s, H.i.hF, if_neg (nI_ge (by omega) (by omega)), nI_1]
    have hi := H.innerM x (a := a) (by omega) (M_clashOf_L28 NN ms x kk f (nI (a + 1))) (F - (a + 1)) (a + 1) NN (by omega) (by omega) (NN_lt (by omega)) (fun c c1 c2 => by omega)
    refine ⟨fun hn => ?_, fun e b e1 e2 e3 e4 e5 => ?_⟩
    · rw [hi.1 (hn a (by omega))]
      exact (ih (a + 1) f (by omega) (by omega) (fun a' h4 => hn a' (by omega))).1 hn
    · by_cases hb : e = a
      · subst hb; exact hi.2 b e1 e2 e3 e4
      · have hlt : a < e := by
          rcases Nat.lt_or_ge a e with h | h
          · exact h
          · exact absurd e3 (h3 e (by omega) b e1 e2)
        rw [hi.1 (e5 a hlt)]
        exact (ih (a + 1) f (by omega) (by omega) (fun a' h4 => e5 a' (by omega))).2 e b e1 e2 e3 e4 e5
theorem s_clashOf : stp_clashOf ad adK cA (INV tr cA k) (INV tr cA (k + 1)) := by
  intro nx cs ms x1 I fr
  obtain ⟨F, D, M, H⟩ := I.r0
  have lF := H.i.lF
  rw [L_clashOf, M_clashOf, rdM0, bd1_s, Min_0_v, H.n.h.f0]
  rcases in_two x1 0 ((1 <<< (ms.2 1 0 &&& 31)) - 1) with h | ⟨h, -⟩
  · rw [h, bd1_s, need_0, bd2_s, onx_n, bd2_p, bd1_s, if_pos rfl, bd2_p]; exact I.find fr (c := 1) (by decide)
  · rw [h, bd1_s, need_1, bd2_s, onx_s, bd1_s, if_neg (c := (1 : Int32) = 0) (by decide), H.n.h.f0, H.i.hF, bd2_p]
    obtain ⟨r, q1, q2⟩ := H.outerT x1 F NN (-1) (Nat.le_refl _) (NN_lt (by omega))
    have hm := H.outerM x1 (M_finds ms 2) F 0 NN (by omega) (NN_lt (by omega)) (fun a' h => by omega)
    rw [q1, bd1_s]
    rcases q2 with ⟨a, b, a1, a2, a3, a4, a5, a6, rfl⟩ | ⟨a1, rfl⟩
    · rw [if_neg (fun h => absurd (nI_pos' (n := 10 * a + b) (by omega)) (by rw [h]; decide)), need_1, bd2_s, onx_s, show M_clashOf_L28 NN ms x1 (M_finds ms 2) NN 0 = _ from hm.2 a b a1 a2 a4 a5 a6]
      exact ⟨_, _, _, rfl, rfl, I.stay fr⟩
    · rw [if_pos rfl, need_0, bd2_s, onx_n, bd2_p, show M_clashOf_L28 NN ms x1 (M_finds ms 2) NN 0 = _ from hm.1 a1]
      exact I.find fr (c := 2) (by decide)
theorem s_joined : stp_joined ad adK cA (INV tr cA k) (INV tr cA (k + 1)) := by
  intro nx cs ms x1 x2 I fr
  obtain ⟨F, D, M, H⟩ := I.r0
  have lF := H.i.lF
  have lD := H.i.lD
  rw [L_joined, M_joined]
  rcases H.isD x1 with ⟨h1, h2⟩ | ⟨p, hp, rfl, h1, h2⟩
  · rw [h1, bd1_s, if_pos rfl, need_0, bd2_s, onx_n, bd2_p, h2, bd1_s, if_pos rfl, bd2_p]; exact I.find fr (c := 1) (by decide)
  · rw [h1, bd1_s, if_neg (c := (1 : Int32) = 0) (by decide), h2, bd1_s, if_neg (c := (1 : Int32) = 0) (by decide)]
    rcases H.isD x2 with ⟨h1, h2⟩ | ⟨q, hq, rfl, h1, h2⟩
    · rw [h1, bd1_s, if_pos rfl, need_0, bd2_s, onx_n, bd2_p, h2, bd1_s, if_pos rfl, bd2_p]; exact I.find fr (c := 1) (by decide)
    · rw [h1, bd1_s, if_neg (c := (1 : Int32) = 0) (by decide), h2, bd1_s, if_neg (c := (1 : Int32) = 0) (by decide)]
      by_cases he : nI p = nI q
      · rw [if_pos he, need_0, bd2_s, onx_n, bd2_p, if_pos he, bd2_p]; exact I.find fr (c := 1) (by decide)
      · rw [if_neg he, need_1, bd2_s, onx_s, if_neg he, H.toldT (by omega), bd1_s, H.toldT (by omega), bd1_s, H.toldM rfl (by omega), bd1_s, H.toldM rfl (by omega), bd1_s]
        generalize bkS (ms.2 1) p = A
        generalize bkS (ms.2 1) q = B
        have hl : ∀ (n j f f' : Nat) (kk : Option (Int32 × MSt)), j + n = F → n < f → n < f' → ∃ g : Int32, (g = 0 ∨ g = 1) ∧ L_joined_L56 NN cs A B f 0 (nI j) = some 0 ∧ L_joined_L56 NN cs A B f 1 (nI j) = some g ∧ (g = 1 → M_joined_L43 NN ms A B kk f' (nI j) = kk) ∧ (g = 0 → M_joined_L43 NN ms A B kk f' (nI j) = M_finds ms 2) := by
          intro n
          induction n with
          | zero =>
            intro j f f' kk h1 h2 h3
            obtain ⟨f, rfl⟩ : ∃ m, f = m + 1 := ⟨f - 1, by omega⟩
            obtain ⟨f', rfl⟩ : ∃ m, f' = m + 1 := ⟨f' - 1, by omega⟩
            refine ⟨1, Or.inr rfl, ?_, ?_, fun _ => ?_, fun h => absurd h (by decide)⟩
            · rw [L_joined_L56, H.n.h.f0, H.i.hF, if_pos (nI_le (by omega) (by omega))]
            · rw [L_joined_L56, H.n.h.f0, H.i.hF, if_pos (nI_le (by omega) (by omega))]
            · rw [M_joined_L43, rdM0, bd1_s, H.i.hF, if_pos (nI_le (by omega) (by omega))]
          | succ n ih =>
            intro j f f' kk h1 h2 h3
            obtain ⟨f, rfl⟩ : ∃ m, f = m + 1 := ⟨f - 1, by omega⟩
            obtain ⟨f', rfl⟩ : ∃ m, f' = m + 1 := ⟨f' - 1, by omega⟩
            obtain ⟨g, g1, g2, g3, g4, g5⟩ := ih (j + 1) f f' kk (by omega) (by omega) (by omega)
            have hj8 : j < 8 := by omega
            have a01 : (0 : Int32) &&& 1 = 0 := rfl
            have a00 : (0 : Int32) &&& 0 = 0 := rfl
            have a11 : (1 : Int32) &&& 1 = 1 := rfl
            have a10 : (1 : Int32) &&& 0 = 0 := rfl
            have eL : ∀ y, L_joined_L56 NN cs A B (f + 1) y (nI j) = if bt A j then (if ms.2 1 (10 + 5 * j + 1) &&& B = 0 then L_joined_L56 NN cs A B f (y &&& 1) (nI (j + 1)) else L_joined_L56 NN cs A B f (y &&& 0) (nI (j + 1))) else L_joined_L56 NN cs A B f (y &&& 1) (nI (j + 1)) := fun y => by
              rw [L_joined_L56, H.n.h.f0, H.i.hF, if_neg (nI_ge (by omega) (by omega)), isIn_bt (by omega), bd1_s, rdC _ _ _ hj8 (by decide), bd1_s, (H.n.fa j hj8).cl, nI_1]
              cases bt A j
              · rw [if_pos (by decide)]; rfl
              · rw [if_neg (by decide)]; rfl
            have eM : M_joined_L43 NN ms A B kk (f' + 1) (nI j) = if bt A j then (if ms.2 1 (10 + 5 * j + 1) &&& B = 0 then M_joined_L43 NN ms A B kk f' (nI (j + 1)) else M_finds ms 2) else M_joined_L43 NN ms A B kk f' (nI (j + 1)) := by
              rw [M_joined_L43, rdM0, bd1_s, H.i.hF, if_neg (nI_ge (by omega) (by omega)), its1 hj8, bd1_s, nI_1, bd2_p]
              by_cases hb : bt A j = true
              · rw [if_pos ((bit_is1 (by omega)).mpr hb), if_pos hb]
              · rw [if_neg (fun h => hb ((bit_is1 (by omega)).mp h)), if_neg hb]
            rw [eL, eL, eM, a01, a00, a11, a10]
            cases bt A j
            · exact ⟨g, g1, g2, g3, g4, g5⟩
            · by_cases hc : ms.2 1 (10 + 5 * j + 1) &&& B = 0
              · rw [if_pos hc, if_pos hc, if_pos hc]
                exact ⟨g, g1, g2, g3, g4, g5⟩
              · rw [if_neg hc, if_neg hc, if_neg hc]
                exact ⟨0, Or.inl rfl, g2, g2, fun h => absurd h (by decide), fun _ => rfl⟩
        obtain ⟨g, g1, -, g3, g4, g5⟩ := hl F 0 NN NN (some (A ||| B, ms)) (by omega) (NN_lt (by omega)) (NN_lt (by omega))
        rw [show L_joined_L56 NN cs A B NN 1 0 = some g from g3, bd1_s]
        rcases g1 with rfl | rfl
        · rw [need_0, bd2_s, onx_n, bd2_p, show M_joined_L43 NN ms A B (some (A ||| B, ms)) NN 0 = _ from g5 rfl]; exact I.find fr (c := 2) (by decide)
        · rw [need_1, bd2_s, onx_s, show M_joined_L43 NN ms A B (some (A ||| B, ms)) NN 0 = _ from g4 rfl]
          exact ⟨_, _, _, rfl, rfl, I.stay fr⟩
end
