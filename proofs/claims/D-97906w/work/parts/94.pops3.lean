/-! the pure stage: acts, third part -/
set_option maxRecDepth 100000
section
variable {t tr F D M p nx k : Nat} {cs cs' : CS} {d d' : Nat → Int32} {ms ms' : MSt} {cA : Nat → ClassId} {ad adK : Nat → Nat}
def abv (k : Nat) : Nat := if k < 4 then 0 else k - 3
theorem abv_M : ∀ k, k < 7 → M_above (nI k) = some (nI (abv k)) := by decide +kernel
theorem isOf_at : ∀ k, k < 7 → ∀ e, e ≤ 6 → ∀ (dn dm : Int32), D_isOf k dn dm (nI e) = some (if e = 0 ∨ e = k ∨ e = abv k then 1 else 0) := by
  intro k hk e he dn dm
  match k, hk with
  | 0, _ => match e, he with | 0, _ => rfl | 1, _ => rfl | 2, _ => rfl | 3, _ => rfl | 4, _ => rfl | 5, _ => rfl | 6, _ => rfl
  | 1, _ => match e, he with | 0, _ => rfl | 1, _ => rfl | 2, _ => rfl | 3, _ => rfl | 4, _ => rfl | 5, _ => rfl | 6, _ => rfl
  | 2, _ => match e, he with | 0, _ => rfl | 1, _ => rfl | 2, _ => rfl | 3, _ => rfl | 4, _ => rfl | 5, _ => rfl | 6, _ => rfl
  | 3, _ => match e, he with | 0, _ => rfl | 1, _ => rfl | 2, _ => rfl | 3, _ => rfl | 4, _ => rfl | 5, _ => rfl | 6, _ => rfl
  | 4, _ => match e, he with | 0, _ => rfl | 1, _ => rfl | 2, _ => rfl | 3, _ => rfl | 4, _ => rfl | 5, _ => rfl | 6, _ => rfl
  | 5, _ => match e, he with | 0, _ => rfl | 1, _ => rfl | 2, _ => rfl | 3, _ => rfl | 4, _ => rfl | 5, _ => rfl | 6, _ => rfl
  | 6, _ => match e, he with | 0, _ => rfl | 1, _ => rfl | 2, _ => rfl | 3, _ => rfl | 4, _ => rfl | 5, _ => rfl | 6, _ => rfl
theorem s_as : stp_as ad adK cA (INV tr cA k) (INV tr cA (k + 1)) := by
  intro nx cs ms x1 x2 I fr
  obtain ⟨F, D, M, H⟩ := I.r0
  have lD := H.i.lD
  rw [L_as, M_as, Min_0_6]
  rcases H.isD x1 with ⟨h1, h2⟩ | ⟨p, hp, rfl, h1, h2⟩
  · have hL : ∃ v, L_in x2 0 6 = some v := by rcases in_two x2 0 6 with h | ⟨h, -⟩ <;> exact ⟨_, h⟩
    obtain ⟨v, hv⟩ := hL
    rw [hv, bd1_s, L_debtorAt, h1, bd1_s, if_pos rfl, need_0, bd2_s, onx_n, bd2_s, onx_n, bd2_p, h2, bd1_s, if_pos rfl, bd2_p]; exact I.find fr (c := 1) (by decide)
  · have hp4 : p < 4 := by omega
    obtain ⟨k1, k2, a, k3, k4⟩ := H.kdx hp
    rw [h2, bd1_s, if_neg (by decide)]
    rcases in_le x2 6 (by decide) with h | ⟨e, e1, rfl, h⟩
    · rw [show L_in x2 0 6 = some 0 from h, bd1_s, L_debtorAt, h1, bd1_s, if_neg (by decide), if_pos rfl, need_0, bd2_s, onx_n, bd2_s, onx_n, bd2_p, bd1_s, if_pos rfl, bd2_p]; exact I.find fr (c := 1) (by decide)
    · have ha : abv (kd (ms.2 1) p) < 7 := by unfold abv; split <;> omega
      rw [show L_in (nI e) 0 6 = some 1 from h, bd1_s, L_debtorAt, h1, bd1_s, if_neg (c := (1 : Int32) = 0) (by decide), if_neg (c := (1 : Int32) = 0) (by decide), need_1, bd2_s, onx_s, H.atD hp k3, bd1_s, onq_s, bd2_s, onx_s, bd1_s, if_neg (c := (1 : Int32) = 0) (by decide), k4, bd4_s, isOf_at _ k2 e e1, bd1_s, of0 hp4, k1, bd1_s, of1 hp4, bd1_s, abv_M _ k2, bd1_s]
      by_cases g0 : e = 0
      · rw [if_pos (c := e = 0 ∨ _) (Or.inl g0), need_1, bd2_s, onx_s, k4, bd4_s, if_pos (c := nI e = 0) (by rw [g0]; rfl)]
        exact ⟨_, _, _, rfl, rfl, I.stay fr⟩
      · rw [if_neg (c := nI e = 0) (fun h => g0 ((nI_zero_eq (by omega)).mp h))]
        by_cases g1 : e = kd (ms.2 1) p
        · rw [if_pos (c := e = 0 ∨ _) (Or.inr (Or.inl g1)), need_1, bd2_s, onx_s, k4, bd4_s, if_pos (c := nI e = nI (kd (ms.2 1) p)) (by rw [g1])]
          exact ⟨_, _, _, rfl, rfl, I.stay fr⟩
        · rw [if_neg (c := nI e = nI (kd (ms.2 1) p)) (fun h => g1 ((nI_eq (by omega) (by omega)).mp h))]
          by_cases g2 : e = abv (kd (ms.2 1) p)
          · rw [if_pos (c := e = 0 ∨ _) (Or.inr (Or.inr g2)), need_1, bd2_s, onx_s, k4, bd4_s, if_pos (c := nI e = nI (abv (kd (ms.2 1) p))) (by rw [← g2])]
            exact ⟨_, _, _, rfl, rfl, I.stay fr⟩
          · rw [if_neg (c := e = 0 ∨ _) (by rintro (h | h | h) <;> contradiction), need_0, bd2_s, onx_n, bd2_p, if_neg (c := nI e = nI (abv (kd (ms.2 1) p))) (fun h => g2 ((nI_eq (by omega) (by omega)).mp h)), bd2_p]
            exact I.find fr (c := 5) (by decide)
/-- one fact's cells change -/
theorem TR.fct1 {f : Nat} (hf : f < 8) (H : TR t tr cs d F D M) (hf1 : cs'.1 (20 * t) = cs.1 (20 * t)) (ha : ∀ k, 6 ≤ k → k < 16 → cs'.2.1 (20 * t + k) = cs.2.1 (20 * t + k)) (hb : ∀ k, k < 6 → ∀ g, g ≠ f → cs'.2.1 (20 * t + k) g = cs.2.1 (20 * t + k) g) (hq : cs'.2.2 = cs.2.2) (hd : ∀ i, (i < 10 + 5 * f ∨ 15 + 5 * f ≤ i) → d' i = d i) (hc : d' (10 + 5 * f + 1) = d (10 + 5 * f + 1)) (hT : TF t cs' d' f) (hI : DF d' F f) : TR t tr cs' d' F D M := by
  refine TR.fct H (TH.congr hf1 (fun i hi => hd i (by omega)) H.n.h) ha hq (fun i h1 h2 => hd i (by omega)) (by rw [hd 0 (by omega)]; exact H.i.hF) H.i.lF (Nat.le_refl _) (fun g hg => ?_) (fun g hg => ?_) (DC.congr (fun g hg => ?_) H.i.cls)
  · by_cases e : g = f
    · subst e; exact hT
    · exact TF.congr (fun k hk => hb k hk g e) (fun i hi => hd _ (by omega)) (H.n.fa g hg)
  · by_cases e : g = f
    · subst e; exact hI
    · exact DF.congr (fun i hi => hd _ (by omega)) (H.i.fa g hg)
  · by_cases e : g = f
    · subst e; exact hc
    · exact hd _ (by omega)
theorem TR.expl {f w : Nat} {b c : Int32} (hf : f < 8) (hw : w < 10) (hb : w ≠ 0 → b = c) (hb0 : w = 0 → c = -1) (H : TR t tr cs d F D M) : TR t tr (csA (csA cs (20 * t + 3) (upd (cs.2.1 (20 * t + 3)) f (nI w))) (20 * t + 4) (upd (cs.2.1 (20 * t + 4)) f b)) (upd (upd d (10 + 5 * f + 2) (nI w)) (10 + 5 * f + 3) c) F D M := by
  have T := H.n.fa f hf
  have I := H.i.fa f hf
  have ea : ∀ j, j ≠ 3 → j ≠ 4 → (csA (csA cs (20 * t + 3) (upd (cs.2.1 (20 * t + 3)) f (nI w))) (20 * t + 4) (upd (cs.2.1 (20 * t + 4)) f b)).2.1 (20 * t + j) = cs.2.1 (20 * t + j) := fun j h1 h2 => by rw [cA_ne _ _ (by omega), cA_ne _ _ (by omega)]
  have e3 : (csA (csA cs (20 * t + 3) (upd (cs.2.1 (20 * t + 3)) f (nI w))) (20 * t + 4) (upd (cs.2.1 (20 * t + 4)) f b)).2.1 (20 * t + 3) = upd (cs.2.1 (20 * t + 3)) f (nI w) := by rw [cA_ne _ _ (by omega), cA_at]
  have e4 : (csA (csA cs (20 * t + 3) (upd (cs.2.1 (20 * t + 3)) f (nI w))) (20 * t + 4) (upd (cs.2.1 (20 * t + 4)) f b)).2.1 (20 * t + 4) = upd (cs.2.1 (20 * t + 4)) f b := by rw [cA_at]
  have d2 : upd (upd d (10 + 5 * f + 2) (nI w)) (10 + 5 * f + 3) c (10 + 5 * f + 2) = nI w := by rw [upd_ne (by omega), pk_us]
  refine TR.fct1 hf H rfl (fun j h1 h2 => ea j (by omega) (by omega)) (fun j hj g hg => ?_) rfl (fun i hi => by rw [upd_ne (by omega), upd_ne (by omega)]) (by rw [upd_ne (by omega), upd_ne (by omega)]) ?_ ?_
  · by_cases h3 : j = 3
    · subst h3; rw [e3, upd_ne hg]
    · by_cases h4 : j = 4
      · subst h4; rw [e4, upd_ne hg]
      · rw [ea j h3 h4]
  · refine TF.mk ?_ ?_ ?_ (fun h => ?_) ?_
    · rw [ea 1 (by omega) (by omega), upd_ne (by omega), upd_ne (by omega)]; exact T.need
    · rw [ea 2 (by omega) (by omega), upd_ne (by omega), upd_ne (by omega)]; exact T.cl
    · rw [e3, d2, pk_us]
    · rw [d2] at h
      rw [e4, pk_us, pk_us]
      exact hb (fun h0 => h (by rw [h0]; rfl))
    · rw [ea 5 (by omega) (by omega), upd_ne (by omega), upd_ne (by omega)]; exact T.ws
  · refine DF.mk ?_ ?_ ⟨w, d2, hw⟩ (fun _ h => ?_)
    · rw [upd_ne (by omega), upd_ne (by omega)]; exact I.need
    · rw [upd_ne (by omega), upd_ne (by omega)]; exact I.cl
    · rw [d2] at h
      rw [pk_us]
      exact hb0 ((nI_zero_eq (by omega)).mp h)
theorem s_explain : stp_explain ad adK cA (INV tr cA k) (INV tr cA (k + 1)) := by
  intro nx cs ms x1 x2 x3 I fr
  obtain ⟨F, D, M, H⟩ := I.r0
  have lF := H.i.lF
  rw [L_explain, M_explain]
  rcases H.isF x1 with ⟨h1, h2⟩ | ⟨f, hf, rfl, h1, h2⟩
  · rw [h1, bd1_s, if_pos rfl, need_0, bd2_s, onx_n, bd2_p, h2, bd1_s, if_pos rfl, bd2_p]; exact I.find fr (c := 1) (by decide)
  · have hf8 : f < 8 := by omega
    rw [h1, bd1_s, if_neg (c := (1 : Int32) = 0) (by decide), h2, bd1_s, if_neg (c := (1 : Int32) = 0) (by decide), Min_0_9]
    rcases in_le x2 9 (by decide) with h | ⟨w, w1, rfl, h⟩
    · rw [show L_in x2 0 9 = some 0 from h, bd1_s, if_pos rfl, need_0, bd2_s, onx_n, bd2_p, bd1_s, if_pos rfl, bd2_p]; exact I.find fr (c := 1) (by decide)
    · rw [show L_in (nI w) 0 9 = some 1 from h, bd1_s, if_neg (c := (1 : Int32) = 0) (by decide), bd1_s, if_neg (c := (1 : Int32) = 0) (by decide)]
      by_cases w0 : w = 0
      · subst w0
        have H1 := H.expl hf8 (w := 0) (b := 0) (c := -1) (by omega) (fun h => absurd rfl h) (fun _ => rfl)
        rw [if_pos (c := nI 0 = 0) rfl, need_1, bd2_s, onx_s, rdC _ _ _ hf8 (by decide), bd1_s, wr_nI hf8 (by decide), bd1_s, if_pos (c := nI 0 = 0) rfl, cA_ne _ _ (by decide), wr_nI hf8 (by decide), bd1_s, if_pos (c := nI 0 ≤ 0) (by decide), its2 hf8, bd1_s, puts2 hf8, bd1_s, if_pos (c := nI 0 ≤ 0) (by decide), puts3 hf8, bd1_s, sa_at, sa_sa, (H.n.fa f hf8).wi]
        exact ⟨_, _, _, rfl, rfl, I.go fr ((frC.arr (by omega) (by omega)).trans (frC.arr (by omega) (by omega))) (KM.sa1 (Or.inl rfl)) rfl (by rw [sa_at]; exact H1)⟩
      · have wn : ¬ nI w = 0 := fun h => w0 ((nI_zero_eq (by omega)).mp h)
        have wl : ¬ nI w ≤ 0 := nI_nle (by omega) (by omega)
        rw [if_neg wn, if_neg wl]
        rcases H.isF x3 with ⟨h1, h2⟩ | ⟨g, hg, rfl, h1, h2⟩
        · rw [h1, bd1_s, if_pos rfl, need_0, bd2_s, onx_n, bd2_p, h2, bd1_s, if_pos rfl, bd2_p]; exact I.find fr (c := 1) (by decide)
        · rw [h1, bd1_s, if_neg (c := (1 : Int32) = 0) (by decide), h2, bd1_s, if_neg (c := (1 : Int32) = 0) (by decide)]
          by_cases gf : nI g = nI f
          · rw [if_pos gf, need_0, bd2_s, onx_n, bd2_p, if_pos gf, bd2_p]; exact I.find fr (c := 1) (by decide)
          · have H1 := H.expl hf8 (w := w) (b := nI g) (c := nI g) (by omega) (fun _ => rfl) (fun h => absurd h w0)
            rw [if_neg gf, need_1, bd2_s, onx_s, rdC _ _ _ hf8 (by decide), bd1_s, wr_nI hf8 (by decide), bd1_s, if_neg wn, cA_ne _ _ (by decide), wr_nI hf8 (by decide), bd1_s, if_neg gf, its2 hf8, bd1_s, puts2 hf8, bd1_s, if_neg wl, puts3 hf8, bd1_s, sa_at, sa_sa, (H.n.fa f hf8).wi]
            exact ⟨_, _, _, rfl, rfl, I.go fr ((frC.arr (by omega) (by omega)).trans (frC.arr (by omega) (by omega))) (KM.sa1 (Or.inl rfl)) rfl (by rw [sa_at]; exact H1)⟩
theorem small_bits {x : Int32} (h : ∀ i, 8 ≤ i → i < 32 → bt x i = false) : ∃ n, x = nI n ∧ n < 256 := by
  have h : x = x &&& 255 := by
    refine b_ext (fun i hi => ?_)
    rw [b_and, b_255]
    rcases Nat.lt_or_ge i 8 with h1 | h1
    · rw [decide_eq_true h1, Bool.and_true]
    · rw [h i h1 hi]; rfl
  obtain ⟨j, hj, h2⟩ := pk_andE x (m := 255) 8 rfl
  exact ⟨j, h.trans h2, hj⟩
theorem bits_small {n : Nat} (hn : n < 256) {i : Nat} (h : 8 ≤ i) : bt (nI n) i = false := by
  have e : nI n = nI n &&& 255 := by rw [pk_andN (by omega) 8 rfl, Nat.mod_eq_of_lt hn]
  rw [e, b_and, b_255, decide_eq_false (by omega), Bool.and_false]
def cv (c : Int32) (o : Nat) (b : Bool) : Int32 := (c &&& (((1 : Int32) <<< (nI o &&& 31)) ^^^ (-1))) ||| ((if b then (1 : Int32) else 0) <<< (nI o &&& 31))
theorem cv_bt (c : Int32) {o i : Nat} (b : Bool) (ho : o < 32) (hi : i < 32) : bt (cv c o b) i = if i = o then b else bt c i := by
  unfold cv
  rw [b_or, b_and, b_xor, bit_one ho hi, b_m1 i hi]
  have e : bt ((if b then (1 : Int32) else 0) <<< (nI o &&& 31)) i = (decide (i = o) && b) := by
    cases b
    · rw [if_neg (by decide), b_shl o ho 0 hi, b_0]; simp
    · rw [if_pos rfl, bit_one ho hi, Bool.and_true]
  rw [e]
  by_cases h : i = o
  · rw [decide_eq_true h, if_pos h]; cases bt c i <;> cases b <;> rfl
  · rw [decide_eq_false h, if_neg h]; cases bt c i <;> cases b <;> rfl
theorem cv_same {c : Int32} {o : Nat} {b : Bool} (ho : o < 32) (h : bt c o = b) : cv c o b = c := b_ext (fun i hi => by
  rw [cv_bt c b ho hi]
  split
  · rename_i e; rw [e, h]
  · rfl)
theorem cv_flip {c : Int32} {o : Nat} {b : Bool} (ho : o < 32) (h : bt c o ≠ b) : c ^^^ (1 <<< (nI o &&& 31)) = cv c o b := b_ext (fun i hi => by
  rw [cv_bt c b ho hi, b_xor, bit_one ho hi]
  by_cases e : i = o
  · subst e
    rw [decide_eq_true rfl, if_pos rfl]
    revert h
    cases bt c i <;> cases b <;> simp
  · rw [decide_eq_false e, if_neg e]; cases bt c i <;> rfl)
theorem TR.clsh {f g : Nat} (b : Bool) (hf : f < F) (hg : g < F) (hfg : f ≠ g) (H : TR t tr cs d F D M) : TR t tr (csA cs (20 * t + 2) (upd (upd (cs.2.1 (20 * t + 2)) f (cv (d (10 + 5 * f + 1)) g b)) g (cv (d (10 + 5 * g + 1)) f b))) (upd (upd d (10 + 5 * f + 1) (cv (d (10 + 5 * f + 1)) g b)) (10 + 5 * g + 1) (cv (d (10 + 5 * g + 1)) f b)) F D M := by
  have lF := H.i.lF
  have ea : ∀ j, j ≠ 2 → (csA cs (20 * t + 2) (upd (upd (cs.2.1 (20 * t + 2)) f (cv (d (10 + 5 * f + 1)) g b)) g (cv (d (10 + 5 * g + 1)) f b))).2.1 (20 * t + j) = cs.2.1 (20 * t + j) := fun j hj => cA_ne _ _ (by omega)
  have ed : ∀ i, i ≠ 10 + 5 * f + 1 → i ≠ 10 + 5 * g + 1 → upd (upd d (10 + 5 * f + 1) (cv (d (10 + 5 * f + 1)) g b)) (10 + 5 * g + 1) (cv (d (10 + 5 * g + 1)) f b) i = d i := fun i h1 h2 => by rw [upd_ne h2, upd_ne h1]
  have ef : upd (upd d (10 + 5 * f + 1) (cv (d (10 + 5 * f + 1)) g b)) (10 + 5 * g + 1) (cv (d (10 + 5 * g + 1)) f b) (10 + 5 * f + 1) = cv (d (10 + 5 * f + 1)) g b := by rw [upd_ne (by omega), pk_us]
  have eg : upd (upd d (10 + 5 * f + 1) (cv (d (10 + 5 * f + 1)) g b)) (10 + 5 * g + 1) (cv (d (10 + 5 * g + 1)) f b) (10 + 5 * g + 1) = cv (d (10 + 5 * g + 1)) f b := pk_us
  have hbt : ∀ a c, a < 8 → c < 8 → bt (upd (upd d (10 + 5 * f + 1) (cv (d (10 + 5 * f + 1)) g b)) (10 + 5 * g + 1) (cv (d (10 + 5 * g + 1)) f b) (10 + 5 * a + 1)) c = if (a = f ∧ c = g) ∨ (a = g ∧ c = f) then b else bt (d (10 + 5 * a + 1)) c := by
    intro a c ha hc
    by_cases h1 : a = f
    · subst h1
      rw [ef, cv_bt _ _ (by omega) (by omega)]
      by_cases h2 : c = g
      · rw [if_pos h2, if_pos (Or.inl ⟨rfl, h2⟩)]
      · rw [if_neg h2, if_neg (by omega)]
    · by_cases h2 : a = g
      · subst h2
        rw [eg, cv_bt _ _ (by omega) (by omega)]
        by_cases h3 : c = f
        · rw [if_pos h3, if_pos (Or.inr ⟨rfl, h3⟩)]
        · rw [if_neg h3, if_neg (by omega)]
      · rw [ed _ (by omega) (by omega), if_neg (by omega)]
  refine TR.fct H (TH.congr rfl (fun i hi => ed i (by omega) (by omega)) H.n.h) (fun j h1 h2 => ea j (by omega)) rfl (fun i h1 h2 => ed i (by omega) (by omega)) (by rw [ed 0 (by omega) (by omega)]; exact H.i.hF) lF (Nat.le_refl _) (fun a ha => ?_) (fun a ha => ?_) (fun a c ha hc h => ?_)
  · have T := H.n.fa a ha
    refine TF.mk ?_ ?_ ?_ (fun h => ?_) ?_
    · rw [ea 1 (by omega), ed _ (by omega) (by omega)]; exact T.need
    · rw [cA_at]
      by_cases h2 : a = g
      · subst h2; rw [pk_us, eg]
      · by_cases h1 : a = f
        · subst h1; rw [upd_ne h2, pk_us, ef]
        · rw [upd_ne h2, upd_ne h1, ed _ (by omega) (by omega)]; exact T.cl
    · rw [ea 3 (by omega), ed _ (by omega) (by omega)]; exact T.wi
    · rw [ed _ (by omega) (by omega)] at h
      rw [ea 4 (by omega), ed _ (by omega) (by omega)]; exact T.by1 h
    · rw [ea 5 (by omega), ed _ (by omega) (by omega)]; exact T.ws
  · have Q := H.i.fa a ha
    refine DF.mk ?_ ?_ ?_ (fun h1 h2 => ?_)
    · rw [ed _ (by omega) (by omega)]; exact Q.need
    · refine small_bits (fun i h1 h2 => ?_)
      obtain ⟨n, n1, n2⟩ := Q.cl
      have hz : bt (d (10 + 5 * a + 1)) i = false := by rw [n1]; exact bits_small n2 h1
      by_cases e1 : a = f
      · subst e1; rw [ef, cv_bt _ _ (by omega) h2, if_neg (by omega)]; exact hz
      · by_cases e2 : a = g
        · subst e2; rw [eg, cv_bt _ _ (by omega) h2, if_neg (by omega)]; exact hz
        · rw [ed _ (by omega) (by omega)]; exact hz
    · rw [ed _ (by omega) (by omega)]; exact Q.wi
    · rw [ed _ (by omega) (by omega)] at h2 ⊢; exact Q.by0 h1 h2
  · rw [hbt a c ha hc] at h
    rw [hbt c a hc ha]
    by_cases h1 : (a = f ∧ c = g) ∨ (a = g ∧ c = f)
    · rw [if_pos h1] at h
      rw [if_pos (by omega)]
      exact ⟨by omega, by omega, h⟩
    · rw [if_neg h1] at h
      rw [if_neg (by omega)]
      exact H.i.cls a c ha hc h
theorem s_clash : stp_clash ad adK cA (INV tr cA k) (INV tr cA (k + 1)) := by
  intro nx cs ms x1 x2 x3 I fr
  obtain ⟨F, D, M, H⟩ := I.r0
  have lF := H.i.lF
  rw [L_clash, M_clash]
  rcases H.isF x1 with ⟨h1, h2⟩ | ⟨f, hf, rfl, h1, h2⟩
  · rw [h1, bd1_s, if_pos rfl, need_0, bd2_s, onx_n, bd2_p, h2, bd1_s, if_pos rfl, bd2_p]; exact I.find fr (c := 1) (by decide)
  · have hf8 : f < 8 := by omega
    rw [h1, bd1_s, if_neg (c := (1 : Int32) = 0) (by decide), h2, bd1_s, if_neg (c := (1 : Int32) = 0) (by decide)]
    rcases H.isF x2 with ⟨h1, h2⟩ | ⟨g, hg, rfl, h1, h2⟩
    · rw [h1, bd1_s, if_pos rfl, need_0, bd2_s, onx_n, bd2_p, h2, bd1_s, if_pos rfl, bd2_p]; exact I.find fr (c := 1) (by decide)
    · have hg8 : g < 8 := by omega
      rw [h1, bd1_s, if_neg (c := (1 : Int32) = 0) (by decide), h2, bd1_s, if_neg (c := (1 : Int32) = 0) (by decide)]
      by_cases hfg : f = g
      · rw [if_pos (c := nI f = nI g) (by rw [hfg]), need_0, bd2_s, onx_n, bd2_p, if_pos (c := nI f = nI g) (by rw [hfg]), bd2_p]; exact I.find fr (c := 1) (by decide)
      · have hn : ¬ nI f = nI g := fun h => hfg ((nI_eq (by omega) (by omega)).mp h)
        rw [if_neg hn, if_neg hn, Min_0_1]
        rcases in_le x3 1 (by decide) with h | ⟨e, e1, rfl, h⟩
        · rw [show L_in x3 0 1 = some 0 from h, bd1_s, if_pos rfl, need_0, bd2_s, onx_n, bd2_p, bd1_s, if_pos rfl, bd2_p]; exact I.find fr (c := 1) (by decide)
        · obtain ⟨b, hb⟩ : ∃ b : Bool, nI e = if b then 1 else 0 := by
            match e, e1 with
            | 0, _ => exact ⟨false, rfl⟩
            | 1, _ => exact ⟨true, rfl⟩
          have H1 := H.clsh b hf hg hfg
          have hsym : bt (ms.2 1 (10 + 5 * g + 1)) f = bt (ms.2 1 (10 + 5 * f + 1)) g := by
            cases h1 : bt (ms.2 1 (10 + 5 * f + 1)) g
            · cases h2 : bt (ms.2 1 (10 + 5 * g + 1)) f
              · rfl
              · rw [(H.i.cls g f hg8 hf8 h2).2.2] at h1; cases h1
            · exact (H.i.cls f g hf8 hg8 h1).2.2
          have eM : ∀ (c : Int32) (o : Nat), (c &&& (((1 : Int32) <<< (nI o &&& 31)) ^^^ (-1))) ||| (nI e <<< (nI o &&& 31)) = cv c o b := fun c o => by unfold cv; rw [hb]
          rw [show L_in (nI e) 0 1 = some 1 from h, bd1_s, if_neg (c := (1 : Int32) = 0) (by decide), need_1, bd2_s, onx_s, bd1_s, if_neg (c := (1 : Int32) = 0) (by decide), rdC _ _ _ hf8 (by decide), bd1_s, its1 hf8, bd1_s, bd1_s, bd1_s, eM, puts1 hf8, bd1_s, its1 hg8, sa_at, upd_ne (by omega), bd1_s, eM, puts1 hg8, bd1_s, sa_at, sa_sa, (H.n.fa f hf8).cl]
          by_cases hw : ((ms.2 1 (10 + 5 * f + 1)) >>> (nI g &&& 31)) &&& 1 = nI e
          · rw [if_pos hw]
            have hbb : bt (ms.2 1 (10 + 5 * f + 1)) g = b := by
              rw [bit_and (by omega), hb] at hw
              revert hw
              cases bt (ms.2 1 (10 + 5 * f + 1)) g <;> cases b <;> decide
            have e1 := cv_same (by omega) hbb
            have e2 := cv_same (by omega) (hsym.trans hbb)
            refine ⟨_, _, _, rfl, rfl, I.go (F := F) (D := D) (M := M) fr frC.rfl (KM.sa1 (Or.inl rfl)) rfl ?_⟩
            rw [sa_at, e1, e2, fa_upd_same rfl, fa_upd_same rfl]
            exact H
          · have hbb : bt (ms.2 1 (10 + 5 * f + 1)) g ≠ b := fun hbb => hw (by rw [bit_and (by omega), hbb, hb])
            have e1 := cv_flip (by omega) hbb
            have e2 := cv_flip (by omega) (fun h => hbb (hsym.symm.trans h))
            rw [if_neg hw, wr_nI hf8 (by decide), bd1_s, cA_at, rdC _ _ _ hg8 (by decide), bd1_s, upd_ne (Ne.symm hfg), (H.n.fa g hg8).cl, wr_nI hg8 (by decide), bd1_s, e1, e2]
            have eS : ∀ (u v : Nat → Int32), csA (csA cs (20 * 0 + 2) u) (20 * 0 + 2) v = csA cs (20 * 0 + 2) v := fun u v => by unfold csA; rw [bx_uu]
            rw [eS]
            exact ⟨_, _, _, rfl, rfl, I.go fr (frC.arr (by omega) (by omega)) (KM.sa1 (Or.inl rfl)) rfl (by rw [sa_at]; exact H1)⟩
end
