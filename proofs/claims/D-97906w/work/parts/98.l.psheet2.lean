/-! the pure stage: sheet -/
set_option maxRecDepth 100000
section
variable {t u tr F D M p nx k : Nat} {cs cs' c0 c c1 : CS} {d d' : Nat → Int32} {ms ms' m0 m m1 : MSt} {cA : Nat → ClassId} {ad adK : Nat → Nat}
/-- one shelf changes -/
theorem INV.shelf {j bj : Nat} (I : INV tr cA k cs ms) (fr : FR nx cs) (hj : j < 4) (hF : cs'.1 = cs.1) (hA : cs'.2.1 = cs.2.1) (hQ : ∀ i, i ≠ 69 + j → cs'.2.2.1 i = cs.2.2.1 i) (hP : ∀ a, a < nx → cs'.2.2.2 (1000 + a) = cs.2.2.2 (1000 + a)) (gF : ms'.1 = ms.1) (gA : ∀ i, i ≠ 11 → i ≠ 12 → i ≠ 13 → ms'.2 i = ms.2 i) (g11 : ∀ i, i ≠ j → ms'.2 11 i = ms.2 11 i) (g12 : ∀ i, i ≠ j → ms'.2 12 i = ms.2 12 i) (g13 : ∀ i, (i < 40 * j ∨ 40 * j + 40 ≤ i) → ms'.2 13 i = ms.2 13 i) (hb : cs'.2.2.1 (69 + j) 0 ≠ none → nx ≤ bj) (hS : shR cA cs' ms' j bj) : INV tr cA (k + 1) cs' ms' := by
  obtain ⟨F, D, M, H⟩ := I.r0
  refine INV.mk ⟨F, D, M, ?_⟩ (by rw [hF, gF]; exact I.im) ?_ (fun hn' => ?_) (fun i hi' => by rw [hA, gA 4 (by decide) (by decide) (by decide)]; exact I.er i hi') (by rw [hF, gF]; exact I.tm) (by rw [gF]; exact I.tmk) (fun i hi' => by rw [hA, gA 10 (by decide) (by decide) (by decide)]; exact I.td i hi') ?_ (by rw [hF]; exact I.ro) (by rw [gF]; exact I.mo)
  · rw [gA 1 (by decide) (by decide) (by decide)]
    exact H.keepP (by decide) fr (by rw [hF]) (fun _ _ => by rw [hA]) (hQ _ (by omega)) (hQ _ (by omega)) hP
  · obtain ⟨x, x1, x2⟩ := I.imk
    exact ⟨x, by rw [gF]; exact x1, by omega⟩
  · rw [gF] at hn'
    obtain ⟨F, D, M, H⟩ := I.r1 hn'
    exact ⟨F, D, M, by rw [gA 2 (by decide) (by decide) (by decide)]; exact H.keepP (by decide) fr (by rw [hF]) (fun _ _ => by rw [hA]) (hQ _ (by omega)) (hQ _ (by omega)) hP⟩
  · obtain ⟨B, b1, b2⟩ := I.sh
    obtain ⟨Lv, l1, l2, l3⟩ := fr
    have hlt : ∀ i, i < 4 → cs.2.2.1 (69 + i) 0 ≠ none → B i < nx := fun i hi h => by
      rcases b2 i hi with ⟨h1, -⟩ | ⟨a, w, n, f, h1, h2, -⟩
      · exact absurd h1 h
      · obtain ⟨s1, s2, s3⟩ := shOf_in h2
        exact l1 _ (l3 a _ _ (B i) (l2 _ _ _ (by omega) (by omega) (by omega) h1) s1 (Or.inr (by omega)) (by simp))
    refine ⟨fun i => if i = j then bj else B i, fun x y hx hy h1 h2 h3 => ?_, fun x hx => ?_⟩
    · by_cases ex : x = j
      · by_cases ey : y = j
        · omega
        · simp only [ex, ey, if_true, if_false] at h3
          subst ex
          rw [hQ _ (by omega)] at h2
          have := hlt y hy h2
          have := hb h1
          omega
      · by_cases ey : y = j
        · simp only [ex, ey, if_true, if_false] at h3
          subst ey
          rw [hQ _ (by omega)] at h1
          have := hlt x hx h1
          have := hb h2
          omega
        · simp only [ex, ey, if_false] at h3
          rw [hQ _ (by omega)] at h1 h2
          exact b1 x y hx hy h1 h2 h3
    · by_cases ex : x = j
      · simp only [ex, if_true]; exact hS
      · simp only [ex, if_false]
        unfold shR
        rw [hQ _ (by omega), g11 x ex, g12 x ex]
        rcases b2 x hx with h | ⟨a, w, n, f, h1, h2, h3, h4, h5, h6, h7⟩
        · exact Or.inl h
        · obtain ⟨s1, s2, s3⟩ := shOf_in h2
          have la := l2 _ _ _ (by omega) (by omega) (by omega) h1
          have lb := l3 a _ _ (B x) la s1 (Or.inr (by omega)) (by simp)
          refine Or.inr ⟨a, w, n, f, h1, shOf_of s3 ((hP a (l1 a la)).trans s1) ((hP _ (l1 _ lb)).trans s2), h3, h4, h5, h6, fun i hi => ?_⟩
          rw [g13 _ (by omega)]; exact h7 i hi
theorem zero_M {j : Nat} (hj : j < 4) (ms : MSt) : M_sheet_L90 NN (nI j) NN ms 0 = some (sa ms 13 (fb_put (ms.2 13) (fun _ => 0) (40 * j) 40)) := by
  suffices hh : ∃ r, M_sheet_L90 NN (nI j) NN ms (nI 0) = some r ∧ r = sa ms 13 (fb_put (ms.2 13) (fun _ => 0) (40 * j) 40) by
    obtain ⟨r, h1, h2⟩ := hh
    rw [← h2]; exact h1
  refine loopP (M_sheet_L90 NN (nI j)) 40 (fun i a => a = sa ms 13 (fb_put (ms.2 13) (fun _ => 0) (40 * j) i)) (fun r => r = sa ms 13 (fb_put (ms.2 13) (fun _ => 0) (40 * j) 40)) (fun n a ha => ⟨a, by rw [M_sheet_L90, if_pos (by decide)], ha⟩) (fun n a i hi ha => Or.inr ⟨sa ms 13 (fb_put (ms.2 13) (fun _ => 0) (40 * j) (i + 1)), by rw [M_sheet_L90, if_neg (c := 40 ≤ nI i) (nI_ge (b := 40) hi (by decide)), wr40 hj hi, bd1_s, nI_1, ha, sa_at, sa_sa, show upd (fb_put (ms.2 13) (fun _ => 0) (40 * j) i) (40 * j + i) 0 = fb_put (ms.2 13) (fun _ => 0) (40 * j) (i + 1) from fb_put_succ (ms.2 13) (fun _ => 0) (40 * j) i], rfl⟩) 40 0 ms NN (by omega) (NN_lt (by omega)) (by rw [fb_put_0, sa_id _ _ _ rfl])
/-- the model's shelf -/
def mS (ms : MSt) (j : Nat) (x y : Int32) : MSt := sa (sa (sa ms 11 (upd (ms.2 11) j x)) 12 (upd (ms.2 12) j y)) 13 (fb_put (ms.2 13) (fun _ => 0) (40 * j) 40)
theorem mS_w {j : Nat} (hj : j < 4) (ms : MSt) (x y : Int32) : (bd1 (wr (ms.2 11) 4 (nI j) x) fun b8 => bd1 (wr ((sa ms 11 b8).2 12) 4 (nI j) y) fun b15 => bd1 (M_sheet_L90 NN (nI j) NN (sa (sa ms 11 b8) 12 b15) 0) fun st16 => some ((1 : Int32), st16)) = some (1, mS ms j x y) := by
  rw [wr_nI hj (by decide), bd1_s, sa_ne _ _ (by decide), wr_nI hj (by decide), bd1_s, zero_M hj, bd1_s, sa_ne _ _ (by decide), sa_ne _ _ (by decide)]; rfl
theorem s_sheet : stp_sheet ad adK cA (INV tr cA k) (INV tr cA (k + 1)) := by
  intro nx cs ms x1 x2 x3 I fr
  rw [L_sheet, (isSheet_eq x1).1]
  rcases in_le x1 3 (by decide) with h | ⟨j, j1, rfl, h⟩
  · rw [show L_in x1 0 3 = some 0 from h, bd1_s, if_pos rfl, need_0, bd2_s, onx_n, bd2_p]
    rw [M_sheet, (isSheet_eq x1).2, show L_in x1 0 3 = some 0 from h, bd1_s, if_pos rfl, bd2_p]; exact I.find fr (c := 1) (by decide)
  · have hj4 : j < 4 := by omega
    have hr : rdi 4 (nI j) = some j := by unfold rdi; rw [if_neg (nI_in hj4 (by decide)), nI_clamp (by omega)]
    rw [show L_in (nI j) 0 3 = some 1 from h, bd1_s, if_neg (c := (1 : Int32) = 0) (by decide)]
    have m11 : ∀ x y i, i ≠ j → (mS ms j x y).2 11 i = ms.2 11 i := fun x y i hi => by
      unfold mS; rw [sa_ne _ _ (by decide), sa_ne _ _ (by decide), sa_at, upd_ne hi]
    have m12 : ∀ x y i, i ≠ j → (mS ms j x y).2 12 i = ms.2 12 i := fun x y i hi => by
      unfold mS; rw [sa_ne _ _ (by decide), sa_at, upd_ne hi]
    have m13 : ∀ x y i, (i < 40 * j ∨ 40 * j + 40 ≤ i) → (mS ms j x y).2 13 i = ms.2 13 i := fun x y i hi => by
      unfold mS; rw [sa_at, fb_put_out hi]
    have mA : ∀ x y i, i ≠ 11 → i ≠ 12 → i ≠ 13 → (mS ms j x y).2 i = ms.2 i := fun x y i h1 h2 h3 => by
      unfold mS; rw [sa_ne _ _ h3, sa_ne _ _ h2, sa_ne _ _ h1]
    have k11 : ∀ x y, (mS ms j x y).2 11 j = x := fun x y => by unfold mS; rw [sa_ne _ _ (by decide), sa_ne _ _ (by decide), sa_at, pk_us]
    have k12 : ∀ x y, (mS ms j x y).2 12 j = y := fun x y => by unfold mS; rw [sa_ne _ _ (by decide), sa_at, pk_us]
    have k13 : ∀ x y i, i < 40 → (mS ms j x y).2 13 (40 * j + i) = 0 := fun x y i hi => by unfold mS; rw [sa_at, fb_put_in (by omega) (by omega)]
    by_cases h0 : x2 = 0
    · subst h0
      rw [if_pos rfl, need_1, bd2_s, onx_s, if_pos rfl, hr, bd1_s]
      rw [M_sheet, (isSheet_eq _).2, show L_in (nI j) 0 3 = some 1 from h, bd1_s, if_neg (c := (1 : Int32) = 0) (by decide), if_pos rfl, if_pos rfl, if_pos rfl]
      have e : (bd1 (wr (ms.2 11) 4 (nI j) 0) fun b8 => if (0 : Int32) = 0 then bd1 (wr ((sa ms 11 b8).2 12) 4 (nI j) 0) fun b15 => bd1 (M_sheet_L90 NN (nI j) NN (sa (sa ms 11 b8) 12 b15) 0) fun st16 => some ((1 : Int32), st16) else bd1 (wr ((sa ms 11 b8).2 12) 4 (nI j) x3) fun b10 => bd1 (M_sheet_L90 NN (nI j) NN (sa (sa ms 11 b8) 12 b10) 0) fun st13 => some (1, st13)) = some (1, mS ms j 0 0) := mS_w hj4 ms 0 0
      rw [e]
      refine ⟨_, _, _, rfl, rfl, I.shelf (bj := nx) fr hj4 rfl rfl (fun i hi => va_up_ne _ _ hi) (fun _ _ => rfl) rfl (mA 0 0) (m11 0 0) (m12 0 0) (m13 0 0) (fun _ => Nat.le_refl _) (Or.inl ⟨?_, k11 0 0⟩)⟩
      rw [cQ_at, va_up_self]
    · rw [if_neg h0]
      by_cases hw : x2 = 8 ∨ x2 = 16 ∨ x2 = 32
      · have hW : L_isWidth x2 = some 1 := by rcases hw with rfl | rfl | rfl <;> rfl
        have hM : M_sheet NN ms (nI j) x2 x3 = if 0 ≤ x3 then (if x3 ≤ 40 then some (1, mS ms j x2 x3) else M_finds ms 1) else M_finds ms 3 := by
          have e : ∀ y : Int32, y ≠ 0 → (bd1 (wr (ms.2 11) 4 (nI j) y) fun b8 => if y = 0 then bd1 (wr ((sa ms 11 b8).2 12) 4 (nI j) 0) fun b15 => bd1 (M_sheet_L90 NN (nI j) NN (sa (sa ms 11 b8) 12 b15) 0) fun st16 => some ((1 : Int32), st16) else bd1 (wr ((sa ms 11 b8).2 12) 4 (nI j) x3) fun b10 => bd1 (M_sheet_L90 NN (nI j) NN (sa (sa ms 11 b8) 12 b10) 0) fun st13 => some (1, st13)) = some (1, mS ms j y x3) := fun y hy => by
            rw [← mS_w hj4 ms y x3]
            simp only [hy, if_false]
          rw [M_sheet, (isSheet_eq _).2, show L_in (nI j) 0 3 = some 1 from h, bd1_s, if_neg (c := (1 : Int32) = 0) (by decide), if_neg h0]
          rcases hw with rfl | rfl | rfl
          · rw [if_pos rfl, if_neg h0, if_neg h0, e 8 (by decide), bd2_p, bd2_p]
          · rw [if_neg (c := (16 : Int32) = 8) (by decide), if_pos rfl, if_neg h0, if_neg h0, e 16 (by decide), bd2_p, bd2_p]
          · rw [if_neg (c := (32 : Int32) = 8) (by decide), if_neg (c := (32 : Int32) = 16) (by decide), if_pos rfl, if_neg h0, if_neg h0, e 32 (by decide), bd2_p, bd2_p]
        rw [hM, hW, bd1_s, if_neg (c := (1 : Int32) = 0) (by decide), need_1, bd2_s, onx_s, if_neg h0]
        by_cases hn : x3 < 0
        · rw [if_pos hn, need_0, bd2_s, onx_n, bd2_p, if_neg (c := 0 ≤ x3) (fun h => by rw [fa_le] at h; rw [fa_lt] at hn; omega)]; exact I.find fr (c := 3) (by decide)
        · obtain ⟨n, hn31, rfl⟩ := nI_of hn
          rw [if_neg hn, need_1, bd2_s, onx_s, if_pos (c := 0 ≤ nI n) (nI_pos' hn31)]
          rcases Nat.lt_or_ge 40 n with h40 | h40
          · rw [if_pos (c := 40 < nI n) (nI_lt (a := 40) h40 hn31), need_0, bd2_s, onx_n, bd2_p, if_neg (c := nI n ≤ 40) (nI_ge (a := 40) h40 hn31)]; exact I.find fr (c := 1) (by decide)
          · rw [if_neg (c := 40 < nI n) (nI_nlt (b := n) (a := 40) h40 (by decide)), need_1, bd2_s, onx_s, if_pos (c := nI n ≤ 40) (nI_le (b := 40) h40 (by decide)), hr, bd1_s]
            have hI : ∀ (w : Nat) (st : CS), w < 3 → S_init w cA (nx + 1) nx st (nI n) = some (csP (csP st (1000 + (nx + 1)) (.inl (cA (shT w), n, .inl (fun _ => 0)))) (1000 + nx) (.inr (19 + w, [.ref (nx + 1)]))) := fun w st _ => by
              unfold S_init
              rw [nI_clamp (by omega), if_pos ⟨nI_pos (by omega), h40⟩]
            have fin : ∀ (w : Nat), w < 3 → x2 = wB w → ∃ r cs' ms', (some ((1 : Int32), csQ (csP (csP (csP cs (1000 + nx) (.inr (19 + w, [.null]))) (1000 + (nx + 1)) (.inl (cA (shT w), n, .inl (fun _ => 0)))) (1000 + nx) (.inr (19 + w, [.ref (nx + 1)]))) (69 + j) (va_up (cs.2.2.1 (69 + j)) 0 (some nx)))) = some (r, cs') ∧ (some ((1 : Int32), mS ms j x2 (nI n))) = some (r, ms') ∧ INV tr cA (k + 1) cs' ms' := fun w hw3 hx => by
              refine ⟨_, _, _, rfl, rfl, I.shelf (bj := nx + 1) fr hj4 rfl rfl (fun i hi => va_up_ne _ _ hi) (fun a ha => ?_) rfl (mA _ _) (m11 _ _) (m12 _ _) (m13 _ _) (fun _ => by omega) (Or.inr ⟨nx, w, n, fun _ => 0, ?_, ?_, hw3, (k11 _ _).trans hx, k12 _ _, h40, fun i hi => ⟨(k13 _ _ i (by omega)).symm, ?_⟩⟩)⟩
              · show (csP (csP (csP cs _ _) _ _) _ _).2.2.2 (1000 + a) = _
                rw [csP_ne2 _ _ (by omega), csP_ne2 _ _ (by omega), csP_ne2 _ _ (by omega)]
              · rw [cQ_at, va_up_self]
              · refine shOf_of hw3 (cP_at _ _ _) ?_
                show (csP (csP (csP cs _ _) _ _) _ _).2.2.2 (1000 + (nx + 1)) = _
                rw [csP_ne2 _ _ (by omega), cP_at]
              · match w, hw3 with
                | 0, _ => rfl
                | 1, _ => rfl
                | 2, _ => rfl
            rcases hw with rfl | rfl | rfl
            · rw [if_pos rfl, bd1_s, hI 0 _ (by decide), bd1_s]
              exact fin 0 (by decide) rfl
            · rw [if_neg (c := (16 : Int32) = 8) (by decide), if_pos rfl, bd1_s, hI 1 _ (by decide), bd1_s]
              exact fin 1 (by decide) rfl
            · rw [if_neg (c := (32 : Int32) = 8) (by decide), if_neg (c := (32 : Int32) = 16) (by decide), bd1_s, hI 2 _ (by decide), bd1_s]
              exact fin 2 (by decide) rfl
      · have a8 : ¬ x2 = 8 := fun h => hw (Or.inl h)
        have a16 : ¬ x2 = 16 := fun h => hw (Or.inr (Or.inl h))
        have a32 : ¬ x2 = 32 := fun h => hw (Or.inr (Or.inr h))
        have hW : L_isWidth x2 = some 0 := by unfold L_isWidth; rw [if_neg a8, if_neg a16, if_neg a32]
        rw [hW, bd1_s, if_pos rfl, need_0, bd2_s, onx_n, bd2_p, M_sheet, (isSheet_eq _).2, show L_in (nI j) 0 3 = some 1 from h, bd1_s, if_neg (c := (1 : Int32) = 0) (by decide), if_neg h0, if_neg a8, if_neg a16, if_neg a32, bd2_p]
        exact I.find fr (c := 1) (by decide)
end
