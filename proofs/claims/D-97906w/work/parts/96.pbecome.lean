/-! the pure stage: a town becomes another one -/
set_option maxRecDepth 100000
section
variable {t u tr F D M p nx k : Nat} {cs cs' st : CS} {d d' : Nat → Int32} {ms ms' : MSt} {cA : Nat → ClassId} {ad adK : Nat → Nat} {n m r : Nat}
/-- the same but for one town -/
def frT (t : Nat) (cs cs' : CS) : Prop := (∀ k, (k < 20 * t ∨ 20 * t + 20 ≤ k) → cs'.1 k = cs.1 k ∧ cs'.2.1 k = cs.2.1 k ∧ cs'.2.2.1 k = cs.2.2.1 k) ∧ cs'.2.2.2 = cs.2.2.2
def lnA (j : Nat) : Nat := if j ≤ 5 then 8 else if j ≤ 8 then 4 else if j ≤ 10 then 32 else if j ≤ 13 then 12 else if j = 14 then 50 else 20
def flA (j : Nat) : Prop := j = 0 ∨ j = 6 ∨ j = 13 ∨ j = 14 ∨ j = 19 ∨ j = 21 ∨ j = 23
/-- so far: n rows, fields up to m - 1, r rows of objects -/
def SB (t u : Nat) (cs : CS) (n m r : Nat) (st : CS) : Prop := frT t cs st ∧ (∀ j i, 1 ≤ j → j ≤ n → i < lnA j → st.2.1 (20 * t + j) i = cs.2.1 (20 * u + j) i) ∧ (∀ j, flA j → j < m → st.1 (20 * t) j = cs.1 (20 * u) j) ∧ (1 ≤ r → ∀ i, i < 4 → st.2.2.1 (20 * t + 17) i = cs.2.2.1 (20 * u + 17) i) ∧ (2 ≤ r → ∀ i, i < 2 → st.2.2.1 (20 * t + 18) i = cs.2.2.1 (20 * u + 18) i)
theorem cpy_lo {α : Type} {f g : Nat → α} {n i : Nat} (h : i < n) : va_cpy f g 0 0 n i = f i := by
  unfold va_cpy
  rw [if_pos (by omega)]
  congr 1
  omega
theorem SB.arr {b : Nat → Int32} (h : SB t u cs n m r st) (hu : u ≠ t) (hj : n < 19) (hb : b = va_cpy (cs.2.1 (20 * u + (n + 1))) (st.2.1 (20 * t + (n + 1))) 0 0 (lnA (n + 1))) : SB t u cs (n + 1) m r (csA st (20 * t + (n + 1)) b) := by
  subst hb
  refine ⟨⟨fun k hk => ⟨(h.1.1 k hk).1, by rw [cA_ne _ _ (by omega)]; exact (h.1.1 k hk).2.1, (h.1.1 k hk).2.2⟩, h.1.2⟩, fun j i h1 h2 h3 => ?_, h.2.2⟩
  by_cases e : j = n + 1
  · subst e; rw [cA_at]; exact cpy_lo h3
  · rw [cA_ne _ _ (by omega)]; exact h.2.1 j i h1 (by omega) h3
theorem SB.fld {j : Nat} {x : Int32} (h : SB t u cs n m r st) (hx : x = cs.1 (20 * u) j) (hj : ∀ i, flA i → i < j + 1 → i < m ∨ i = j) : SB t u cs n (j + 1) r (csF st (20 * t) j x) := by
  subst hx
  refine ⟨⟨fun k hk => ⟨?_, (h.1.1 k hk).2.1, (h.1.1 k hk).2.2⟩, h.1.2⟩, h.2.1, fun i h1 h2 => ?_, h.2.2.2⟩
  · rw [cF_nk _ _ (by omega)]; exact (h.1.1 k hk).1
  · by_cases e : i = j
    · subst e; exact cF_at _ _ _ _
    · rw [cF_ne _ _ (Or.inr e)]
      exact h.2.2.1 i h1 ((hj i h1 h2).resolve_right e)
theorem SB.q17 {b : Nat → Option Nat} (h : SB t u cs n m 0 st) (hb : b = va_cpy (cs.2.2.1 (20 * u + 17)) (st.2.2.1 (20 * t + 17)) 0 0 4) : SB t u cs n m 1 (csQ st (20 * t + 17) b) := by
  subst hb
  refine ⟨⟨fun k hk => ⟨(h.1.1 k hk).1, (h.1.1 k hk).2.1, ?_⟩, h.1.2⟩, h.2.1, h.2.2.1, fun _ i hi => ?_, fun h => by omega⟩
  · show va_up st.2.2.1 (20 * t + 17) _ k = _
    rw [va_up_ne _ _ (by omega)]; exact (h.1.1 k hk).2.2
  · show va_up st.2.2.1 (20 * t + 17) _ (20 * t + 17) i = _
    rw [va_up_self]; exact cpy_lo hi
theorem SB.q18 {b : Nat → Option Nat} (h : SB t u cs n m 1 st) (hb : b = va_cpy (cs.2.2.1 (20 * u + 18)) (st.2.2.1 (20 * t + 18)) 0 0 2) : SB t u cs n m 2 (csQ st (20 * t + 18) b) := by
  subst hb
  refine ⟨⟨fun k hk => ⟨(h.1.1 k hk).1, (h.1.1 k hk).2.1, ?_⟩, h.1.2⟩, h.2.1, h.2.2.1, fun _ i hi => ?_, fun _ i hi => ?_⟩
  · show va_up st.2.2.1 (20 * t + 18) _ k = _
    rw [va_up_ne _ _ (by omega)]; exact (h.1.1 k hk).2.2
  · show va_up st.2.2.1 (20 * t + 18) _ (20 * t + 17) i = _
    rw [va_up_ne _ _ (by omega)]; exact h.2.2.2.1 (by omega) i hi
  · show va_up st.2.2.1 (20 * t + 18) _ (20 * t + 18) i = _
    rw [va_up_self]; exact cpy_lo hi
theorem SB.fu {j : Nat} (h : SB t u cs n m r st) (hu : u ≠ t) : st.1 (20 * u) j = cs.1 (20 * u) j := by rw [(h.1.1 (20 * u) (by omega)).1]
theorem SB.cp {j w : Nat} (h : SB t u cs n m r st) (hu : u ≠ t) (hj : j < 20) : va_cpy (st.2.1 (20 * u + j)) (st.2.1 (20 * t + j)) 0 0 w = va_cpy (cs.2.1 (20 * u + j)) (st.2.1 (20 * t + j)) 0 0 w := by rw [(h.1.1 (20 * u + j) (by omega)).2.1]
theorem cpz_ok {ty : FieldType} {f g : Nat → Int32} {w : Nat} (hf : ∀ i, i < w → fits ty (.int (f i)) = true) : cpz ty f g w = some (va_cpy f g 0 0 w) := by
  unfold cpz
  rw [if_pos]
  exact List.all_eq_true.mpr (fun i hi => hf i (List.mem_range.mp hi))
theorem cpq_ok {ok : Nat → Bool} {f g : Nat → Option Nat} {w : Nat} (hf : ∀ i, i < w → ∀ y, f i = some y → ok y = true) : cpq ok f g w = some (va_cpy f g 0 0 w) := by
  unfold cpq
  rw [if_pos]
  refine List.all_eq_true.mpr (fun i hi => ?_)
  cases e : f i
  · rfl
  · exact hf i (List.mem_range.mp hi) _ e
theorem SB.cz {j w : Nat} {ty : FieldType} (h : SB t u cs n m r st) (hu : u ≠ t) (hj : j < 20) (hf : ∀ i, i < w → fits ty (.int (cs.2.1 (20 * u + j) i)) = true) : cpz ty (st.2.1 (20 * u + j)) (st.2.1 (20 * t + j)) w = some (va_cpy (cs.2.1 (20 * u + j)) (st.2.1 (20 * t + j)) 0 0 w) := by
  rw [(h.1.1 (20 * u + j) (by omega)).2.1]; exact cpz_ok hf
theorem SB.cq {j w : Nat} {ok : Nat → Bool} (h : SB t u cs n m r st) (hu : u ≠ t) (hj : j < 20) (hf : ∀ i, i < w → ∀ y, cs.2.2.1 (20 * u + j) i = some y → ok y = true) : cpq ok (st.2.2.1 (20 * u + j)) (st.2.2.1 (20 * t + j)) w = some (va_cpy (cs.2.2.1 (20 * u + j)) (st.2.2.1 (20 * t + j)) 0 0 w) := by
  rw [(h.1.1 (20 * u + j) (by omega)).2.2]; exact cpq_ok hf
theorem bst {g : CS → Option CS} {R : CS → Prop} (h : SB t u cs n m r st) (kk : ∀ s, SB t u cs n m r s → ∃ r, g s = some r ∧ R r) : ∃ r, bd1 (some st) g = some r ∧ R r := kk st h
theorem TR.move (H : TR u tr cs d F D M) (hf : ∀ j, (j = 0 ∨ j = 6 ∨ j = 13 ∨ j = 14 ∨ j = 19 ∨ j = 21 ∨ j = 23) → cs'.1 (20 * t) j = cs.1 (20 * u) j) (ha : ∀ j i, (j ≤ 5 ∧ 1 ≤ j ∧ i < 8) ∨ (6 ≤ j ∧ j ≤ 8 ∧ i < 4) ∨ (9 ≤ j ∧ j ≤ 10 ∧ i < 32) ∨ (11 ≤ j ∧ j ≤ 13 ∧ i < 12) ∨ (j = 14 ∧ i < 50) ∨ (j = 15 ∧ i < 20) → cs'.2.1 (20 * t + j) i = cs.2.1 (20 * u + j) i) (h17 : ∀ i, i < 4 → cs'.2.2.1 (20 * t + 17) i = cs.2.2.1 (20 * u + 17) i) (h18 : ∀ i, i < 2 → cs'.2.2.1 (20 * t + 18) i = cs.2.2.1 (20 * u + 18) i) (hP : cs'.2.2.2 = cs.2.2.2) : TR t tr cs' d F D M := by
  have N := H.n
  have h := N.h
  have lD := H.i.lD
  refine TR.mk (TN.mk (TH.mk (by rw [hf 0 (by omega)]; exact h.f0) (by rw [hf 6 (by omega)]; exact h.f6) (by rw [hf 14 (by omega)]; exact h.f14) (by rw [hf 13 (by omega)]; exact h.f13) (by rw [hf 19 (by omega)]; exact h.f19) (by rw [hf 21 (by omega)]; exact h.f21) (by rw [hf 23 (by omega)]; exact h.f23)) (fun f hf => ?_) (fun p hp => ?_) (fun k hk => ?_) (fun i hi => by rw [ha 14 i (by omega)]; exact N.tp i hi) (fun i hi => by rw [ha 15 i (by omega)]; exact N.wt i hi)) (TQ.mk (fun p hp => ?_) (fun p a hp e => ?_) (fun v hv => ?_)) H.i
  · have T := N.fa f hf
    exact TF.mk (by rw [ha 1 f (by omega)]; exact T.need) (by rw [ha 2 f (by omega)]; exact T.cl) (by rw [ha 3 f (by omega)]; exact T.wi) (fun g => by rw [ha 4 f (by omega)]; exact T.by1 g) (by rw [ha 5 f (by omega)]; exact T.ws)
  · have T := N.de p hp
    exact TP.mk (by rw [ha 6 p (by omega)]; exact T.deb) (by rw [ha 7 p (by omega)]; exact T.brk) (by rw [ha 8 p (by omega)]; exact T.mny) (fun i hi => by rw [ha 9 _ (by omega)]; exact T.bk i hi) (fun i hi => by rw [ha 10 _ (by omega)]; exact T.bw i hi)
  · have T := N.me k hk
    exact TM.mk (by rw [ha 11 k (by omega)]; exact T.w) (by rw [ha 12 k (by omega)]; exact T.a) (by rw [ha 13 k (by omega)]; exact T.b)
  · rw [h17 p (by omega), hP]; exact H.q.deb p hp
  · rw [h17 p hp] at e
    rw [hP]; exact H.q.dq p a hp e
  · rw [h18 v hv, hP]; exact H.q.tx v hv
theorem TR.becomeX (H : TR u tr cs d F D M) (hu : u ≠ t) : ∃ cs', T_become t u cs = some cs' ∧ TR t tr cs' d F D M ∧ frT t cs cs' ∧ cs'.1 (20 * t) 25 = -1 ∧ (∀ i, i < 4 → cs'.2.2.1 (20 * t + 17) i = cs.2.2.1 (20 * u + 17) i) ∧ ∀ i, i < 2 → cs'.2.2.1 (20 * t + 18) i = cs.2.2.1 (20 * u + 18) i := by
  have S0 : SB t u cs 0 0 0 cs := ⟨⟨fun _ _ => ⟨rfl, rfl, rfl⟩, rfl⟩, fun j i h1 h2 => by omega, fun j _ h => by omega, fun h => by omega, fun h => by omega⟩
  have hb : ∀ i, i < 4 → fits .boolean (.int (cs.2.1 (20 * u + 7) i)) = true := fun i hi => by
    rw [(H.n.de i hi).brk]
    rcases (H.i.de i hi).brk with h | h <;> rw [h] <;> rfl
  unfold T_become
  have S1' := S0.fld (j := 0) (x := cs.1 (20 * u) 0) rfl (fun i h1 h2 => by omega)
  refine bst (S1'.arr hu (by decide) (S1'.cp hu (by decide))) (fun s1 S1 => ?_)
  refine bst (S1.arr hu (by decide) (S1.cp hu (by decide))) (fun s2 S2 => ?_)
  refine bst (S2.arr hu (by decide) (S2.cp hu (by decide))) (fun s3 S3 => ?_)
  refine bst (S3.arr hu (by decide) (S3.cp hu (by decide))) (fun s4 S4 => ?_)
  refine bst (S4.arr hu (by decide) (S4.cp hu (by decide))) (fun s5 S5 => ?_)
  have S6 := S5.fld (j := 6) (S5.fu (j := 6) hu) (fun i h1 h2 => by unfold flA at h1; omega)
  rw [S6.cq hu (by decide) (fun i hi y hy => by rw [S6.1.2]; exact H.q.dq i y hi hy), bd1_s]
  have S6q := S6.q17 (Eq.refl _)
  refine bst (S6q.arr hu (by decide) (S6q.cp hu (by decide))) (fun s7 S7 => ?_)
  rw [S7.cz hu (by decide) hb, bd1_s]
  have S8 := S7.arr hu (by decide) (Eq.refl _)
  refine bst (S8.arr hu (by decide) (S8.cp hu (by decide))) (fun s9 S9 => ?_)
  refine bst (S9.arr hu (by decide) (S9.cp hu (by decide))) (fun s10 S10 => ?_)
  refine bst (S10.arr hu (by decide) (S10.cp hu (by decide))) (fun s11 S11 => ?_)
  have S11a := S11.fld (j := 13) (S11.fu (j := 13) hu) (fun i h1 h2 => by unfold flA at h1; omega)
  have S11b := S11a.fld (j := 14) (S11a.fu (j := 14) hu) (fun i h1 h2 => by unfold flA at h1; omega)
  refine bst (S11b.arr hu (by decide) (S11b.cp hu (by decide))) (fun s12 S12 => ?_)
  refine bst (S12.arr hu (by decide) (S12.cp hu (by decide))) (fun s13 S13 => ?_)
  refine bst (S13.arr hu (by decide) (S13.cp hu (by decide))) (fun s14 S14 => ?_)
  rw [S14.cq hu (by decide) (fun i hi y hy => by
    rw [S14.1.2]
    rcases H.q.tx i hi with ⟨h1, -⟩ | ⟨a, v, n, h1, h2, -⟩
    · rw [h1] at hy; cases hy
    · rw [h1] at hy; cases hy; exact rep_isTm h2), bd1_s]
  have S15 := S14.q18 (Eq.refl _)
  have S15a := S15.fld (j := 19) (S15.fu (j := 19) hu) (fun i h1 h2 => by unfold flA at h1; omega)
  rw [S15a.cz hu (by decide) (fun i hi => (H.n.tp i hi).2), bd1_s]
  have S16 := S15a.arr hu (by decide) (Eq.refl _)
  have S16a := S16.fld (j := 21) (S16.fu (j := 21) hu) (fun i h1 h2 => by unfold flA at h1; omega)
  refine bst (S16a.arr hu (by decide) (S16a.cp hu (by decide))) (fun s17 S17 => ?_)
  have S18 := S17.fld (j := 23) (S17.fu (j := 23) hu) (fun i h1 h2 => by unfold flA at h1; omega)
  refine ⟨_, rfl, TR.move H (fun j hj => ?_) (fun j i hj => ?_) (S18.2.2.2.1 (by omega)) (S18.2.2.2.2 (by omega)) S18.1.2, ⟨fun k hk => ⟨?_, (S18.1.1 k hk).2⟩, S18.1.2⟩, cF_at _ _ _ _, S18.2.2.2.1 (by omega), S18.2.2.2.2 (by omega)⟩
  · rw [cF_ne _ _ (by omega)]
    exact S18.2.2.1 j hj (by omega)
  · exact S18.2.1 j i (by omega) (by omega) (by unfold lnA; (repeat' split) <;> omega)
  · rw [cF_nk _ _ (by omega)]; exact (S18.1.1 k hk).1
theorem TR.become (H : TR u tr cs d F D M) (hu : u ≠ t) : ∃ cs', T_become t u cs = some cs' ∧ TR t tr cs' d F D M ∧ frT t cs cs' ∧ cs'.1 (20 * t) 25 = -1 := by
  obtain ⟨c, h1, h2, h3, h4, -⟩ := H.becomeX hu
  exact ⟨c, h1, h2, h3, h4⟩
end
