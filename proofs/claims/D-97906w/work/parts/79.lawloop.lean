/-! the law: its loop -/
set_option maxRecDepth 100000
section
variable {p : Program} {l : Launch} {e : Env} {R : Room} {s : State} {m : MethodId} {args : Array Value} {below : List Frame} {meth : Method} {c : Code} {H : Heap} {locs : List Loc} {cells slots d : Nat} {Q : State → Prop} {pc nL : Nat} {ls : Array Slot} {rest : List Value} {D D2 : va_G} {cA : Nat → ClassId} {cI : ClassId} {ks : List Nat} {index n0 b L : Nat} {xs : Nat → Int32} {adK adV : Nat → Nat} {cs cs2 : CS} {mst mst2 : MSt}
def allStp (ad adK : Nat → Nat) (cA : Nat → ClassId) (I J : CS → MSt → Prop) : Prop := stp_fact ad adK cA I J ∧ stp_clash ad adK cA I J ∧ stp_explain ad adK cA I J ∧ stp_ofFact ad adK cA I J ∧ stp_debtor ad adK cA I J ∧ stp_ofDebtor ad adK cA I J ∧ stp_book ad adK cA I J ∧ stp_become ad adK cA I J ∧ stp_as ad adK cA I J ∧ stp_lend ad adK cA I J ∧ stp_tells ad adK cA I J ∧ stp_pardon ad adK cA I J ∧ stp_weeks ad adK cA I J ∧ stp_loose ad adK cA I J ∧ stp_then ad adK cA I J ∧ stp_feed ad adK cA I J ∧ stp_text ad adK cA I J ∧ stp_law ad adK cA I J ∧ stp_served ad adK cA I J ∧ stp_closed ad adK cA I J ∧ stp_clashOf ad adK cA I J ∧ stp_joined ad adK cA I J ∧ stp_rated ad adK cA I J ∧ stp_explained ad adK cA I J ∧ stp_meeting ad adK cA I J ∧ stp_knows ad adK cA I J ∧ stp_common ad adK cA I J ∧ stp_since ad adK cA I J ∧ stp_seed ad adK cA I J ∧ stp_voice ad adK cA I J ∧ stp_trace ad adK cA I J ∧ stp_sheet ad adK cA I J ∧ stp_put ad adK cA I J ∧ stp_move ad adK cA I J ∧ stp_reads ad adK cA I J ∧ stp_judge ad adK cA I J ∧ stp_image ad adK cA I J ∧ stp_restore ad adK cA I J ∧ stp_tell ad adK cA I J ∧ stp_check ad adK cA I J ∧ stp_count ad adK cA I J ∧ stp_told ad adK cA I J
theorem lw_len {L k : Nat} (hL : L ≤ 384) (hk : 6 * k ≤ L) (h : ¬ (Int32.ofNat L - 6 < nI (6 * k))) : 6 * k + 6 ≤ L := by
  rcases Nat.lt_or_ge L 6 with h6 | h6
  · have h7 : Int32.ofNat L - 6 < 0 := by
      match L, h6 with
      | 0, _ => decide
      | 1, _ => decide
      | 2, _ => decide
      | 3, _ => decide
      | 4, _ => decide
      | 5, _ => decide
    exact absurd (Int32.lt_of_lt_of_le h7 (nI_pos' (by omega))) h
  · have h8 : Int32.ofNat L - 6 = nI (L - 6) := by
      have h9 : Int32.ofNat L = nI (L - 6) + nI 6 := by rw [nI_add, Nat.sub_add_cancel h6]; rfl
      rw [h9]
      exact Int32.add_sub_cancel _ _
    rw [h8] at h
    rcases Nat.lt_or_ge (L - 6) (6 * k) with h10 | h10
    · exact absurd (nI_lt h10 (by omega)) h
    · omega
theorem lw_loop {I : Nat → CS → MSt → Prop} (hA : ∀ k, k < 64 → allStp (ad0 n0) adK cA (I k) (I (k + 1))) (hM : ∀ k cs ms, I k cs ms → I (k + 1) cs ms) (K : lK p s m #[Value.ref b] c D D2 cA cI adK adV n0 b L xs) (hr : meth.sig.returnType = ret) (hlk : meth.locks = false) : ∀ (j k : Nat), 64 ≤ j + k → ∀ (ks : List Nat) (cs : CS) (mst : MSt) (H : Heap) (locs : List Loc) (ls : Array Slot), lJ s.heap D D2 cA cI n0 ks cs mst H locs → I k cs mst → 6 * k ≤ L → lv_has ls 4 [(3, .int (nI (6 * k))), (2, .ref (n0 + 73)), (1, .ref (ad0 n0 60)), (0, .ref b)] → W p l e room_1 s m #[Value.ref b] below meth c H locs (88 + 60 * k) (2418 + 420 * k) (lw_Z below #[Value.ref b] s) (F0 m 18 ls []) := by
  have hx := K.1
  have hb := K.2.1
  have hL := K.2.2.2.2.2.2.2.2.2.2.2.2.2
  have hz := K.2.2.2.2.2.2.2.2.2.2.1
  have hbl := K.2.2.2.2.2.2.2.2.2.2.2.2.1
  have hXX := K.2.2.2.2.2.2.2.2.2.2.2.1
  have hr1 : room_1.cells = 601024 := rfl
  have hr2 : room_1.slots = 7293034 := rfl
  intro j
  induction j with
  | zero =>
    intro k hjk ks cs mst H locs ls J hI hk hl
    refine lv_iload_n hx hb dL_18 rfl (lv_at hl 0 rfl) ?_
    refine lv_aload_n hx hb dL_19 rfl (lv_at hl 3 rfl) ?_
    refine va_slen hx hb hXX (by omega) (show ¬ nA n0 b by show ¬ n0 ≤ b; omega) J.2.2.2.1 dL_20 ?_
    refine lv_bipush (v := 6) hx hb dL_21 (by decide) ?_
    refine lv_isub hx hb dL_23 ?_
    refine lv_icmp_gt (tgt := 1608) hx hb dL_24 rfl (fun _ => ?_) (fun c1 => absurd (lw_len hL hk c1) (by omega))
    refine lv_iconst (v := 1) hx hb dL_1608 (by decide) ?_
    refine W.widen (k := 601024) (n := 7293034) (by omega) (by omega) ?_
    refine va_forget (fun q hq => by rw [hz]; exact J.2.2.2.1.2.2 q hq) ?_
    exact lw_ret hx hb hr hlk dL_1609
  | succ j ih =>
    intro k hjk ks cs mst H locs ls J hI hk hl
    refine lv_iload_n hx hb dL_18 rfl (lv_at hl 0 rfl) ?_
    refine lv_aload_n hx hb dL_19 rfl (lv_at hl 3 rfl) ?_
    refine va_slen hx hb hXX (by omega) (show ¬ nA n0 b by show ¬ n0 ≤ b; omega) J.2.2.2.1 dL_20 ?_
    refine lv_bipush (v := 6) hx hb dL_21 (by decide) ?_
    refine lv_isub hx hb dL_23 ?_
    refine lv_icmp_gt (tgt := 1608) hx hb dL_24 rfl (fun _ => ?_) (fun c1 => ?_)
    · refine lv_iconst (v := 1) hx hb dL_1608 (by decide) ?_
      refine W.widen (k := 601024) (n := 7293034) (by omega) (by omega) ?_
      refine va_forget (fun q hq => by rw [hz]; exact J.2.2.2.1.2.2 q hq) ?_
      exact lw_ret hx hb hr hlk dL_1609
    · have hk6 := lw_len hL hk c1
      have hA := hA k (by omega)
      have nxt : ∀ (a1 a2 : Nat) (_ : Unit), a1 ≤ 88 + 60 * (k + 1) → a2 ≤ 2418 + 420 * (k + 1) → ∀ (ks1 : List Nat) (cs1 : CS) (ms1 : MSt) (H1 : Heap) (locs1 : List Loc), lJ s.heap D D2 cA cI n0 ks1 cs1 ms1 H1 locs1 → I (k + 1) cs1 ms1 → W p l e room_1 s m #[Value.ref b] below meth c H1 locs1 a1 a2 (lw_Z below #[Value.ref b] s) (F0 m 1602 ls []) := by
        intro a1 a2 _ h1 h2 ks1 cs1 ms1 H1 locs1 J1 hI1
        refine W.widen (k := 88 + 60 * (k + 1)) (n := 2418 + 420 * (k + 1)) h1 h2 ?_
        refine lv_iinc (v := nI (6 * k) + 6) (lv' := [(3, .int (nI (6 * k) + 6)), (2, .ref (n0 + 73)), (1, .ref (ad0 n0 60)), (0, .ref b)]) hx hb dL_1602 hl (k := 0) rfl rfl (by decide) rfl (fun ls hl => ?_)
        have he : nI (6 * k) + 6 = nI (6 * (k + 1)) := by
          show nI (6 * k) + nI 6 = _
          rw [nI_add]
          congr 1
        rw [he] at hl
        refine lv_goto (tgt := 18) hx hb dL_1605 rfl ?_
        exact ih (k + 1) (by omega) ks1 cs1 ms1 H1 locs1 ls J1 hI1 (by omega) hl
      refine lv_aload_n hx hb dL_27 rfl (lv_at hl 3 rfl) ?_
      refine lv_iload_n hx hb dL_28 rfl (lv_at hl 0 rfl) ?_
      refine va_sld hx hb hXX (by omega) (show ¬ nA n0 b by show ¬ n0 ≤ b; omega) J.2.2.2.1 (i := nI (6 * k)) (vp_in_nI (by omega) (by omega)) dL_29 ?_
      rw [nI_clamp (by omega)]
      refine lv_bipush (v := 63) hx hb dL_30 (by decide) ?_
      refine lv_iand hx hb dL_32 ?_
      by_cases c0 : xs (6 * k) &&& 63 = 0
      · refine lv_tableIn (tgt := 216) hx hb dL_33 (by rw [c0]; decide) (by rw [c0]; decide) (by rw [c0]; rfl) (by decide) ?_
        exact lcs_fact hA.1 K J hI (by omega) hl ⟨by rw [hr1]; omega, by rw [hr2]; omega⟩ (fun ks1 cs1 ms1 H1 locs1 J1 hI1 => nxt _ _ () (by omega) (by omega) ks1 cs1 ms1 H1 locs1 J1 hI1)
      · by_cases c1 : xs (6 * k) &&& 63 = 1
        · refine lv_tableIn (tgt := 249) hx hb dL_33 (by rw [c1]; decide) (by rw [c1]; decide) (by rw [c1]; rfl) (by decide) ?_
          exact lcs_clash hA.2.1 K J hI (by omega) hl ⟨by rw [hr1]; omega, by rw [hr2]; omega⟩ (fun ks1 cs1 ms1 H1 locs1 J1 hI1 => nxt _ _ () (by omega) (by omega) ks1 cs1 ms1 H1 locs1 J1 hI1)
        · by_cases c2 : xs (6 * k) &&& 63 = 2
          · refine lv_tableIn (tgt := 292) hx hb dL_33 (by rw [c2]; decide) (by rw [c2]; decide) (by rw [c2]; rfl) (by decide) ?_
            exact lcs_explain hA.2.2.1 K J hI (by omega) hl ⟨by rw [hr1]; omega, by rw [hr2]; omega⟩ (fun ks1 cs1 ms1 H1 locs1 J1 hI1 => nxt _ _ () (by omega) (by omega) ks1 cs1 ms1 H1 locs1 J1 hI1)
          · by_cases c3 : xs (6 * k) &&& 63 = 3
            · refine lv_tableIn (tgt := 335) hx hb dL_33 (by rw [c3]; decide) (by rw [c3]; decide) (by rw [c3]; rfl) (by decide) ?_
              exact lcs_ofFact hA.2.2.2.1 K J hI (by omega) hl ⟨by rw [hr1]; omega, by rw [hr2]; omega⟩ (fun ks1 cs1 ms1 H1 locs1 J1 hI1 => nxt _ _ () (by omega) (by omega) ks1 cs1 ms1 H1 locs1 J1 hI1)
            · by_cases c4 : xs (6 * k) &&& 63 = 4
              · refine lv_tableIn (tgt := 368) hx hb dL_33 (by rw [c4]; decide) (by rw [c4]; decide) (by rw [c4]; rfl) (by decide) ?_
                exact lcs_debtor hA.2.2.2.2.1 K J hI (by omega) hl ⟨by rw [hr1]; omega, by rw [hr2]; omega⟩ (fun ks1 cs1 ms1 H1 locs1 J1 hI1 => nxt _ _ () (by omega) (by omega) ks1 cs1 ms1 H1 locs1 J1 hI1)
              · by_cases c5 : xs (6 * k) &&& 63 = 5
                · refine lv_tableIn (tgt := 401) hx hb dL_33 (by rw [c5]; decide) (by rw [c5]; decide) (by rw [c5]; rfl) (by decide) ?_
                  exact lcs_ofDebtor hA.2.2.2.2.2.1 K J hI (by omega) hl ⟨by rw [hr1]; omega, by rw [hr2]; omega⟩ (fun ks1 cs1 ms1 H1 locs1 J1 hI1 => nxt _ _ () (by omega) (by omega) ks1 cs1 ms1 H1 locs1 J1 hI1)
                · by_cases c6 : xs (6 * k) &&& 63 = 6
                  · refine lv_tableIn (tgt := 434) hx hb dL_33 (by rw [c6]; decide) (by rw [c6]; decide) (by rw [c6]; rfl) (by decide) ?_
                    exact lcs_book hA.2.2.2.2.2.2.1 K J hI (by omega) hl ⟨by rw [hr1]; omega, by rw [hr2]; omega⟩ (fun ks1 cs1 ms1 H1 locs1 J1 hI1 => nxt _ _ () (by omega) (by omega) ks1 cs1 ms1 H1 locs1 J1 hI1)
                  · by_cases c7 : xs (6 * k) &&& 63 = 7
                    · refine lv_tableIn (tgt := 477) hx hb dL_33 (by rw [c7]; decide) (by rw [c7]; decide) (by rw [c7]; rfl) (by decide) ?_
                      exact lcs_become hA.2.2.2.2.2.2.2.1 K J hI (by omega) hl ⟨by rw [hr1]; omega, by rw [hr2]; omega⟩ (fun ks1 cs1 ms1 H1 locs1 J1 hI1 => nxt _ _ () (by omega) (by omega) ks1 cs1 ms1 H1 locs1 J1 hI1)
                    · by_cases c8 : xs (6 * k) &&& 63 = 8
                      · refine lv_tableIn (tgt := 510) hx hb dL_33 (by rw [c8]; decide) (by rw [c8]; decide) (by rw [c8]; rfl) (by decide) ?_
                        exact lcs_as hA.2.2.2.2.2.2.2.2.1 K J hI (by omega) hl ⟨by rw [hr1]; omega, by rw [hr2]; omega⟩ (fun ks1 cs1 ms1 H1 locs1 J1 hI1 => nxt _ _ () (by omega) (by omega) ks1 cs1 ms1 H1 locs1 J1 hI1)
                      · by_cases c9 : xs (6 * k) &&& 63 = 9
                        · refine lv_tableIn (tgt := 543) hx hb dL_33 (by rw [c9]; decide) (by rw [c9]; decide) (by rw [c9]; rfl) (by decide) ?_
                          exact lcs_lend hA.2.2.2.2.2.2.2.2.2.1 K J hI (by omega) hl ⟨by rw [hr1]; omega, by rw [hr2]; omega⟩ (fun ks1 cs1 ms1 H1 locs1 J1 hI1 => nxt _ _ () (by omega) (by omega) ks1 cs1 ms1 H1 locs1 J1 hI1)
                        · by_cases c10 : xs (6 * k) &&& 63 = 10
                          · refine lv_tableIn (tgt := 576) hx hb dL_33 (by rw [c10]; decide) (by rw [c10]; decide) (by rw [c10]; rfl) (by decide) ?_
                            exact lcs_tells hA.2.2.2.2.2.2.2.2.2.2.1 K J hI (by omega) hl ⟨by rw [hr1]; omega, by rw [hr2]; omega⟩ (fun ks1 cs1 ms1 H1 locs1 J1 hI1 => nxt _ _ () (by omega) (by omega) ks1 cs1 ms1 H1 locs1 J1 hI1)
                          · by_cases c11 : xs (6 * k) &&& 63 = 11
                            · refine lv_tableIn (tgt := 609) hx hb dL_33 (by rw [c11]; decide) (by rw [c11]; decide) (by rw [c11]; rfl) (by decide) ?_
                              exact lcs_pardon hA.2.2.2.2.2.2.2.2.2.2.2.1 K J hI (by omega) hl ⟨by rw [hr1]; omega, by rw [hr2]; omega⟩ (fun ks1 cs1 ms1 H1 locs1 J1 hI1 => nxt _ _ () (by omega) (by omega) ks1 cs1 ms1 H1 locs1 J1 hI1)
                            · by_cases c12 : xs (6 * k) &&& 63 = 12
                              · refine lv_tableIn (tgt := 632) hx hb dL_33 (by rw [c12]; decide) (by rw [c12]; decide) (by rw [c12]; rfl) (by decide) ?_
                                exact lcs_weeks hA.2.2.2.2.2.2.2.2.2.2.2.2.1 K J hI (by omega) hl ⟨by rw [hr1]; omega, by rw [hr2]; omega⟩ (fun ks1 cs1 ms1 H1 locs1 J1 hI1 => nxt _ _ () (by omega) (by omega) ks1 cs1 ms1 H1 locs1 J1 hI1)
                              · by_cases c13 : xs (6 * k) &&& 63 = 13
                                · refine lv_tableIn (tgt := 655) hx hb dL_33 (by rw [c13]; decide) (by rw [c13]; decide) (by rw [c13]; rfl) (by decide) ?_
                                  exact lcs_loose hA.2.2.2.2.2.2.2.2.2.2.2.2.2.1 K J hI (by omega) hl ⟨by rw [hr1]; omega, by rw [hr2]; omega⟩ (fun ks1 cs1 ms1 H1 locs1 J1 hI1 => nxt _ _ () (by omega) (by omega) ks1 cs1 ms1 H1 locs1 J1 hI1)
                                · by_cases c14 : xs (6 * k) &&& 63 = 14
                                  · refine lv_tableIn (tgt := 678) hx hb dL_33 (by rw [c14]; decide) (by rw [c14]; decide) (by rw [c14]; rfl) (by decide) ?_
                                    exact lcs_then hA.2.2.2.2.2.2.2.2.2.2.2.2.2.2.1 K J hI (by omega) hl ⟨by rw [hr1]; omega, by rw [hr2]; omega⟩ (fun ks1 cs1 ms1 H1 locs1 J1 hI1 => nxt _ _ () (by omega) (by omega) ks1 cs1 ms1 H1 locs1 J1 hI1)
                                  · by_cases c15 : xs (6 * k) &&& 63 = 15
                                    · refine lv_tableIn (tgt := 721) hx hb dL_33 (by rw [c15]; decide) (by rw [c15]; decide) (by rw [c15]; rfl) (by decide) ?_
                                      exact lcs_feed hA.2.2.2.2.2.2.2.2.2.2.2.2.2.2.2.1 K J hI (by omega) hl ⟨by rw [hr1]; omega, by rw [hr2]; omega⟩ (fun ks1 cs1 ms1 H1 locs1 J1 hI1 => nxt _ _ () (by omega) (by omega) ks1 cs1 ms1 H1 locs1 J1 hI1)
                                    · by_cases c16 : xs (6 * k) &&& 63 = 16
                                      · refine lv_tableIn (tgt := 784) hx hb dL_33 (by rw [c16]; decide) (by rw [c16]; decide) (by rw [c16]; rfl) (by decide) ?_
                                        exact lcs_text hA.2.2.2.2.2.2.2.2.2.2.2.2.2.2.2.2.1 K J hI (by omega) hl ⟨by rw [hr1]; omega, by rw [hr2]; omega⟩ (fun ks1 cs1 ms1 H1 locs1 J1 hI1 => nxt _ _ () (by omega) (by omega) ks1 cs1 ms1 H1 locs1 J1 hI1)
                                      · by_cases c17 : xs (6 * k) &&& 63 = 17
                                        · refine lv_tableIn (tgt := 807) hx hb dL_33 (by rw [c17]; decide) (by rw [c17]; decide) (by rw [c17]; rfl) (by decide) ?_
                                          exact lcs_law hA.2.2.2.2.2.2.2.2.2.2.2.2.2.2.2.2.2.1 K J hI (by omega) hl ⟨by rw [hr1]; omega, by rw [hr2]; omega⟩ (fun ks1 cs1 ms1 H1 locs1 J1 hI1 => nxt _ _ () (by omega) (by omega) ks1 cs1 ms1 H1 locs1 J1 hI1)
                                        · by_cases c18 : xs (6 * k) &&& 63 = 18
                                          · refine lv_tableIn (tgt := 860) hx hb dL_33 (by rw [c18]; decide) (by rw [c18]; decide) (by rw [c18]; rfl) (by decide) ?_
                                            exact lcs_served hA.2.2.2.2.2.2.2.2.2.2.2.2.2.2.2.2.2.2.1 K J hI (by omega) hl ⟨by rw [hr1]; omega, by rw [hr2]; omega⟩ (fun ks1 cs1 ms1 H1 locs1 J1 hI1 => nxt _ _ () (by omega) (by omega) ks1 cs1 ms1 H1 locs1 J1 hI1)
                                          · by_cases c19 : xs (6 * k) &&& 63 = 19
                                            · refine lv_tableIn (tgt := 893) hx hb dL_33 (by rw [c19]; decide) (by rw [c19]; decide) (by rw [c19]; rfl) (by decide) ?_
                                              exact lcs_closed hA.2.2.2.2.2.2.2.2.2.2.2.2.2.2.2.2.2.2.2.1 K J hI (by omega) hl ⟨by rw [hr1]; omega, by rw [hr2]; omega⟩ (fun ks1 cs1 ms1 H1 locs1 J1 hI1 => nxt _ _ () (by omega) (by omega) ks1 cs1 ms1 H1 locs1 J1 hI1)
                                            · by_cases c20 : xs (6 * k) &&& 63 = 20
                                              · refine lv_tableIn (tgt := 926) hx hb dL_33 (by rw [c20]; decide) (by rw [c20]; decide) (by rw [c20]; rfl) (by decide) ?_
                                                exact lcs_clashOf hA.2.2.2.2.2.2.2.2.2.2.2.2.2.2.2.2.2.2.2.2.1 K J hI (by omega) hl ⟨by rw [hr1]; omega, by rw [hr2]; omega⟩ (fun ks1 cs1 ms1 H1 locs1 J1 hI1 => nxt _ _ () (by omega) (by omega) ks1 cs1 ms1 H1 locs1 J1 hI1)
                                              · by_cases c21 : xs (6 * k) &&& 63 = 21
                                                · refine lv_tableIn (tgt := 949) hx hb dL_33 (by rw [c21]; decide) (by rw [c21]; decide) (by rw [c21]; rfl) (by decide) ?_
                                                  exact lcs_joined hA.2.2.2.2.2.2.2.2.2.2.2.2.2.2.2.2.2.2.2.2.2.1 K J hI (by omega) hl ⟨by rw [hr1]; omega, by rw [hr2]; omega⟩ (fun ks1 cs1 ms1 H1 locs1 J1 hI1 => nxt _ _ () (by omega) (by omega) ks1 cs1 ms1 H1 locs1 J1 hI1)
                                                · by_cases c22 : xs (6 * k) &&& 63 = 22
                                                  · refine lv_tableIn (tgt := 982) hx hb dL_33 (by rw [c22]; decide) (by rw [c22]; decide) (by rw [c22]; rfl) (by decide) ?_
                                                    exact lcs_rated hA.2.2.2.2.2.2.2.2.2.2.2.2.2.2.2.2.2.2.2.2.2.2.1 K J hI (by omega) hl ⟨by rw [hr1]; omega, by rw [hr2]; omega⟩ (fun ks1 cs1 ms1 H1 locs1 J1 hI1 => nxt _ _ () (by omega) (by omega) ks1 cs1 ms1 H1 locs1 J1 hI1)
                                                  · by_cases c23 : xs (6 * k) &&& 63 = 23
                                                    · refine lv_tableIn (tgt := 1025) hx hb dL_33 (by rw [c23]; decide) (by rw [c23]; decide) (by rw [c23]; rfl) (by decide) ?_
                                                      exact lcs_explained hA.2.2.2.2.2.2.2.2.2.2.2.2.2.2.2.2.2.2.2.2.2.2.2.1 K J hI (by omega) hl ⟨by rw [hr1]; omega, by rw [hr2]; omega⟩ (fun ks1 cs1 ms1 H1 locs1 J1 hI1 => nxt _ _ () (by omega) (by omega) ks1 cs1 ms1 H1 locs1 J1 hI1)
                                                    · by_cases c24 : xs (6 * k) &&& 63 = 24
                                                      · refine lv_tableIn (tgt := 1058) hx hb dL_33 (by rw [c24]; decide) (by rw [c24]; decide) (by rw [c24]; rfl) (by decide) ?_
                                                        exact lcs_meeting hA.2.2.2.2.2.2.2.2.2.2.2.2.2.2.2.2.2.2.2.2.2.2.2.2.1 K J hI (by omega) hl ⟨by rw [hr1]; omega, by rw [hr2]; omega⟩ (fun ks1 cs1 ms1 H1 locs1 J1 hI1 => nxt _ _ () (by omega) (by omega) ks1 cs1 ms1 H1 locs1 J1 hI1)
                                                      · by_cases c25 : xs (6 * k) &&& 63 = 25
                                                        · refine lv_tableIn (tgt := 1101) hx hb dL_33 (by rw [c25]; decide) (by rw [c25]; decide) (by rw [c25]; rfl) (by decide) ?_
                                                          exact lcs_knows hA.2.2.2.2.2.2.2.2.2.2.2.2.2.2.2.2.2.2.2.2.2.2.2.2.2.1 K J hI (by omega) hl ⟨by rw [hr1]; omega, by rw [hr2]; omega⟩ (fun ks1 cs1 ms1 H1 locs1 J1 hI1 => nxt _ _ () (by omega) (by omega) ks1 cs1 ms1 H1 locs1 J1 hI1)
                                                        · by_cases c26 : xs (6 * k) &&& 63 = 26
                                                          · refine lv_tableIn (tgt := 1134) hx hb dL_33 (by rw [c26]; decide) (by rw [c26]; decide) (by rw [c26]; rfl) (by decide) ?_
                                                            exact lcs_common hA.2.2.2.2.2.2.2.2.2.2.2.2.2.2.2.2.2.2.2.2.2.2.2.2.2.2.1 K J hI (by omega) hl ⟨by rw [hr1]; omega, by rw [hr2]; omega⟩ (fun ks1 cs1 ms1 H1 locs1 J1 hI1 => nxt _ _ () (by omega) (by omega) ks1 cs1 ms1 H1 locs1 J1 hI1)
                                                          · by_cases c27 : xs (6 * k) &&& 63 = 27
                                                            · refine lv_tableIn (tgt := 1167) hx hb dL_33 (by rw [c27]; decide) (by rw [c27]; decide) (by rw [c27]; rfl) (by decide) ?_
                                                              exact lcs_since hA.2.2.2.2.2.2.2.2.2.2.2.2.2.2.2.2.2.2.2.2.2.2.2.2.2.2.2.1 K J hI (by omega) hl ⟨by rw [hr1]; omega, by rw [hr2]; omega⟩ (fun ks1 cs1 ms1 H1 locs1 J1 hI1 => nxt _ _ () (by omega) (by omega) ks1 cs1 ms1 H1 locs1 J1 hI1)
                                                            · by_cases c28 : xs (6 * k) &&& 63 = 28
                                                              · refine lv_tableIn (tgt := 1200) hx hb dL_33 (by rw [c28]; decide) (by rw [c28]; decide) (by rw [c28]; rfl) (by decide) ?_
                                                                exact lcs_seed hA.2.2.2.2.2.2.2.2.2.2.2.2.2.2.2.2.2.2.2.2.2.2.2.2.2.2.2.2.1 K J hI (by omega) hl ⟨by rw [hr1]; omega, by rw [hr2]; omega⟩ (fun ks1 cs1 ms1 H1 locs1 J1 hI1 => nxt _ _ () (by omega) (by omega) ks1 cs1 ms1 H1 locs1 J1 hI1)
                                                              · by_cases c29 : xs (6 * k) &&& 63 = 29
                                                                · refine lv_tableIn (tgt := 1223) hx hb dL_33 (by rw [c29]; decide) (by rw [c29]; decide) (by rw [c29]; rfl) (by decide) ?_
                                                                  exact lcs_voice hA.2.2.2.2.2.2.2.2.2.2.2.2.2.2.2.2.2.2.2.2.2.2.2.2.2.2.2.2.2.1 K J hI (by omega) hl ⟨by rw [hr1]; omega, by rw [hr2]; omega⟩ (fun ks1 cs1 ms1 H1 locs1 J1 hI1 => nxt _ _ () (by omega) (by omega) ks1 cs1 ms1 H1 locs1 J1 hI1)
                                                                · by_cases c30 : xs (6 * k) &&& 63 = 30
                                                                  · refine lv_tableIn (tgt := 1266) hx hb dL_33 (by rw [c30]; decide) (by rw [c30]; decide) (by rw [c30]; rfl) (by decide) ?_
                                                                    exact lcs_trace hA.2.2.2.2.2.2.2.2.2.2.2.2.2.2.2.2.2.2.2.2.2.2.2.2.2.2.2.2.2.2.1 K J hI (by omega) hl ⟨by rw [hr1]; omega, by rw [hr2]; omega⟩ (fun ks1 cs1 ms1 H1 locs1 J1 hI1 => nxt _ _ () (by omega) (by omega) ks1 cs1 ms1 H1 locs1 J1 hI1)
                                                                  · by_cases c31 : xs (6 * k) &&& 63 = 31
                                                                    · refine lv_tableIn (tgt := 1289) hx hb dL_33 (by rw [c31]; decide) (by rw [c31]; decide) (by rw [c31]; rfl) (by decide) ?_
                                                                      exact lcs_sheet hA.2.2.2.2.2.2.2.2.2.2.2.2.2.2.2.2.2.2.2.2.2.2.2.2.2.2.2.2.2.2.2.1 K J hI (by omega) hl ⟨by rw [hr1]; omega, by rw [hr2]; omega⟩ (fun ks1 cs1 ms1 H1 locs1 J1 hI1 => nxt _ _ () (by omega) (by omega) ks1 cs1 ms1 H1 locs1 J1 hI1)
                                                                    · by_cases c32 : xs (6 * k) &&& 63 = 32
                                                                      · refine lv_tableIn (tgt := 1332) hx hb dL_33 (by rw [c32]; decide) (by rw [c32]; decide) (by rw [c32]; rfl) (by decide) ?_
                                                                        exact lcs_put hA.2.2.2.2.2.2.2.2.2.2.2.2.2.2.2.2.2.2.2.2.2.2.2.2.2.2.2.2.2.2.2.2.1 K J hI (by omega) hl ⟨by rw [hr1]; omega, by rw [hr2]; omega⟩ (fun ks1 cs1 ms1 H1 locs1 J1 hI1 => nxt _ _ () (by omega) (by omega) ks1 cs1 ms1 H1 locs1 J1 hI1)
                                                                      · by_cases c33 : xs (6 * k) &&& 63 = 33
                                                                        · refine lv_tableIn (tgt := 1375) hx hb dL_33 (by rw [c33]; decide) (by rw [c33]; decide) (by rw [c33]; rfl) (by decide) ?_
                                                                          exact lcs_move hA.2.2.2.2.2.2.2.2.2.2.2.2.2.2.2.2.2.2.2.2.2.2.2.2.2.2.2.2.2.2.2.2.2.1 K J hI (by omega) hl ⟨by rw [hr1]; omega, by rw [hr2]; omega⟩ (fun ks1 cs1 ms1 H1 locs1 J1 hI1 => nxt _ _ () (by omega) (by omega) ks1 cs1 ms1 H1 locs1 J1 hI1)
                                                                        · by_cases c34 : xs (6 * k) &&& 63 = 34
                                                                          · refine lv_tableIn (tgt := 1438) hx hb dL_33 (by rw [c34]; decide) (by rw [c34]; decide) (by rw [c34]; rfl) (by decide) ?_
                                                                            exact lcs_reads hA.2.2.2.2.2.2.2.2.2.2.2.2.2.2.2.2.2.2.2.2.2.2.2.2.2.2.2.2.2.2.2.2.2.2.1 K J hI (by omega) hl ⟨by rw [hr1]; omega, by rw [hr2]; omega⟩ (fun ks1 cs1 ms1 H1 locs1 J1 hI1 => nxt _ _ () (by omega) (by omega) ks1 cs1 ms1 H1 locs1 J1 hI1)
                                                                          · by_cases c35 : xs (6 * k) &&& 63 = 35
                                                                            · refine lv_tableIn (tgt := 1461) hx hb dL_33 (by rw [c35]; decide) (by rw [c35]; decide) (by rw [c35]; rfl) (by decide) ?_
                                                                              exact lcs_judge hA.2.2.2.2.2.2.2.2.2.2.2.2.2.2.2.2.2.2.2.2.2.2.2.2.2.2.2.2.2.2.2.2.2.2.2.1 K J hI (by omega) hl ⟨by rw [hr1]; omega, by rw [hr2]; omega⟩ (fun ks1 cs1 ms1 H1 locs1 J1 hI1 => nxt _ _ () (by omega) (by omega) ks1 cs1 ms1 H1 locs1 J1 hI1)
                                                                            · by_cases c36 : xs (6 * k) &&& 63 = 36
                                                                              · refine lv_tableIn (tgt := 1494) hx hb dL_33 (by rw [c36]; decide) (by rw [c36]; decide) (by rw [c36]; rfl) (by decide) ?_
                                                                                exact lcs_image hA.2.2.2.2.2.2.2.2.2.2.2.2.2.2.2.2.2.2.2.2.2.2.2.2.2.2.2.2.2.2.2.2.2.2.2.2.1 K J hI (by omega) hl ⟨by rw [hr1]; omega, by rw [hr2]; omega⟩ (fun ks1 cs1 ms1 H1 locs1 J1 hI1 => nxt _ _ () (by omega) (by omega) ks1 cs1 ms1 H1 locs1 J1 hI1)
                                                                              · by_cases c37 : xs (6 * k) &&& 63 = 37
                                                                                · refine lv_tableIn (tgt := 1507) hx hb dL_33 (by rw [c37]; decide) (by rw [c37]; decide) (by rw [c37]; rfl) (by decide) ?_
                                                                                  exact lcs_restore hA.2.2.2.2.2.2.2.2.2.2.2.2.2.2.2.2.2.2.2.2.2.2.2.2.2.2.2.2.2.2.2.2.2.2.2.2.2.1 K J hI (by omega) hl ⟨by rw [hr1]; omega, by rw [hr2]; omega⟩ (fun ks1 cs1 ms1 H1 locs1 J1 hI1 => nxt _ _ () (by omega) (by omega) ks1 cs1 ms1 H1 locs1 J1 hI1)
                                                                                · by_cases c38 : xs (6 * k) &&& 63 = 38
                                                                                  · refine lv_tableIn (tgt := 1520) hx hb dL_33 (by rw [c38]; decide) (by rw [c38]; decide) (by rw [c38]; rfl) (by decide) ?_
                                                                                    exact lcs_tell hA.2.2.2.2.2.2.2.2.2.2.2.2.2.2.2.2.2.2.2.2.2.2.2.2.2.2.2.2.2.2.2.2.2.2.2.2.2.2.1 K J hI (by omega) hl ⟨by rw [hr1]; omega, by rw [hr2]; omega⟩ (fun ks1 cs1 ms1 H1 locs1 J1 hI1 => nxt _ _ () (by omega) (by omega) ks1 cs1 ms1 H1 locs1 J1 hI1)
                                                                                  · by_cases c39 : xs (6 * k) &&& 63 = 39
                                                                                    · refine lv_tableIn (tgt := 1543) hx hb dL_33 (by rw [c39]; decide) (by rw [c39]; decide) (by rw [c39]; rfl) (by decide) ?_
                                                                                      exact lcs_check hA.2.2.2.2.2.2.2.2.2.2.2.2.2.2.2.2.2.2.2.2.2.2.2.2.2.2.2.2.2.2.2.2.2.2.2.2.2.2.2.1 K J hI (by omega) hl ⟨by rw [hr1]; omega, by rw [hr2]; omega⟩ (fun ks1 cs1 ms1 H1 locs1 J1 hI1 => nxt _ _ () (by omega) (by omega) ks1 cs1 ms1 H1 locs1 J1 hI1)
                                                                                    · by_cases c40 : xs (6 * k) &&& 63 = 40
                                                                                      · refine lv_tableIn (tgt := 1556) hx hb dL_33 (by rw [c40]; decide) (by rw [c40]; decide) (by rw [c40]; rfl) (by decide) ?_
                                                                                        exact lcs_count hA.2.2.2.2.2.2.2.2.2.2.2.2.2.2.2.2.2.2.2.2.2.2.2.2.2.2.2.2.2.2.2.2.2.2.2.2.2.2.2.2.1 K J hI (by omega) hl ⟨by rw [hr1]; omega, by rw [hr2]; omega⟩ (fun ks1 cs1 ms1 H1 locs1 J1 hI1 => nxt _ _ () (by omega) (by omega) ks1 cs1 ms1 H1 locs1 J1 hI1)
                                                                                      · by_cases c41 : xs (6 * k) &&& 63 = 41
                                                                                        · refine lv_tableIn (tgt := 1579) hx hb dL_33 (by rw [c41]; decide) (by rw [c41]; decide) (by rw [c41]; rfl) (by decide) ?_
                                                                                          exact lcs_told hA.2.2.2.2.2.2.2.2.2.2.2.2.2.2.2.2.2.2.2.2.2.2.2.2.2.2.2.2.2.2.2.2.2.2.2.2.2.2.2.2.2 K J hI (by omega) hl ⟨by rw [hr1]; omega, by rw [hr2]; omega⟩ (fun ks1 cs1 ms1 H1 locs1 J1 hI1 => nxt _ _ () (by omega) (by omega) ks1 cs1 ms1 H1 locs1 J1 hI1)
                                                                                        · refine lv_tableOut (tgt := 1602) hx hb dL_33 ?_ (by decide) ?_
                                                                                          · have h0 := lv_neT c0 (show (0 : Int32).toInt = 0 by decide)
                                                                                            have h1 := lv_neT c1 (show (1 : Int32).toInt = 1 by decide)
                                                                                            have h2 := lv_neT c2 (show (2 : Int32).toInt = 2 by decide)
                                                                                            have h3 := lv_neT c3 (show (3 : Int32).toInt = 3 by decide)
                                                                                            have h4 := lv_neT c4 (show (4 : Int32).toInt = 4 by decide)
                                                                                            have h5 := lv_neT c5 (show (5 : Int32).toInt = 5 by decide)
                                                                                            have h6 := lv_neT c6 (show (6 : Int32).toInt = 6 by decide)
                                                                                            have h7 := lv_neT c7 (show (7 : Int32).toInt = 7 by decide)
                                                                                            have h8 := lv_neT c8 (show (8 : Int32).toInt = 8 by decide)
                                                                                            have h9 := lv_neT c9 (show (9 : Int32).toInt = 9 by decide)
                                                                                            have h10 := lv_neT c10 (show (10 : Int32).toInt = 10 by decide)
                                                                                            have h11 := lv_neT c11 (show (11 : Int32).toInt = 11 by decide)
                                                                                            have h12 := lv_neT c12 (show (12 : Int32).toInt = 12 by decide)
                                                                                            have h13 := lv_neT c13 (show (13 : Int32).toInt = 13 by decide)
                                                                                            have h14 := lv_neT c14 (show (14 : Int32).toInt = 14 by decide)
                                                                                            have h15 := lv_neT c15 (show (15 : Int32).toInt = 15 by decide)
                                                                                            have h16 := lv_neT c16 (show (16 : Int32).toInt = 16 by decide)
                                                                                            have h17 := lv_neT c17 (show (17 : Int32).toInt = 17 by decide)
                                                                                            have h18 := lv_neT c18 (show (18 : Int32).toInt = 18 by decide)
                                                                                            have h19 := lv_neT c19 (show (19 : Int32).toInt = 19 by decide)
                                                                                            have h20 := lv_neT c20 (show (20 : Int32).toInt = 20 by decide)
                                                                                            have h21 := lv_neT c21 (show (21 : Int32).toInt = 21 by decide)
                                                                                            have h22 := lv_neT c22 (show (22 : Int32).toInt = 22 by decide)
                                                                                            have h23 := lv_neT c23 (show (23 : Int32).toInt = 23 by decide)
                                                                                            have h24 := lv_neT c24 (show (24 : Int32).toInt = 24 by decide)
                                                                                            have h25 := lv_neT c25 (show (25 : Int32).toInt = 25 by decide)
                                                                                            have h26 := lv_neT c26 (show (26 : Int32).toInt = 26 by decide)
                                                                                            have h27 := lv_neT c27 (show (27 : Int32).toInt = 27 by decide)
                                                                                            have h28 := lv_neT c28 (show (28 : Int32).toInt = 28 by decide)
                                                                                            have h29 := lv_neT c29 (show (29 : Int32).toInt = 29 by decide)
                                                                                            have h30 := lv_neT c30 (show (30 : Int32).toInt = 30 by decide)
                                                                                            have h31 := lv_neT c31 (show (31 : Int32).toInt = 31 by decide)
                                                                                            have h32 := lv_neT c32 (show (32 : Int32).toInt = 32 by decide)
                                                                                            have h33 := lv_neT c33 (show (33 : Int32).toInt = 33 by decide)
                                                                                            have h34 := lv_neT c34 (show (34 : Int32).toInt = 34 by decide)
                                                                                            have h35 := lv_neT c35 (show (35 : Int32).toInt = 35 by decide)
                                                                                            have h36 := lv_neT c36 (show (36 : Int32).toInt = 36 by decide)
                                                                                            have h37 := lv_neT c37 (show (37 : Int32).toInt = 37 by decide)
                                                                                            have h38 := lv_neT c38 (show (38 : Int32).toInt = 38 by decide)
                                                                                            have h39 := lv_neT c39 (show (39 : Int32).toInt = 39 by decide)
                                                                                            have h40 := lv_neT c40 (show (40 : Int32).toInt = 40 by decide)
                                                                                            have h41 := lv_neT c41 (show (41 : Int32).toInt = 41 by decide)
                                                                                            omega
                                                                                          · exact nxt _ _ () (by omega) (by omega) ks cs mst H locs J (hM _ _ _ hI)
end
