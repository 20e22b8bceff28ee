/-! the law: its cases -/
set_option maxRecDepth 100000
section
variable {p : Program} {l : Launch} {e : Env} {R : Room} {s : State} {m : MethodId} {args : Array Value} {below : List Frame} {meth : Method} {c : Code} {H : Heap} {locs : List Loc} {cells slots d : Nat} {Q : State → Prop} {pc nL : Nat} {ls : Array Slot} {rest : List Value} {D D2 : va_G} {cA : Nat → ClassId} {cI : ClassId} {ks : List Nat} {index n0 b L : Nat} {xs : Nat → Int32} {adK adV : Nat → Nat} {cs cs2 : CS} {mst mst2 : MSt}
theorem kInj_a : kInj 15 (adm n0) := fun i j _ _ h => by have h : n0 + 73 + i = n0 + 73 + j := h; omega
def stp_fact (ad adK : Nat → Nat) (cA : Nat → ClassId) (I J : CS → MSt → Prop) : Prop := ∀ (nx : Nat) (cs : CS) (ms : MSt) (x1 : Int32) (x2 : Int32), I cs ms → FR nx cs → ∃ (r : Int32) (cs' : CS) (ms' : MSt), L_fact cs x1 x2 = some (r, cs') ∧ M_fact ms x1 x2 = some (r, ms') ∧ J cs' ms'
def stp_clash (ad adK : Nat → Nat) (cA : Nat → ClassId) (I J : CS → MSt → Prop) : Prop := ∀ (nx : Nat) (cs : CS) (ms : MSt) (x1 : Int32) (x2 : Int32) (x3 : Int32), I cs ms → FR nx cs → ∃ (r : Int32) (cs' : CS) (ms' : MSt), L_clash cs x1 x2 x3 = some (r, cs') ∧ M_clash ms x1 x2 x3 = some (r, ms') ∧ J cs' ms'
def stp_explain (ad adK : Nat → Nat) (cA : Nat → ClassId) (I J : CS → MSt → Prop) : Prop := ∀ (nx : Nat) (cs : CS) (ms : MSt) (x1 : Int32) (x2 : Int32) (x3 : Int32), I cs ms → FR nx cs → ∃ (r : Int32) (cs' : CS) (ms' : MSt), L_explain cs x1 x2 x3 = some (r, cs') ∧ M_explain ms x1 x2 x3 = some (r, ms') ∧ J cs' ms'
def stp_ofFact (ad adK : Nat → Nat) (cA : Nat → ClassId) (I J : CS → MSt → Prop) : Prop := ∀ (nx : Nat) (cs : CS) (ms : MSt) (x1 : Int32) (x2 : Int32), I cs ms → FR nx cs → ∃ (r : Int32) (cs' : CS) (ms' : MSt), L_ofFact NN cs x1 x2 = some (r, cs') ∧ M_ofFact NN ms x1 x2 = some (r, ms') ∧ J cs' ms'
def stp_debtor (ad adK : Nat → Nat) (cA : Nat → ClassId) (I J : CS → MSt → Prop) : Prop := ∀ (nx : Nat) (cs : CS) (ms : MSt) (x1 : Int32) (x2 : Int32), I cs ms → FR nx cs → ∃ (r : Int32) (cs' : CS) (ms' : MSt), L_debtor (ad 62) nx cs x1 x2 = some (r, cs') ∧ M_debtor ms x1 x2 = some (r, ms') ∧ J cs' ms'
def stp_ofDebtor (ad adK : Nat → Nat) (cA : Nat → ClassId) (I J : CS → MSt → Prop) : Prop := ∀ (nx : Nat) (cs : CS) (ms : MSt) (x1 : Int32) (x2 : Int32), I cs ms → FR nx cs → ∃ (r : Int32) (cs' : CS) (ms' : MSt), L_ofDebtor NN cs x1 x2 = some (r, cs') ∧ M_ofDebtor NN ms x1 x2 = some (r, ms') ∧ J cs' ms'
def stp_book (ad adK : Nat → Nat) (cA : Nat → ClassId) (I J : CS → MSt → Prop) : Prop := ∀ (nx : Nat) (cs : CS) (ms : MSt) (x1 : Int32) (x2 : Int32) (x3 : Int32), I cs ms → FR nx cs → ∃ (r : Int32) (cs' : CS) (ms' : MSt), L_book cs x1 x2 x3 = some (r, cs') ∧ M_book ms x1 x2 x3 = some (r, ms') ∧ J cs' ms'
def stp_become (ad adK : Nat → Nat) (cA : Nat → ClassId) (I J : CS → MSt → Prop) : Prop := ∀ (nx : Nat) (cs : CS) (ms : MSt) (x1 : Int32) (x2 : Int32), I cs ms → FR nx cs → ∃ (r : Int32) (cs' : CS) (ms' : MSt), L_become (ad 62) nx cs x1 x2 = some (r, cs') ∧ M_become ms x1 x2 = some (r, ms') ∧ J cs' ms'
def stp_as (ad adK : Nat → Nat) (cA : Nat → ClassId) (I J : CS → MSt → Prop) : Prop := ∀ (nx : Nat) (cs : CS) (ms : MSt) (x1 : Int32) (x2 : Int32), I cs ms → FR nx cs → ∃ (r : Int32) (cs' : CS) (ms' : MSt), L_as cs x1 x2 = some (r, cs') ∧ M_as ms x1 x2 = some (r, ms') ∧ J cs' ms'
def stp_lend (ad adK : Nat → Nat) (cA : Nat → ClassId) (I J : CS → MSt → Prop) : Prop := ∀ (nx : Nat) (cs : CS) (ms : MSt) (x1 : Int32) (x2 : Int32), I cs ms → FR nx cs → ∃ (r : Int32) (cs' : CS) (ms' : MSt), L_lend cs x1 x2 = some (r, cs') ∧ M_lend ms x1 x2 = some (r, ms') ∧ J cs' ms'
def stp_tells (ad adK : Nat → Nat) (cA : Nat → ClassId) (I J : CS → MSt → Prop) : Prop := ∀ (nx : Nat) (cs : CS) (ms : MSt) (x1 : Int32) (x2 : Int32), I cs ms → FR nx cs → ∃ (r : Int32) (cs' : CS) (ms' : MSt), L_tells NN cs x1 x2 = some (r, cs') ∧ M_tells NN ms x1 x2 = some (r, ms') ∧ J cs' ms'
def stp_pardon (ad adK : Nat → Nat) (cA : Nat → ClassId) (I J : CS → MSt → Prop) : Prop := ∀ (nx : Nat) (cs : CS) (ms : MSt) (x1 : Int32), I cs ms → FR nx cs → ∃ (r : Int32) (cs' : CS) (ms' : MSt), L_pardon cs x1 = some (r, cs') ∧ M_pardon ms x1 = some (r, ms') ∧ J cs' ms'
def stp_weeks (ad adK : Nat → Nat) (cA : Nat → ClassId) (I J : CS → MSt → Prop) : Prop := ∀ (nx : Nat) (cs : CS) (ms : MSt) (x1 : Int32), I cs ms → FR nx cs → ∃ (r : Int32) (cs' : CS) (ms' : MSt), L_weeks NN cs x1 = some (r, cs') ∧ M_weeks NN ms x1 = some (r, ms') ∧ J cs' ms'
def stp_loose (ad adK : Nat → Nat) (cA : Nat → ClassId) (I J : CS → MSt → Prop) : Prop := ∀ (nx : Nat) (cs : CS) (ms : MSt) (x1 : Int32), I cs ms → FR nx cs → ∃ (r : Int32) (cs' : CS) (ms' : MSt), L_loose NN cs x1 = some (r, cs') ∧ M_loose NN ms x1 = some (r, ms') ∧ J cs' ms'
def stp_then (ad adK : Nat → Nat) (cA : Nat → ClassId) (I J : CS → MSt → Prop) : Prop := ∀ (nx : Nat) (cs : CS) (ms : MSt) (x1 : Int32) (x2 : Int32) (x3 : Int32), I cs ms → FR nx cs → ∃ (r : Int32) (cs' : CS) (ms' : MSt), L_then NN cs x1 x2 x3 = some (r, cs') ∧ M_then NN ms x1 x2 x3 = some (r, ms') ∧ J cs' ms'
def stp_feed (ad adK : Nat → Nat) (cA : Nat → ClassId) (I J : CS → MSt → Prop) : Prop := ∀ (nx : Nat) (cs : CS) (ms : MSt) (x1 : Int64) (x3 : Int32), I cs ms → FR nx cs → ∃ (r : Int32) (cs' : CS) (ms' : MSt), L_feed NN cs x1 x3 = some (r, cs') ∧ M_feed NN ms x1 x3 = some (r, ms') ∧ J cs' ms'
def stp_text (ad adK : Nat → Nat) (cA : Nat → ClassId) (I J : CS → MSt → Prop) : Prop := ∀ (nx : Nat) (cs : CS) (ms : MSt) (x1 : Int32), I cs ms → FR nx cs → ∃ (r : Int32) (cs' : CS) (ms' : MSt), L_text adK ad nx NN cs x1 = some (r, cs') ∧ M_text NN ms x1 = some (r, ms') ∧ J cs' ms'
def stp_law (ad adK : Nat → Nat) (cA : Nat → ClassId) (I J : CS → MSt → Prop) : Prop := ∀ (nx : Nat) (cs : CS) (ms : MSt) (x1 : Int32) (x2 : Int32) (x3 : Int32) (x4 : Int32), I cs ms → FR nx cs → ∃ (r : Int32) (cs' : CS) (ms' : MSt), L_law cs x1 x2 x3 x4 = some (r, cs') ∧ M_law NN ms x1 x2 x3 x4 = some (r, ms') ∧ J cs' ms'
def stp_served (ad adK : Nat → Nat) (cA : Nat → ClassId) (I J : CS → MSt → Prop) : Prop := ∀ (nx : Nat) (cs : CS) (ms : MSt) (x1 : Int32) (x2 : Int32), I cs ms → FR nx cs → ∃ (r : Int32) (cs' : CS) (ms' : MSt), L_served NN cs x1 x2 = some (r, cs') ∧ M_served NN ms x1 x2 = some (r, ms') ∧ J cs' ms'
def stp_closed (ad adK : Nat → Nat) (cA : Nat → ClassId) (I J : CS → MSt → Prop) : Prop := ∀ (nx : Nat) (cs : CS) (ms : MSt) (x1 : Int32) (x2 : Int32), I cs ms → FR nx cs → ∃ (r : Int32) (cs' : CS) (ms' : MSt), L_closed NN cs x1 x2 = some (r, cs') ∧ M_closed NN ms x1 x2 = some (r, ms') ∧ J cs' ms'
def stp_clashOf (ad adK : Nat → Nat) (cA : Nat → ClassId) (I J : CS → MSt → Prop) : Prop := ∀ (nx : Nat) (cs : CS) (ms : MSt) (x1 : Int32), I cs ms → FR nx cs → ∃ (r : Int32) (cs' : CS) (ms' : MSt), L_clashOf NN cs x1 = some (r, cs') ∧ M_clashOf NN ms x1 = some (r, ms') ∧ J cs' ms'
def stp_joined (ad adK : Nat → Nat) (cA : Nat → ClassId) (I J : CS → MSt → Prop) : Prop := ∀ (nx : Nat) (cs : CS) (ms : MSt) (x1 : Int32) (x2 : Int32), I cs ms → FR nx cs → ∃ (r : Int32) (cs' : CS) (ms' : MSt), L_joined NN cs x1 x2 = some (r, cs') ∧ M_joined NN ms x1 x2 = some (r, ms') ∧ J cs' ms'
def stp_rated (ad adK : Nat → Nat) (cA : Nat → ClassId) (I J : CS → MSt → Prop) : Prop := ∀ (nx : Nat) (cs : CS) (ms : MSt) (x1 : Int32) (x2 : Int32) (x3 : Int32), I cs ms → FR nx cs → ∃ (r : Int32) (cs' : CS) (ms' : MSt), L_rated NN cs x1 x2 x3 = some (r, cs') ∧ M_rated NN ms x1 x2 x3 = some (r, ms') ∧ J cs' ms'
def stp_explained (ad adK : Nat → Nat) (cA : Nat → ClassId) (I J : CS → MSt → Prop) : Prop := ∀ (nx : Nat) (cs : CS) (ms : MSt) (x1 : Int32) (x2 : Int32), I cs ms → FR nx cs → ∃ (r : Int32) (cs' : CS) (ms' : MSt), L_explained (ad 62) nx NN cA cs x1 x2 = some (r, cs') ∧ M_explained NN ms x1 x2 = some (r, ms') ∧ J cs' ms'
def stp_meeting (ad adK : Nat → Nat) (cA : Nat → ClassId) (I J : CS → MSt → Prop) : Prop := ∀ (nx : Nat) (cs : CS) (ms : MSt) (x1 : Int32) (x2 : Int32) (x3 : Int32), I cs ms → FR nx cs → ∃ (r : Int32) (cs' : CS) (ms' : MSt), L_meeting cs x1 x2 x3 = some (r, cs') ∧ M_meeting ms x1 x2 x3 = some (r, ms') ∧ J cs' ms'
def stp_knows (ad adK : Nat → Nat) (cA : Nat → ClassId) (I J : CS → MSt → Prop) : Prop := ∀ (nx : Nat) (cs : CS) (ms : MSt) (x1 : Int32) (x2 : Int32), I cs ms → FR nx cs → ∃ (r : Int32) (cs' : CS) (ms' : MSt), L_knows NN cs x1 x2 = some (r, cs') ∧ M_knows NN ms x1 x2 = some (r, ms') ∧ J cs' ms'
def stp_common (ad adK : Nat → Nat) (cA : Nat → ClassId) (I J : CS → MSt → Prop) : Prop := ∀ (nx : Nat) (cs : CS) (ms : MSt) (x1 : Int32) (x2 : Int32), I cs ms → FR nx cs → ∃ (r : Int32) (cs' : CS) (ms' : MSt), L_common NN cs x1 x2 = some (r, cs') ∧ M_common NN ms x1 x2 = some (r, ms') ∧ J cs' ms'
def stp_since (ad adK : Nat → Nat) (cA : Nat → ClassId) (I J : CS → MSt → Prop) : Prop := ∀ (nx : Nat) (cs : CS) (ms : MSt) (x1 : Int32) (x2 : Int32), I cs ms → FR nx cs → ∃ (r : Int32) (cs' : CS) (ms' : MSt), L_since NN cs x1 x2 = some (r, cs') ∧ M_since NN ms x1 x2 = some (r, ms') ∧ J cs' ms'
def stp_seed (ad adK : Nat → Nat) (cA : Nat → ClassId) (I J : CS → MSt → Prop) : Prop := ∀ (nx : Nat) (cs : CS) (ms : MSt) (x1 : Int32), I cs ms → FR nx cs → ∃ (r : Int32) (cs' : CS) (ms' : MSt), L_seed cs x1 = some (r, cs') ∧ M_seed ms x1 = some (r, ms') ∧ J cs' ms'
def stp_voice (ad adK : Nat → Nat) (cA : Nat → ClassId) (I J : CS → MSt → Prop) : Prop := ∀ (nx : Nat) (cs : CS) (ms : MSt) (x1 : Int32) (x2 : Int32) (x3 : Int32), I cs ms → FR nx cs → ∃ (r : Int32) (cs' : CS) (ms' : MSt), L_voice (ad 62) cs x1 x2 x3 = some (r, cs') ∧ M_voice ms x1 x2 x3 = some (r, ms') ∧ J cs' ms'
def stp_trace (ad adK : Nat → Nat) (cA : Nat → ClassId) (I J : CS → MSt → Prop) : Prop := ∀ (nx : Nat) (cs : CS) (ms : MSt) (x1 : Int32), I cs ms → FR nx cs → ∃ (r : Int32) (cs' : CS) (ms' : MSt), L_trace cs x1 = some (r, cs') ∧ M_trace ms x1 = some (r, ms') ∧ J cs' ms'
def stp_sheet (ad adK : Nat → Nat) (cA : Nat → ClassId) (I J : CS → MSt → Prop) : Prop := ∀ (nx : Nat) (cs : CS) (ms : MSt) (x1 : Int32) (x2 : Int32) (x3 : Int32), I cs ms → FR nx cs → ∃ (r : Int32) (cs' : CS) (ms' : MSt), L_sheet nx cA cs x1 x2 x3 = some (r, cs') ∧ M_sheet NN ms x1 x2 x3 = some (r, ms') ∧ J cs' ms'
def stp_put (ad adK : Nat → Nat) (cA : Nat → ClassId) (I J : CS → MSt → Prop) : Prop := ∀ (nx : Nat) (cs : CS) (ms : MSt) (x1 : Int32) (x2 : Int32) (x3 : Int32), I cs ms → FR nx cs → ∃ (r : Int32) (cs' : CS) (ms' : MSt), L_put cA cs x1 x2 x3 = some (r, cs') ∧ M_put ms x1 x2 x3 = some (r, ms') ∧ J cs' ms'
def stp_move (ad adK : Nat → Nat) (cA : Nat → ClassId) (I J : CS → MSt → Prop) : Prop := ∀ (nx : Nat) (cs : CS) (ms : MSt) (x1 : Int32) (x2 : Int32) (x3 : Int32) (x4 : Int32) (x5 : Int32), I cs ms → FR nx cs → ∃ (r : Int32) (cs' : CS) (ms' : MSt), L_move nx NN cA cs x1 x2 x3 x4 x5 = some (r, cs') ∧ M_move NN ms x1 x2 x3 x4 x5 = some (r, ms') ∧ J cs' ms'
def stp_reads (ad adK : Nat → Nat) (cA : Nat → ClassId) (I J : CS → MSt → Prop) : Prop := ∀ (nx : Nat) (cs : CS) (ms : MSt) (x1 : Int32), I cs ms → FR nx cs → ∃ (r : Int32) (cs' : CS) (ms' : MSt), L_reads cA NN cs x1 = some (r, cs') ∧ M_reads NN ms x1 = some (r, ms') ∧ J cs' ms'
def stp_judge (ad adK : Nat → Nat) (cA : Nat → ClassId) (I J : CS → MSt → Prop) : Prop := ∀ (nx : Nat) (cs : CS) (ms : MSt) (x1 : Int32) (x2 : Int32), I cs ms → FR nx cs → ∃ (r : Int32) (cs' : CS) (ms' : MSt), L_judge cA NN cs x1 x2 = some (r, cs') ∧ M_judge NN ms x1 x2 = some (r, ms') ∧ J cs' ms'
def stp_image (ad adK : Nat → Nat) (cA : Nat → ClassId) (I J : CS → MSt → Prop) : Prop := ∀ (nx : Nat) (cs : CS) (ms : MSt), I cs ms → FR nx cs → ∃ (r : Int32) (cs' : CS) (ms' : MSt), L_image cs = some (r, cs') ∧ M_image NN ms = some (r, ms') ∧ J cs' ms'
def stp_restore (ad adK : Nat → Nat) (cA : Nat → ClassId) (I J : CS → MSt → Prop) : Prop := ∀ (nx : Nat) (cs : CS) (ms : MSt), I cs ms → FR nx cs → ∃ (r : Int32) (cs' : CS) (ms' : MSt), L_restore cs = some (r, cs') ∧ M_restore NN ms = some (r, ms') ∧ J cs' ms'
def stp_tell (ad adK : Nat → Nat) (cA : Nat → ClassId) (I J : CS → MSt → Prop) : Prop := ∀ (nx : Nat) (cs : CS) (ms : MSt) (x1 : Int32), I cs ms → FR nx cs → ∃ (r : Int32) (cs' : CS) (ms' : MSt), L_tell cs x1 = some (r, cs') ∧ M_tell ms x1 = some (r, ms') ∧ J cs' ms'
def stp_check (ad adK : Nat → Nat) (cA : Nat → ClassId) (I J : CS → MSt → Prop) : Prop := ∀ (nx : Nat) (cs : CS) (ms : MSt), I cs ms → FR nx cs → ∃ (r : Int32) (cs' : CS) (ms' : MSt), L_check NN cs = some (r, cs') ∧ M_check NN ms = some (r, ms') ∧ J cs' ms'
def stp_count (ad adK : Nat → Nat) (cA : Nat → ClassId) (I J : CS → MSt → Prop) : Prop := ∀ (nx : Nat) (cs : CS) (ms : MSt) (x1 : Int32), I cs ms → FR nx cs → ∃ (r : Int32) (cs' : CS) (ms' : MSt), L_count NN cs x1 = some (r, cs') ∧ M_count NN ms x1 = some (r, ms') ∧ J cs' ms'
def stp_told (ad adK : Nat → Nat) (cA : Nat → ClassId) (I J : CS → MSt → Prop) : Prop := ∀ (nx : Nat) (cs : CS) (ms : MSt) (x1 : Int32), I cs ms → FR nx cs → ∃ (r : Int32) (cs' : CS) (ms' : MSt), L_told cs x1 = some (r, cs') ∧ M_told ms x1 = some (r, ms') ∧ J cs' ms'
theorem q395 : (Jvm.Cond.methodLink "ChapterLoanLaw" (13 : Nat) ({ cls := "ChapterLoan", name := "fact", desc := "(II)I" } : Jvm.MethodName)) ∈ lw_all := lw_g (lw_at lw_m2 71 rfl) rfl
theorem q396 : (Jvm.Cond.instanceMethod ({ cls := "ChapterLoan", name := "fact", desc := "(II)I" } : Jvm.MethodName)) ∈ lw_all := lw_g (lw_at lw_m2 72 rfl) rfl
theorem q397 : (Jvm.Cond.selects "ChapterLoan" ({ cls := "ChapterLoan", name := "fact", desc := "(II)I" } : Jvm.MethodName) ({ cls := "ChapterLoan", name := "fact", desc := "(II)I" } : Jvm.MethodName)) ∈ lw_all := lw_g (lw_at lw_m2 73 rfl) rfl
theorem q398 : (Jvm.Cond.codeWith ({ cls := "ChapterLoan", name := "fact", desc := "(II)I" } : Jvm.MethodName) prog_1_method_16_code (4 : Nat) (Option.some Jvm.ClassFile.FieldType.int) [((0 : Nat), (161 : Nat), (162 : Nat), (8 : Nat))]) ∈ lw_all := lw_g (lw_at lw_m2 74 rfl) rfl
theorem q1672 : (Jvm.Cond.methodLink "ChapterLoanLaw" (17 : Nat) ({ cls := "ChapterLoanModel", name := "fact", desc := "(II)I" } : Jvm.MethodName)) ∈ lw_all := lw_g (lw_at lw_m7 148 rfl) rfl
theorem q1673 : (Jvm.Cond.instanceMethod ({ cls := "ChapterLoanModel", name := "fact", desc := "(II)I" } : Jvm.MethodName)) ∈ lw_all := lw_g (lw_at lw_m7 149 rfl) rfl
theorem q1674 : (Jvm.Cond.selects "ChapterLoanModel" ({ cls := "ChapterLoanModel", name := "fact", desc := "(II)I" } : Jvm.MethodName) ({ cls := "ChapterLoanModel", name := "fact", desc := "(II)I" } : Jvm.MethodName)) ∈ lw_all := lw_g (lw_at lw_m7 150 rfl) rfl
theorem q1675 : (Jvm.Cond.code ({ cls := "ChapterLoanModel", name := "fact", desc := "(II)I" } : Jvm.MethodName) prog_30_method_30_code (4 : Nat) (Option.some Jvm.ClassFile.FieldType.int)) ∈ lw_all := lw_g (lw_at lw_m7 151 rfl) rfl
theorem lcs_fact {I I2 : CS → MSt → Prop} (hst : stp_fact (ad0 n0) adK cA I I2) (K : lK p s m args c D D2 cA cI adK adV n0 b L xs) (J : lJ s.heap D D2 cA cI n0 ks cs mst H locs) (hI : I cs mst) {k : Nat} (hk : 6 * k + 6 ≤ L) (hl : lv_has ls 4 [(3, .int (nI (6 * k))), (2, .ref (n0 + 73)), (1, .ref (ad0 n0 60)), (0, .ref b)]) (hcs : cells + 60 ≤ room_1.cells ∧ slots + 420 ≤ room_1.slots)
    (kk : ∀ (ks1 : List Nat) (cs1 : CS) (ms1 : MSt) (H1 : Heap) (locs1 : List Loc), lJ s.heap D D2 cA cI n0 ks1 cs1 ms1 H1 locs1 → I2 cs1 ms1 → W p l e room_1 s m args below meth c H1 locs1 (cells + 60) (slots + 420) Q (F0 m 1602 ls [])) : W p l e room_1 s m args below meth c H locs cells slots Q (F0 m 216 ls []) := by
  have hx := K.1
  have hb := K.2.1
  have hown := K.2.2.2.1
  have hts := K.2.2.2.2.1
  have hcs1 := hcs.1
  have hcs2 := hcs.2
  refine lv_aload_n hx hb dL_216 rfl (lv_at hl 2 rfl) ?_
  refine lv_aload_n hx hb dL_217 rfl (lv_at hl 3 rfl) ?_
  refine lv_iload_n hx hb dL_218 rfl (lv_at hl 0 rfl) ?_
  refine lv_iconst (v := 1) hx hb dL_219 (by decide) ?_
  refine lv_iadd hx hb dL_220 ?_
  refine sc_ld (j := 1) K J (by decide) (by omega) dL_221 ?_
  refine lv_aload_n hx hb dL_222 rfl (lv_at hl 3 rfl) ?_
  refine lv_iload_n hx hb dL_223 rfl (lv_at hl 0 rfl) ?_
  refine lv_iconst (v := 2) hx hb dL_224 (by decide) ?_
  refine lv_iadd hx hb dL_225 ?_
  refine sc_ld (j := 2) K J (by decide) (by omega) dL_226 ?_
  obtain ⟨r, cs1, ms1, hL1, hM1, hI1⟩ := hst H.size cs mst (xs (6 * k + 1)) (xs (6 * k + 2)) hI (FR_of J.2.1)
  refine lc_op (bytes := cX0_fact) (ret := some .int) (maxL := 4) (As := [.int (xs (6 * k + 1)), .int (xs (6 * k + 2))]) (n := 2) (mc := 0) (ms := 0) K J (op_c J.1 (w_L_fact J.1 hL1)) (lw_methW q398) (cd_with hts q398) q395 q396 q397 q85 (by decide +kernel) ⟨(Nat.le_of_ble_eq_true rfl), (Nat.le_of_ble_eq_true rfl)⟩ ⟨by show cells + 0 ≤ _; omega, by show slots + 0 ≤ _; omega⟩ rfl hl.1 rfl (Nat.le_of_ble_eq_true rfl) dL_227 (fun ks H locs J => ?_)
  refine lv_aload_n hx hb dL_230 rfl (lv_at hl 1 rfl) ?_
  refine lv_aload_n hx hb dL_231 rfl (lv_at hl 3 rfl) ?_
  refine lv_iload_n hx hb dL_232 rfl (lv_at hl 0 rfl) ?_
  refine lv_iconst (v := 1) hx hb dL_233 (by decide) ?_
  refine lv_iadd hx hb dL_234 ?_
  refine sc_ld (j := 1) K J (by decide) (by omega) dL_235 ?_
  refine lv_aload_n hx hb dL_236 rfl (lv_at hl 3 rfl) ?_
  refine lv_iload_n hx hb dL_237 rfl (lv_at hl 0 rfl) ?_
  refine lv_iconst (v := 2) hx hb dL_238 (by decide) ?_
  refine lv_iadd hx hb dL_239 ?_
  refine sc_ld (j := 2) K J (by decide) (by omega) dL_240 ?_
  refine lm_op (maxL := 4) (As := [.int (xs (6 * k + 1)), .int (xs (6 * k + 2))]) (n := 2) K J (w_fact kInj_a hM1) (lw_meth q1675) q1675 q1672 q1673 q1674 q94 (by decide +kernel) ⟨(Nat.le_of_ble_eq_true rfl), (Nat.le_of_ble_eq_true rfl)⟩ ⟨by omega, by omega⟩ rfl hl.1 rfl (Nat.le_of_ble_eq_true rfl) dL_241 (fun H locs J => ?_)
  refine lv_icmp_eq (tgt := 1602) hx hb dL_244 rfl (fun _ => ?_) (fun c => absurd rfl c)
  refine W.widen (k := cells + 60) (n := slots + 420) (by omega) (by omega) ?_
  exact kk ks cs1 ms1 H locs J hI1
theorem q415 : (Jvm.Cond.methodLink "ChapterLoanLaw" (18 : Nat) ({ cls := "ChapterLoan", name := "clash", desc := "(III)I" } : Jvm.MethodName)) ∈ lw_all := lw_g (lw_at lw_m2 91 rfl) rfl
theorem q416 : (Jvm.Cond.instanceMethod ({ cls := "ChapterLoan", name := "clash", desc := "(III)I" } : Jvm.MethodName)) ∈ lw_all := lw_g (lw_at lw_m2 92 rfl) rfl
theorem q417 : (Jvm.Cond.selects "ChapterLoan" ({ cls := "ChapterLoan", name := "clash", desc := "(III)I" } : Jvm.MethodName) ({ cls := "ChapterLoan", name := "clash", desc := "(III)I" } : Jvm.MethodName)) ∈ lw_all := lw_g (lw_at lw_m2 93 rfl) rfl
theorem q418 : (Jvm.Cond.codeWith ({ cls := "ChapterLoan", name := "clash", desc := "(III)I" } : Jvm.MethodName) prog_1_method_17_code (5 : Nat) (Option.some Jvm.ClassFile.FieldType.int) [((0 : Nat), (93 : Nat), (94 : Nat), (8 : Nat))]) ∈ lw_all := lw_g (lw_at lw_m2 94 rfl) rfl
theorem q1681 : (Jvm.Cond.methodLink "ChapterLoanLaw" (22 : Nat) ({ cls := "ChapterLoanModel", name := "clash", desc := "(III)I" } : Jvm.MethodName)) ∈ lw_all := lw_g (lw_at lw_m7 157 rfl) rfl
theorem q1682 : (Jvm.Cond.instanceMethod ({ cls := "ChapterLoanModel", name := "clash", desc := "(III)I" } : Jvm.MethodName)) ∈ lw_all := lw_g (lw_at lw_m7 158 rfl) rfl
theorem q1683 : (Jvm.Cond.selects "ChapterLoanModel" ({ cls := "ChapterLoanModel", name := "clash", desc := "(III)I" } : Jvm.MethodName) ({ cls := "ChapterLoanModel", name := "clash", desc := "(III)I" } : Jvm.MethodName)) ∈ lw_all := lw_g (lw_at lw_m7 159 rfl) rfl
theorem q1684 : (Jvm.Cond.code ({ cls := "ChapterLoanModel", name := "clash", desc := "(III)I" } : Jvm.MethodName) prog_30_method_31_code (5 : Nat) (Option.some Jvm.ClassFile.FieldType.int)) ∈ lw_all := lw_g (lw_at lw_m7 160 rfl) rfl
theorem lcs_clash {I I2 : CS → MSt → Prop} (hst : stp_clash (ad0 n0) adK cA I I2) (K : lK p s m args c D D2 cA cI adK adV n0 b L xs) (J : lJ s.heap D D2 cA cI n0 ks cs mst H locs) (hI : I cs mst) {k : Nat} (hk : 6 * k + 6 ≤ L) (hl : lv_has ls 4 [(3, .int (nI (6 * k))), (2, .ref (n0 + 73)), (1, .ref (ad0 n0 60)), (0, .ref b)]) (hcs : cells + 60 ≤ room_1.cells ∧ slots + 420 ≤ room_1.slots)
    (kk : ∀ (ks1 : List Nat) (cs1 : CS) (ms1 : MSt) (H1 : Heap) (locs1 : List Loc), lJ s.heap D D2 cA cI n0 ks1 cs1 ms1 H1 locs1 → I2 cs1 ms1 → W p l e room_1 s m args below meth c H1 locs1 (cells + 60) (slots + 420) Q (F0 m 1602 ls [])) : W p l e room_1 s m args below meth c H locs cells slots Q (F0 m 249 ls []) := by
  have hx := K.1
  have hb := K.2.1
  have hown := K.2.2.2.1
  have hts := K.2.2.2.2.1
  have hcs1 := hcs.1
  have hcs2 := hcs.2
  refine lv_aload_n hx hb dL_249 rfl (lv_at hl 2 rfl) ?_
  refine lv_aload_n hx hb dL_250 rfl (lv_at hl 3 rfl) ?_
  refine lv_iload_n hx hb dL_251 rfl (lv_at hl 0 rfl) ?_
  refine lv_iconst (v := 1) hx hb dL_252 (by decide) ?_
  refine lv_iadd hx hb dL_253 ?_
  refine sc_ld (j := 1) K J (by decide) (by omega) dL_254 ?_
  refine lv_aload_n hx hb dL_255 rfl (lv_at hl 3 rfl) ?_
  refine lv_iload_n hx hb dL_256 rfl (lv_at hl 0 rfl) ?_
  refine lv_iconst (v := 2) hx hb dL_257 (by decide) ?_
  refine lv_iadd hx hb dL_258 ?_
  refine sc_ld (j := 2) K J (by decide) (by omega) dL_259 ?_
  refine lv_aload_n hx hb dL_260 rfl (lv_at hl 3 rfl) ?_
  refine lv_iload_n hx hb dL_261 rfl (lv_at hl 0 rfl) ?_
  refine lv_iconst (v := 3) hx hb dL_262 (by decide) ?_
  refine lv_iadd hx hb dL_263 ?_
  refine sc_ld (j := 3) K J (by decide) (by omega) dL_264 ?_
  obtain ⟨r, cs1, ms1, hL1, hM1, hI1⟩ := hst H.size cs mst (xs (6 * k + 1)) (xs (6 * k + 2)) (xs (6 * k + 3)) hI (FR_of J.2.1)
  refine lc_op (bytes := cX0_clash) (ret := some .int) (maxL := 5) (As := [.int (xs (6 * k + 1)), .int (xs (6 * k + 2)), .int (xs (6 * k + 3))]) (n := 3) (mc := 0) (ms := 0) K J (op_c J.1 (w_L_clash J.1 hL1)) (lw_methW q418) (cd_with hts q418) q415 q416 q417 q85 (by decide +kernel) ⟨(Nat.le_of_ble_eq_true rfl), (Nat.le_of_ble_eq_true rfl)⟩ ⟨by show cells + 0 ≤ _; omega, by show slots + 0 ≤ _; omega⟩ rfl hl.1 rfl (Nat.le_of_ble_eq_true rfl) dL_265 (fun ks H locs J => ?_)
  refine lv_aload_n hx hb dL_268 rfl (lv_at hl 1 rfl) ?_
  refine lv_aload_n hx hb dL_269 rfl (lv_at hl 3 rfl) ?_
  refine lv_iload_n hx hb dL_270 rfl (lv_at hl 0 rfl) ?_
  refine lv_iconst (v := 1) hx hb dL_271 (by decide) ?_
  refine lv_iadd hx hb dL_272 ?_
  refine sc_ld (j := 1) K J (by decide) (by omega) dL_273 ?_
  refine lv_aload_n hx hb dL_274 rfl (lv_at hl 3 rfl) ?_
  refine lv_iload_n hx hb dL_275 rfl (lv_at hl 0 rfl) ?_
  refine lv_iconst (v := 2) hx hb dL_276 (by decide) ?_
  refine lv_iadd hx hb dL_277 ?_
  refine sc_ld (j := 2) K J (by decide) (by omega) dL_278 ?_
  refine lv_aload_n hx hb dL_279 rfl (lv_at hl 3 rfl) ?_
  refine lv_iload_n hx hb dL_280 rfl (lv_at hl 0 rfl) ?_
  refine lv_iconst (v := 3) hx hb dL_281 (by decide) ?_
  refine lv_iadd hx hb dL_282 ?_
  refine sc_ld (j := 3) K J (by decide) (by omega) dL_283 ?_
  refine lm_op (maxL := 5) (As := [.int (xs (6 * k + 1)), .int (xs (6 * k + 2)), .int (xs (6 * k + 3))]) (n := 3) K J (w_clash kInj_a hM1) (lw_meth q1684) q1684 q1681 q1682 q1683 q94 (by decide +kernel) ⟨(Nat.le_of_ble_eq_true rfl), (Nat.le_of_ble_eq_true rfl)⟩ ⟨by omega, by omega⟩ rfl hl.1 rfl (Nat.le_of_ble_eq_true rfl) dL_284 (fun H locs J => ?_)
  refine lv_icmp_eq (tgt := 1602) hx hb dL_287 rfl (fun _ => ?_) (fun c => absurd rfl c)
  refine W.widen (k := cells + 60) (n := slots + 420) (by omega) (by omega) ?_
  exact kk ks cs1 ms1 H locs J hI1
theorem q423 : (Jvm.Cond.methodLink "ChapterLoanLaw" (23 : Nat) ({ cls := "ChapterLoan", name := "explain", desc := "(III)I" } : Jvm.MethodName)) ∈ lw_all := lw_g (lw_at lw_m2 99 rfl) rfl
theorem q424 : (Jvm.Cond.instanceMethod ({ cls := "ChapterLoan", name := "explain", desc := "(III)I" } : Jvm.MethodName)) ∈ lw_all := lw_g (lw_at lw_m2 100 rfl) rfl
theorem q425 : (Jvm.Cond.selects "ChapterLoan" ({ cls := "ChapterLoan", name := "explain", desc := "(III)I" } : Jvm.MethodName) ({ cls := "ChapterLoan", name := "explain", desc := "(III)I" } : Jvm.MethodName)) ∈ lw_all := lw_g (lw_at lw_m2 101 rfl) rfl
theorem q426 : (Jvm.Cond.codeWith ({ cls := "ChapterLoan", name := "explain", desc := "(III)I" } : Jvm.MethodName) prog_1_method_18_code (5 : Nat) (Option.some Jvm.ClassFile.FieldType.int) [((0 : Nat), (86 : Nat), (87 : Nat), (8 : Nat))]) ∈ lw_all := lw_g (lw_at lw_m2 102 rfl) rfl
theorem q1693 : (Jvm.Cond.methodLink "ChapterLoanLaw" (26 : Nat) ({ cls := "ChapterLoanModel", name := "explain", desc := "(III)I" } : Jvm.MethodName)) ∈ lw_all := lw_g (lw_at lw_m7 169 rfl) rfl
theorem q1694 : (Jvm.Cond.instanceMethod ({ cls := "ChapterLoanModel", name := "explain", desc := "(III)I" } : Jvm.MethodName)) ∈ lw_all := lw_g (lw_at lw_m7 170 rfl) rfl
theorem q1695 : (Jvm.Cond.selects "ChapterLoanModel" ({ cls := "ChapterLoanModel", name := "explain", desc := "(III)I" } : Jvm.MethodName) ({ cls := "ChapterLoanModel", name := "explain", desc := "(III)I" } : Jvm.MethodName)) ∈ lw_all := lw_g (lw_at lw_m7 171 rfl) rfl
theorem q1696 : (Jvm.Cond.code ({ cls := "ChapterLoanModel", name := "explain", desc := "(III)I" } : Jvm.MethodName) prog_30_method_32_code (5 : Nat) (Option.some Jvm.ClassFile.FieldType.int)) ∈ lw_all := lw_g (lw_at lw_m7 172 rfl) rfl
theorem lcs_explain {I I2 : CS → MSt → Prop} (hst : stp_explain (ad0 n0) adK cA I I2) (K : lK p s m args c D D2 cA cI adK adV n0 b L xs) (J : lJ s.heap D D2 cA cI n0 ks cs mst H locs) (hI : I cs mst) {k : Nat} (hk : 6 * k + 6 ≤ L) (hl : lv_has ls 4 [(3, .int (nI (6 * k))), (2, .ref (n0 + 73)), (1, .ref (ad0 n0 60)), (0, .ref b)]) (hcs : cells + 60 ≤ room_1.cells ∧ slots + 420 ≤ room_1.slots)
    (kk : ∀ (ks1 : List Nat) (cs1 : CS) (ms1 : MSt) (H1 : Heap) (locs1 : List Loc), lJ s.heap D D2 cA cI n0 ks1 cs1 ms1 H1 locs1 → I2 cs1 ms1 → W p l e room_1 s m args below meth c H1 locs1 (cells + 60) (slots + 420) Q (F0 m 1602 ls [])) : W p l e room_1 s m args below meth c H locs cells slots Q (F0 m 292 ls []) := by
  have hx := K.1
  have hb := K.2.1
  have hown := K.2.2.2.1
  have hts := K.2.2.2.2.1
  have hcs1 := hcs.1
  have hcs2 := hcs.2
  refine lv_aload_n hx hb dL_292 rfl (lv_at hl 2 rfl) ?_
  refine lv_aload_n hx hb dL_293 rfl (lv_at hl 3 rfl) ?_
  refine lv_iload_n hx hb dL_294 rfl (lv_at hl 0 rfl) ?_
  refine lv_iconst (v := 1) hx hb dL_295 (by decide) ?_
  refine lv_iadd hx hb dL_296 ?_
  refine sc_ld (j := 1) K J (by decide) (by omega) dL_297 ?_
  refine lv_aload_n hx hb dL_298 rfl (lv_at hl 3 rfl) ?_
  refine lv_iload_n hx hb dL_299 rfl (lv_at hl 0 rfl) ?_
  refine lv_iconst (v := 2) hx hb dL_300 (by decide) ?_
  refine lv_iadd hx hb dL_301 ?_
  refine sc_ld (j := 2) K J (by decide) (by omega) dL_302 ?_
  refine lv_aload_n hx hb dL_303 rfl (lv_at hl 3 rfl) ?_
  refine lv_iload_n hx hb dL_304 rfl (lv_at hl 0 rfl) ?_
  refine lv_iconst (v := 3) hx hb dL_305 (by decide) ?_
  refine lv_iadd hx hb dL_306 ?_
  refine sc_ld (j := 3) K J (by decide) (by omega) dL_307 ?_
  obtain ⟨r, cs1, ms1, hL1, hM1, hI1⟩ := hst H.size cs mst (xs (6 * k + 1)) (xs (6 * k + 2)) (xs (6 * k + 3)) hI (FR_of J.2.1)
  refine lc_op (bytes := cX0_explain) (ret := some .int) (maxL := 5) (As := [.int (xs (6 * k + 1)), .int (xs (6 * k + 2)), .int (xs (6 * k + 3))]) (n := 3) (mc := 0) (ms := 0) K J (op_c J.1 (w_L_explain J.1 hL1)) (lw_methW q426) (cd_with hts q426) q423 q424 q425 q85 (by decide +kernel) ⟨(Nat.le_of_ble_eq_true rfl), (Nat.le_of_ble_eq_true rfl)⟩ ⟨by show cells + 0 ≤ _; omega, by show slots + 0 ≤ _; omega⟩ rfl hl.1 rfl (Nat.le_of_ble_eq_true rfl) dL_308 (fun ks H locs J => ?_)
  refine lv_aload_n hx hb dL_311 rfl (lv_at hl 1 rfl) ?_
  refine lv_aload_n hx hb dL_312 rfl (lv_at hl 3 rfl) ?_
  refine lv_iload_n hx hb dL_313 rfl (lv_at hl 0 rfl) ?_
  refine lv_iconst (v := 1) hx hb dL_314 (by decide) ?_
  refine lv_iadd hx hb dL_315 ?_
  refine sc_ld (j := 1) K J (by decide) (by omega) dL_316 ?_
  refine lv_aload_n hx hb dL_317 rfl (lv_at hl 3 rfl) ?_
  refine lv_iload_n hx hb dL_318 rfl (lv_at hl 0 rfl) ?_
  refine lv_iconst (v := 2) hx hb dL_319 (by decide) ?_
  refine lv_iadd hx hb dL_320 ?_
  refine sc_ld (j := 2) K J (by decide) (by omega) dL_321 ?_
  refine lv_aload_n hx hb dL_322 rfl (lv_at hl 3 rfl) ?_
  refine lv_iload_n hx hb dL_323 rfl (lv_at hl 0 rfl) ?_
  refine lv_iconst (v := 3) hx hb dL_324 (by decide) ?_
  refine lv_iadd hx hb dL_325 ?_
  refine sc_ld (j := 3) K J (by decide) (by omega) dL_326 ?_
  refine lm_op (maxL := 5) (As := [.int (xs (6 * k + 1)), .int (xs (6 * k + 2)), .int (xs (6 * k + 3))]) (n := 3) K J (w_explain kInj_a hM1) (lw_meth q1696) q1696 q1693 q1694 q1695 q94 (by decide +kernel) ⟨(Nat.le_of_ble_eq_true rfl), (Nat.le_of_ble_eq_true rfl)⟩ ⟨by omega, by omega⟩ rfl hl.1 rfl (Nat.le_of_ble_eq_true rfl) dL_327 (fun H locs J => ?_)
  refine lv_icmp_eq (tgt := 1602) hx hb dL_330 rfl (fun _ => ?_) (fun c => absurd rfl c)
  refine W.widen (k := cells + 60) (n := slots + 420) (by omega) (by omega) ?_
  exact kk ks cs1 ms1 H locs J hI1
theorem q427 : (Jvm.Cond.methodLink "ChapterLoanLaw" (27 : Nat) ({ cls := "ChapterLoan", name := "ofFact", desc := "(II)I" } : Jvm.MethodName)) ∈ lw_all := lw_g (lw_at lw_m2 103 rfl) rfl
theorem q428 : (Jvm.Cond.instanceMethod ({ cls := "ChapterLoan", name := "ofFact", desc := "(II)I" } : Jvm.MethodName)) ∈ lw_all := lw_g (lw_at lw_m2 104 rfl) rfl
theorem q429 : (Jvm.Cond.selects "ChapterLoan" ({ cls := "ChapterLoan", name := "ofFact", desc := "(II)I" } : Jvm.MethodName) ({ cls := "ChapterLoan", name := "ofFact", desc := "(II)I" } : Jvm.MethodName)) ∈ lw_all := lw_g (lw_at lw_m2 105 rfl) rfl
theorem q430 : (Jvm.Cond.codeWith ({ cls := "ChapterLoan", name := "ofFact", desc := "(II)I" } : Jvm.MethodName) prog_1_method_19_code (5 : Nat) (Option.some Jvm.ClassFile.FieldType.int) [((0 : Nat), (73 : Nat), (179 : Nat), (8 : Nat)), ((74 : Nat), (83 : Nat), (179 : Nat), (8 : Nat)), ((84 : Nat), (93 : Nat), (179 : Nat), (8 : Nat)), ((94 : Nat), (119 : Nat), (179 : Nat), (8 : Nat)), ((120 : Nat), (129 : Nat), (179 : Nat), (8 : Nat)), ((130 : Nat), (178 : Nat), (179 : Nat), (8 : Nat))]) ∈ lw_all := lw_g (lw_at lw_m2 106 rfl) rfl
theorem q1698 : (Jvm.Cond.methodLink "ChapterLoanLaw" (30 : Nat) ({ cls := "ChapterLoanModel", name := "ofFact", desc := "(II)I" } : Jvm.MethodName)) ∈ lw_all := lw_g (lw_at lw_m7 174 rfl) rfl
theorem q1699 : (Jvm.Cond.instanceMethod ({ cls := "ChapterLoanModel", name := "ofFact", desc := "(II)I" } : Jvm.MethodName)) ∈ lw_all := lw_g (lw_at lw_m7 175 rfl) rfl
theorem q1700 : (Jvm.Cond.selects "ChapterLoanModel" ({ cls := "ChapterLoanModel", name := "ofFact", desc := "(II)I" } : Jvm.MethodName) ({ cls := "ChapterLoanModel", name := "ofFact", desc := "(II)I" } : Jvm.MethodName)) ∈ lw_all := lw_g (lw_at lw_m7 176 rfl) rfl
theorem q1701 : (Jvm.Cond.code ({ cls := "ChapterLoanModel", name := "ofFact", desc := "(II)I" } : Jvm.MethodName) prog_30_method_35_code (3 : Nat) (Option.some Jvm.ClassFile.FieldType.int)) ∈ lw_all := lw_g (lw_at lw_m7 177 rfl) rfl
theorem lcs_ofFact {I I2 : CS → MSt → Prop} (hst : stp_ofFact (ad0 n0) adK cA I I2) (K : lK p s m args c D D2 cA cI adK adV n0 b L xs) (J : lJ s.heap D D2 cA cI n0 ks cs mst H locs) (hI : I cs mst) {k : Nat} (hk : 6 * k + 6 ≤ L) (hl : lv_has ls 4 [(3, .int (nI (6 * k))), (2, .ref (n0 + 73)), (1, .ref (ad0 n0 60)), (0, .ref b)]) (hcs : cells + 60 ≤ room_1.cells ∧ slots + 420 ≤ room_1.slots)
    (kk : ∀ (ks1 : List Nat) (cs1 : CS) (ms1 : MSt) (H1 : Heap) (locs1 : List Loc), lJ s.heap D D2 cA cI n0 ks1 cs1 ms1 H1 locs1 → I2 cs1 ms1 → W p l e room_1 s m args below meth c H1 locs1 (cells + 60) (slots + 420) Q (F0 m 1602 ls [])) : W p l e room_1 s m args below meth c H locs cells slots Q (F0 m 335 ls []) := by
  have hx := K.1
  have hb := K.2.1
  have hown := K.2.2.2.1
  have hts := K.2.2.2.2.1
  have hcs1 := hcs.1
  have hcs2 := hcs.2
  refine lv_aload_n hx hb dL_335 rfl (lv_at hl 2 rfl) ?_
  refine lv_aload_n hx hb dL_336 rfl (lv_at hl 3 rfl) ?_
  refine lv_iload_n hx hb dL_337 rfl (lv_at hl 0 rfl) ?_
  refine lv_iconst (v := 1) hx hb dL_338 (by decide) ?_
  refine lv_iadd hx hb dL_339 ?_
  refine sc_ld (j := 1) K J (by decide) (by omega) dL_340 ?_
  refine lv_aload_n hx hb dL_341 rfl (lv_at hl 3 rfl) ?_
  refine lv_iload_n hx hb dL_342 rfl (lv_at hl 0 rfl) ?_
  refine lv_iconst (v := 2) hx hb dL_343 (by decide) ?_
  refine lv_iadd hx hb dL_344 ?_
  refine sc_ld (j := 2) K J (by decide) (by omega) dL_345 ?_
  obtain ⟨r, cs1, ms1, hL1, hM1, hI1⟩ := hst H.size cs mst (xs (6 * k + 1)) (xs (6 * k + 2)) hI (FR_of J.2.1)
  refine lc_op (bytes := cX0_ofFact) (ret := some .int) (maxL := 5) (As := [.int (xs (6 * k + 1)), .int (xs (6 * k + 2))]) (n := 2) (mc := 0) (ms := 0) K J (op_c J.1 (w_L_ofFact J.1 hL1)) (lw_methW q430) (cd_with hts q430) q427 q428 q429 q85 (by decide +kernel) ⟨(Nat.le_of_ble_eq_true rfl), (Nat.le_of_ble_eq_true rfl)⟩ ⟨by show cells + 0 ≤ _; omega, by show slots + 0 ≤ _; omega⟩ rfl hl.1 rfl (Nat.le_of_ble_eq_true rfl) dL_346 (fun ks H locs J => ?_)
  refine lv_aload_n hx hb dL_349 rfl (lv_at hl 1 rfl) ?_
  refine lv_aload_n hx hb dL_350 rfl (lv_at hl 3 rfl) ?_
  refine lv_iload_n hx hb dL_351 rfl (lv_at hl 0 rfl) ?_
  refine lv_iconst (v := 1) hx hb dL_352 (by decide) ?_
  refine lv_iadd hx hb dL_353 ?_
  refine sc_ld (j := 1) K J (by decide) (by omega) dL_354 ?_
  refine lv_aload_n hx hb dL_355 rfl (lv_at hl 3 rfl) ?_
  refine lv_iload_n hx hb dL_356 rfl (lv_at hl 0 rfl) ?_
  refine lv_iconst (v := 2) hx hb dL_357 (by decide) ?_
  refine lv_iadd hx hb dL_358 ?_
  refine sc_ld (j := 2) K J (by decide) (by omega) dL_359 ?_
  refine lm_op (maxL := 3) (As := [.int (xs (6 * k + 1)), .int (xs (6 * k + 2))]) (n := 2) K J (w_ofFact kInj_a hM1) (lw_meth q1701) q1701 q1698 q1699 q1700 q94 (by decide +kernel) ⟨(Nat.le_of_ble_eq_true rfl), (Nat.le_of_ble_eq_true rfl)⟩ ⟨by omega, by omega⟩ rfl hl.1 rfl (Nat.le_of_ble_eq_true rfl) dL_360 (fun H locs J => ?_)
  refine lv_icmp_eq (tgt := 1602) hx hb dL_363 rfl (fun _ => ?_) (fun c => absurd rfl c)
  refine W.widen (k := cells + 60) (n := slots + 420) (by omega) (by omega) ?_
  exact kk ks cs1 ms1 H locs J hI1
theorem q442 : (Jvm.Cond.methodLink "ChapterLoanLaw" (31 : Nat) ({ cls := "ChapterLoan", name := "debtor", desc := "(II)I" } : Jvm.MethodName)) ∈ lw_all := lw_g (lw_at lw_m2 118 rfl) rfl
theorem q443 : (Jvm.Cond.instanceMethod ({ cls := "ChapterLoan", name := "debtor", desc := "(II)I" } : Jvm.MethodName)) ∈ lw_all := lw_g (lw_at lw_m2 119 rfl) rfl
theorem q444 : (Jvm.Cond.selects "ChapterLoan" ({ cls := "ChapterLoan", name := "debtor", desc := "(II)I" } : Jvm.MethodName) ({ cls := "ChapterLoan", name := "debtor", desc := "(II)I" } : Jvm.MethodName)) ∈ lw_all := lw_g (lw_at lw_m2 120 rfl) rfl
theorem q445 : (Jvm.Cond.codeWith ({ cls := "ChapterLoan", name := "debtor", desc := "(II)I" } : Jvm.MethodName) prog_1_method_20_code (4 : Nat) (Option.some Jvm.ClassFile.FieldType.int) [((0 : Nat), (126 : Nat), (127 : Nat), (8 : Nat))]) ∈ lw_all := lw_g (lw_at lw_m2 121 rfl) rfl
theorem q1715 : (Jvm.Cond.methodLink "ChapterLoanLaw" (34 : Nat) ({ cls := "ChapterLoanModel", name := "debtor", desc := "(II)I" } : Jvm.MethodName)) ∈ lw_all := lw_g (lw_at lw_m7 191 rfl) rfl
theorem q1716 : (Jvm.Cond.instanceMethod ({ cls := "ChapterLoanModel", name := "debtor", desc := "(II)I" } : Jvm.MethodName)) ∈ lw_all := lw_g (lw_at lw_m7 192 rfl) rfl
theorem q1717 : (Jvm.Cond.selects "ChapterLoanModel" ({ cls := "ChapterLoanModel", name := "debtor", desc := "(II)I" } : Jvm.MethodName) ({ cls := "ChapterLoanModel", name := "debtor", desc := "(II)I" } : Jvm.MethodName)) ∈ lw_all := lw_g (lw_at lw_m7 193 rfl) rfl
theorem q1718 : (Jvm.Cond.code ({ cls := "ChapterLoanModel", name := "debtor", desc := "(II)I" } : Jvm.MethodName) prog_30_method_45_code (4 : Nat) (Option.some Jvm.ClassFile.FieldType.int)) ∈ lw_all := lw_g (lw_at lw_m7 194 rfl) rfl
theorem lcs_debtor {I I2 : CS → MSt → Prop} (hst : stp_debtor (ad0 n0) adK cA I I2) (K : lK p s m args c D D2 cA cI adK adV n0 b L xs) (J : lJ s.heap D D2 cA cI n0 ks cs mst H locs) (hI : I cs mst) {k : Nat} (hk : 6 * k + 6 ≤ L) (hl : lv_has ls 4 [(3, .int (nI (6 * k))), (2, .ref (n0 + 73)), (1, .ref (ad0 n0 60)), (0, .ref b)]) (hcs : cells + 60 ≤ room_1.cells ∧ slots + 420 ≤ room_1.slots)
    (kk : ∀ (ks1 : List Nat) (cs1 : CS) (ms1 : MSt) (H1 : Heap) (locs1 : List Loc), lJ s.heap D D2 cA cI n0 ks1 cs1 ms1 H1 locs1 → I2 cs1 ms1 → W p l e room_1 s m args below meth c H1 locs1 (cells + 60) (slots + 420) Q (F0 m 1602 ls [])) : W p l e room_1 s m args below meth c H locs cells slots Q (F0 m 368 ls []) := by
  have hx := K.1
  have hb := K.2.1
  have hown := K.2.2.2.1
  have hts := K.2.2.2.2.1
  have hcs1 := hcs.1
  have hcs2 := hcs.2
  refine lv_aload_n hx hb dL_368 rfl (lv_at hl 2 rfl) ?_
  refine lv_aload_n hx hb dL_369 rfl (lv_at hl 3 rfl) ?_
  refine lv_iload_n hx hb dL_370 rfl (lv_at hl 0 rfl) ?_
  refine lv_iconst (v := 1) hx hb dL_371 (by decide) ?_
  refine lv_iadd hx hb dL_372 ?_
  refine sc_ld (j := 1) K J (by decide) (by omega) dL_373 ?_
  refine lv_aload_n hx hb dL_374 rfl (lv_at hl 3 rfl) ?_
  refine lv_iload_n hx hb dL_375 rfl (lv_at hl 0 rfl) ?_
  refine lv_iconst (v := 2) hx hb dL_376 (by decide) ?_
  refine lv_iadd hx hb dL_377 ?_
  refine sc_ld (j := 2) K J (by decide) (by omega) dL_378 ?_
  obtain ⟨r, cs1, ms1, hL1, hM1, hI1⟩ := hst H.size cs mst (xs (6 * k + 1)) (xs (6 * k + 2)) hI (FR_of J.2.1)
  refine lc_op (bytes := cX0_debtor) (ret := some .int) (maxL := 4) (As := [.int (xs (6 * k + 1)), .int (xs (6 * k + 2))]) (n := 2) (mc := 1) (ms := 3) K J (op_n (w_L_debtor ad0_P J.1 hL1)) (lw_methW q445) (cd_with hts q445) q442 q443 q444 q85 (by decide +kernel) ⟨(Nat.le_of_ble_eq_true rfl), (Nat.le_of_ble_eq_true rfl)⟩ ⟨by show cells + 1 ≤ _; omega, by show slots + 3 ≤ _; omega⟩ rfl hl.1 rfl (Nat.le_of_ble_eq_true rfl) dL_379 (fun ks H locs J => ?_)
  refine lv_aload_n hx hb dL_382 rfl (lv_at hl 1 rfl) ?_
  refine lv_aload_n hx hb dL_383 rfl (lv_at hl 3 rfl) ?_
  refine lv_iload_n hx hb dL_384 rfl (lv_at hl 0 rfl) ?_
  refine lv_iconst (v := 1) hx hb dL_385 (by decide) ?_
  refine lv_iadd hx hb dL_386 ?_
  refine sc_ld (j := 1) K J (by decide) (by omega) dL_387 ?_
  refine lv_aload_n hx hb dL_388 rfl (lv_at hl 3 rfl) ?_
  refine lv_iload_n hx hb dL_389 rfl (lv_at hl 0 rfl) ?_
  refine lv_iconst (v := 2) hx hb dL_390 (by decide) ?_
  refine lv_iadd hx hb dL_391 ?_
  refine sc_ld (j := 2) K J (by decide) (by omega) dL_392 ?_
  refine lm_op (maxL := 4) (As := [.int (xs (6 * k + 1)), .int (xs (6 * k + 2))]) (n := 2) K J (w_debtor kInj_a hM1) (lw_meth q1718) q1718 q1715 q1716 q1717 q94 (by decide +kernel) ⟨(Nat.le_of_ble_eq_true rfl), (Nat.le_of_ble_eq_true rfl)⟩ ⟨by omega, by omega⟩ rfl hl.1 rfl (Nat.le_of_ble_eq_true rfl) dL_393 (fun H locs J => ?_)
  refine lv_icmp_eq (tgt := 1602) hx hb dL_396 rfl (fun _ => ?_) (fun c => absurd rfl c)
  refine W.widen (k := cells + 60) (n := slots + 420) (by omega) (by omega) ?_
  exact kk ks cs1 ms1 H locs J hI1
theorem q551 : (Jvm.Cond.methodLink "ChapterLoanLaw" (35 : Nat) ({ cls := "ChapterLoan", name := "ofDebtor", desc := "(II)I" } : Jvm.MethodName)) ∈ lw_all := lw_g (lw_at lw_m2 227 rfl) rfl
theorem q552 : (Jvm.Cond.instanceMethod ({ cls := "ChapterLoan", name := "ofDebtor", desc := "(II)I" } : Jvm.MethodName)) ∈ lw_all := lw_g (lw_at lw_m2 228 rfl) rfl
theorem q553 : (Jvm.Cond.selects "ChapterLoan" ({ cls := "ChapterLoan", name := "ofDebtor", desc := "(II)I" } : Jvm.MethodName) ({ cls := "ChapterLoan", name := "ofDebtor", desc := "(II)I" } : Jvm.MethodName)) ∈ lw_all := lw_g (lw_at lw_m2 229 rfl) rfl
theorem q554 : (Jvm.Cond.codeWith ({ cls := "ChapterLoan", name := "ofDebtor", desc := "(II)I" } : Jvm.MethodName) prog_1_method_23_code (4 : Nat) (Option.some Jvm.ClassFile.FieldType.int) [((0 : Nat), (72 : Nat), (111 : Nat), (8 : Nat)), ((73 : Nat), (77 : Nat), (111 : Nat), (8 : Nat)), ((78 : Nat), (82 : Nat), (111 : Nat), (8 : Nat)), ((83 : Nat), (91 : Nat), (111 : Nat), (8 : Nat)), ((92 : Nat), (100 : Nat), (111 : Nat), (8 : Nat)), ((101 : Nat), (110 : Nat), (111 : Nat), (8 : Nat))]) ∈ lw_all := lw_g (lw_at lw_m2 230 rfl) rfl
theorem q1725 : (Jvm.Cond.methodLink "ChapterLoanLaw" (38 : Nat) ({ cls := "ChapterLoanModel", name := "ofDebtor", desc := "(II)I" } : Jvm.MethodName)) ∈ lw_all := lw_g (lw_at lw_m7 201 rfl) rfl
theorem q1726 : (Jvm.Cond.instanceMethod ({ cls := "ChapterLoanModel", name := "ofDebtor", desc := "(II)I" } : Jvm.MethodName)) ∈ lw_all := lw_g (lw_at lw_m7 202 rfl) rfl
theorem q1727 : (Jvm.Cond.selects "ChapterLoanModel" ({ cls := "ChapterLoanModel", name := "ofDebtor", desc := "(II)I" } : Jvm.MethodName) ({ cls := "ChapterLoanModel", name := "ofDebtor", desc := "(II)I" } : Jvm.MethodName)) ∈ lw_all := lw_g (lw_at lw_m7 203 rfl) rfl
theorem q1728 : (Jvm.Cond.code ({ cls := "ChapterLoanModel", name := "ofDebtor", desc := "(II)I" } : Jvm.MethodName) prog_30_method_47_code (3 : Nat) (Option.some Jvm.ClassFile.FieldType.int)) ∈ lw_all := lw_g (lw_at lw_m7 204 rfl) rfl
theorem lcs_ofDebtor {I I2 : CS → MSt → Prop} (hst : stp_ofDebtor (ad0 n0) adK cA I I2) (K : lK p s m args c D D2 cA cI adK adV n0 b L xs) (J : lJ s.heap D D2 cA cI n0 ks cs mst H locs) (hI : I cs mst) {k : Nat} (hk : 6 * k + 6 ≤ L) (hl : lv_has ls 4 [(3, .int (nI (6 * k))), (2, .ref (n0 + 73)), (1, .ref (ad0 n0 60)), (0, .ref b)]) (hcs : cells + 60 ≤ room_1.cells ∧ slots + 420 ≤ room_1.slots)
    (kk : ∀ (ks1 : List Nat) (cs1 : CS) (ms1 : MSt) (H1 : Heap) (locs1 : List Loc), lJ s.heap D D2 cA cI n0 ks1 cs1 ms1 H1 locs1 → I2 cs1 ms1 → W p l e room_1 s m args below meth c H1 locs1 (cells + 60) (slots + 420) Q (F0 m 1602 ls [])) : W p l e room_1 s m args below meth c H locs cells slots Q (F0 m 401 ls []) := by
  have hx := K.1
  have hb := K.2.1
  have hown := K.2.2.2.1
  have hts := K.2.2.2.2.1
  have hcs1 := hcs.1
  have hcs2 := hcs.2
  refine lv_aload_n hx hb dL_401 rfl (lv_at hl 2 rfl) ?_
  refine lv_aload_n hx hb dL_402 rfl (lv_at hl 3 rfl) ?_
  refine lv_iload_n hx hb dL_403 rfl (lv_at hl 0 rfl) ?_
  refine lv_iconst (v := 1) hx hb dL_404 (by decide) ?_
  refine lv_iadd hx hb dL_405 ?_
  refine sc_ld (j := 1) K J (by decide) (by omega) dL_406 ?_
  refine lv_aload_n hx hb dL_407 rfl (lv_at hl 3 rfl) ?_
  refine lv_iload_n hx hb dL_408 rfl (lv_at hl 0 rfl) ?_
  refine lv_iconst (v := 2) hx hb dL_409 (by decide) ?_
  refine lv_iadd hx hb dL_410 ?_
  refine sc_ld (j := 2) K J (by decide) (by omega) dL_411 ?_
  obtain ⟨r, cs1, ms1, hL1, hM1, hI1⟩ := hst H.size cs mst (xs (6 * k + 1)) (xs (6 * k + 2)) hI (FR_of J.2.1)
  refine lc_op (bytes := cX0_ofDebtor) (ret := some .int) (maxL := 4) (As := [.int (xs (6 * k + 1)), .int (xs (6 * k + 2))]) (n := 2) (mc := 0) (ms := 0) K J (op_c J.1 (w_L_ofDebtor J.1 hL1)) (lw_methW q554) (cd_with hts q554) q551 q552 q553 q85 (by decide +kernel) ⟨(Nat.le_of_ble_eq_true rfl), (Nat.le_of_ble_eq_true rfl)⟩ ⟨by show cells + 0 ≤ _; omega, by show slots + 0 ≤ _; omega⟩ rfl hl.1 rfl (Nat.le_of_ble_eq_true rfl) dL_412 (fun ks H locs J => ?_)
  refine lv_aload_n hx hb dL_415 rfl (lv_at hl 1 rfl) ?_
  refine lv_aload_n hx hb dL_416 rfl (lv_at hl 3 rfl) ?_
  refine lv_iload_n hx hb dL_417 rfl (lv_at hl 0 rfl) ?_
  refine lv_iconst (v := 1) hx hb dL_418 (by decide) ?_
  refine lv_iadd hx hb dL_419 ?_
  refine sc_ld (j := 1) K J (by decide) (by omega) dL_420 ?_
  refine lv_aload_n hx hb dL_421 rfl (lv_at hl 3 rfl) ?_
  refine lv_iload_n hx hb dL_422 rfl (lv_at hl 0 rfl) ?_
  refine lv_iconst (v := 2) hx hb dL_423 (by decide) ?_
  refine lv_iadd hx hb dL_424 ?_
  refine sc_ld (j := 2) K J (by decide) (by omega) dL_425 ?_
  refine lm_op (maxL := 3) (As := [.int (xs (6 * k + 1)), .int (xs (6 * k + 2))]) (n := 2) K J (w_ofDebtor kInj_a hM1) (lw_meth q1728) q1728 q1725 q1726 q1727 q94 (by decide +kernel) ⟨(Nat.le_of_ble_eq_true rfl), (Nat.le_of_ble_eq_true rfl)⟩ ⟨by omega, by omega⟩ rfl hl.1 rfl (Nat.le_of_ble_eq_true rfl) dL_426 (fun H locs J => ?_)
  refine lv_icmp_eq (tgt := 1602) hx hb dL_429 rfl (fun _ => ?_) (fun c => absurd rfl c)
  refine W.widen (k := cells + 60) (n := slots + 420) (by omega) (by omega) ?_
  exact kk ks cs1 ms1 H locs J hI1
theorem q704 : (Jvm.Cond.methodLink "ChapterLoanLaw" (39 : Nat) ({ cls := "ChapterLoan", name := "book", desc := "(III)I" } : Jvm.MethodName)) ∈ lw_all := lw_g (lw_at lw_m3 140 rfl) rfl
theorem q705 : (Jvm.Cond.instanceMethod ({ cls := "ChapterLoan", name := "book", desc := "(III)I" } : Jvm.MethodName)) ∈ lw_all := lw_g (lw_at lw_m3 141 rfl) rfl
theorem q706 : (Jvm.Cond.selects "ChapterLoan" ({ cls := "ChapterLoan", name := "book", desc := "(III)I" } : Jvm.MethodName) ({ cls := "ChapterLoan", name := "book", desc := "(III)I" } : Jvm.MethodName)) ∈ lw_all := lw_g (lw_at lw_m3 142 rfl) rfl
theorem q707 : (Jvm.Cond.codeWith ({ cls := "ChapterLoan", name := "book", desc := "(III)I" } : Jvm.MethodName) prog_1_method_24_code (5 : Nat) (Option.some Jvm.ClassFile.FieldType.int) [((0 : Nat), (78 : Nat), (79 : Nat), (8 : Nat))]) ∈ lw_all := lw_g (lw_at lw_m3 143 rfl) rfl
theorem q1760 : (Jvm.Cond.methodLink "ChapterLoanLaw" (42 : Nat) ({ cls := "ChapterLoanModel", name := "book", desc := "(III)I" } : Jvm.MethodName)) ∈ lw_all := lw_g (lw_at lw_m7 236 rfl) rfl
theorem q1761 : (Jvm.Cond.instanceMethod ({ cls := "ChapterLoanModel", name := "book", desc := "(III)I" } : Jvm.MethodName)) ∈ lw_all := lw_g (lw_at lw_m7 237 rfl) rfl
theorem q1762 : (Jvm.Cond.selects "ChapterLoanModel" ({ cls := "ChapterLoanModel", name := "book", desc := "(III)I" } : Jvm.MethodName) ({ cls := "ChapterLoanModel", name := "book", desc := "(III)I" } : Jvm.MethodName)) ∈ lw_all := lw_g (lw_at lw_m7 238 rfl) rfl
theorem q1763 : (Jvm.Cond.code ({ cls := "ChapterLoanModel", name := "book", desc := "(III)I" } : Jvm.MethodName) prog_30_method_48_code (4 : Nat) (Option.some Jvm.ClassFile.FieldType.int)) ∈ lw_all := lw_g (lw_at lw_m7 239 rfl) rfl
theorem lcs_book {I I2 : CS → MSt → Prop} (hst : stp_book (ad0 n0) adK cA I I2) (K : lK p s m args c D D2 cA cI adK adV n0 b L xs) (J : lJ s.heap D D2 cA cI n0 ks cs mst H locs) (hI : I cs mst) {k : Nat} (hk : 6 * k + 6 ≤ L) (hl : lv_has ls 4 [(3, .int (nI (6 * k))), (2, .ref (n0 + 73)), (1, .ref (ad0 n0 60)), (0, .ref b)]) (hcs : cells + 60 ≤ room_1.cells ∧ slots + 420 ≤ room_1.slots)
    (kk : ∀ (ks1 : List Nat) (cs1 : CS) (ms1 : MSt) (H1 : Heap) (locs1 : List Loc), lJ s.heap D D2 cA cI n0 ks1 cs1 ms1 H1 locs1 → I2 cs1 ms1 → W p l e room_1 s m args below meth c H1 locs1 (cells + 60) (slots + 420) Q (F0 m 1602 ls [])) : W p l e room_1 s m args below meth c H locs cells slots Q (F0 m 434 ls []) := by
  have hx := K.1
  have hb := K.2.1
  have hown := K.2.2.2.1
  have hts := K.2.2.2.2.1
  have hcs1 := hcs.1
  have hcs2 := hcs.2
  refine lv_aload_n hx hb dL_434 rfl (lv_at hl 2 rfl) ?_
  refine lv_aload_n hx hb dL_435 rfl (lv_at hl 3 rfl) ?_
  refine lv_iload_n hx hb dL_436 rfl (lv_at hl 0 rfl) ?_
  refine lv_iconst (v := 1) hx hb dL_437 (by decide) ?_
  refine lv_iadd hx hb dL_438 ?_
  refine sc_ld (j := 1) K J (by decide) (by omega) dL_439 ?_
  refine lv_aload_n hx hb dL_440 rfl (lv_at hl 3 rfl) ?_
  refine lv_iload_n hx hb dL_441 rfl (lv_at hl 0 rfl) ?_
  refine lv_iconst (v := 2) hx hb dL_442 (by decide) ?_
  refine lv_iadd hx hb dL_443 ?_
  refine sc_ld (j := 2) K J (by decide) (by omega) dL_444 ?_
  refine lv_aload_n hx hb dL_445 rfl (lv_at hl 3 rfl) ?_
  refine lv_iload_n hx hb dL_446 rfl (lv_at hl 0 rfl) ?_
  refine lv_iconst (v := 3) hx hb dL_447 (by decide) ?_
  refine lv_iadd hx hb dL_448 ?_
  refine sc_ld (j := 3) K J (by decide) (by omega) dL_449 ?_
  obtain ⟨r, cs1, ms1, hL1, hM1, hI1⟩ := hst H.size cs mst (xs (6 * k + 1)) (xs (6 * k + 2)) (xs (6 * k + 3)) hI (FR_of J.2.1)
  refine lc_op (bytes := cX0_book) (ret := some .int) (maxL := 5) (As := [.int (xs (6 * k + 1)), .int (xs (6 * k + 2)), .int (xs (6 * k + 3))]) (n := 3) (mc := 0) (ms := 0) K J (op_c J.1 (w_L_book J.1 hL1)) (lw_methW q707) (cd_with hts q707) q704 q705 q706 q85 (by decide +kernel) ⟨(Nat.le_of_ble_eq_true rfl), (Nat.le_of_ble_eq_true rfl)⟩ ⟨by show cells + 0 ≤ _; omega, by show slots + 0 ≤ _; omega⟩ rfl hl.1 rfl (Nat.le_of_ble_eq_true rfl) dL_450 (fun ks H locs J => ?_)
  refine lv_aload_n hx hb dL_453 rfl (lv_at hl 1 rfl) ?_
  refine lv_aload_n hx hb dL_454 rfl (lv_at hl 3 rfl) ?_
  refine lv_iload_n hx hb dL_455 rfl (lv_at hl 0 rfl) ?_
  refine lv_iconst (v := 1) hx hb dL_456 (by decide) ?_
  refine lv_iadd hx hb dL_457 ?_
  refine sc_ld (j := 1) K J (by decide) (by omega) dL_458 ?_
  refine lv_aload_n hx hb dL_459 rfl (lv_at hl 3 rfl) ?_
  refine lv_iload_n hx hb dL_460 rfl (lv_at hl 0 rfl) ?_
  refine lv_iconst (v := 2) hx hb dL_461 (by decide) ?_
  refine lv_iadd hx hb dL_462 ?_
  refine sc_ld (j := 2) K J (by decide) (by omega) dL_463 ?_
  refine lv_aload_n hx hb dL_464 rfl (lv_at hl 3 rfl) ?_
  refine lv_iload_n hx hb dL_465 rfl (lv_at hl 0 rfl) ?_
  refine lv_iconst (v := 3) hx hb dL_466 (by decide) ?_
  refine lv_iadd hx hb dL_467 ?_
  refine sc_ld (j := 3) K J (by decide) (by omega) dL_468 ?_
  refine lm_op (maxL := 4) (As := [.int (xs (6 * k + 1)), .int (xs (6 * k + 2)), .int (xs (6 * k + 3))]) (n := 3) K J (w_book kInj_a hM1) (lw_meth q1763) q1763 q1760 q1761 q1762 q94 (by decide +kernel) ⟨(Nat.le_of_ble_eq_true rfl), (Nat.le_of_ble_eq_true rfl)⟩ ⟨by omega, by omega⟩ rfl hl.1 rfl (Nat.le_of_ble_eq_true rfl) dL_469 (fun H locs J => ?_)
  refine lv_icmp_eq (tgt := 1602) hx hb dL_472 rfl (fun _ => ?_) (fun c => absurd rfl c)
  refine W.widen (k := cells + 60) (n := slots + 420) (by omega) (by omega) ?_
  exact kk ks cs1 ms1 H locs J hI1
theorem q709 : (Jvm.Cond.methodLink "ChapterLoanLaw" (43 : Nat) ({ cls := "ChapterLoan", name := "become", desc := "(II)I" } : Jvm.MethodName)) ∈ lw_all := lw_g (lw_at lw_m3 145 rfl) rfl
theorem q710 : (Jvm.Cond.instanceMethod ({ cls := "ChapterLoan", name := "become", desc := "(II)I" } : Jvm.MethodName)) ∈ lw_all := lw_g (lw_at lw_m3 146 rfl) rfl
theorem q711 : (Jvm.Cond.selects "ChapterLoan" ({ cls := "ChapterLoan", name := "become", desc := "(II)I" } : Jvm.MethodName) ({ cls := "ChapterLoan", name := "become", desc := "(II)I" } : Jvm.MethodName)) ∈ lw_all := lw_g (lw_at lw_m3 147 rfl) rfl
theorem q712 : (Jvm.Cond.codeWith ({ cls := "ChapterLoan", name := "become", desc := "(II)I" } : Jvm.MethodName) prog_1_method_25_code (4 : Nat) (Option.some Jvm.ClassFile.FieldType.int) [((0 : Nat), (39 : Nat), (40 : Nat), (8 : Nat))]) ∈ lw_all := lw_g (lw_at lw_m3 148 rfl) rfl
theorem q1764 : (Jvm.Cond.methodLink "ChapterLoanLaw" (46 : Nat) ({ cls := "ChapterLoanModel", name := "become", desc := "(II)I" } : Jvm.MethodName)) ∈ lw_all := lw_g (lw_at lw_m8 0 rfl) rfl
theorem q1765 : (Jvm.Cond.instanceMethod ({ cls := "ChapterLoanModel", name := "become", desc := "(II)I" } : Jvm.MethodName)) ∈ lw_all := lw_g (lw_at lw_m8 1 rfl) rfl
theorem q1766 : (Jvm.Cond.selects "ChapterLoanModel" ({ cls := "ChapterLoanModel", name := "become", desc := "(II)I" } : Jvm.MethodName) ({ cls := "ChapterLoanModel", name := "become", desc := "(II)I" } : Jvm.MethodName)) ∈ lw_all := lw_g (lw_at lw_m8 2 rfl) rfl
theorem q1767 : (Jvm.Cond.code ({ cls := "ChapterLoanModel", name := "become", desc := "(II)I" } : Jvm.MethodName) prog_30_method_49_code (4 : Nat) (Option.some Jvm.ClassFile.FieldType.int)) ∈ lw_all := lw_g (lw_at lw_m8 3 rfl) rfl
theorem lcs_become {I I2 : CS → MSt → Prop} (hst : stp_become (ad0 n0) adK cA I I2) (K : lK p s m args c D D2 cA cI adK adV n0 b L xs) (J : lJ s.heap D D2 cA cI n0 ks cs mst H locs) (hI : I cs mst) {k : Nat} (hk : 6 * k + 6 ≤ L) (hl : lv_has ls 4 [(3, .int (nI (6 * k))), (2, .ref (n0 + 73)), (1, .ref (ad0 n0 60)), (0, .ref b)]) (hcs : cells + 60 ≤ room_1.cells ∧ slots + 420 ≤ room_1.slots)
    (kk : ∀ (ks1 : List Nat) (cs1 : CS) (ms1 : MSt) (H1 : Heap) (locs1 : List Loc), lJ s.heap D D2 cA cI n0 ks1 cs1 ms1 H1 locs1 → I2 cs1 ms1 → W p l e room_1 s m args below meth c H1 locs1 (cells + 60) (slots + 420) Q (F0 m 1602 ls [])) : W p l e room_1 s m args below meth c H locs cells slots Q (F0 m 477 ls []) := by
  have hx := K.1
  have hb := K.2.1
  have hown := K.2.2.2.1
  have hts := K.2.2.2.2.1
  have hcs1 := hcs.1
  have hcs2 := hcs.2
  refine lv_aload_n hx hb dL_477 rfl (lv_at hl 2 rfl) ?_
  refine lv_aload_n hx hb dL_478 rfl (lv_at hl 3 rfl) ?_
  refine lv_iload_n hx hb dL_479 rfl (lv_at hl 0 rfl) ?_
  refine lv_iconst (v := 1) hx hb dL_480 (by decide) ?_
  refine lv_iadd hx hb dL_481 ?_
  refine sc_ld (j := 1) K J (by decide) (by omega) dL_482 ?_
  refine lv_aload_n hx hb dL_483 rfl (lv_at hl 3 rfl) ?_
  refine lv_iload_n hx hb dL_484 rfl (lv_at hl 0 rfl) ?_
  refine lv_iconst (v := 2) hx hb dL_485 (by decide) ?_
  refine lv_iadd hx hb dL_486 ?_
  refine sc_ld (j := 2) K J (by decide) (by omega) dL_487 ?_
  obtain ⟨r, cs1, ms1, hL1, hM1, hI1⟩ := hst H.size cs mst (xs (6 * k + 1)) (xs (6 * k + 2)) hI (FR_of J.2.1)
  refine lc_op (bytes := cX0_become) (ret := some .int) (maxL := 4) (As := [.int (xs (6 * k + 1)), .int (xs (6 * k + 2))]) (n := 2) (mc := 1) (ms := 3) K J (op_n (w_L_become ad0_P J.1 hL1)) (lw_methW q712) (cd_with hts q712) q709 q710 q711 q85 (by decide +kernel) ⟨(Nat.le_of_ble_eq_true rfl), (Nat.le_of_ble_eq_true rfl)⟩ ⟨by show cells + 1 ≤ _; omega, by show slots + 3 ≤ _; omega⟩ rfl hl.1 rfl (Nat.le_of_ble_eq_true rfl) dL_488 (fun ks H locs J => ?_)
  refine lv_aload_n hx hb dL_491 rfl (lv_at hl 1 rfl) ?_
  refine lv_aload_n hx hb dL_492 rfl (lv_at hl 3 rfl) ?_
  refine lv_iload_n hx hb dL_493 rfl (lv_at hl 0 rfl) ?_
  refine lv_iconst (v := 1) hx hb dL_494 (by decide) ?_
  refine lv_iadd hx hb dL_495 ?_
  refine sc_ld (j := 1) K J (by decide) (by omega) dL_496 ?_
  refine lv_aload_n hx hb dL_497 rfl (lv_at hl 3 rfl) ?_
  refine lv_iload_n hx hb dL_498 rfl (lv_at hl 0 rfl) ?_
  refine lv_iconst (v := 2) hx hb dL_499 (by decide) ?_
  refine lv_iadd hx hb dL_500 ?_
  refine sc_ld (j := 2) K J (by decide) (by omega) dL_501 ?_
  refine lm_op (maxL := 4) (As := [.int (xs (6 * k + 1)), .int (xs (6 * k + 2))]) (n := 2) K J (w_become kInj_a hM1) (lw_meth q1767) q1767 q1764 q1765 q1766 q94 (by decide +kernel) ⟨(Nat.le_of_ble_eq_true rfl), (Nat.le_of_ble_eq_true rfl)⟩ ⟨by omega, by omega⟩ rfl hl.1 rfl (Nat.le_of_ble_eq_true rfl) dL_502 (fun H locs J => ?_)
  refine lv_icmp_eq (tgt := 1602) hx hb dL_505 rfl (fun _ => ?_) (fun c => absurd rfl c)
  refine W.widen (k := cells + 60) (n := slots + 420) (by omega) (by omega) ?_
  exact kk ks cs1 ms1 H locs J hI1
theorem q713 : (Jvm.Cond.methodLink "ChapterLoanLaw" (47 : Nat) ({ cls := "ChapterLoan", name := "as", desc := "(II)I" } : Jvm.MethodName)) ∈ lw_all := lw_g (lw_at lw_m3 149 rfl) rfl
theorem q714 : (Jvm.Cond.instanceMethod ({ cls := "ChapterLoan", name := "as", desc := "(II)I" } : Jvm.MethodName)) ∈ lw_all := lw_g (lw_at lw_m3 150 rfl) rfl
theorem q715 : (Jvm.Cond.selects "ChapterLoan" ({ cls := "ChapterLoan", name := "as", desc := "(II)I" } : Jvm.MethodName) ({ cls := "ChapterLoan", name := "as", desc := "(II)I" } : Jvm.MethodName)) ∈ lw_all := lw_g (lw_at lw_m3 151 rfl) rfl
theorem q716 : (Jvm.Cond.codeWith ({ cls := "ChapterLoan", name := "as", desc := "(II)I" } : Jvm.MethodName) prog_1_method_26_code (4 : Nat) (Option.some Jvm.ClassFile.FieldType.int) [((0 : Nat), (27 : Nat), (28 : Nat), (8 : Nat))]) ∈ lw_all := lw_g (lw_at lw_m3 152 rfl) rfl
theorem q1768 : (Jvm.Cond.methodLink "ChapterLoanLaw" (50 : Nat) ({ cls := "ChapterLoanModel", name := "as", desc := "(II)I" } : Jvm.MethodName)) ∈ lw_all := lw_g (lw_at lw_m8 4 rfl) rfl
theorem q1769 : (Jvm.Cond.instanceMethod ({ cls := "ChapterLoanModel", name := "as", desc := "(II)I" } : Jvm.MethodName)) ∈ lw_all := lw_g (lw_at lw_m8 5 rfl) rfl
theorem q1770 : (Jvm.Cond.selects "ChapterLoanModel" ({ cls := "ChapterLoanModel", name := "as", desc := "(II)I" } : Jvm.MethodName) ({ cls := "ChapterLoanModel", name := "as", desc := "(II)I" } : Jvm.MethodName)) ∈ lw_all := lw_g (lw_at lw_m8 6 rfl) rfl
theorem q1771 : (Jvm.Cond.code ({ cls := "ChapterLoanModel", name := "as", desc := "(II)I" } : Jvm.MethodName) prog_30_method_51_code (4 : Nat) (Option.some Jvm.ClassFile.FieldType.int)) ∈ lw_all := lw_g (lw_at lw_m8 7 rfl) rfl
theorem lcs_as {I I2 : CS → MSt → Prop} (hst : stp_as (ad0 n0) adK cA I I2) (K : lK p s m args c D D2 cA cI adK adV n0 b L xs) (J : lJ s.heap D D2 cA cI n0 ks cs mst H locs) (hI : I cs mst) {k : Nat} (hk : 6 * k + 6 ≤ L) (hl : lv_has ls 4 [(3, .int (nI (6 * k))), (2, .ref (n0 + 73)), (1, .ref (ad0 n0 60)), (0, .ref b)]) (hcs : cells + 60 ≤ room_1.cells ∧ slots + 420 ≤ room_1.slots)
    (kk : ∀ (ks1 : List Nat) (cs1 : CS) (ms1 : MSt) (H1 : Heap) (locs1 : List Loc), lJ s.heap D D2 cA cI n0 ks1 cs1 ms1 H1 locs1 → I2 cs1 ms1 → W p l e room_1 s m args below meth c H1 locs1 (cells + 60) (slots + 420) Q (F0 m 1602 ls [])) : W p l e room_1 s m args below meth c H locs cells slots Q (F0 m 510 ls []) := by
  have hx := K.1
  have hb := K.2.1
  have hown := K.2.2.2.1
  have hts := K.2.2.2.2.1
  have hcs1 := hcs.1
  have hcs2 := hcs.2
  refine lv_aload_n hx hb dL_510 rfl (lv_at hl 2 rfl) ?_
  refine lv_aload_n hx hb dL_511 rfl (lv_at hl 3 rfl) ?_
  refine lv_iload_n hx hb dL_512 rfl (lv_at hl 0 rfl) ?_
  refine lv_iconst (v := 1) hx hb dL_513 (by decide) ?_
  refine lv_iadd hx hb dL_514 ?_
  refine sc_ld (j := 1) K J (by decide) (by omega) dL_515 ?_
  refine lv_aload_n hx hb dL_516 rfl (lv_at hl 3 rfl) ?_
  refine lv_iload_n hx hb dL_517 rfl (lv_at hl 0 rfl) ?_
  refine lv_iconst (v := 2) hx hb dL_518 (by decide) ?_
  refine lv_iadd hx hb dL_519 ?_
  refine sc_ld (j := 2) K J (by decide) (by omega) dL_520 ?_
  obtain ⟨r, cs1, ms1, hL1, hM1, hI1⟩ := hst H.size cs mst (xs (6 * k + 1)) (xs (6 * k + 2)) hI (FR_of J.2.1)
  refine lc_op (bytes := cX0_as) (ret := some .int) (maxL := 4) (As := [.int (xs (6 * k + 1)), .int (xs (6 * k + 2))]) (n := 2) (mc := 0) (ms := 0) K J (op_c J.1 (w_L_as J.1 hL1)) (lw_methW q716) (cd_with hts q716) q713 q714 q715 q85 (by decide +kernel) ⟨(Nat.le_of_ble_eq_true rfl), (Nat.le_of_ble_eq_true rfl)⟩ ⟨by show cells + 0 ≤ _; omega, by show slots + 0 ≤ _; omega⟩ rfl hl.1 rfl (Nat.le_of_ble_eq_true rfl) dL_521 (fun ks H locs J => ?_)
  refine lv_aload_n hx hb dL_524 rfl (lv_at hl 1 rfl) ?_
  refine lv_aload_n hx hb dL_525 rfl (lv_at hl 3 rfl) ?_
  refine lv_iload_n hx hb dL_526 rfl (lv_at hl 0 rfl) ?_
  refine lv_iconst (v := 1) hx hb dL_527 (by decide) ?_
  refine lv_iadd hx hb dL_528 ?_
  refine sc_ld (j := 1) K J (by decide) (by omega) dL_529 ?_
  refine lv_aload_n hx hb dL_530 rfl (lv_at hl 3 rfl) ?_
  refine lv_iload_n hx hb dL_531 rfl (lv_at hl 0 rfl) ?_
  refine lv_iconst (v := 2) hx hb dL_532 (by decide) ?_
  refine lv_iadd hx hb dL_533 ?_
  refine sc_ld (j := 2) K J (by decide) (by omega) dL_534 ?_
  refine lm_op (maxL := 4) (As := [.int (xs (6 * k + 1)), .int (xs (6 * k + 2))]) (n := 2) K J (w_as kInj_a hM1) (lw_meth q1771) q1771 q1768 q1769 q1770 q94 (by decide +kernel) ⟨(Nat.le_of_ble_eq_true rfl), (Nat.le_of_ble_eq_true rfl)⟩ ⟨by omega, by omega⟩ rfl hl.1 rfl (Nat.le_of_ble_eq_true rfl) dL_535 (fun H locs J => ?_)
  refine lv_icmp_eq (tgt := 1602) hx hb dL_538 rfl (fun _ => ?_) (fun c => absurd rfl c)
  refine W.widen (k := cells + 60) (n := slots + 420) (by omega) (by omega) ?_
  exact kk ks cs1 ms1 H locs J hI1
theorem q746 : (Jvm.Cond.methodLink "ChapterLoanLaw" (51 : Nat) ({ cls := "ChapterLoan", name := "lend", desc := "(II)I" } : Jvm.MethodName)) ∈ lw_all := lw_g (lw_at lw_m3 182 rfl) rfl
theorem q747 : (Jvm.Cond.instanceMethod ({ cls := "ChapterLoan", name := "lend", desc := "(II)I" } : Jvm.MethodName)) ∈ lw_all := lw_g (lw_at lw_m3 183 rfl) rfl
theorem q748 : (Jvm.Cond.selects "ChapterLoan" ({ cls := "ChapterLoan", name := "lend", desc := "(II)I" } : Jvm.MethodName) ({ cls := "ChapterLoan", name := "lend", desc := "(II)I" } : Jvm.MethodName)) ∈ lw_all := lw_g (lw_at lw_m3 184 rfl) rfl
theorem q749 : (Jvm.Cond.codeWith ({ cls := "ChapterLoan", name := "lend", desc := "(II)I" } : Jvm.MethodName) prog_1_method_27_code (4 : Nat) (Option.some Jvm.ClassFile.FieldType.int) [((0 : Nat), (69 : Nat), (70 : Nat), (8 : Nat))]) ∈ lw_all := lw_g (lw_at lw_m3 185 rfl) rfl
theorem q1776 : (Jvm.Cond.methodLink "ChapterLoanLaw" (54 : Nat) ({ cls := "ChapterLoanModel", name := "lend", desc := "(II)I" } : Jvm.MethodName)) ∈ lw_all := lw_g (lw_at lw_m8 12 rfl) rfl
theorem q1777 : (Jvm.Cond.instanceMethod ({ cls := "ChapterLoanModel", name := "lend", desc := "(II)I" } : Jvm.MethodName)) ∈ lw_all := lw_g (lw_at lw_m8 13 rfl) rfl
theorem q1778 : (Jvm.Cond.selects "ChapterLoanModel" ({ cls := "ChapterLoanModel", name := "lend", desc := "(II)I" } : Jvm.MethodName) ({ cls := "ChapterLoanModel", name := "lend", desc := "(II)I" } : Jvm.MethodName)) ∈ lw_all := lw_g (lw_at lw_m8 14 rfl) rfl
theorem q1779 : (Jvm.Cond.code ({ cls := "ChapterLoanModel", name := "lend", desc := "(II)I" } : Jvm.MethodName) prog_30_method_53_code (3 : Nat) (Option.some Jvm.ClassFile.FieldType.int)) ∈ lw_all := lw_g (lw_at lw_m8 15 rfl) rfl
theorem lcs_lend {I I2 : CS → MSt → Prop} (hst : stp_lend (ad0 n0) adK cA I I2) (K : lK p s m args c D D2 cA cI adK adV n0 b L xs) (J : lJ s.heap D D2 cA cI n0 ks cs mst H locs) (hI : I cs mst) {k : Nat} (hk : 6 * k + 6 ≤ L) (hl : lv_has ls 4 [(3, .int (nI (6 * k))), (2, .ref (n0 + 73)), (1, .ref (ad0 n0 60)), (0, .ref b)]) (hcs : cells + 60 ≤ room_1.cells ∧ slots + 420 ≤ room_1.slots)
    (kk : ∀ (ks1 : List Nat) (cs1 : CS) (ms1 : MSt) (H1 : Heap) (locs1 : List Loc), lJ s.heap D D2 cA cI n0 ks1 cs1 ms1 H1 locs1 → I2 cs1 ms1 → W p l e room_1 s m args below meth c H1 locs1 (cells + 60) (slots + 420) Q (F0 m 1602 ls [])) : W p l e room_1 s m args below meth c H locs cells slots Q (F0 m 543 ls []) := by
  have hx := K.1
  have hb := K.2.1
  have hown := K.2.2.2.1
  have hts := K.2.2.2.2.1
  have hcs1 := hcs.1
  have hcs2 := hcs.2
  refine lv_aload_n hx hb dL_543 rfl (lv_at hl 2 rfl) ?_
  refine lv_aload_n hx hb dL_544 rfl (lv_at hl 3 rfl) ?_
  refine lv_iload_n hx hb dL_545 rfl (lv_at hl 0 rfl) ?_
  refine lv_iconst (v := 1) hx hb dL_546 (by decide) ?_
  refine lv_iadd hx hb dL_547 ?_
  refine sc_ld (j := 1) K J (by decide) (by omega) dL_548 ?_
  refine lv_aload_n hx hb dL_549 rfl (lv_at hl 3 rfl) ?_
  refine lv_iload_n hx hb dL_550 rfl (lv_at hl 0 rfl) ?_
  refine lv_iconst (v := 2) hx hb dL_551 (by decide) ?_
  refine lv_iadd hx hb dL_552 ?_
  refine sc_ld (j := 2) K J (by decide) (by omega) dL_553 ?_
  obtain ⟨r, cs1, ms1, hL1, hM1, hI1⟩ := hst H.size cs mst (xs (6 * k + 1)) (xs (6 * k + 2)) hI (FR_of J.2.1)
  refine lc_op (bytes := cX0_lend) (ret := some .int) (maxL := 4) (As := [.int (xs (6 * k + 1)), .int (xs (6 * k + 2))]) (n := 2) (mc := 0) (ms := 0) K J (op_c J.1 (w_L_lend J.1 hL1)) (lw_methW q749) (cd_with hts q749) q746 q747 q748 q85 (by decide +kernel) ⟨(Nat.le_of_ble_eq_true rfl), (Nat.le_of_ble_eq_true rfl)⟩ ⟨by show cells + 0 ≤ _; omega, by show slots + 0 ≤ _; omega⟩ rfl hl.1 rfl (Nat.le_of_ble_eq_true rfl) dL_554 (fun ks H locs J => ?_)
  refine lv_aload_n hx hb dL_557 rfl (lv_at hl 1 rfl) ?_
  refine lv_aload_n hx hb dL_558 rfl (lv_at hl 3 rfl) ?_
  refine lv_iload_n hx hb dL_559 rfl (lv_at hl 0 rfl) ?_
  refine lv_iconst (v := 1) hx hb dL_560 (by decide) ?_
  refine lv_iadd hx hb dL_561 ?_
  refine sc_ld (j := 1) K J (by decide) (by omega) dL_562 ?_
  refine lv_aload_n hx hb dL_563 rfl (lv_at hl 3 rfl) ?_
  refine lv_iload_n hx hb dL_564 rfl (lv_at hl 0 rfl) ?_
  refine lv_iconst (v := 2) hx hb dL_565 (by decide) ?_
  refine lv_iadd hx hb dL_566 ?_
  refine sc_ld (j := 2) K J (by decide) (by omega) dL_567 ?_
  refine lm_op (maxL := 3) (As := [.int (xs (6 * k + 1)), .int (xs (6 * k + 2))]) (n := 2) K J (w_lend kInj_a hM1) (lw_meth q1779) q1779 q1776 q1777 q1778 q94 (by decide +kernel) ⟨(Nat.le_of_ble_eq_true rfl), (Nat.le_of_ble_eq_true rfl)⟩ ⟨by omega, by omega⟩ rfl hl.1 rfl (Nat.le_of_ble_eq_true rfl) dL_568 (fun H locs J => ?_)
  refine lv_icmp_eq (tgt := 1602) hx hb dL_571 rfl (fun _ => ?_) (fun c => absurd rfl c)
  refine W.widen (k := cells + 60) (n := slots + 420) (by omega) (by omega) ?_
  exact kk ks cs1 ms1 H locs J hI1
theorem q754 : (Jvm.Cond.methodLink "ChapterLoanLaw" (55 : Nat) ({ cls := "ChapterLoan", name := "tells", desc := "(II)I" } : Jvm.MethodName)) ∈ lw_all := lw_g (lw_at lw_m3 190 rfl) rfl
theorem q755 : (Jvm.Cond.instanceMethod ({ cls := "ChapterLoan", name := "tells", desc := "(II)I" } : Jvm.MethodName)) ∈ lw_all := lw_g (lw_at lw_m3 191 rfl) rfl
theorem q756 : (Jvm.Cond.selects "ChapterLoan" ({ cls := "ChapterLoan", name := "tells", desc := "(II)I" } : Jvm.MethodName) ({ cls := "ChapterLoan", name := "tells", desc := "(II)I" } : Jvm.MethodName)) ∈ lw_all := lw_g (lw_at lw_m3 192 rfl) rfl
theorem q757 : (Jvm.Cond.codeWith ({ cls := "ChapterLoan", name := "tells", desc := "(II)I" } : Jvm.MethodName) prog_1_method_29_code (4 : Nat) (Option.some Jvm.ClassFile.FieldType.int) [((0 : Nat), (55 : Nat), (56 : Nat), (8 : Nat))]) ∈ lw_all := lw_g (lw_at lw_m3 193 rfl) rfl
theorem q1785 : (Jvm.Cond.methodLink "ChapterLoanLaw" (58 : Nat) ({ cls := "ChapterLoanModel", name := "tells", desc := "(II)I" } : Jvm.MethodName)) ∈ lw_all := lw_g (lw_at lw_m8 21 rfl) rfl
theorem q1786 : (Jvm.Cond.instanceMethod ({ cls := "ChapterLoanModel", name := "tells", desc := "(II)I" } : Jvm.MethodName)) ∈ lw_all := lw_g (lw_at lw_m8 22 rfl) rfl
theorem q1787 : (Jvm.Cond.selects "ChapterLoanModel" ({ cls := "ChapterLoanModel", name := "tells", desc := "(II)I" } : Jvm.MethodName) ({ cls := "ChapterLoanModel", name := "tells", desc := "(II)I" } : Jvm.MethodName)) ∈ lw_all := lw_g (lw_at lw_m8 23 rfl) rfl
theorem q1788 : (Jvm.Cond.code ({ cls := "ChapterLoanModel", name := "tells", desc := "(II)I" } : Jvm.MethodName) prog_30_method_54_code (3 : Nat) (Option.some Jvm.ClassFile.FieldType.int)) ∈ lw_all := lw_g (lw_at lw_m8 24 rfl) rfl
theorem lcs_tells {I I2 : CS → MSt → Prop} (hst : stp_tells (ad0 n0) adK cA I I2) (K : lK p s m args c D D2 cA cI adK adV n0 b L xs) (J : lJ s.heap D D2 cA cI n0 ks cs mst H locs) (hI : I cs mst) {k : Nat} (hk : 6 * k + 6 ≤ L) (hl : lv_has ls 4 [(3, .int (nI (6 * k))), (2, .ref (n0 + 73)), (1, .ref (ad0 n0 60)), (0, .ref b)]) (hcs : cells + 60 ≤ room_1.cells ∧ slots + 420 ≤ room_1.slots)
    (kk : ∀ (ks1 : List Nat) (cs1 : CS) (ms1 : MSt) (H1 : Heap) (locs1 : List Loc), lJ s.heap D D2 cA cI n0 ks1 cs1 ms1 H1 locs1 → I2 cs1 ms1 → W p l e room_1 s m args below meth c H1 locs1 (cells + 60) (slots + 420) Q (F0 m 1602 ls [])) : W p l e room_1 s m args below meth c H locs cells slots Q (F0 m 576 ls []) := by
  have hx := K.1
  have hb := K.2.1
  have hown := K.2.2.2.1
  have hts := K.2.2.2.2.1
  have hcs1 := hcs.1
  have hcs2 := hcs.2
  refine lv_aload_n hx hb dL_576 rfl (lv_at hl 2 rfl) ?_
  refine lv_aload_n hx hb dL_577 rfl (lv_at hl 3 rfl) ?_
  refine lv_iload_n hx hb dL_578 rfl (lv_at hl 0 rfl) ?_
  refine lv_iconst (v := 1) hx hb dL_579 (by decide) ?_
  refine lv_iadd hx hb dL_580 ?_
  refine sc_ld (j := 1) K J (by decide) (by omega) dL_581 ?_
  refine lv_aload_n hx hb dL_582 rfl (lv_at hl 3 rfl) ?_
  refine lv_iload_n hx hb dL_583 rfl (lv_at hl 0 rfl) ?_
  refine lv_iconst (v := 2) hx hb dL_584 (by decide) ?_
  refine lv_iadd hx hb dL_585 ?_
  refine sc_ld (j := 2) K J (by decide) (by omega) dL_586 ?_
  obtain ⟨r, cs1, ms1, hL1, hM1, hI1⟩ := hst H.size cs mst (xs (6 * k + 1)) (xs (6 * k + 2)) hI (FR_of J.2.1)
  refine lc_op (bytes := cX0_tells) (ret := some .int) (maxL := 4) (As := [.int (xs (6 * k + 1)), .int (xs (6 * k + 2))]) (n := 2) (mc := 0) (ms := 0) K J (op_c J.1 (w_L_tells J.1 hL1)) (lw_methW q757) (cd_with hts q757) q754 q755 q756 q85 (by decide +kernel) ⟨(Nat.le_of_ble_eq_true rfl), (Nat.le_of_ble_eq_true rfl)⟩ ⟨by show cells + 0 ≤ _; omega, by show slots + 0 ≤ _; omega⟩ rfl hl.1 rfl (Nat.le_of_ble_eq_true rfl) dL_587 (fun ks H locs J => ?_)
  refine lv_aload_n hx hb dL_590 rfl (lv_at hl 1 rfl) ?_
  refine lv_aload_n hx hb dL_591 rfl (lv_at hl 3 rfl) ?_
  refine lv_iload_n hx hb dL_592 rfl (lv_at hl 0 rfl) ?_
  refine lv_iconst (v := 1) hx hb dL_593 (by decide) ?_
  refine lv_iadd hx hb dL_594 ?_
  refine sc_ld (j := 1) K J (by decide) (by omega) dL_595 ?_
  refine lv_aload_n hx hb dL_596 rfl (lv_at hl 3 rfl) ?_
  refine lv_iload_n hx hb dL_597 rfl (lv_at hl 0 rfl) ?_
  refine lv_iconst (v := 2) hx hb dL_598 (by decide) ?_
  refine lv_iadd hx hb dL_599 ?_
  refine sc_ld (j := 2) K J (by decide) (by omega) dL_600 ?_
  refine lm_op (maxL := 3) (As := [.int (xs (6 * k + 1)), .int (xs (6 * k + 2))]) (n := 2) K J (w_tells kInj_a hM1) (lw_meth q1788) q1788 q1785 q1786 q1787 q94 (by decide +kernel) ⟨(Nat.le_of_ble_eq_true rfl), (Nat.le_of_ble_eq_true rfl)⟩ ⟨by omega, by omega⟩ rfl hl.1 rfl (Nat.le_of_ble_eq_true rfl) dL_601 (fun H locs J => ?_)
  refine lv_icmp_eq (tgt := 1602) hx hb dL_604 rfl (fun _ => ?_) (fun c => absurd rfl c)
  refine W.widen (k := cells + 60) (n := slots + 420) (by omega) (by omega) ?_
  exact kk ks cs1 ms1 H locs J hI1
theorem q794 : (Jvm.Cond.methodLink "ChapterLoanLaw" (59 : Nat) ({ cls := "ChapterLoan", name := "pardon", desc := "(I)I" } : Jvm.MethodName)) ∈ lw_all := lw_g (lw_at lw_m3 230 rfl) rfl
theorem q795 : (Jvm.Cond.instanceMethod ({ cls := "ChapterLoan", name := "pardon", desc := "(I)I" } : Jvm.MethodName)) ∈ lw_all := lw_g (lw_at lw_m3 231 rfl) rfl
theorem q796 : (Jvm.Cond.selects "ChapterLoan" ({ cls := "ChapterLoan", name := "pardon", desc := "(I)I" } : Jvm.MethodName) ({ cls := "ChapterLoan", name := "pardon", desc := "(I)I" } : Jvm.MethodName)) ∈ lw_all := lw_g (lw_at lw_m3 232 rfl) rfl
theorem q797 : (Jvm.Cond.codeWith ({ cls := "ChapterLoan", name := "pardon", desc := "(I)I" } : Jvm.MethodName) prog_1_method_30_code (3 : Nat) (Option.some Jvm.ClassFile.FieldType.int) [((0 : Nat), (65 : Nat), (66 : Nat), (8 : Nat))]) ∈ lw_all := lw_g (lw_at lw_m3 233 rfl) rfl
theorem q1801 : (Jvm.Cond.methodLink "ChapterLoanLaw" (63 : Nat) ({ cls := "ChapterLoanModel", name := "pardon", desc := "(I)I" } : Jvm.MethodName)) ∈ lw_all := lw_g (lw_at lw_m8 37 rfl) rfl
theorem q1802 : (Jvm.Cond.instanceMethod ({ cls := "ChapterLoanModel", name := "pardon", desc := "(I)I" } : Jvm.MethodName)) ∈ lw_all := lw_g (lw_at lw_m8 38 rfl) rfl
theorem q1803 : (Jvm.Cond.selects "ChapterLoanModel" ({ cls := "ChapterLoanModel", name := "pardon", desc := "(I)I" } : Jvm.MethodName) ({ cls := "ChapterLoanModel", name := "pardon", desc := "(I)I" } : Jvm.MethodName)) ∈ lw_all := lw_g (lw_at lw_m8 39 rfl) rfl
theorem q1804 : (Jvm.Cond.code ({ cls := "ChapterLoanModel", name := "pardon", desc := "(I)I" } : Jvm.MethodName) prog_30_method_55_code (3 : Nat) (Option.some Jvm.ClassFile.FieldType.int)) ∈ lw_all := lw_g (lw_at lw_m8 40 rfl) rfl
theorem lcs_pardon {I I2 : CS → MSt → Prop} (hst : stp_pardon (ad0 n0) adK cA I I2) (K : lK p s m args c D D2 cA cI adK adV n0 b L xs) (J : lJ s.heap D D2 cA cI n0 ks cs mst H locs) (hI : I cs mst) {k : Nat} (hk : 6 * k + 6 ≤ L) (hl : lv_has ls 4 [(3, .int (nI (6 * k))), (2, .ref (n0 + 73)), (1, .ref (ad0 n0 60)), (0, .ref b)]) (hcs : cells + 60 ≤ room_1.cells ∧ slots + 420 ≤ room_1.slots)
    (kk : ∀ (ks1 : List Nat) (cs1 : CS) (ms1 : MSt) (H1 : Heap) (locs1 : List Loc), lJ s.heap D D2 cA cI n0 ks1 cs1 ms1 H1 locs1 → I2 cs1 ms1 → W p l e room_1 s m args below meth c H1 locs1 (cells + 60) (slots + 420) Q (F0 m 1602 ls [])) : W p l e room_1 s m args below meth c H locs cells slots Q (F0 m 609 ls []) := by
  have hx := K.1
  have hb := K.2.1
  have hown := K.2.2.2.1
  have hts := K.2.2.2.2.1
  have hcs1 := hcs.1
  have hcs2 := hcs.2
  refine lv_aload_n hx hb dL_609 rfl (lv_at hl 2 rfl) ?_
  refine lv_aload_n hx hb dL_610 rfl (lv_at hl 3 rfl) ?_
  refine lv_iload_n hx hb dL_611 rfl (lv_at hl 0 rfl) ?_
  refine lv_iconst (v := 1) hx hb dL_612 (by decide) ?_
  refine lv_iadd hx hb dL_613 ?_
  refine sc_ld (j := 1) K J (by decide) (by omega) dL_614 ?_
  obtain ⟨r, cs1, ms1, hL1, hM1, hI1⟩ := hst H.size cs mst (xs (6 * k + 1)) hI (FR_of J.2.1)
  refine lc_op (bytes := cX0_pardon) (ret := some .int) (maxL := 3) (As := [.int (xs (6 * k + 1))]) (n := 1) (mc := 0) (ms := 0) K J (op_c J.1 (w_L_pardon J.1 hL1)) (lw_methW q797) (cd_with hts q797) q794 q795 q796 q85 (by decide +kernel) ⟨(Nat.le_of_ble_eq_true rfl), (Nat.le_of_ble_eq_true rfl)⟩ ⟨by show cells + 0 ≤ _; omega, by show slots + 0 ≤ _; omega⟩ rfl hl.1 rfl (Nat.le_of_ble_eq_true rfl) dL_615 (fun ks H locs J => ?_)
  refine lv_aload_n hx hb dL_618 rfl (lv_at hl 1 rfl) ?_
  refine lv_aload_n hx hb dL_619 rfl (lv_at hl 3 rfl) ?_
  refine lv_iload_n hx hb dL_620 rfl (lv_at hl 0 rfl) ?_
  refine lv_iconst (v := 1) hx hb dL_621 (by decide) ?_
  refine lv_iadd hx hb dL_622 ?_
  refine sc_ld (j := 1) K J (by decide) (by omega) dL_623 ?_
  refine lm_op (maxL := 3) (As := [.int (xs (6 * k + 1))]) (n := 1) K J (w_pardon kInj_a hM1) (lw_meth q1804) q1804 q1801 q1802 q1803 q94 (by decide +kernel) ⟨(Nat.le_of_ble_eq_true rfl), (Nat.le_of_ble_eq_true rfl)⟩ ⟨by omega, by omega⟩ rfl hl.1 rfl (Nat.le_of_ble_eq_true rfl) dL_624 (fun H locs J => ?_)
  refine lv_icmp_eq (tgt := 1602) hx hb dL_627 rfl (fun _ => ?_) (fun c => absurd rfl c)
  refine W.widen (k := cells + 60) (n := slots + 420) (by omega) (by omega) ?_
  exact kk ks cs1 ms1 H locs J hI1
theorem q798 : (Jvm.Cond.methodLink "ChapterLoanLaw" (64 : Nat) ({ cls := "ChapterLoan", name := "weeks", desc := "(I)I" } : Jvm.MethodName)) ∈ lw_all := lw_g (lw_at lw_m3 234 rfl) rfl
theorem q799 : (Jvm.Cond.instanceMethod ({ cls := "ChapterLoan", name := "weeks", desc := "(I)I" } : Jvm.MethodName)) ∈ lw_all := lw_g (lw_at lw_m3 235 rfl) rfl
theorem q800 : (Jvm.Cond.selects "ChapterLoan" ({ cls := "ChapterLoan", name := "weeks", desc := "(I)I" } : Jvm.MethodName) ({ cls := "ChapterLoan", name := "weeks", desc := "(I)I" } : Jvm.MethodName)) ∈ lw_all := lw_g (lw_at lw_m3 236 rfl) rfl
theorem q801 : (Jvm.Cond.codeWith ({ cls := "ChapterLoan", name := "weeks", desc := "(I)I" } : Jvm.MethodName) prog_1_method_32_code (3 : Nat) (Option.some Jvm.ClassFile.FieldType.int) [((0 : Nat), (32 : Nat), (33 : Nat), (8 : Nat))]) ∈ lw_all := lw_g (lw_at lw_m3 237 rfl) rfl
theorem q1805 : (Jvm.Cond.methodLink "ChapterLoanLaw" (67 : Nat) ({ cls := "ChapterLoanModel", name := "weeks", desc := "(I)I" } : Jvm.MethodName)) ∈ lw_all := lw_g (lw_at lw_m8 41 rfl) rfl
theorem q1806 : (Jvm.Cond.instanceMethod ({ cls := "ChapterLoanModel", name := "weeks", desc := "(I)I" } : Jvm.MethodName)) ∈ lw_all := lw_g (lw_at lw_m8 42 rfl) rfl
theorem q1807 : (Jvm.Cond.selects "ChapterLoanModel" ({ cls := "ChapterLoanModel", name := "weeks", desc := "(I)I" } : Jvm.MethodName) ({ cls := "ChapterLoanModel", name := "weeks", desc := "(I)I" } : Jvm.MethodName)) ∈ lw_all := lw_g (lw_at lw_m8 43 rfl) rfl
theorem q1808 : (Jvm.Cond.code ({ cls := "ChapterLoanModel", name := "weeks", desc := "(I)I" } : Jvm.MethodName) prog_30_method_61_code (2 : Nat) (Option.some Jvm.ClassFile.FieldType.int)) ∈ lw_all := lw_g (lw_at lw_m8 44 rfl) rfl
theorem lcs_weeks {I I2 : CS → MSt → Prop} (hst : stp_weeks (ad0 n0) adK cA I I2) (K : lK p s m args c D D2 cA cI adK adV n0 b L xs) (J : lJ s.heap D D2 cA cI n0 ks cs mst H locs) (hI : I cs mst) {k : Nat} (hk : 6 * k + 6 ≤ L) (hl : lv_has ls 4 [(3, .int (nI (6 * k))), (2, .ref (n0 + 73)), (1, .ref (ad0 n0 60)), (0, .ref b)]) (hcs : cells + 60 ≤ room_1.cells ∧ slots + 420 ≤ room_1.slots)
    (kk : ∀ (ks1 : List Nat) (cs1 : CS) (ms1 : MSt) (H1 : Heap) (locs1 : List Loc), lJ s.heap D D2 cA cI n0 ks1 cs1 ms1 H1 locs1 → I2 cs1 ms1 → W p l e room_1 s m args below meth c H1 locs1 (cells + 60) (slots + 420) Q (F0 m 1602 ls [])) : W p l e room_1 s m args below meth c H locs cells slots Q (F0 m 632 ls []) := by
  have hx := K.1
  have hb := K.2.1
  have hown := K.2.2.2.1
  have hts := K.2.2.2.2.1
  have hcs1 := hcs.1
  have hcs2 := hcs.2
  refine lv_aload_n hx hb dL_632 rfl (lv_at hl 2 rfl) ?_
  refine lv_aload_n hx hb dL_633 rfl (lv_at hl 3 rfl) ?_
  refine lv_iload_n hx hb dL_634 rfl (lv_at hl 0 rfl) ?_
  refine lv_iconst (v := 1) hx hb dL_635 (by decide) ?_
  refine lv_iadd hx hb dL_636 ?_
  refine sc_ld (j := 1) K J (by decide) (by omega) dL_637 ?_
  obtain ⟨r, cs1, ms1, hL1, hM1, hI1⟩ := hst H.size cs mst (xs (6 * k + 1)) hI (FR_of J.2.1)
  refine lc_op (bytes := cX0_weeks) (ret := some .int) (maxL := 3) (As := [.int (xs (6 * k + 1))]) (n := 1) (mc := 0) (ms := 0) K J (op_c J.1 (w_L_weeks J.1 hL1)) (lw_methW q801) (cd_with hts q801) q798 q799 q800 q85 (by decide +kernel) ⟨(Nat.le_of_ble_eq_true rfl), (Nat.le_of_ble_eq_true rfl)⟩ ⟨by show cells + 0 ≤ _; omega, by show slots + 0 ≤ _; omega⟩ rfl hl.1 rfl (Nat.le_of_ble_eq_true rfl) dL_638 (fun ks H locs J => ?_)
  refine lv_aload_n hx hb dL_641 rfl (lv_at hl 1 rfl) ?_
  refine lv_aload_n hx hb dL_642 rfl (lv_at hl 3 rfl) ?_
  refine lv_iload_n hx hb dL_643 rfl (lv_at hl 0 rfl) ?_
  refine lv_iconst (v := 1) hx hb dL_644 (by decide) ?_
  refine lv_iadd hx hb dL_645 ?_
  refine sc_ld (j := 1) K J (by decide) (by omega) dL_646 ?_
  refine lm_op (maxL := 2) (As := [.int (xs (6 * k + 1))]) (n := 1) K J (w_weeks kInj_a hM1) (lw_meth q1808) q1808 q1805 q1806 q1807 q94 (by decide +kernel) ⟨(Nat.le_of_ble_eq_true rfl), (Nat.le_of_ble_eq_true rfl)⟩ ⟨by omega, by omega⟩ rfl hl.1 rfl (Nat.le_of_ble_eq_true rfl) dL_647 (fun H locs J => ?_)
  refine lv_icmp_eq (tgt := 1602) hx hb dL_650 rfl (fun _ => ?_) (fun c => absurd rfl c)
  refine W.widen (k := cells + 60) (n := slots + 420) (by omega) (by omega) ?_
  exact kk ks cs1 ms1 H locs J hI1
theorem q833 : (Jvm.Cond.methodLink "ChapterLoanLaw" (68 : Nat) ({ cls := "ChapterLoan", name := "loose", desc := "(I)I" } : Jvm.MethodName)) ∈ lw_all := lw_g (lw_at lw_m4 29 rfl) rfl
theorem q834 : (Jvm.Cond.instanceMethod ({ cls := "ChapterLoan", name := "loose", desc := "(I)I" } : Jvm.MethodName)) ∈ lw_all := lw_g (lw_at lw_m4 30 rfl) rfl
theorem q835 : (Jvm.Cond.selects "ChapterLoan" ({ cls := "ChapterLoan", name := "loose", desc := "(I)I" } : Jvm.MethodName) ({ cls := "ChapterLoan", name := "loose", desc := "(I)I" } : Jvm.MethodName)) ∈ lw_all := lw_g (lw_at lw_m4 31 rfl) rfl
theorem q836 : (Jvm.Cond.codeWith ({ cls := "ChapterLoan", name := "loose", desc := "(I)I" } : Jvm.MethodName) prog_1_method_33_code (3 : Nat) (Option.some Jvm.ClassFile.FieldType.int) [((0 : Nat), (32 : Nat), (33 : Nat), (8 : Nat))]) ∈ lw_all := lw_g (lw_at lw_m4 32 rfl) rfl
theorem q1835 : (Jvm.Cond.methodLink "ChapterLoanLaw" (71 : Nat) ({ cls := "ChapterLoanModel", name := "loose", desc := "(I)I" } : Jvm.MethodName)) ∈ lw_all := lw_g (lw_at lw_m8 71 rfl) rfl
theorem q1836 : (Jvm.Cond.instanceMethod ({ cls := "ChapterLoanModel", name := "loose", desc := "(I)I" } : Jvm.MethodName)) ∈ lw_all := lw_g (lw_at lw_m8 72 rfl) rfl
theorem q1837 : (Jvm.Cond.selects "ChapterLoanModel" ({ cls := "ChapterLoanModel", name := "loose", desc := "(I)I" } : Jvm.MethodName) ({ cls := "ChapterLoanModel", name := "loose", desc := "(I)I" } : Jvm.MethodName)) ∈ lw_all := lw_g (lw_at lw_m8 73 rfl) rfl
theorem q1838 : (Jvm.Cond.code ({ cls := "ChapterLoanModel", name := "loose", desc := "(I)I" } : Jvm.MethodName) prog_30_method_62_code (2 : Nat) (Option.some Jvm.ClassFile.FieldType.int)) ∈ lw_all := lw_g (lw_at lw_m8 74 rfl) rfl
theorem lcs_loose {I I2 : CS → MSt → Prop} (hst : stp_loose (ad0 n0) adK cA I I2) (K : lK p s m args c D D2 cA cI adK adV n0 b L xs) (J : lJ s.heap D D2 cA cI n0 ks cs mst H locs) (hI : I cs mst) {k : Nat} (hk : 6 * k + 6 ≤ L) (hl : lv_has ls 4 [(3, .int (nI (6 * k))), (2, .ref (n0 + 73)), (1, .ref (ad0 n0 60)), (0, .ref b)]) (hcs : cells + 60 ≤ room_1.cells ∧ slots + 420 ≤ room_1.slots)
    (kk : ∀ (ks1 : List Nat) (cs1 : CS) (ms1 : MSt) (H1 : Heap) (locs1 : List Loc), lJ s.heap D D2 cA cI n0 ks1 cs1 ms1 H1 locs1 → I2 cs1 ms1 → W p l e room_1 s m args below meth c H1 locs1 (cells + 60) (slots + 420) Q (F0 m 1602 ls [])) : W p l e room_1 s m args below meth c H locs cells slots Q (F0 m 655 ls []) := by
  have hx := K.1
  have hb := K.2.1
  have hown := K.2.2.2.1
  have hts := K.2.2.2.2.1
  have hcs1 := hcs.1
  have hcs2 := hcs.2
  refine lv_aload_n hx hb dL_655 rfl (lv_at hl 2 rfl) ?_
  refine lv_aload_n hx hb dL_656 rfl (lv_at hl 3 rfl) ?_
  refine lv_iload_n hx hb dL_657 rfl (lv_at hl 0 rfl) ?_
  refine lv_iconst (v := 1) hx hb dL_658 (by decide) ?_
  refine lv_iadd hx hb dL_659 ?_
  refine sc_ld (j := 1) K J (by decide) (by omega) dL_660 ?_
  obtain ⟨r, cs1, ms1, hL1, hM1, hI1⟩ := hst H.size cs mst (xs (6 * k + 1)) hI (FR_of J.2.1)
  refine lc_op (bytes := cX0_loose) (ret := some .int) (maxL := 3) (As := [.int (xs (6 * k + 1))]) (n := 1) (mc := 0) (ms := 0) K J (op_c J.1 (w_L_loose J.1 hL1)) (lw_methW q836) (cd_with hts q836) q833 q834 q835 q85 (by decide +kernel) ⟨(Nat.le_of_ble_eq_true rfl), (Nat.le_of_ble_eq_true rfl)⟩ ⟨by show cells + 0 ≤ _; omega, by show slots + 0 ≤ _; omega⟩ rfl hl.1 rfl (Nat.le_of_ble_eq_true rfl) dL_661 (fun ks H locs J => ?_)
  refine lv_aload_n hx hb dL_664 rfl (lv_at hl 1 rfl) ?_
  refine lv_aload_n hx hb dL_665 rfl (lv_at hl 3 rfl) ?_
  refine lv_iload_n hx hb dL_666 rfl (lv_at hl 0 rfl) ?_
  refine lv_iconst (v := 1) hx hb dL_667 (by decide) ?_
  refine lv_iadd hx hb dL_668 ?_
  refine sc_ld (j := 1) K J (by decide) (by omega) dL_669 ?_
  refine lm_op (maxL := 2) (As := [.int (xs (6 * k + 1))]) (n := 1) K J (w_loose kInj_a hM1) (lw_meth q1838) q1838 q1835 q1836 q1837 q94 (by decide +kernel) ⟨(Nat.le_of_ble_eq_true rfl), (Nat.le_of_ble_eq_true rfl)⟩ ⟨by omega, by omega⟩ rfl hl.1 rfl (Nat.le_of_ble_eq_true rfl) dL_670 (fun H locs J => ?_)
  refine lv_icmp_eq (tgt := 1602) hx hb dL_673 rfl (fun _ => ?_) (fun c => absurd rfl c)
  refine W.widen (k := cells + 60) (n := slots + 420) (by omega) (by omega) ?_
  exact kk ks cs1 ms1 H locs J hI1
theorem q848 : (Jvm.Cond.methodLink "ChapterLoanLaw" (72 : Nat) ({ cls := "ChapterLoan", name := "then", desc := "(III)I" } : Jvm.MethodName)) ∈ lw_all := lw_g (lw_at lw_m4 44 rfl) rfl
theorem q849 : (Jvm.Cond.instanceMethod ({ cls := "ChapterLoan", name := "then", desc := "(III)I" } : Jvm.MethodName)) ∈ lw_all := lw_g (lw_at lw_m4 45 rfl) rfl
theorem q850 : (Jvm.Cond.selects "ChapterLoan" ({ cls := "ChapterLoan", name := "then", desc := "(III)I" } : Jvm.MethodName) ({ cls := "ChapterLoan", name := "then", desc := "(III)I" } : Jvm.MethodName)) ∈ lw_all := lw_g (lw_at lw_m4 46 rfl) rfl
theorem q851 : (Jvm.Cond.codeWith ({ cls := "ChapterLoan", name := "then", desc := "(III)I" } : Jvm.MethodName) prog_1_method_34_code (5 : Nat) (Option.some Jvm.ClassFile.FieldType.int) [((0 : Nat), (87 : Nat), (88 : Nat), (8 : Nat))]) ∈ lw_all := lw_g (lw_at lw_m4 47 rfl) rfl
theorem q1839 : (Jvm.Cond.methodLink "ChapterLoanLaw" (75 : Nat) ({ cls := "ChapterLoanModel", name := "then", desc := "(III)I" } : Jvm.MethodName)) ∈ lw_all := lw_g (lw_at lw_m8 75 rfl) rfl
theorem q1840 : (Jvm.Cond.instanceMethod ({ cls := "ChapterLoanModel", name := "then", desc := "(III)I" } : Jvm.MethodName)) ∈ lw_all := lw_g (lw_at lw_m8 76 rfl) rfl
theorem q1841 : (Jvm.Cond.selects "ChapterLoanModel" ({ cls := "ChapterLoanModel", name := "then", desc := "(III)I" } : Jvm.MethodName) ({ cls := "ChapterLoanModel", name := "then", desc := "(III)I" } : Jvm.MethodName)) ∈ lw_all := lw_g (lw_at lw_m8 77 rfl) rfl
theorem q1842 : (Jvm.Cond.code ({ cls := "ChapterLoanModel", name := "then", desc := "(III)I" } : Jvm.MethodName) prog_30_method_63_code (5 : Nat) (Option.some Jvm.ClassFile.FieldType.int)) ∈ lw_all := lw_g (lw_at lw_m8 78 rfl) rfl
theorem lcs_then {I I2 : CS → MSt → Prop} (hst : stp_then (ad0 n0) adK cA I I2) (K : lK p s m args c D D2 cA cI adK adV n0 b L xs) (J : lJ s.heap D D2 cA cI n0 ks cs mst H locs) (hI : I cs mst) {k : Nat} (hk : 6 * k + 6 ≤ L) (hl : lv_has ls 4 [(3, .int (nI (6 * k))), (2, .ref (n0 + 73)), (1, .ref (ad0 n0 60)), (0, .ref b)]) (hcs : cells + 60 ≤ room_1.cells ∧ slots + 420 ≤ room_1.slots)
    (kk : ∀ (ks1 : List Nat) (cs1 : CS) (ms1 : MSt) (H1 : Heap) (locs1 : List Loc), lJ s.heap D D2 cA cI n0 ks1 cs1 ms1 H1 locs1 → I2 cs1 ms1 → W p l e room_1 s m args below meth c H1 locs1 (cells + 60) (slots + 420) Q (F0 m 1602 ls [])) : W p l e room_1 s m args below meth c H locs cells slots Q (F0 m 678 ls []) := by
  have hx := K.1
  have hb := K.2.1
  have hown := K.2.2.2.1
  have hts := K.2.2.2.2.1
  have hcs1 := hcs.1
  have hcs2 := hcs.2
  refine lv_aload_n hx hb dL_678 rfl (lv_at hl 2 rfl) ?_
  refine lv_aload_n hx hb dL_679 rfl (lv_at hl 3 rfl) ?_
  refine lv_iload_n hx hb dL_680 rfl (lv_at hl 0 rfl) ?_
  refine lv_iconst (v := 1) hx hb dL_681 (by decide) ?_
  refine lv_iadd hx hb dL_682 ?_
  refine sc_ld (j := 1) K J (by decide) (by omega) dL_683 ?_
  refine lv_aload_n hx hb dL_684 rfl (lv_at hl 3 rfl) ?_
  refine lv_iload_n hx hb dL_685 rfl (lv_at hl 0 rfl) ?_
  refine lv_iconst (v := 2) hx hb dL_686 (by decide) ?_
  refine lv_iadd hx hb dL_687 ?_
  refine sc_ld (j := 2) K J (by decide) (by omega) dL_688 ?_
  refine lv_aload_n hx hb dL_689 rfl (lv_at hl 3 rfl) ?_
  refine lv_iload_n hx hb dL_690 rfl (lv_at hl 0 rfl) ?_
  refine lv_iconst (v := 3) hx hb dL_691 (by decide) ?_
  refine lv_iadd hx hb dL_692 ?_
  refine sc_ld (j := 3) K J (by decide) (by omega) dL_693 ?_
  obtain ⟨r, cs1, ms1, hL1, hM1, hI1⟩ := hst H.size cs mst (xs (6 * k + 1)) (xs (6 * k + 2)) (xs (6 * k + 3)) hI (FR_of J.2.1)
  refine lc_op (bytes := cX0_then) (ret := some .int) (maxL := 5) (As := [.int (xs (6 * k + 1)), .int (xs (6 * k + 2)), .int (xs (6 * k + 3))]) (n := 3) (mc := 0) (ms := 0) K J (op_c J.1 (w_L_then J.1 hL1)) (lw_methW q851) (cd_with hts q851) q848 q849 q850 q85 (by decide +kernel) ⟨(Nat.le_of_ble_eq_true rfl), (Nat.le_of_ble_eq_true rfl)⟩ ⟨by show cells + 0 ≤ _; omega, by show slots + 0 ≤ _; omega⟩ rfl hl.1 rfl (Nat.le_of_ble_eq_true rfl) dL_694 (fun ks H locs J => ?_)
  refine lv_aload_n hx hb dL_697 rfl (lv_at hl 1 rfl) ?_
  refine lv_aload_n hx hb dL_698 rfl (lv_at hl 3 rfl) ?_
  refine lv_iload_n hx hb dL_699 rfl (lv_at hl 0 rfl) ?_
  refine lv_iconst (v := 1) hx hb dL_700 (by decide) ?_
  refine lv_iadd hx hb dL_701 ?_
  refine sc_ld (j := 1) K J (by decide) (by omega) dL_702 ?_
  refine lv_aload_n hx hb dL_703 rfl (lv_at hl 3 rfl) ?_
  refine lv_iload_n hx hb dL_704 rfl (lv_at hl 0 rfl) ?_
  refine lv_iconst (v := 2) hx hb dL_705 (by decide) ?_
  refine lv_iadd hx hb dL_706 ?_
  refine sc_ld (j := 2) K J (by decide) (by omega) dL_707 ?_
  refine lv_aload_n hx hb dL_708 rfl (lv_at hl 3 rfl) ?_
  refine lv_iload_n hx hb dL_709 rfl (lv_at hl 0 rfl) ?_
  refine lv_iconst (v := 3) hx hb dL_710 (by decide) ?_
  refine lv_iadd hx hb dL_711 ?_
  refine sc_ld (j := 3) K J (by decide) (by omega) dL_712 ?_
  refine lm_op (maxL := 5) (As := [.int (xs (6 * k + 1)), .int (xs (6 * k + 2)), .int (xs (6 * k + 3))]) (n := 3) K J (w_then kInj_a hM1) (lw_meth q1842) q1842 q1839 q1840 q1841 q94 (by decide +kernel) ⟨(Nat.le_of_ble_eq_true rfl), (Nat.le_of_ble_eq_true rfl)⟩ ⟨by omega, by omega⟩ rfl hl.1 rfl (Nat.le_of_ble_eq_true rfl) dL_713 (fun H locs J => ?_)
  refine lv_icmp_eq (tgt := 1602) hx hb dL_716 rfl (fun _ => ?_) (fun c => absurd rfl c)
  refine W.widen (k := cells + 60) (n := slots + 420) (by omega) (by omega) ?_
  exact kk ks cs1 ms1 H locs J hI1
theorem q2015 : (Jvm.Cond.constantLong "ChapterLoanLaw" (76 : Nat) (4294967295 : Int64)) ∈ lw_all := lw_g (lw_at lw_m9 11 rfl) rfl
theorem q859 : (Jvm.Cond.methodLink "ChapterLoanLaw" (78 : Nat) ({ cls := "ChapterLoan", name := "feed", desc := "(JI)I" } : Jvm.MethodName)) ∈ lw_all := lw_g (lw_at lw_m4 55 rfl) rfl
theorem q860 : (Jvm.Cond.instanceMethod ({ cls := "ChapterLoan", name := "feed", desc := "(JI)I" } : Jvm.MethodName)) ∈ lw_all := lw_g (lw_at lw_m4 56 rfl) rfl
theorem q861 : (Jvm.Cond.selects "ChapterLoan" ({ cls := "ChapterLoan", name := "feed", desc := "(JI)I" } : Jvm.MethodName) ({ cls := "ChapterLoan", name := "feed", desc := "(JI)I" } : Jvm.MethodName)) ∈ lw_all := lw_g (lw_at lw_m4 57 rfl) rfl
theorem q862 : (Jvm.Cond.codeWith ({ cls := "ChapterLoan", name := "feed", desc := "(JI)I" } : Jvm.MethodName) prog_1_method_35_code (5 : Nat) (Option.some Jvm.ClassFile.FieldType.int) [((0 : Nat), (95 : Nat), (96 : Nat), (8 : Nat))]) ∈ lw_all := lw_g (lw_at lw_m4 58 rfl) rfl
theorem q1597 : (Jvm.Cond.methodLink "ChapterLoanLaw" (82 : Nat) ({ cls := "ChapterLoanModel", name := "feed", desc := "(JI)I" } : Jvm.MethodName)) ∈ lw_all := lw_g (lw_at lw_m7 73 rfl) rfl
theorem q1598 : (Jvm.Cond.instanceMethod ({ cls := "ChapterLoanModel", name := "feed", desc := "(JI)I" } : Jvm.MethodName)) ∈ lw_all := lw_g (lw_at lw_m7 74 rfl) rfl
theorem q1599 : (Jvm.Cond.selects "ChapterLoanModel" ({ cls := "ChapterLoanModel", name := "feed", desc := "(JI)I" } : Jvm.MethodName) ({ cls := "ChapterLoanModel", name := "feed", desc := "(JI)I" } : Jvm.MethodName)) ∈ lw_all := lw_g (lw_at lw_m7 75 rfl) rfl
theorem q1600 : (Jvm.Cond.code ({ cls := "ChapterLoanModel", name := "feed", desc := "(JI)I" } : Jvm.MethodName) prog_30_method_26_code (5 : Nat) (Option.some Jvm.ClassFile.FieldType.int)) ∈ lw_all := lw_g (lw_at lw_m7 76 rfl) rfl
theorem lcs_feed {I I2 : CS → MSt → Prop} (hst : stp_feed (ad0 n0) adK cA I I2) (K : lK p s m args c D D2 cA cI adK adV n0 b L xs) (J : lJ s.heap D D2 cA cI n0 ks cs mst H locs) (hI : I cs mst) {k : Nat} (hk : 6 * k + 6 ≤ L) (hl : lv_has ls 4 [(3, .int (nI (6 * k))), (2, .ref (n0 + 73)), (1, .ref (ad0 n0 60)), (0, .ref b)]) (hcs : cells + 60 ≤ room_1.cells ∧ slots + 420 ≤ room_1.slots)
    (kk : ∀ (ks1 : List Nat) (cs1 : CS) (ms1 : MSt) (H1 : Heap) (locs1 : List Loc), lJ s.heap D D2 cA cI n0 ks1 cs1 ms1 H1 locs1 → I2 cs1 ms1 → W p l e room_1 s m args below meth c H1 locs1 (cells + 60) (slots + 420) Q (F0 m 1602 ls [])) : W p l e room_1 s m args below meth c H locs cells slots Q (F0 m 721 ls []) := by
  have hx := K.1
  have hb := K.2.1
  have hown := K.2.2.2.1
  have hts := K.2.2.2.2.1
  have hcs1 := hcs.1
  have hcs2 := hcs.2
  refine lv_aload_n hx hb dL_721 rfl (lv_at hl 2 rfl) ?_
  refine lv_aload_n hx hb dL_722 rfl (lv_at hl 3 rfl) ?_
  refine lv_iload_n hx hb dL_723 rfl (lv_at hl 0 rfl) ?_
  refine lv_iconst (v := 1) hx hb dL_724 (by decide) ?_
  refine lv_iadd hx hb dL_725 ?_
  refine sc_ld (j := 1) K J (by decide) (by omega) dL_726 ?_
  refine lv_i2l (v := (xs (6 * k + 1)).toInt64) hx hb dL_727 rfl ?_
  refine lv_bipush (v := 32) hx hb dL_728 (by decide) ?_
  refine lv_lshl (v := ((xs (6 * k + 1)).toInt64) <<< ((32 : Int32).toInt64 &&& 63)) hx hb dL_730 rfl ?_
  refine lv_aload_n hx hb dL_731 rfl (lv_at hl 3 rfl) ?_
  refine lv_iload_n hx hb dL_732 rfl (lv_at hl 0 rfl) ?_
  refine lv_iconst (v := 2) hx hb dL_733 (by decide) ?_
  refine lv_iadd hx hb dL_734 ?_
  refine sc_ld (j := 2) K J (by decide) (by omega) dL_735 ?_
  refine lv_i2l (v := (xs (6 * k + 2)).toInt64) hx hb dL_736 rfl ?_
  refine lv_ldc2 hx hb hown (hts _ q2015) dL_737 ?_
  refine lv_land hx hb dL_740 ?_
  refine lv_lor hx hb dL_741 ?_
  refine lv_aload_n hx hb dL_742 rfl (lv_at hl 3 rfl) ?_
  refine lv_iload_n hx hb dL_743 rfl (lv_at hl 0 rfl) ?_
  refine lv_iconst (v := 3) hx hb dL_744 (by decide) ?_
  refine lv_iadd hx hb dL_745 ?_
  refine sc_ld (j := 3) K J (by decide) (by omega) dL_746 ?_
  obtain ⟨r, cs1, ms1, hL1, hM1, hI1⟩ := hst H.size cs mst ((((xs (6 * k + 1)).toInt64) <<< ((32 : Int32).toInt64 &&& 63)) ||| (((xs (6 * k + 2)).toInt64) &&& 4294967295)) (xs (6 * k + 3)) hI (FR_of J.2.1)
  refine lc_op (bytes := cX0_feed) (ret := some .int) (maxL := 5) (As := [.long ((((xs (6 * k + 1)).toInt64) <<< ((32 : Int32).toInt64 &&& 63)) ||| (((xs (6 * k + 2)).toInt64) &&& 4294967295)), .int (xs (6 * k + 3))]) (n := 2) (mc := 0) (ms := 0) K J (op_c J.1 (w_L_feed J.1 hL1)) (lw_methW q862) (cd_with hts q862) q859 q860 q861 q85 (by decide +kernel) ⟨(Nat.le_of_ble_eq_true rfl), (Nat.le_of_ble_eq_true rfl)⟩ ⟨by show cells + 0 ≤ _; omega, by show slots + 0 ≤ _; omega⟩ rfl hl.1 rfl (Nat.le_of_ble_eq_true rfl) dL_747 (fun ks H locs J => ?_)
  refine lv_aload_n hx hb dL_750 rfl (lv_at hl 1 rfl) ?_
  refine lv_aload_n hx hb dL_751 rfl (lv_at hl 3 rfl) ?_
  refine lv_iload_n hx hb dL_752 rfl (lv_at hl 0 rfl) ?_
  refine lv_iconst (v := 1) hx hb dL_753 (by decide) ?_
  refine lv_iadd hx hb dL_754 ?_
  refine sc_ld (j := 1) K J (by decide) (by omega) dL_755 ?_
  refine lv_i2l (v := (xs (6 * k + 1)).toInt64) hx hb dL_756 rfl ?_
  refine lv_bipush (v := 32) hx hb dL_757 (by decide) ?_
  refine lv_lshl (v := ((xs (6 * k + 1)).toInt64) <<< ((32 : Int32).toInt64 &&& 63)) hx hb dL_759 rfl ?_
  refine lv_aload_n hx hb dL_760 rfl (lv_at hl 3 rfl) ?_
  refine lv_iload_n hx hb dL_761 rfl (lv_at hl 0 rfl) ?_
  refine lv_iconst (v := 2) hx hb dL_762 (by decide) ?_
  refine lv_iadd hx hb dL_763 ?_
  refine sc_ld (j := 2) K J (by decide) (by omega) dL_764 ?_
  refine lv_i2l (v := (xs (6 * k + 2)).toInt64) hx hb dL_765 rfl ?_
  refine lv_ldc2 hx hb hown (hts _ q2015) dL_766 ?_
  refine lv_land hx hb dL_769 ?_
  refine lv_lor hx hb dL_770 ?_
  refine lv_aload_n hx hb dL_771 rfl (lv_at hl 3 rfl) ?_
  refine lv_iload_n hx hb dL_772 rfl (lv_at hl 0 rfl) ?_
  refine lv_iconst (v := 3) hx hb dL_773 (by decide) ?_
  refine lv_iadd hx hb dL_774 ?_
  refine sc_ld (j := 3) K J (by decide) (by omega) dL_775 ?_
  refine lm_op (maxL := 5) (As := [.long ((((xs (6 * k + 1)).toInt64) <<< ((32 : Int32).toInt64 &&& 63)) ||| (((xs (6 * k + 2)).toInt64) &&& 4294967295)), .int (xs (6 * k + 3))]) (n := 2) K J (w_feed kInj_a hM1) (lw_meth q1600) q1600 q1597 q1598 q1599 q94 (by decide +kernel) ⟨(Nat.le_of_ble_eq_true rfl), (Nat.le_of_ble_eq_true rfl)⟩ ⟨by omega, by omega⟩ rfl hl.1 rfl (Nat.le_of_ble_eq_true rfl) dL_776 (fun H locs J => ?_)
  refine lv_icmp_eq (tgt := 1602) hx hb dL_779 rfl (fun _ => ?_) (fun c => absurd rfl c)
  refine W.widen (k := cells + 60) (n := slots + 420) (by omega) (by omega) ?_
  exact kk ks cs1 ms1 H locs J hI1
theorem q863 : (Jvm.Cond.methodLink "ChapterLoanLaw" (83 : Nat) ({ cls := "ChapterLoan", name := "text", desc := "(I)I" } : Jvm.MethodName)) ∈ lw_all := lw_g (lw_at lw_m4 59 rfl) rfl
theorem q864 : (Jvm.Cond.instanceMethod ({ cls := "ChapterLoan", name := "text", desc := "(I)I" } : Jvm.MethodName)) ∈ lw_all := lw_g (lw_at lw_m4 60 rfl) rfl
theorem q865 : (Jvm.Cond.selects "ChapterLoan" ({ cls := "ChapterLoan", name := "text", desc := "(I)I" } : Jvm.MethodName) ({ cls := "ChapterLoan", name := "text", desc := "(I)I" } : Jvm.MethodName)) ∈ lw_all := lw_g (lw_at lw_m4 61 rfl) rfl
theorem q866 : (Jvm.Cond.codeWith ({ cls := "ChapterLoan", name := "text", desc := "(I)I" } : Jvm.MethodName) prog_1_method_36_code (3 : Nat) (Option.some Jvm.ClassFile.FieldType.int) [((0 : Nat), (66 : Nat), (67 : Nat), (257 : Nat)), ((0 : Nat), (66 : Nat), (76 : Nat), (8 : Nat))]) ∈ lw_all := lw_g (lw_at lw_m4 62 rfl) rfl
theorem q1611 : (Jvm.Cond.methodLink "ChapterLoanLaw" (86 : Nat) ({ cls := "ChapterLoanModel", name := "text", desc := "(I)I" } : Jvm.MethodName)) ∈ lw_all := lw_g (lw_at lw_m7 87 rfl) rfl
theorem q1612 : (Jvm.Cond.instanceMethod ({ cls := "ChapterLoanModel", name := "text", desc := "(I)I" } : Jvm.MethodName)) ∈ lw_all := lw_g (lw_at lw_m7 88 rfl) rfl
theorem q1613 : (Jvm.Cond.selects "ChapterLoanModel" ({ cls := "ChapterLoanModel", name := "text", desc := "(I)I" } : Jvm.MethodName) ({ cls := "ChapterLoanModel", name := "text", desc := "(I)I" } : Jvm.MethodName)) ∈ lw_all := lw_g (lw_at lw_m7 89 rfl) rfl
theorem q1614 : (Jvm.Cond.code ({ cls := "ChapterLoanModel", name := "text", desc := "(I)I" } : Jvm.MethodName) prog_30_method_27_code (5 : Nat) (Option.some Jvm.ClassFile.FieldType.int)) ∈ lw_all := lw_g (lw_at lw_m7 90 rfl) rfl
theorem lcs_text {I I2 : CS → MSt → Prop} (hst : stp_text (ad0 n0) adK cA I I2) (K : lK p s m args c D D2 cA cI adK adV n0 b L xs) (J : lJ s.heap D D2 cA cI n0 ks cs mst H locs) (hI : I cs mst) {k : Nat} (hk : 6 * k + 6 ≤ L) (hl : lv_has ls 4 [(3, .int (nI (6 * k))), (2, .ref (n0 + 73)), (1, .ref (ad0 n0 60)), (0, .ref b)]) (hcs : cells + 60 ≤ room_1.cells ∧ slots + 420 ≤ room_1.slots)
    (kk : ∀ (ks1 : List Nat) (cs1 : CS) (ms1 : MSt) (H1 : Heap) (locs1 : List Loc), lJ s.heap D D2 cA cI n0 ks1 cs1 ms1 H1 locs1 → I2 cs1 ms1 → W p l e room_1 s m args below meth c H1 locs1 (cells + 60) (slots + 420) Q (F0 m 1602 ls [])) : W p l e room_1 s m args below meth c H locs cells slots Q (F0 m 784 ls []) := by
  have hx := K.1
  have hb := K.2.1
  have hown := K.2.2.2.1
  have hts := K.2.2.2.2.1
  have hcs1 := hcs.1
  have hcs2 := hcs.2
  refine lv_aload_n hx hb dL_784 rfl (lv_at hl 2 rfl) ?_
  refine lv_aload_n hx hb dL_785 rfl (lv_at hl 3 rfl) ?_
  refine lv_iload_n hx hb dL_786 rfl (lv_at hl 0 rfl) ?_
  refine lv_iconst (v := 1) hx hb dL_787 (by decide) ?_
  refine lv_iadd hx hb dL_788 ?_
  refine sc_ld (j := 1) K J (by decide) (by omega) dL_789 ?_
  obtain ⟨r, cs1, ms1, hL1, hM1, hI1⟩ := hst H.size cs mst (xs (6 * k + 1)) hI (FR_of J.2.1)
  refine lc_op (bytes := cX0_text) (ret := some .int) (maxL := 3) (As := [.int (xs (6 * k + 1))]) (n := 1) (mc := 60) (ms := 420) K J (op_t (w_L_text ad0_P J.1 hL1)) (lw_methW q866) (cd_with hts q866) q863 q864 q865 q85 (by decide +kernel) ⟨(Nat.le_of_ble_eq_true rfl), (Nat.le_of_ble_eq_true rfl)⟩ ⟨by show cells + 60 ≤ _; omega, by show slots + 420 ≤ _; omega⟩ rfl hl.1 rfl (Nat.le_of_ble_eq_true rfl) dL_790 (fun ks H locs J => ?_)
  refine lv_aload_n hx hb dL_793 rfl (lv_at hl 1 rfl) ?_
  refine lv_aload_n hx hb dL_794 rfl (lv_at hl 3 rfl) ?_
  refine lv_iload_n hx hb dL_795 rfl (lv_at hl 0 rfl) ?_
  refine lv_iconst (v := 1) hx hb dL_796 (by decide) ?_
  refine lv_iadd hx hb dL_797 ?_
  refine sc_ld (j := 1) K J (by decide) (by omega) dL_798 ?_
  refine lm_op (maxL := 5) (As := [.int (xs (6 * k + 1))]) (n := 1) K J (w_text kInj_a hM1) (lw_meth q1614) q1614 q1611 q1612 q1613 q94 (by decide +kernel) ⟨(Nat.le_of_ble_eq_true rfl), (Nat.le_of_ble_eq_true rfl)⟩ ⟨by omega, by omega⟩ rfl hl.1 rfl (Nat.le_of_ble_eq_true rfl) dL_799 (fun H locs J => ?_)
  refine lv_icmp_eq (tgt := 1602) hx hb dL_802 rfl (fun _ => ?_) (fun c => absurd rfl c)
  refine W.widen (k := cells + 60) (n := slots + 420) (by omega) (by omega) ?_
  exact kk ks cs1 ms1 H locs J hI1
theorem q1094 : (Jvm.Cond.methodLink "ChapterLoanLaw" (87 : Nat) ({ cls := "ChapterLoan", name := "law", desc := "(IIII)I" } : Jvm.MethodName)) ∈ lw_all := lw_g (lw_at lw_m5 50 rfl) rfl
theorem q1095 : (Jvm.Cond.instanceMethod ({ cls := "ChapterLoan", name := "law", desc := "(IIII)I" } : Jvm.MethodName)) ∈ lw_all := lw_g (lw_at lw_m5 51 rfl) rfl
theorem q1096 : (Jvm.Cond.selects "ChapterLoan" ({ cls := "ChapterLoan", name := "law", desc := "(IIII)I" } : Jvm.MethodName) ({ cls := "ChapterLoan", name := "law", desc := "(IIII)I" } : Jvm.MethodName)) ∈ lw_all := lw_g (lw_at lw_m5 52 rfl) rfl
theorem q1097 : (Jvm.Cond.codeWith ({ cls := "ChapterLoan", name := "law", desc := "(IIII)I" } : Jvm.MethodName) prog_1_method_37_code (6 : Nat) (Option.some Jvm.ClassFile.FieldType.int) [((0 : Nat), (40 : Nat), (41 : Nat), (8 : Nat))]) ∈ lw_all := lw_g (lw_at lw_m5 53 rfl) rfl
theorem q1661 : (Jvm.Cond.methodLink "ChapterLoanLaw" (91 : Nat) ({ cls := "ChapterLoanModel", name := "law", desc := "(IIII)I" } : Jvm.MethodName)) ∈ lw_all := lw_g (lw_at lw_m7 137 rfl) rfl
theorem q1662 : (Jvm.Cond.instanceMethod ({ cls := "ChapterLoanModel", name := "law", desc := "(IIII)I" } : Jvm.MethodName)) ∈ lw_all := lw_g (lw_at lw_m7 138 rfl) rfl
theorem q1663 : (Jvm.Cond.selects "ChapterLoanModel" ({ cls := "ChapterLoanModel", name := "law", desc := "(IIII)I" } : Jvm.MethodName) ({ cls := "ChapterLoanModel", name := "law", desc := "(IIII)I" } : Jvm.MethodName)) ∈ lw_all := lw_g (lw_at lw_m7 139 rfl) rfl
theorem q1664 : (Jvm.Cond.code ({ cls := "ChapterLoanModel", name := "law", desc := "(IIII)I" } : Jvm.MethodName) prog_30_method_29_code (5 : Nat) (Option.some Jvm.ClassFile.FieldType.int)) ∈ lw_all := lw_g (lw_at lw_m7 140 rfl) rfl
theorem lcs_law {I I2 : CS → MSt → Prop} (hst : stp_law (ad0 n0) adK cA I I2) (K : lK p s m args c D D2 cA cI adK adV n0 b L xs) (J : lJ s.heap D D2 cA cI n0 ks cs mst H locs) (hI : I cs mst) {k : Nat} (hk : 6 * k + 6 ≤ L) (hl : lv_has ls 4 [(3, .int (nI (6 * k))), (2, .ref (n0 + 73)), (1, .ref (ad0 n0 60)), (0, .ref b)]) (hcs : cells + 60 ≤ room_1.cells ∧ slots + 420 ≤ room_1.slots)
    (kk : ∀ (ks1 : List Nat) (cs1 : CS) (ms1 : MSt) (H1 : Heap) (locs1 : List Loc), lJ s.heap D D2 cA cI n0 ks1 cs1 ms1 H1 locs1 → I2 cs1 ms1 → W p l e room_1 s m args below meth c H1 locs1 (cells + 60) (slots + 420) Q (F0 m 1602 ls [])) : W p l e room_1 s m args below meth c H locs cells slots Q (F0 m 807 ls []) := by
  have hx := K.1
  have hb := K.2.1
  have hown := K.2.2.2.1
  have hts := K.2.2.2.2.1
  have hcs1 := hcs.1
  have hcs2 := hcs.2
  refine lv_aload_n hx hb dL_807 rfl (lv_at hl 2 rfl) ?_
  refine lv_aload_n hx hb dL_808 rfl (lv_at hl 3 rfl) ?_
  refine lv_iload_n hx hb dL_809 rfl (lv_at hl 0 rfl) ?_
  refine lv_iconst (v := 1) hx hb dL_810 (by decide) ?_
  refine lv_iadd hx hb dL_811 ?_
  refine sc_ld (j := 1) K J (by decide) (by omega) dL_812 ?_
  refine lv_aload_n hx hb dL_813 rfl (lv_at hl 3 rfl) ?_
  refine lv_iload_n hx hb dL_814 rfl (lv_at hl 0 rfl) ?_
  refine lv_iconst (v := 2) hx hb dL_815 (by decide) ?_
  refine lv_iadd hx hb dL_816 ?_
  refine sc_ld (j := 2) K J (by decide) (by omega) dL_817 ?_
  refine lv_aload_n hx hb dL_818 rfl (lv_at hl 3 rfl) ?_
  refine lv_iload_n hx hb dL_819 rfl (lv_at hl 0 rfl) ?_
  refine lv_iconst (v := 3) hx hb dL_820 (by decide) ?_
  refine lv_iadd hx hb dL_821 ?_
  refine sc_ld (j := 3) K J (by decide) (by omega) dL_822 ?_
  refine lv_aload_n hx hb dL_823 rfl (lv_at hl 3 rfl) ?_
  refine lv_iload_n hx hb dL_824 rfl (lv_at hl 0 rfl) ?_
  refine lv_iconst (v := 4) hx hb dL_825 (by decide) ?_
  refine lv_iadd hx hb dL_826 ?_
  refine sc_ld (j := 4) K J (by decide) (by omega) dL_827 ?_
  obtain ⟨r, cs1, ms1, hL1, hM1, hI1⟩ := hst H.size cs mst (xs (6 * k + 1)) (xs (6 * k + 2)) (xs (6 * k + 3)) (xs (6 * k + 4)) hI (FR_of J.2.1)
  refine lc_op (bytes := cX0_law) (ret := some .int) (maxL := 6) (As := [.int (xs (6 * k + 1)), .int (xs (6 * k + 2)), .int (xs (6 * k + 3)), .int (xs (6 * k + 4))]) (n := 4) (mc := 0) (ms := 0) K J (op_c J.1 (w_L_law J.1 hL1)) (lw_methW q1097) (cd_with hts q1097) q1094 q1095 q1096 q85 (by decide +kernel) ⟨(Nat.le_of_ble_eq_true rfl), (Nat.le_of_ble_eq_true rfl)⟩ ⟨by show cells + 0 ≤ _; omega, by show slots + 0 ≤ _; omega⟩ rfl hl.1 rfl (Nat.le_of_ble_eq_true rfl) dL_828 (fun ks H locs J => ?_)
  refine lv_aload_n hx hb dL_831 rfl (lv_at hl 1 rfl) ?_
  refine lv_aload_n hx hb dL_832 rfl (lv_at hl 3 rfl) ?_
  refine lv_iload_n hx hb dL_833 rfl (lv_at hl 0 rfl) ?_
  refine lv_iconst (v := 1) hx hb dL_834 (by decide) ?_
  refine lv_iadd hx hb dL_835 ?_
  refine sc_ld (j := 1) K J (by decide) (by omega) dL_836 ?_
  refine lv_aload_n hx hb dL_837 rfl (lv_at hl 3 rfl) ?_
  refine lv_iload_n hx hb dL_838 rfl (lv_at hl 0 rfl) ?_
  refine lv_iconst (v := 2) hx hb dL_839 (by decide) ?_
  refine lv_iadd hx hb dL_840 ?_
  refine sc_ld (j := 2) K J (by decide) (by omega) dL_841 ?_
  refine lv_aload_n hx hb dL_842 rfl (lv_at hl 3 rfl) ?_
  refine lv_iload_n hx hb dL_843 rfl (lv_at hl 0 rfl) ?_
  refine lv_iconst (v := 3) hx hb dL_844 (by decide) ?_
  refine lv_iadd hx hb dL_845 ?_
  refine sc_ld (j := 3) K J (by decide) (by omega) dL_846 ?_
  refine lv_aload_n hx hb dL_847 rfl (lv_at hl 3 rfl) ?_
  refine lv_iload_n hx hb dL_848 rfl (lv_at hl 0 rfl) ?_
  refine lv_iconst (v := 4) hx hb dL_849 (by decide) ?_
  refine lv_iadd hx hb dL_850 ?_
  refine sc_ld (j := 4) K J (by decide) (by omega) dL_851 ?_
  refine lm_op (maxL := 5) (As := [.int (xs (6 * k + 1)), .int (xs (6 * k + 2)), .int (xs (6 * k + 3)), .int (xs (6 * k + 4))]) (n := 4) K J (w_law kInj_a hM1) (lw_meth q1664) q1664 q1661 q1662 q1663 q94 (by decide +kernel) ⟨(Nat.le_of_ble_eq_true rfl), (Nat.le_of_ble_eq_true rfl)⟩ ⟨by omega, by omega⟩ rfl hl.1 rfl (Nat.le_of_ble_eq_true rfl) dL_852 (fun H locs J => ?_)
  refine lv_icmp_eq (tgt := 1602) hx hb dL_855 rfl (fun _ => ?_) (fun c => absurd rfl c)
  refine W.widen (k := cells + 60) (n := slots + 420) (by omega) (by omega) ?_
  exact kk ks cs1 ms1 H locs J hI1
theorem q1100 : (Jvm.Cond.methodLink "ChapterLoanLaw" (92 : Nat) ({ cls := "ChapterLoan", name := "served", desc := "(II)I" } : Jvm.MethodName)) ∈ lw_all := lw_g (lw_at lw_m5 56 rfl) rfl
theorem q1101 : (Jvm.Cond.instanceMethod ({ cls := "ChapterLoan", name := "served", desc := "(II)I" } : Jvm.MethodName)) ∈ lw_all := lw_g (lw_at lw_m5 57 rfl) rfl
theorem q1102 : (Jvm.Cond.selects "ChapterLoan" ({ cls := "ChapterLoan", name := "served", desc := "(II)I" } : Jvm.MethodName) ({ cls := "ChapterLoan", name := "served", desc := "(II)I" } : Jvm.MethodName)) ∈ lw_all := lw_g (lw_at lw_m5 58 rfl) rfl
theorem q1103 : (Jvm.Cond.codeWith ({ cls := "ChapterLoan", name := "served", desc := "(II)I" } : Jvm.MethodName) prog_1_method_41_code (4 : Nat) (Option.some Jvm.ClassFile.FieldType.int) [((0 : Nat), (7 : Nat), (8 : Nat), (8 : Nat))]) ∈ lw_all := lw_g (lw_at lw_m5 59 rfl) rfl
theorem q1853 : (Jvm.Cond.methodLink "ChapterLoanLaw" (95 : Nat) ({ cls := "ChapterLoanModel", name := "served", desc := "(II)I" } : Jvm.MethodName)) ∈ lw_all := lw_g (lw_at lw_m8 89 rfl) rfl
theorem q1854 : (Jvm.Cond.instanceMethod ({ cls := "ChapterLoanModel", name := "served", desc := "(II)I" } : Jvm.MethodName)) ∈ lw_all := lw_g (lw_at lw_m8 90 rfl) rfl
theorem q1855 : (Jvm.Cond.selects "ChapterLoanModel" ({ cls := "ChapterLoanModel", name := "served", desc := "(II)I" } : Jvm.MethodName) ({ cls := "ChapterLoanModel", name := "served", desc := "(II)I" } : Jvm.MethodName)) ∈ lw_all := lw_g (lw_at lw_m8 91 rfl) rfl
theorem q1856 : (Jvm.Cond.code ({ cls := "ChapterLoanModel", name := "served", desc := "(II)I" } : Jvm.MethodName) prog_30_method_68_code (3 : Nat) (Option.some Jvm.ClassFile.FieldType.int)) ∈ lw_all := lw_g (lw_at lw_m8 92 rfl) rfl
theorem lcs_served {I I2 : CS → MSt → Prop} (hst : stp_served (ad0 n0) adK cA I I2) (K : lK p s m args c D D2 cA cI adK adV n0 b L xs) (J : lJ s.heap D D2 cA cI n0 ks cs mst H locs) (hI : I cs mst) {k : Nat} (hk : 6 * k + 6 ≤ L) (hl : lv_has ls 4 [(3, .int (nI (6 * k))), (2, .ref (n0 + 73)), (1, .ref (ad0 n0 60)), (0, .ref b)]) (hcs : cells + 60 ≤ room_1.cells ∧ slots + 420 ≤ room_1.slots)
    (kk : ∀ (ks1 : List Nat) (cs1 : CS) (ms1 : MSt) (H1 : Heap) (locs1 : List Loc), lJ s.heap D D2 cA cI n0 ks1 cs1 ms1 H1 locs1 → I2 cs1 ms1 → W p l e room_1 s m args below meth c H1 locs1 (cells + 60) (slots + 420) Q (F0 m 1602 ls [])) : W p l e room_1 s m args below meth c H locs cells slots Q (F0 m 860 ls []) := by
  have hx := K.1
  have hb := K.2.1
  have hown := K.2.2.2.1
  have hts := K.2.2.2.2.1
  have hcs1 := hcs.1
  have hcs2 := hcs.2
  refine lv_aload_n hx hb dL_860 rfl (lv_at hl 2 rfl) ?_
  refine lv_aload_n hx hb dL_861 rfl (lv_at hl 3 rfl) ?_
  refine lv_iload_n hx hb dL_862 rfl (lv_at hl 0 rfl) ?_
  refine lv_iconst (v := 1) hx hb dL_863 (by decide) ?_
  refine lv_iadd hx hb dL_864 ?_
  refine sc_ld (j := 1) K J (by decide) (by omega) dL_865 ?_
  refine lv_aload_n hx hb dL_866 rfl (lv_at hl 3 rfl) ?_
  refine lv_iload_n hx hb dL_867 rfl (lv_at hl 0 rfl) ?_
  refine lv_iconst (v := 2) hx hb dL_868 (by decide) ?_
  refine lv_iadd hx hb dL_869 ?_
  refine sc_ld (j := 2) K J (by decide) (by omega) dL_870 ?_
  obtain ⟨r, cs1, ms1, hL1, hM1, hI1⟩ := hst H.size cs mst (xs (6 * k + 1)) (xs (6 * k + 2)) hI (FR_of J.2.1)
  refine lc_op (bytes := cX0_served) (ret := some .int) (maxL := 4) (As := [.int (xs (6 * k + 1)), .int (xs (6 * k + 2))]) (n := 2) (mc := 0) (ms := 0) K J (op_c J.1 (w_L_served J.1 hL1)) (lw_methW q1103) (cd_with hts q1103) q1100 q1101 q1102 q85 (by decide +kernel) ⟨(Nat.le_of_ble_eq_true rfl), (Nat.le_of_ble_eq_true rfl)⟩ ⟨by show cells + 0 ≤ _; omega, by show slots + 0 ≤ _; omega⟩ rfl hl.1 rfl (Nat.le_of_ble_eq_true rfl) dL_871 (fun ks H locs J => ?_)
  refine lv_aload_n hx hb dL_874 rfl (lv_at hl 1 rfl) ?_
  refine lv_aload_n hx hb dL_875 rfl (lv_at hl 3 rfl) ?_
  refine lv_iload_n hx hb dL_876 rfl (lv_at hl 0 rfl) ?_
  refine lv_iconst (v := 1) hx hb dL_877 (by decide) ?_
  refine lv_iadd hx hb dL_878 ?_
  refine sc_ld (j := 1) K J (by decide) (by omega) dL_879 ?_
  refine lv_aload_n hx hb dL_880 rfl (lv_at hl 3 rfl) ?_
  refine lv_iload_n hx hb dL_881 rfl (lv_at hl 0 rfl) ?_
  refine lv_iconst (v := 2) hx hb dL_882 (by decide) ?_
  refine lv_iadd hx hb dL_883 ?_
  refine sc_ld (j := 2) K J (by decide) (by omega) dL_884 ?_
  refine lm_op (maxL := 3) (As := [.int (xs (6 * k + 1)), .int (xs (6 * k + 2))]) (n := 2) K J (w_served kInj_a hM1) (lw_meth q1856) q1856 q1853 q1854 q1855 q94 (by decide +kernel) ⟨(Nat.le_of_ble_eq_true rfl), (Nat.le_of_ble_eq_true rfl)⟩ ⟨by omega, by omega⟩ rfl hl.1 rfl (Nat.le_of_ble_eq_true rfl) dL_885 (fun H locs J => ?_)
  refine lv_icmp_eq (tgt := 1602) hx hb dL_888 rfl (fun _ => ?_) (fun c => absurd rfl c)
  refine W.widen (k := cells + 60) (n := slots + 420) (by omega) (by omega) ?_
  exact kk ks cs1 ms1 H locs J hI1
theorem q1119 : (Jvm.Cond.methodLink "ChapterLoanLaw" (96 : Nat) ({ cls := "ChapterLoan", name := "closed", desc := "(II)I" } : Jvm.MethodName)) ∈ lw_all := lw_g (lw_at lw_m5 75 rfl) rfl
theorem q1120 : (Jvm.Cond.instanceMethod ({ cls := "ChapterLoan", name := "closed", desc := "(II)I" } : Jvm.MethodName)) ∈ lw_all := lw_g (lw_at lw_m5 76 rfl) rfl
theorem q1121 : (Jvm.Cond.selects "ChapterLoan" ({ cls := "ChapterLoan", name := "closed", desc := "(II)I" } : Jvm.MethodName) ({ cls := "ChapterLoan", name := "closed", desc := "(II)I" } : Jvm.MethodName)) ∈ lw_all := lw_g (lw_at lw_m5 77 rfl) rfl
theorem q1122 : (Jvm.Cond.codeWith ({ cls := "ChapterLoan", name := "closed", desc := "(II)I" } : Jvm.MethodName) prog_1_method_42_code (4 : Nat) (Option.some Jvm.ClassFile.FieldType.int) [((0 : Nat), (7 : Nat), (8 : Nat), (8 : Nat))]) ∈ lw_all := lw_g (lw_at lw_m5 78 rfl) rfl
theorem q1874 : (Jvm.Cond.methodLink "ChapterLoanLaw" (99 : Nat) ({ cls := "ChapterLoanModel", name := "closed", desc := "(II)I" } : Jvm.MethodName)) ∈ lw_all := lw_g (lw_at lw_m8 110 rfl) rfl
theorem q1875 : (Jvm.Cond.instanceMethod ({ cls := "ChapterLoanModel", name := "closed", desc := "(II)I" } : Jvm.MethodName)) ∈ lw_all := lw_g (lw_at lw_m8 111 rfl) rfl
theorem q1876 : (Jvm.Cond.selects "ChapterLoanModel" ({ cls := "ChapterLoanModel", name := "closed", desc := "(II)I" } : Jvm.MethodName) ({ cls := "ChapterLoanModel", name := "closed", desc := "(II)I" } : Jvm.MethodName)) ∈ lw_all := lw_g (lw_at lw_m8 112 rfl) rfl
theorem q1877 : (Jvm.Cond.code ({ cls := "ChapterLoanModel", name := "closed", desc := "(II)I" } : Jvm.MethodName) prog_30_method_69_code (3 : Nat) (Option.some Jvm.ClassFile.FieldType.int)) ∈ lw_all := lw_g (lw_at lw_m8 113 rfl) rfl
theorem lcs_closed {I I2 : CS → MSt → Prop} (hst : stp_closed (ad0 n0) adK cA I I2) (K : lK p s m args c D D2 cA cI adK adV n0 b L xs) (J : lJ s.heap D D2 cA cI n0 ks cs mst H locs) (hI : I cs mst) {k : Nat} (hk : 6 * k + 6 ≤ L) (hl : lv_has ls 4 [(3, .int (nI (6 * k))), (2, .ref (n0 + 73)), (1, .ref (ad0 n0 60)), (0, .ref b)]) (hcs : cells + 60 ≤ room_1.cells ∧ slots + 420 ≤ room_1.slots)
    (kk : ∀ (ks1 : List Nat) (cs1 : CS) (ms1 : MSt) (H1 : Heap) (locs1 : List Loc), lJ s.heap D D2 cA cI n0 ks1 cs1 ms1 H1 locs1 → I2 cs1 ms1 → W p l e room_1 s m args below meth c H1 locs1 (cells + 60) (slots + 420) Q (F0 m 1602 ls [])) : W p l e room_1 s m args below meth c H locs cells slots Q (F0 m 893 ls []) := by
  have hx := K.1
  have hb := K.2.1
  have hown := K.2.2.2.1
  have hts := K.2.2.2.2.1
  have hcs1 := hcs.1
  have hcs2 := hcs.2
  refine lv_aload_n hx hb dL_893 rfl (lv_at hl 2 rfl) ?_
  refine lv_aload_n hx hb dL_894 rfl (lv_at hl 3 rfl) ?_
  refine lv_iload_n hx hb dL_895 rfl (lv_at hl 0 rfl) ?_
  refine lv_iconst (v := 1) hx hb dL_896 (by decide) ?_
  refine lv_iadd hx hb dL_897 ?_
  refine sc_ld (j := 1) K J (by decide) (by omega) dL_898 ?_
  refine lv_aload_n hx hb dL_899 rfl (lv_at hl 3 rfl) ?_
  refine lv_iload_n hx hb dL_900 rfl (lv_at hl 0 rfl) ?_
  refine lv_iconst (v := 2) hx hb dL_901 (by decide) ?_
  refine lv_iadd hx hb dL_902 ?_
  refine sc_ld (j := 2) K J (by decide) (by omega) dL_903 ?_
  obtain ⟨r, cs1, ms1, hL1, hM1, hI1⟩ := hst H.size cs mst (xs (6 * k + 1)) (xs (6 * k + 2)) hI (FR_of J.2.1)
  refine lc_op (bytes := cX0_closed) (ret := some .int) (maxL := 4) (As := [.int (xs (6 * k + 1)), .int (xs (6 * k + 2))]) (n := 2) (mc := 0) (ms := 0) K J (op_c J.1 (w_L_closed J.1 hL1)) (lw_methW q1122) (cd_with hts q1122) q1119 q1120 q1121 q85 (by decide +kernel) ⟨(Nat.le_of_ble_eq_true rfl), (Nat.le_of_ble_eq_true rfl)⟩ ⟨by show cells + 0 ≤ _; omega, by show slots + 0 ≤ _; omega⟩ rfl hl.1 rfl (Nat.le_of_ble_eq_true rfl) dL_904 (fun ks H locs J => ?_)
  refine lv_aload_n hx hb dL_907 rfl (lv_at hl 1 rfl) ?_
  refine lv_aload_n hx hb dL_908 rfl (lv_at hl 3 rfl) ?_
  refine lv_iload_n hx hb dL_909 rfl (lv_at hl 0 rfl) ?_
  refine lv_iconst (v := 1) hx hb dL_910 (by decide) ?_
  refine lv_iadd hx hb dL_911 ?_
  refine sc_ld (j := 1) K J (by decide) (by omega) dL_912 ?_
  refine lv_aload_n hx hb dL_913 rfl (lv_at hl 3 rfl) ?_
  refine lv_iload_n hx hb dL_914 rfl (lv_at hl 0 rfl) ?_
  refine lv_iconst (v := 2) hx hb dL_915 (by decide) ?_
  refine lv_iadd hx hb dL_916 ?_
  refine sc_ld (j := 2) K J (by decide) (by omega) dL_917 ?_
  refine lm_op (maxL := 3) (As := [.int (xs (6 * k + 1)), .int (xs (6 * k + 2))]) (n := 2) K J (w_closed kInj_a hM1) (lw_meth q1877) q1877 q1874 q1875 q1876 q94 (by decide +kernel) ⟨(Nat.le_of_ble_eq_true rfl), (Nat.le_of_ble_eq_true rfl)⟩ ⟨by omega, by omega⟩ rfl hl.1 rfl (Nat.le_of_ble_eq_true rfl) dL_918 (fun H locs J => ?_)
  refine lv_icmp_eq (tgt := 1602) hx hb dL_921 rfl (fun _ => ?_) (fun c => absurd rfl c)
  refine W.widen (k := cells + 60) (n := slots + 420) (by omega) (by omega) ?_
  exact kk ks cs1 ms1 H locs J hI1
theorem q1123 : (Jvm.Cond.methodLink "ChapterLoanLaw" (100 : Nat) ({ cls := "ChapterLoan", name := "clashOf", desc := "(I)I" } : Jvm.MethodName)) ∈ lw_all := lw_g (lw_at lw_m5 79 rfl) rfl
theorem q1124 : (Jvm.Cond.instanceMethod ({ cls := "ChapterLoan", name := "clashOf", desc := "(I)I" } : Jvm.MethodName)) ∈ lw_all := lw_g (lw_at lw_m5 80 rfl) rfl
theorem q1125 : (Jvm.Cond.selects "ChapterLoan" ({ cls := "ChapterLoan", name := "clashOf", desc := "(I)I" } : Jvm.MethodName) ({ cls := "ChapterLoan", name := "clashOf", desc := "(I)I" } : Jvm.MethodName)) ∈ lw_all := lw_g (lw_at lw_m5 81 rfl) rfl
theorem q1126 : (Jvm.Cond.codeWith ({ cls := "ChapterLoan", name := "clashOf", desc := "(I)I" } : Jvm.MethodName) prog_1_method_43_code (5 : Nat) (Option.some Jvm.ClassFile.FieldType.int) [((0 : Nat), (128 : Nat), (129 : Nat), (8 : Nat))]) ∈ lw_all := lw_g (lw_at lw_m5 82 rfl) rfl
theorem q1878 : (Jvm.Cond.methodLink "ChapterLoanLaw" (103 : Nat) ({ cls := "ChapterLoanModel", name := "clashOf", desc := "(I)I" } : Jvm.MethodName)) ∈ lw_all := lw_g (lw_at lw_m8 114 rfl) rfl
theorem q1879 : (Jvm.Cond.instanceMethod ({ cls := "ChapterLoanModel", name := "clashOf", desc := "(I)I" } : Jvm.MethodName)) ∈ lw_all := lw_g (lw_at lw_m8 115 rfl) rfl
theorem q1880 : (Jvm.Cond.selects "ChapterLoanModel" ({ cls := "ChapterLoanModel", name := "clashOf", desc := "(I)I" } : Jvm.MethodName) ({ cls := "ChapterLoanModel", name := "clashOf", desc := "(I)I" } : Jvm.MethodName)) ∈ lw_all := lw_g (lw_at lw_m8 116 rfl) rfl
theorem q1881 : (Jvm.Cond.code ({ cls := "ChapterLoanModel", name := "clashOf", desc := "(I)I" } : Jvm.MethodName) prog_30_method_70_code (4 : Nat) (Option.some Jvm.ClassFile.FieldType.int)) ∈ lw_all := lw_g (lw_at lw_m8 117 rfl) rfl
theorem lcs_clashOf {I I2 : CS → MSt → Prop} (hst : stp_clashOf (ad0 n0) adK cA I I2) (K : lK p s m args c D D2 cA cI adK adV n0 b L xs) (J : lJ s.heap D D2 cA cI n0 ks cs mst H locs) (hI : I cs mst) {k : Nat} (hk : 6 * k + 6 ≤ L) (hl : lv_has ls 4 [(3, .int (nI (6 * k))), (2, .ref (n0 + 73)), (1, .ref (ad0 n0 60)), (0, .ref b)]) (hcs : cells + 60 ≤ room_1.cells ∧ slots + 420 ≤ room_1.slots)
    (kk : ∀ (ks1 : List Nat) (cs1 : CS) (ms1 : MSt) (H1 : Heap) (locs1 : List Loc), lJ s.heap D D2 cA cI n0 ks1 cs1 ms1 H1 locs1 → I2 cs1 ms1 → W p l e room_1 s m args below meth c H1 locs1 (cells + 60) (slots + 420) Q (F0 m 1602 ls [])) : W p l e room_1 s m args below meth c H locs cells slots Q (F0 m 926 ls []) := by
  have hx := K.1
  have hb := K.2.1
  have hown := K.2.2.2.1
  have hts := K.2.2.2.2.1
  have hcs1 := hcs.1
  have hcs2 := hcs.2
  refine lv_aload_n hx hb dL_926 rfl (lv_at hl 2 rfl) ?_
  refine lv_aload_n hx hb dL_927 rfl (lv_at hl 3 rfl) ?_
  refine lv_iload_n hx hb dL_928 rfl (lv_at hl 0 rfl) ?_
  refine lv_iconst (v := 1) hx hb dL_929 (by decide) ?_
  refine lv_iadd hx hb dL_930 ?_
  refine sc_ld (j := 1) K J (by decide) (by omega) dL_931 ?_
  obtain ⟨r, cs1, ms1, hL1, hM1, hI1⟩ := hst H.size cs mst (xs (6 * k + 1)) hI (FR_of J.2.1)
  refine lc_op (bytes := cX0_clashOf) (ret := some .int) (maxL := 5) (As := [.int (xs (6 * k + 1))]) (n := 1) (mc := 0) (ms := 0) K J (op_c J.1 (w_L_clashOf J.1 hL1)) (lw_methW q1126) (cd_with hts q1126) q1123 q1124 q1125 q85 (by decide +kernel) ⟨(Nat.le_of_ble_eq_true rfl), (Nat.le_of_ble_eq_true rfl)⟩ ⟨by show cells + 0 ≤ _; omega, by show slots + 0 ≤ _; omega⟩ rfl hl.1 rfl (Nat.le_of_ble_eq_true rfl) dL_932 (fun ks H locs J => ?_)
  refine lv_aload_n hx hb dL_935 rfl (lv_at hl 1 rfl) ?_
  refine lv_aload_n hx hb dL_936 rfl (lv_at hl 3 rfl) ?_
  refine lv_iload_n hx hb dL_937 rfl (lv_at hl 0 rfl) ?_
  refine lv_iconst (v := 1) hx hb dL_938 (by decide) ?_
  refine lv_iadd hx hb dL_939 ?_
  refine sc_ld (j := 1) K J (by decide) (by omega) dL_940 ?_
  refine lm_op (maxL := 4) (As := [.int (xs (6 * k + 1))]) (n := 1) K J (w_clashOf kInj_a hM1) (lw_meth q1881) q1881 q1878 q1879 q1880 q94 (by decide +kernel) ⟨(Nat.le_of_ble_eq_true rfl), (Nat.le_of_ble_eq_true rfl)⟩ ⟨by omega, by omega⟩ rfl hl.1 rfl (Nat.le_of_ble_eq_true rfl) dL_941 (fun H locs J => ?_)
  refine lv_icmp_eq (tgt := 1602) hx hb dL_944 rfl (fun _ => ?_) (fun c => absurd rfl c)
  refine W.widen (k := cells + 60) (n := slots + 420) (by omega) (by omega) ?_
  exact kk ks cs1 ms1 H locs J hI1
theorem q1127 : (Jvm.Cond.methodLink "ChapterLoanLaw" (104 : Nat) ({ cls := "ChapterLoan", name := "joined", desc := "(II)I" } : Jvm.MethodName)) ∈ lw_all := lw_g (lw_at lw_m5 83 rfl) rfl
theorem q1128 : (Jvm.Cond.instanceMethod ({ cls := "ChapterLoan", name := "joined", desc := "(II)I" } : Jvm.MethodName)) ∈ lw_all := lw_g (lw_at lw_m5 84 rfl) rfl
theorem q1129 : (Jvm.Cond.selects "ChapterLoan" ({ cls := "ChapterLoan", name := "joined", desc := "(II)I" } : Jvm.MethodName) ({ cls := "ChapterLoan", name := "joined", desc := "(II)I" } : Jvm.MethodName)) ∈ lw_all := lw_g (lw_at lw_m5 85 rfl) rfl
theorem q1130 : (Jvm.Cond.codeWith ({ cls := "ChapterLoan", name := "joined", desc := "(II)I" } : Jvm.MethodName) prog_1_method_44_code (7 : Nat) (Option.some Jvm.ClassFile.FieldType.int) [((0 : Nat), (120 : Nat), (121 : Nat), (8 : Nat))]) ∈ lw_all := lw_g (lw_at lw_m5 86 rfl) rfl
theorem q1882 : (Jvm.Cond.methodLink "ChapterLoanLaw" (107 : Nat) ({ cls := "ChapterLoanModel", name := "joined", desc := "(II)I" } : Jvm.MethodName)) ∈ lw_all := lw_g (lw_at lw_m8 118 rfl) rfl
theorem q1883 : (Jvm.Cond.instanceMethod ({ cls := "ChapterLoanModel", name := "joined", desc := "(II)I" } : Jvm.MethodName)) ∈ lw_all := lw_g (lw_at lw_m8 119 rfl) rfl
theorem q1884 : (Jvm.Cond.selects "ChapterLoanModel" ({ cls := "ChapterLoanModel", name := "joined", desc := "(II)I" } : Jvm.MethodName) ({ cls := "ChapterLoanModel", name := "joined", desc := "(II)I" } : Jvm.MethodName)) ∈ lw_all := lw_g (lw_at lw_m8 120 rfl) rfl
theorem q1885 : (Jvm.Cond.code ({ cls := "ChapterLoanModel", name := "joined", desc := "(II)I" } : Jvm.MethodName) prog_30_method_71_code (6 : Nat) (Option.some Jvm.ClassFile.FieldType.int)) ∈ lw_all := lw_g (lw_at lw_m8 121 rfl) rfl
theorem lcs_joined {I I2 : CS → MSt → Prop} (hst : stp_joined (ad0 n0) adK cA I I2) (K : lK p s m args c D D2 cA cI adK adV n0 b L xs) (J : lJ s.heap D D2 cA cI n0 ks cs mst H locs) (hI : I cs mst) {k : Nat} (hk : 6 * k + 6 ≤ L) (hl : lv_has ls 4 [(3, .int (nI (6 * k))), (2, .ref (n0 + 73)), (1, .ref (ad0 n0 60)), (0, .ref b)]) (hcs : cells + 60 ≤ room_1.cells ∧ slots + 420 ≤ room_1.slots)
    (kk : ∀ (ks1 : List Nat) (cs1 : CS) (ms1 : MSt) (H1 : Heap) (locs1 : List Loc), lJ s.heap D D2 cA cI n0 ks1 cs1 ms1 H1 locs1 → I2 cs1 ms1 → W p l e room_1 s m args below meth c H1 locs1 (cells + 60) (slots + 420) Q (F0 m 1602 ls [])) : W p l e room_1 s m args below meth c H locs cells slots Q (F0 m 949 ls []) := by
  have hx := K.1
  have hb := K.2.1
  have hown := K.2.2.2.1
  have hts := K.2.2.2.2.1
  have hcs1 := hcs.1
  have hcs2 := hcs.2
  refine lv_aload_n hx hb dL_949 rfl (lv_at hl 2 rfl) ?_
  refine lv_aload_n hx hb dL_950 rfl (lv_at hl 3 rfl) ?_
  refine lv_iload_n hx hb dL_951 rfl (lv_at hl 0 rfl) ?_
  refine lv_iconst (v := 1) hx hb dL_952 (by decide) ?_
  refine lv_iadd hx hb dL_953 ?_
  refine sc_ld (j := 1) K J (by decide) (by omega) dL_954 ?_
  refine lv_aload_n hx hb dL_955 rfl (lv_at hl 3 rfl) ?_
  refine lv_iload_n hx hb dL_956 rfl (lv_at hl 0 rfl) ?_
  refine lv_iconst (v := 2) hx hb dL_957 (by decide) ?_
  refine lv_iadd hx hb dL_958 ?_
  refine sc_ld (j := 2) K J (by decide) (by omega) dL_959 ?_
  obtain ⟨r, cs1, ms1, hL1, hM1, hI1⟩ := hst H.size cs mst (xs (6 * k + 1)) (xs (6 * k + 2)) hI (FR_of J.2.1)
  refine lc_op (bytes := cX0_joined) (ret := some .int) (maxL := 7) (As := [.int (xs (6 * k + 1)), .int (xs (6 * k + 2))]) (n := 2) (mc := 0) (ms := 0) K J (op_c J.1 (w_L_joined J.1 hL1)) (lw_methW q1130) (cd_with hts q1130) q1127 q1128 q1129 q85 (by decide +kernel) ⟨(Nat.le_of_ble_eq_true rfl), (Nat.le_of_ble_eq_true rfl)⟩ ⟨by show cells + 0 ≤ _; omega, by show slots + 0 ≤ _; omega⟩ rfl hl.1 rfl (Nat.le_of_ble_eq_true rfl) dL_960 (fun ks H locs J => ?_)
  refine lv_aload_n hx hb dL_963 rfl (lv_at hl 1 rfl) ?_
  refine lv_aload_n hx hb dL_964 rfl (lv_at hl 3 rfl) ?_
  refine lv_iload_n hx hb dL_965 rfl (lv_at hl 0 rfl) ?_
  refine lv_iconst (v := 1) hx hb dL_966 (by decide) ?_
  refine lv_iadd hx hb dL_967 ?_
  refine sc_ld (j := 1) K J (by decide) (by omega) dL_968 ?_
  refine lv_aload_n hx hb dL_969 rfl (lv_at hl 3 rfl) ?_
  refine lv_iload_n hx hb dL_970 rfl (lv_at hl 0 rfl) ?_
  refine lv_iconst (v := 2) hx hb dL_971 (by decide) ?_
  refine lv_iadd hx hb dL_972 ?_
  refine sc_ld (j := 2) K J (by decide) (by omega) dL_973 ?_
  refine lm_op (maxL := 6) (As := [.int (xs (6 * k + 1)), .int (xs (6 * k + 2))]) (n := 2) K J (w_joined kInj_a hM1) (lw_meth q1885) q1885 q1882 q1883 q1884 q94 (by decide +kernel) ⟨(Nat.le_of_ble_eq_true rfl), (Nat.le_of_ble_eq_true rfl)⟩ ⟨by omega, by omega⟩ rfl hl.1 rfl (Nat.le_of_ble_eq_true rfl) dL_974 (fun H locs J => ?_)
  refine lv_icmp_eq (tgt := 1602) hx hb dL_977 rfl (fun _ => ?_) (fun c => absurd rfl c)
  refine W.widen (k := cells + 60) (n := slots + 420) (by omega) (by omega) ?_
  exact kk ks cs1 ms1 H locs J hI1
theorem q1131 : (Jvm.Cond.methodLink "ChapterLoanLaw" (108 : Nat) ({ cls := "ChapterLoan", name := "rated", desc := "(III)I" } : Jvm.MethodName)) ∈ lw_all := lw_g (lw_at lw_m5 87 rfl) rfl
theorem q1132 : (Jvm.Cond.instanceMethod ({ cls := "ChapterLoan", name := "rated", desc := "(III)I" } : Jvm.MethodName)) ∈ lw_all := lw_g (lw_at lw_m5 88 rfl) rfl
theorem q1133 : (Jvm.Cond.selects "ChapterLoan" ({ cls := "ChapterLoan", name := "rated", desc := "(III)I" } : Jvm.MethodName) ({ cls := "ChapterLoan", name := "rated", desc := "(III)I" } : Jvm.MethodName)) ∈ lw_all := lw_g (lw_at lw_m5 89 rfl) rfl
theorem q1134 : (Jvm.Cond.codeWith ({ cls := "ChapterLoan", name := "rated", desc := "(III)I" } : Jvm.MethodName) prog_1_method_46_code (9 : Nat) (Option.some Jvm.ClassFile.FieldType.int) [((0 : Nat), (156 : Nat), (157 : Nat), (8 : Nat))]) ∈ lw_all := lw_g (lw_at lw_m5 90 rfl) rfl
theorem q1886 : (Jvm.Cond.methodLink "ChapterLoanLaw" (111 : Nat) ({ cls := "ChapterLoanModel", name := "rated", desc := "(III)I" } : Jvm.MethodName)) ∈ lw_all := lw_g (lw_at lw_m8 122 rfl) rfl
theorem q1887 : (Jvm.Cond.instanceMethod ({ cls := "ChapterLoanModel", name := "rated", desc := "(III)I" } : Jvm.MethodName)) ∈ lw_all := lw_g (lw_at lw_m8 123 rfl) rfl
theorem q1888 : (Jvm.Cond.selects "ChapterLoanModel" ({ cls := "ChapterLoanModel", name := "rated", desc := "(III)I" } : Jvm.MethodName) ({ cls := "ChapterLoanModel", name := "rated", desc := "(III)I" } : Jvm.MethodName)) ∈ lw_all := lw_g (lw_at lw_m8 124 rfl) rfl
theorem q1889 : (Jvm.Cond.code ({ cls := "ChapterLoanModel", name := "rated", desc := "(III)I" } : Jvm.MethodName) prog_30_method_73_code (8 : Nat) (Option.some Jvm.ClassFile.FieldType.int)) ∈ lw_all := lw_g (lw_at lw_m8 125 rfl) rfl
theorem lcs_rated {I I2 : CS → MSt → Prop} (hst : stp_rated (ad0 n0) adK cA I I2) (K : lK p s m args c D D2 cA cI adK adV n0 b L xs) (J : lJ s.heap D D2 cA cI n0 ks cs mst H locs) (hI : I cs mst) {k : Nat} (hk : 6 * k + 6 ≤ L) (hl : lv_has ls 4 [(3, .int (nI (6 * k))), (2, .ref (n0 + 73)), (1, .ref (ad0 n0 60)), (0, .ref b)]) (hcs : cells + 60 ≤ room_1.cells ∧ slots + 420 ≤ room_1.slots)
    (kk : ∀ (ks1 : List Nat) (cs1 : CS) (ms1 : MSt) (H1 : Heap) (locs1 : List Loc), lJ s.heap D D2 cA cI n0 ks1 cs1 ms1 H1 locs1 → I2 cs1 ms1 → W p l e room_1 s m args below meth c H1 locs1 (cells + 60) (slots + 420) Q (F0 m 1602 ls [])) : W p l e room_1 s m args below meth c H locs cells slots Q (F0 m 982 ls []) := by
  have hx := K.1
  have hb := K.2.1
  have hown := K.2.2.2.1
  have hts := K.2.2.2.2.1
  have hcs1 := hcs.1
  have hcs2 := hcs.2
  refine lv_aload_n hx hb dL_982 rfl (lv_at hl 2 rfl) ?_
  refine lv_aload_n hx hb dL_983 rfl (lv_at hl 3 rfl) ?_
  refine lv_iload_n hx hb dL_984 rfl (lv_at hl 0 rfl) ?_
  refine lv_iconst (v := 1) hx hb dL_985 (by decide) ?_
  refine lv_iadd hx hb dL_986 ?_
  refine sc_ld (j := 1) K J (by decide) (by omega) dL_987 ?_
  refine lv_aload_n hx hb dL_988 rfl (lv_at hl 3 rfl) ?_
  refine lv_iload_n hx hb dL_989 rfl (lv_at hl 0 rfl) ?_
  refine lv_iconst (v := 2) hx hb dL_990 (by decide) ?_
  refine lv_iadd hx hb dL_991 ?_
  refine sc_ld (j := 2) K J (by decide) (by omega) dL_992 ?_
  refine lv_aload_n hx hb dL_993 rfl (lv_at hl 3 rfl) ?_
  refine lv_iload_n hx hb dL_994 rfl (lv_at hl 0 rfl) ?_
  refine lv_iconst (v := 3) hx hb dL_995 (by decide) ?_
  refine lv_iadd hx hb dL_996 ?_
  refine sc_ld (j := 3) K J (by decide) (by omega) dL_997 ?_
  obtain ⟨r, cs1, ms1, hL1, hM1, hI1⟩ := hst H.size cs mst (xs (6 * k + 1)) (xs (6 * k + 2)) (xs (6 * k + 3)) hI (FR_of J.2.1)
  refine lc_op (bytes := cX0_rated) (ret := some .int) (maxL := 9) (As := [.int (xs (6 * k + 1)), .int (xs (6 * k + 2)), .int (xs (6 * k + 3))]) (n := 3) (mc := 0) (ms := 0) K J (op_c J.1 (w_L_rated J.1 hL1)) (lw_methW q1134) (cd_with hts q1134) q1131 q1132 q1133 q85 (by decide +kernel) ⟨(Nat.le_of_ble_eq_true rfl), (Nat.le_of_ble_eq_true rfl)⟩ ⟨by show cells + 0 ≤ _; omega, by show slots + 0 ≤ _; omega⟩ rfl hl.1 rfl (Nat.le_of_ble_eq_true rfl) dL_998 (fun ks H locs J => ?_)
  refine lv_aload_n hx hb dL_1001 rfl (lv_at hl 1 rfl) ?_
  refine lv_aload_n hx hb dL_1002 rfl (lv_at hl 3 rfl) ?_
  refine lv_iload_n hx hb dL_1003 rfl (lv_at hl 0 rfl) ?_
  refine lv_iconst (v := 1) hx hb dL_1004 (by decide) ?_
  refine lv_iadd hx hb dL_1005 ?_
  refine sc_ld (j := 1) K J (by decide) (by omega) dL_1006 ?_
  refine lv_aload_n hx hb dL_1007 rfl (lv_at hl 3 rfl) ?_
  refine lv_iload_n hx hb dL_1008 rfl (lv_at hl 0 rfl) ?_
  refine lv_iconst (v := 2) hx hb dL_1009 (by decide) ?_
  refine lv_iadd hx hb dL_1010 ?_
  refine sc_ld (j := 2) K J (by decide) (by omega) dL_1011 ?_
  refine lv_aload_n hx hb dL_1012 rfl (lv_at hl 3 rfl) ?_
  refine lv_iload_n hx hb dL_1013 rfl (lv_at hl 0 rfl) ?_
  refine lv_iconst (v := 3) hx hb dL_1014 (by decide) ?_
  refine lv_iadd hx hb dL_1015 ?_
  refine sc_ld (j := 3) K J (by decide) (by omega) dL_1016 ?_
  refine lm_op (maxL := 8) (As := [.int (xs (6 * k + 1)), .int (xs (6 * k + 2)), .int (xs (6 * k + 3))]) (n := 3) K J (w_rated kInj_a hM1) (lw_meth q1889) q1889 q1886 q1887 q1888 q94 (by decide +kernel) ⟨(Nat.le_of_ble_eq_true rfl), (Nat.le_of_ble_eq_true rfl)⟩ ⟨by omega, by omega⟩ rfl hl.1 rfl (Nat.le_of_ble_eq_true rfl) dL_1017 (fun H locs J => ?_)
  refine lv_icmp_eq (tgt := 1602) hx hb dL_1020 rfl (fun _ => ?_) (fun c => absurd rfl c)
  refine W.widen (k := cells + 60) (n := slots + 420) (by omega) (by omega) ?_
  exact kk ks cs1 ms1 H locs J hI1
theorem q1139 : (Jvm.Cond.methodLink "ChapterLoanLaw" (112 : Nat) ({ cls := "ChapterLoan", name := "explained", desc := "(II)I" } : Jvm.MethodName)) ∈ lw_all := lw_g (lw_at lw_m5 95 rfl) rfl
theorem q1140 : (Jvm.Cond.instanceMethod ({ cls := "ChapterLoan", name := "explained", desc := "(II)I" } : Jvm.MethodName)) ∈ lw_all := lw_g (lw_at lw_m5 96 rfl) rfl
theorem q1141 : (Jvm.Cond.selects "ChapterLoan" ({ cls := "ChapterLoan", name := "explained", desc := "(II)I" } : Jvm.MethodName) ({ cls := "ChapterLoan", name := "explained", desc := "(II)I" } : Jvm.MethodName)) ∈ lw_all := lw_g (lw_at lw_m5 97 rfl) rfl
theorem q1142 : (Jvm.Cond.codeWith ({ cls := "ChapterLoan", name := "explained", desc := "(II)I" } : Jvm.MethodName) prog_1_method_48_code (5 : Nat) (Option.some Jvm.ClassFile.FieldType.int) [((0 : Nat), (77 : Nat), (78 : Nat), (8 : Nat))]) ∈ lw_all := lw_g (lw_at lw_m5 98 rfl) rfl
theorem q1895 : (Jvm.Cond.methodLink "ChapterLoanLaw" (115 : Nat) ({ cls := "ChapterLoanModel", name := "explained", desc := "(II)I" } : Jvm.MethodName)) ∈ lw_all := lw_g (lw_at lw_m8 131 rfl) rfl
theorem q1896 : (Jvm.Cond.instanceMethod ({ cls := "ChapterLoanModel", name := "explained", desc := "(II)I" } : Jvm.MethodName)) ∈ lw_all := lw_g (lw_at lw_m8 132 rfl) rfl
theorem q1897 : (Jvm.Cond.selects "ChapterLoanModel" ({ cls := "ChapterLoanModel", name := "explained", desc := "(II)I" } : Jvm.MethodName) ({ cls := "ChapterLoanModel", name := "explained", desc := "(II)I" } : Jvm.MethodName)) ∈ lw_all := lw_g (lw_at lw_m8 133 rfl) rfl
theorem q1898 : (Jvm.Cond.code ({ cls := "ChapterLoanModel", name := "explained", desc := "(II)I" } : Jvm.MethodName) prog_30_method_75_code (6 : Nat) (Option.some Jvm.ClassFile.FieldType.int)) ∈ lw_all := lw_g (lw_at lw_m8 134 rfl) rfl
theorem lcs_explained {I I2 : CS → MSt → Prop} (hst : stp_explained (ad0 n0) adK cA I I2) (K : lK p s m args c D D2 cA cI adK adV n0 b L xs) (J : lJ s.heap D D2 cA cI n0 ks cs mst H locs) (hI : I cs mst) {k : Nat} (hk : 6 * k + 6 ≤ L) (hl : lv_has ls 4 [(3, .int (nI (6 * k))), (2, .ref (n0 + 73)), (1, .ref (ad0 n0 60)), (0, .ref b)]) (hcs : cells + 60 ≤ room_1.cells ∧ slots + 420 ≤ room_1.slots)
    (kk : ∀ (ks1 : List Nat) (cs1 : CS) (ms1 : MSt) (H1 : Heap) (locs1 : List Loc), lJ s.heap D D2 cA cI n0 ks1 cs1 ms1 H1 locs1 → I2 cs1 ms1 → W p l e room_1 s m args below meth c H1 locs1 (cells + 60) (slots + 420) Q (F0 m 1602 ls [])) : W p l e room_1 s m args below meth c H locs cells slots Q (F0 m 1025 ls []) := by
  have hx := K.1
  have hb := K.2.1
  have hown := K.2.2.2.1
  have hts := K.2.2.2.2.1
  have hcs1 := hcs.1
  have hcs2 := hcs.2
  refine lv_aload_n hx hb dL_1025 rfl (lv_at hl 2 rfl) ?_
  refine lv_aload_n hx hb dL_1026 rfl (lv_at hl 3 rfl) ?_
  refine lv_iload_n hx hb dL_1027 rfl (lv_at hl 0 rfl) ?_
  refine lv_iconst (v := 1) hx hb dL_1028 (by decide) ?_
  refine lv_iadd hx hb dL_1029 ?_
  refine sc_ld (j := 1) K J (by decide) (by omega) dL_1030 ?_
  refine lv_aload_n hx hb dL_1031 rfl (lv_at hl 3 rfl) ?_
  refine lv_iload_n hx hb dL_1032 rfl (lv_at hl 0 rfl) ?_
  refine lv_iconst (v := 2) hx hb dL_1033 (by decide) ?_
  refine lv_iadd hx hb dL_1034 ?_
  refine sc_ld (j := 2) K J (by decide) (by omega) dL_1035 ?_
  obtain ⟨r, cs1, ms1, hL1, hM1, hI1⟩ := hst H.size cs mst (xs (6 * k + 1)) (xs (6 * k + 2)) hI (FR_of J.2.1)
  refine lc_op (bytes := cX0_explained) (ret := some .int) (maxL := 5) (As := [.int (xs (6 * k + 1)), .int (xs (6 * k + 2))]) (n := 2) (mc := 7) (ms := 21) K J (op_n (w_L_explained ad0_P J.1 hL1)) (lw_methW q1142) (cd_with hts q1142) q1139 q1140 q1141 q85 (by decide +kernel) ⟨(Nat.le_of_ble_eq_true rfl), (Nat.le_of_ble_eq_true rfl)⟩ ⟨by show cells + 7 ≤ _; omega, by show slots + 21 ≤ _; omega⟩ rfl hl.1 rfl (Nat.le_of_ble_eq_true rfl) dL_1036 (fun ks H locs J => ?_)
  refine lv_aload_n hx hb dL_1039 rfl (lv_at hl 1 rfl) ?_
  refine lv_aload_n hx hb dL_1040 rfl (lv_at hl 3 rfl) ?_
  refine lv_iload_n hx hb dL_1041 rfl (lv_at hl 0 rfl) ?_
  refine lv_iconst (v := 1) hx hb dL_1042 (by decide) ?_
  refine lv_iadd hx hb dL_1043 ?_
  refine sc_ld (j := 1) K J (by decide) (by omega) dL_1044 ?_
  refine lv_aload_n hx hb dL_1045 rfl (lv_at hl 3 rfl) ?_
  refine lv_iload_n hx hb dL_1046 rfl (lv_at hl 0 rfl) ?_
  refine lv_iconst (v := 2) hx hb dL_1047 (by decide) ?_
  refine lv_iadd hx hb dL_1048 ?_
  refine sc_ld (j := 2) K J (by decide) (by omega) dL_1049 ?_
  refine lm_op (maxL := 6) (As := [.int (xs (6 * k + 1)), .int (xs (6 * k + 2))]) (n := 2) K J (w_explained kInj_a hM1) (lw_meth q1898) q1898 q1895 q1896 q1897 q94 (by decide +kernel) ⟨(Nat.le_of_ble_eq_true rfl), (Nat.le_of_ble_eq_true rfl)⟩ ⟨by omega, by omega⟩ rfl hl.1 rfl (Nat.le_of_ble_eq_true rfl) dL_1050 (fun H locs J => ?_)
  refine lv_icmp_eq (tgt := 1602) hx hb dL_1053 rfl (fun _ => ?_) (fun c => absurd rfl c)
  refine W.widen (k := cells + 60) (n := slots + 420) (by omega) (by omega) ?_
  exact kk ks cs1 ms1 H locs J hI1
theorem q1179 : (Jvm.Cond.methodLink "ChapterLoanLaw" (116 : Nat) ({ cls := "ChapterLoan", name := "meeting", desc := "(III)I" } : Jvm.MethodName)) ∈ lw_all := lw_g (lw_at lw_m5 135 rfl) rfl
theorem q1180 : (Jvm.Cond.instanceMethod ({ cls := "ChapterLoan", name := "meeting", desc := "(III)I" } : Jvm.MethodName)) ∈ lw_all := lw_g (lw_at lw_m5 136 rfl) rfl
theorem q1181 : (Jvm.Cond.selects "ChapterLoan" ({ cls := "ChapterLoan", name := "meeting", desc := "(III)I" } : Jvm.MethodName) ({ cls := "ChapterLoan", name := "meeting", desc := "(III)I" } : Jvm.MethodName)) ∈ lw_all := lw_g (lw_at lw_m5 137 rfl) rfl
theorem q1182 : (Jvm.Cond.codeWith ({ cls := "ChapterLoan", name := "meeting", desc := "(III)I" } : Jvm.MethodName) prog_1_method_49_code (5 : Nat) (Option.some Jvm.ClassFile.FieldType.int) [((0 : Nat), (115 : Nat), (116 : Nat), (8 : Nat))]) ∈ lw_all := lw_g (lw_at lw_m5 138 rfl) rfl
theorem q1907 : (Jvm.Cond.methodLink "ChapterLoanLaw" (119 : Nat) ({ cls := "ChapterLoanModel", name := "meeting", desc := "(III)I" } : Jvm.MethodName)) ∈ lw_all := lw_g (lw_at lw_m8 143 rfl) rfl
theorem q1908 : (Jvm.Cond.instanceMethod ({ cls := "ChapterLoanModel", name := "meeting", desc := "(III)I" } : Jvm.MethodName)) ∈ lw_all := lw_g (lw_at lw_m8 144 rfl) rfl
theorem q1909 : (Jvm.Cond.selects "ChapterLoanModel" ({ cls := "ChapterLoanModel", name := "meeting", desc := "(III)I" } : Jvm.MethodName) ({ cls := "ChapterLoanModel", name := "meeting", desc := "(III)I" } : Jvm.MethodName)) ∈ lw_all := lw_g (lw_at lw_m8 145 rfl) rfl
theorem q1910 : (Jvm.Cond.code ({ cls := "ChapterLoanModel", name := "meeting", desc := "(III)I" } : Jvm.MethodName) prog_30_method_76_code (5 : Nat) (Option.some Jvm.ClassFile.FieldType.int)) ∈ lw_all := lw_g (lw_at lw_m8 146 rfl) rfl
theorem lcs_meeting {I I2 : CS → MSt → Prop} (hst : stp_meeting (ad0 n0) adK cA I I2) (K : lK p s m args c D D2 cA cI adK adV n0 b L xs) (J : lJ s.heap D D2 cA cI n0 ks cs mst H locs) (hI : I cs mst) {k : Nat} (hk : 6 * k + 6 ≤ L) (hl : lv_has ls 4 [(3, .int (nI (6 * k))), (2, .ref (n0 + 73)), (1, .ref (ad0 n0 60)), (0, .ref b)]) (hcs : cells + 60 ≤ room_1.cells ∧ slots + 420 ≤ room_1.slots)
    (kk : ∀ (ks1 : List Nat) (cs1 : CS) (ms1 : MSt) (H1 : Heap) (locs1 : List Loc), lJ s.heap D D2 cA cI n0 ks1 cs1 ms1 H1 locs1 → I2 cs1 ms1 → W p l e room_1 s m args below meth c H1 locs1 (cells + 60) (slots + 420) Q (F0 m 1602 ls [])) : W p l e room_1 s m args below meth c H locs cells slots Q (F0 m 1058 ls []) := by
  have hx := K.1
  have hb := K.2.1
  have hown := K.2.2.2.1
  have hts := K.2.2.2.2.1
  have hcs1 := hcs.1
  have hcs2 := hcs.2
  refine lv_aload_n hx hb dL_1058 rfl (lv_at hl 2 rfl) ?_
  refine lv_aload_n hx hb dL_1059 rfl (lv_at hl 3 rfl) ?_
  refine lv_iload_n hx hb dL_1060 rfl (lv_at hl 0 rfl) ?_
  refine lv_iconst (v := 1) hx hb dL_1061 (by decide) ?_
  refine lv_iadd hx hb dL_1062 ?_
  refine sc_ld (j := 1) K J (by decide) (by omega) dL_1063 ?_
  refine lv_aload_n hx hb dL_1064 rfl (lv_at hl 3 rfl) ?_
  refine lv_iload_n hx hb dL_1065 rfl (lv_at hl 0 rfl) ?_
  refine lv_iconst (v := 2) hx hb dL_1066 (by decide) ?_
  refine lv_iadd hx hb dL_1067 ?_
  refine sc_ld (j := 2) K J (by decide) (by omega) dL_1068 ?_
  refine lv_aload_n hx hb dL_1069 rfl (lv_at hl 3 rfl) ?_
  refine lv_iload_n hx hb dL_1070 rfl (lv_at hl 0 rfl) ?_
  refine lv_iconst (v := 3) hx hb dL_1071 (by decide) ?_
  refine lv_iadd hx hb dL_1072 ?_
  refine sc_ld (j := 3) K J (by decide) (by omega) dL_1073 ?_
  obtain ⟨r, cs1, ms1, hL1, hM1, hI1⟩ := hst H.size cs mst (xs (6 * k + 1)) (xs (6 * k + 2)) (xs (6 * k + 3)) hI (FR_of J.2.1)
  refine lc_op (bytes := cX0_meeting) (ret := some .int) (maxL := 5) (As := [.int (xs (6 * k + 1)), .int (xs (6 * k + 2)), .int (xs (6 * k + 3))]) (n := 3) (mc := 0) (ms := 0) K J (op_c J.1 (w_L_meeting J.1 hL1)) (lw_methW q1182) (cd_with hts q1182) q1179 q1180 q1181 q85 (by decide +kernel) ⟨(Nat.le_of_ble_eq_true rfl), (Nat.le_of_ble_eq_true rfl)⟩ ⟨by show cells + 0 ≤ _; omega, by show slots + 0 ≤ _; omega⟩ rfl hl.1 rfl (Nat.le_of_ble_eq_true rfl) dL_1074 (fun ks H locs J => ?_)
  refine lv_aload_n hx hb dL_1077 rfl (lv_at hl 1 rfl) ?_
  refine lv_aload_n hx hb dL_1078 rfl (lv_at hl 3 rfl) ?_
  refine lv_iload_n hx hb dL_1079 rfl (lv_at hl 0 rfl) ?_
  refine lv_iconst (v := 1) hx hb dL_1080 (by decide) ?_
  refine lv_iadd hx hb dL_1081 ?_
  refine sc_ld (j := 1) K J (by decide) (by omega) dL_1082 ?_
  refine lv_aload_n hx hb dL_1083 rfl (lv_at hl 3 rfl) ?_
  refine lv_iload_n hx hb dL_1084 rfl (lv_at hl 0 rfl) ?_
  refine lv_iconst (v := 2) hx hb dL_1085 (by decide) ?_
  refine lv_iadd hx hb dL_1086 ?_
  refine sc_ld (j := 2) K J (by decide) (by omega) dL_1087 ?_
  refine lv_aload_n hx hb dL_1088 rfl (lv_at hl 3 rfl) ?_
  refine lv_iload_n hx hb dL_1089 rfl (lv_at hl 0 rfl) ?_
  refine lv_iconst (v := 3) hx hb dL_1090 (by decide) ?_
  refine lv_iadd hx hb dL_1091 ?_
  refine sc_ld (j := 3) K J (by decide) (by omega) dL_1092 ?_
  refine lm_op (maxL := 5) (As := [.int (xs (6 * k + 1)), .int (xs (6 * k + 2)), .int (xs (6 * k + 3))]) (n := 3) K J (w_meeting kInj_a hM1) (lw_meth q1910) q1910 q1907 q1908 q1909 q94 (by decide +kernel) ⟨(Nat.le_of_ble_eq_true rfl), (Nat.le_of_ble_eq_true rfl)⟩ ⟨by omega, by omega⟩ rfl hl.1 rfl (Nat.le_of_ble_eq_true rfl) dL_1093 (fun H locs J => ?_)
  refine lv_icmp_eq (tgt := 1602) hx hb dL_1096 rfl (fun _ => ?_) (fun c => absurd rfl c)
  refine W.widen (k := cells + 60) (n := slots + 420) (by omega) (by omega) ?_
  exact kk ks cs1 ms1 H locs J hI1
theorem q1189 : (Jvm.Cond.methodLink "ChapterLoanLaw" (120 : Nat) ({ cls := "ChapterLoan", name := "knows", desc := "(II)I" } : Jvm.MethodName)) ∈ lw_all := lw_g (lw_at lw_m5 145 rfl) rfl
theorem q1190 : (Jvm.Cond.instanceMethod ({ cls := "ChapterLoan", name := "knows", desc := "(II)I" } : Jvm.MethodName)) ∈ lw_all := lw_g (lw_at lw_m5 146 rfl) rfl
theorem q1191 : (Jvm.Cond.selects "ChapterLoan" ({ cls := "ChapterLoan", name := "knows", desc := "(II)I" } : Jvm.MethodName) ({ cls := "ChapterLoan", name := "knows", desc := "(II)I" } : Jvm.MethodName)) ∈ lw_all := lw_g (lw_at lw_m5 147 rfl) rfl
theorem q1192 : (Jvm.Cond.codeWith ({ cls := "ChapterLoan", name := "knows", desc := "(II)I" } : Jvm.MethodName) prog_1_method_52_code (4 : Nat) (Option.some Jvm.ClassFile.FieldType.int) [((0 : Nat), (30 : Nat), (31 : Nat), (8 : Nat))]) ∈ lw_all := lw_g (lw_at lw_m5 148 rfl) rfl
theorem q1911 : (Jvm.Cond.methodLink "ChapterLoanLaw" (123 : Nat) ({ cls := "ChapterLoanModel", name := "knows", desc := "(II)I" } : Jvm.MethodName)) ∈ lw_all := lw_g (lw_at lw_m8 147 rfl) rfl
theorem q1912 : (Jvm.Cond.instanceMethod ({ cls := "ChapterLoanModel", name := "knows", desc := "(II)I" } : Jvm.MethodName)) ∈ lw_all := lw_g (lw_at lw_m8 148 rfl) rfl
theorem q1913 : (Jvm.Cond.selects "ChapterLoanModel" ({ cls := "ChapterLoanModel", name := "knows", desc := "(II)I" } : Jvm.MethodName) ({ cls := "ChapterLoanModel", name := "knows", desc := "(II)I" } : Jvm.MethodName)) ∈ lw_all := lw_g (lw_at lw_m8 149 rfl) rfl
theorem q1914 : (Jvm.Cond.code ({ cls := "ChapterLoanModel", name := "knows", desc := "(II)I" } : Jvm.MethodName) prog_30_method_79_code (3 : Nat) (Option.some Jvm.ClassFile.FieldType.int)) ∈ lw_all := lw_g (lw_at lw_m8 150 rfl) rfl
theorem lcs_knows {I I2 : CS → MSt → Prop} (hst : stp_knows (ad0 n0) adK cA I I2) (K : lK p s m args c D D2 cA cI adK adV n0 b L xs) (J : lJ s.heap D D2 cA cI n0 ks cs mst H locs) (hI : I cs mst) {k : Nat} (hk : 6 * k + 6 ≤ L) (hl : lv_has ls 4 [(3, .int (nI (6 * k))), (2, .ref (n0 + 73)), (1, .ref (ad0 n0 60)), (0, .ref b)]) (hcs : cells + 60 ≤ room_1.cells ∧ slots + 420 ≤ room_1.slots)
    (kk : ∀ (ks1 : List Nat) (cs1 : CS) (ms1 : MSt) (H1 : Heap) (locs1 : List Loc), lJ s.heap D D2 cA cI n0 ks1 cs1 ms1 H1 locs1 → I2 cs1 ms1 → W p l e room_1 s m args below meth c H1 locs1 (cells + 60) (slots + 420) Q (F0 m 1602 ls [])) : W p l e room_1 s m args below meth c H locs cells slots Q (F0 m 1101 ls []) := by
  have hx := K.1
  have hb := K.2.1
  have hown := K.2.2.2.1
  have hts := K.2.2.2.2.1
  have hcs1 := hcs.1
  have hcs2 := hcs.2
  refine lv_aload_n hx hb dL_1101 rfl (lv_at hl 2 rfl) ?_
  refine lv_aload_n hx hb dL_1102 rfl (lv_at hl 3 rfl) ?_
  refine lv_iload_n hx hb dL_1103 rfl (lv_at hl 0 rfl) ?_
  refine lv_iconst (v := 1) hx hb dL_1104 (by decide) ?_
  refine lv_iadd hx hb dL_1105 ?_
  refine sc_ld (j := 1) K J (by decide) (by omega) dL_1106 ?_
  refine lv_aload_n hx hb dL_1107 rfl (lv_at hl 3 rfl) ?_
  refine lv_iload_n hx hb dL_1108 rfl (lv_at hl 0 rfl) ?_
  refine lv_iconst (v := 2) hx hb dL_1109 (by decide) ?_
  refine lv_iadd hx hb dL_1110 ?_
  refine sc_ld (j := 2) K J (by decide) (by omega) dL_1111 ?_
  obtain ⟨r, cs1, ms1, hL1, hM1, hI1⟩ := hst H.size cs mst (xs (6 * k + 1)) (xs (6 * k + 2)) hI (FR_of J.2.1)
  refine lc_op (bytes := cX0_knows) (ret := some .int) (maxL := 4) (As := [.int (xs (6 * k + 1)), .int (xs (6 * k + 2))]) (n := 2) (mc := 0) (ms := 0) K J (op_c J.1 (w_L_knows J.1 hL1)) (lw_methW q1192) (cd_with hts q1192) q1189 q1190 q1191 q85 (by decide +kernel) ⟨(Nat.le_of_ble_eq_true rfl), (Nat.le_of_ble_eq_true rfl)⟩ ⟨by show cells + 0 ≤ _; omega, by show slots + 0 ≤ _; omega⟩ rfl hl.1 rfl (Nat.le_of_ble_eq_true rfl) dL_1112 (fun ks H locs J => ?_)
  refine lv_aload_n hx hb dL_1115 rfl (lv_at hl 1 rfl) ?_
  refine lv_aload_n hx hb dL_1116 rfl (lv_at hl 3 rfl) ?_
  refine lv_iload_n hx hb dL_1117 rfl (lv_at hl 0 rfl) ?_
  refine lv_iconst (v := 1) hx hb dL_1118 (by decide) ?_
  refine lv_iadd hx hb dL_1119 ?_
  refine sc_ld (j := 1) K J (by decide) (by omega) dL_1120 ?_
  refine lv_aload_n hx hb dL_1121 rfl (lv_at hl 3 rfl) ?_
  refine lv_iload_n hx hb dL_1122 rfl (lv_at hl 0 rfl) ?_
  refine lv_iconst (v := 2) hx hb dL_1123 (by decide) ?_
  refine lv_iadd hx hb dL_1124 ?_
  refine sc_ld (j := 2) K J (by decide) (by omega) dL_1125 ?_
  refine lm_op (maxL := 3) (As := [.int (xs (6 * k + 1)), .int (xs (6 * k + 2))]) (n := 2) K J (w_knows kInj_a hM1) (lw_meth q1914) q1914 q1911 q1912 q1913 q94 (by decide +kernel) ⟨(Nat.le_of_ble_eq_true rfl), (Nat.le_of_ble_eq_true rfl)⟩ ⟨by omega, by omega⟩ rfl hl.1 rfl (Nat.le_of_ble_eq_true rfl) dL_1126 (fun H locs J => ?_)
  refine lv_icmp_eq (tgt := 1602) hx hb dL_1129 rfl (fun _ => ?_) (fun c => absurd rfl c)
  refine W.widen (k := cells + 60) (n := slots + 420) (by omega) (by omega) ?_
  exact kk ks cs1 ms1 H locs J hI1
theorem q1205 : (Jvm.Cond.methodLink "ChapterLoanLaw" (124 : Nat) ({ cls := "ChapterLoan", name := "common", desc := "(II)I" } : Jvm.MethodName)) ∈ lw_all := lw_g (lw_at lw_m5 161 rfl) rfl
theorem q1206 : (Jvm.Cond.instanceMethod ({ cls := "ChapterLoan", name := "common", desc := "(II)I" } : Jvm.MethodName)) ∈ lw_all := lw_g (lw_at lw_m5 162 rfl) rfl
theorem q1207 : (Jvm.Cond.selects "ChapterLoan" ({ cls := "ChapterLoan", name := "common", desc := "(II)I" } : Jvm.MethodName) ({ cls := "ChapterLoan", name := "common", desc := "(II)I" } : Jvm.MethodName)) ∈ lw_all := lw_g (lw_at lw_m5 163 rfl) rfl
theorem q1208 : (Jvm.Cond.codeWith ({ cls := "ChapterLoan", name := "common", desc := "(II)I" } : Jvm.MethodName) prog_1_method_53_code (5 : Nat) (Option.some Jvm.ClassFile.FieldType.int) [((0 : Nat), (70 : Nat), (71 : Nat), (8 : Nat))]) ∈ lw_all := lw_g (lw_at lw_m5 164 rfl) rfl
theorem q1923 : (Jvm.Cond.methodLink "ChapterLoanLaw" (127 : Nat) ({ cls := "ChapterLoanModel", name := "common", desc := "(II)I" } : Jvm.MethodName)) ∈ lw_all := lw_g (lw_at lw_m8 159 rfl) rfl
theorem q1924 : (Jvm.Cond.instanceMethod ({ cls := "ChapterLoanModel", name := "common", desc := "(II)I" } : Jvm.MethodName)) ∈ lw_all := lw_g (lw_at lw_m8 160 rfl) rfl
theorem q1925 : (Jvm.Cond.selects "ChapterLoanModel" ({ cls := "ChapterLoanModel", name := "common", desc := "(II)I" } : Jvm.MethodName) ({ cls := "ChapterLoanModel", name := "common", desc := "(II)I" } : Jvm.MethodName)) ∈ lw_all := lw_g (lw_at lw_m8 161 rfl) rfl
theorem q1926 : (Jvm.Cond.code ({ cls := "ChapterLoanModel", name := "common", desc := "(II)I" } : Jvm.MethodName) prog_30_method_80_code (5 : Nat) (Option.some Jvm.ClassFile.FieldType.int)) ∈ lw_all := lw_g (lw_at lw_m8 162 rfl) rfl
theorem lcs_common {I I2 : CS → MSt → Prop} (hst : stp_common (ad0 n0) adK cA I I2) (K : lK p s m args c D D2 cA cI adK adV n0 b L xs) (J : lJ s.heap D D2 cA cI n0 ks cs mst H locs) (hI : I cs mst) {k : Nat} (hk : 6 * k + 6 ≤ L) (hl : lv_has ls 4 [(3, .int (nI (6 * k))), (2, .ref (n0 + 73)), (1, .ref (ad0 n0 60)), (0, .ref b)]) (hcs : cells + 60 ≤ room_1.cells ∧ slots + 420 ≤ room_1.slots)
    (kk : ∀ (ks1 : List Nat) (cs1 : CS) (ms1 : MSt) (H1 : Heap) (locs1 : List Loc), lJ s.heap D D2 cA cI n0 ks1 cs1 ms1 H1 locs1 → I2 cs1 ms1 → W p l e room_1 s m args below meth c H1 locs1 (cells + 60) (slots + 420) Q (F0 m 1602 ls [])) : W p l e room_1 s m args below meth c H locs cells slots Q (F0 m 1134 ls []) := by
  have hx := K.1
  have hb := K.2.1
  have hown := K.2.2.2.1
  have hts := K.2.2.2.2.1
  have hcs1 := hcs.1
  have hcs2 := hcs.2
  refine lv_aload_n hx hb dL_1134 rfl (lv_at hl 2 rfl) ?_
  refine lv_aload_n hx hb dL_1135 rfl (lv_at hl 3 rfl) ?_
  refine lv_iload_n hx hb dL_1136 rfl (lv_at hl 0 rfl) ?_
  refine lv_iconst (v := 1) hx hb dL_1137 (by decide) ?_
  refine lv_iadd hx hb dL_1138 ?_
  refine sc_ld (j := 1) K J (by decide) (by omega) dL_1139 ?_
  refine lv_aload_n hx hb dL_1140 rfl (lv_at hl 3 rfl) ?_
  refine lv_iload_n hx hb dL_1141 rfl (lv_at hl 0 rfl) ?_
  refine lv_iconst (v := 2) hx hb dL_1142 (by decide) ?_
  refine lv_iadd hx hb dL_1143 ?_
  refine sc_ld (j := 2) K J (by decide) (by omega) dL_1144 ?_
  obtain ⟨r, cs1, ms1, hL1, hM1, hI1⟩ := hst H.size cs mst (xs (6 * k + 1)) (xs (6 * k + 2)) hI (FR_of J.2.1)
  refine lc_op (bytes := cX0_common) (ret := some .int) (maxL := 5) (As := [.int (xs (6 * k + 1)), .int (xs (6 * k + 2))]) (n := 2) (mc := 0) (ms := 0) K J (op_c J.1 (w_L_common J.1 hL1)) (lw_methW q1208) (cd_with hts q1208) q1205 q1206 q1207 q85 (by decide +kernel) ⟨(Nat.le_of_ble_eq_true rfl), (Nat.le_of_ble_eq_true rfl)⟩ ⟨by show cells + 0 ≤ _; omega, by show slots + 0 ≤ _; omega⟩ rfl hl.1 rfl (Nat.le_of_ble_eq_true rfl) dL_1145 (fun ks H locs J => ?_)
  refine lv_aload_n hx hb dL_1148 rfl (lv_at hl 1 rfl) ?_
  refine lv_aload_n hx hb dL_1149 rfl (lv_at hl 3 rfl) ?_
  refine lv_iload_n hx hb dL_1150 rfl (lv_at hl 0 rfl) ?_
  refine lv_iconst (v := 1) hx hb dL_1151 (by decide) ?_
  refine lv_iadd hx hb dL_1152 ?_
  refine sc_ld (j := 1) K J (by decide) (by omega) dL_1153 ?_
  refine lv_aload_n hx hb dL_1154 rfl (lv_at hl 3 rfl) ?_
  refine lv_iload_n hx hb dL_1155 rfl (lv_at hl 0 rfl) ?_
  refine lv_iconst (v := 2) hx hb dL_1156 (by decide) ?_
  refine lv_iadd hx hb dL_1157 ?_
  refine sc_ld (j := 2) K J (by decide) (by omega) dL_1158 ?_
  refine lm_op (maxL := 5) (As := [.int (xs (6 * k + 1)), .int (xs (6 * k + 2))]) (n := 2) K J (w_common kInj_a hM1) (lw_meth q1926) q1926 q1923 q1924 q1925 q94 (by decide +kernel) ⟨(Nat.le_of_ble_eq_true rfl), (Nat.le_of_ble_eq_true rfl)⟩ ⟨by omega, by omega⟩ rfl hl.1 rfl (Nat.le_of_ble_eq_true rfl) dL_1159 (fun H locs J => ?_)
  refine lv_icmp_eq (tgt := 1602) hx hb dL_1162 rfl (fun _ => ?_) (fun c => absurd rfl c)
  refine W.widen (k := cells + 60) (n := slots + 420) (by omega) (by omega) ?_
  exact kk ks cs1 ms1 H locs J hI1
theorem q1209 : (Jvm.Cond.methodLink "ChapterLoanLaw" (128 : Nat) ({ cls := "ChapterLoan", name := "since", desc := "(II)I" } : Jvm.MethodName)) ∈ lw_all := lw_g (lw_at lw_m5 165 rfl) rfl
theorem q1210 : (Jvm.Cond.instanceMethod ({ cls := "ChapterLoan", name := "since", desc := "(II)I" } : Jvm.MethodName)) ∈ lw_all := lw_g (lw_at lw_m5 166 rfl) rfl
theorem q1211 : (Jvm.Cond.selects "ChapterLoan" ({ cls := "ChapterLoan", name := "since", desc := "(II)I" } : Jvm.MethodName) ({ cls := "ChapterLoan", name := "since", desc := "(II)I" } : Jvm.MethodName)) ∈ lw_all := lw_g (lw_at lw_m5 167 rfl) rfl
theorem q1212 : (Jvm.Cond.codeWith ({ cls := "ChapterLoan", name := "since", desc := "(II)I" } : Jvm.MethodName) prog_1_method_54_code (7 : Nat) (Option.some Jvm.ClassFile.FieldType.int) [((0 : Nat), (124 : Nat), (125 : Nat), (8 : Nat))]) ∈ lw_all := lw_g (lw_at lw_m5 168 rfl) rfl
theorem q1927 : (Jvm.Cond.methodLink "ChapterLoanLaw" (131 : Nat) ({ cls := "ChapterLoanModel", name := "since", desc := "(II)I" } : Jvm.MethodName)) ∈ lw_all := lw_g (lw_at lw_m8 163 rfl) rfl
theorem q1928 : (Jvm.Cond.instanceMethod ({ cls := "ChapterLoanModel", name := "since", desc := "(II)I" } : Jvm.MethodName)) ∈ lw_all := lw_g (lw_at lw_m8 164 rfl) rfl
theorem q1929 : (Jvm.Cond.selects "ChapterLoanModel" ({ cls := "ChapterLoanModel", name := "since", desc := "(II)I" } : Jvm.MethodName) ({ cls := "ChapterLoanModel", name := "since", desc := "(II)I" } : Jvm.MethodName)) ∈ lw_all := lw_g (lw_at lw_m8 165 rfl) rfl
theorem q1930 : (Jvm.Cond.code ({ cls := "ChapterLoanModel", name := "since", desc := "(II)I" } : Jvm.MethodName) prog_30_method_81_code (4 : Nat) (Option.some Jvm.ClassFile.FieldType.int)) ∈ lw_all := lw_g (lw_at lw_m8 166 rfl) rfl
theorem lcs_since {I I2 : CS → MSt → Prop} (hst : stp_since (ad0 n0) adK cA I I2) (K : lK p s m args c D D2 cA cI adK adV n0 b L xs) (J : lJ s.heap D D2 cA cI n0 ks cs mst H locs) (hI : I cs mst) {k : Nat} (hk : 6 * k + 6 ≤ L) (hl : lv_has ls 4 [(3, .int (nI (6 * k))), (2, .ref (n0 + 73)), (1, .ref (ad0 n0 60)), (0, .ref b)]) (hcs : cells + 60 ≤ room_1.cells ∧ slots + 420 ≤ room_1.slots)
    (kk : ∀ (ks1 : List Nat) (cs1 : CS) (ms1 : MSt) (H1 : Heap) (locs1 : List Loc), lJ s.heap D D2 cA cI n0 ks1 cs1 ms1 H1 locs1 → I2 cs1 ms1 → W p l e room_1 s m args below meth c H1 locs1 (cells + 60) (slots + 420) Q (F0 m 1602 ls [])) : W p l e room_1 s m args below meth c H locs cells slots Q (F0 m 1167 ls []) := by
  have hx := K.1
  have hb := K.2.1
  have hown := K.2.2.2.1
  have hts := K.2.2.2.2.1
  have hcs1 := hcs.1
  have hcs2 := hcs.2
  refine lv_aload_n hx hb dL_1167 rfl (lv_at hl 2 rfl) ?_
  refine lv_aload_n hx hb dL_1168 rfl (lv_at hl 3 rfl) ?_
  refine lv_iload_n hx hb dL_1169 rfl (lv_at hl 0 rfl) ?_
  refine lv_iconst (v := 1) hx hb dL_1170 (by decide) ?_
  refine lv_iadd hx hb dL_1171 ?_
  refine sc_ld (j := 1) K J (by decide) (by omega) dL_1172 ?_
  refine lv_aload_n hx hb dL_1173 rfl (lv_at hl 3 rfl) ?_
  refine lv_iload_n hx hb dL_1174 rfl (lv_at hl 0 rfl) ?_
  refine lv_iconst (v := 2) hx hb dL_1175 (by decide) ?_
  refine lv_iadd hx hb dL_1176 ?_
  refine sc_ld (j := 2) K J (by decide) (by omega) dL_1177 ?_
  obtain ⟨r, cs1, ms1, hL1, hM1, hI1⟩ := hst H.size cs mst (xs (6 * k + 1)) (xs (6 * k + 2)) hI (FR_of J.2.1)
  refine lc_op (bytes := cX0_since) (ret := some .int) (maxL := 7) (As := [.int (xs (6 * k + 1)), .int (xs (6 * k + 2))]) (n := 2) (mc := 0) (ms := 0) K J (op_c J.1 (w_L_since J.1 hL1)) (lw_methW q1212) (cd_with hts q1212) q1209 q1210 q1211 q85 (by decide +kernel) ⟨(Nat.le_of_ble_eq_true rfl), (Nat.le_of_ble_eq_true rfl)⟩ ⟨by show cells + 0 ≤ _; omega, by show slots + 0 ≤ _; omega⟩ rfl hl.1 rfl (Nat.le_of_ble_eq_true rfl) dL_1178 (fun ks H locs J => ?_)
  refine lv_aload_n hx hb dL_1181 rfl (lv_at hl 1 rfl) ?_
  refine lv_aload_n hx hb dL_1182 rfl (lv_at hl 3 rfl) ?_
  refine lv_iload_n hx hb dL_1183 rfl (lv_at hl 0 rfl) ?_
  refine lv_iconst (v := 1) hx hb dL_1184 (by decide) ?_
  refine lv_iadd hx hb dL_1185 ?_
  refine sc_ld (j := 1) K J (by decide) (by omega) dL_1186 ?_
  refine lv_aload_n hx hb dL_1187 rfl (lv_at hl 3 rfl) ?_
  refine lv_iload_n hx hb dL_1188 rfl (lv_at hl 0 rfl) ?_
  refine lv_iconst (v := 2) hx hb dL_1189 (by decide) ?_
  refine lv_iadd hx hb dL_1190 ?_
  refine sc_ld (j := 2) K J (by decide) (by omega) dL_1191 ?_
  refine lm_op (maxL := 4) (As := [.int (xs (6 * k + 1)), .int (xs (6 * k + 2))]) (n := 2) K J (w_since kInj_a hM1) (lw_meth q1930) q1930 q1927 q1928 q1929 q94 (by decide +kernel) ⟨(Nat.le_of_ble_eq_true rfl), (Nat.le_of_ble_eq_true rfl)⟩ ⟨by omega, by omega⟩ rfl hl.1 rfl (Nat.le_of_ble_eq_true rfl) dL_1192 (fun H locs J => ?_)
  refine lv_icmp_eq (tgt := 1602) hx hb dL_1195 rfl (fun _ => ?_) (fun c => absurd rfl c)
  refine W.widen (k := cells + 60) (n := slots + 420) (by omega) (by omega) ?_
  exact kk ks cs1 ms1 H locs J hI1
theorem q1213 : (Jvm.Cond.methodLink "ChapterLoanLaw" (132 : Nat) ({ cls := "ChapterLoan", name := "seed", desc := "(I)I" } : Jvm.MethodName)) ∈ lw_all := lw_g (lw_at lw_m5 169 rfl) rfl
theorem q1931 : (Jvm.Cond.methodLink "ChapterLoanLaw" (135 : Nat) ({ cls := "ChapterLoanModel", name := "seed", desc := "(I)I" } : Jvm.MethodName)) ∈ lw_all := lw_g (lw_at lw_m8 167 rfl) rfl
theorem q1932 : (Jvm.Cond.instanceMethod ({ cls := "ChapterLoanModel", name := "seed", desc := "(I)I" } : Jvm.MethodName)) ∈ lw_all := lw_g (lw_at lw_m8 168 rfl) rfl
theorem q1933 : (Jvm.Cond.selects "ChapterLoanModel" ({ cls := "ChapterLoanModel", name := "seed", desc := "(I)I" } : Jvm.MethodName) ({ cls := "ChapterLoanModel", name := "seed", desc := "(I)I" } : Jvm.MethodName)) ∈ lw_all := lw_g (lw_at lw_m8 169 rfl) rfl
theorem q1934 : (Jvm.Cond.code ({ cls := "ChapterLoanModel", name := "seed", desc := "(I)I" } : Jvm.MethodName) prog_30_method_82_code (3 : Nat) (Option.some Jvm.ClassFile.FieldType.int)) ∈ lw_all := lw_g (lw_at lw_m8 170 rfl) rfl
theorem lcs_seed {I I2 : CS → MSt → Prop} (hst : stp_seed (ad0 n0) adK cA I I2) (K : lK p s m args c D D2 cA cI adK adV n0 b L xs) (J : lJ s.heap D D2 cA cI n0 ks cs mst H locs) (hI : I cs mst) {k : Nat} (hk : 6 * k + 6 ≤ L) (hl : lv_has ls 4 [(3, .int (nI (6 * k))), (2, .ref (n0 + 73)), (1, .ref (ad0 n0 60)), (0, .ref b)]) (hcs : cells + 60 ≤ room_1.cells ∧ slots + 420 ≤ room_1.slots)
    (kk : ∀ (ks1 : List Nat) (cs1 : CS) (ms1 : MSt) (H1 : Heap) (locs1 : List Loc), lJ s.heap D D2 cA cI n0 ks1 cs1 ms1 H1 locs1 → I2 cs1 ms1 → W p l e room_1 s m args below meth c H1 locs1 (cells + 60) (slots + 420) Q (F0 m 1602 ls [])) : W p l e room_1 s m args below meth c H locs cells slots Q (F0 m 1200 ls []) := by
  have hx := K.1
  have hb := K.2.1
  have hown := K.2.2.2.1
  have hts := K.2.2.2.2.1
  have hcs1 := hcs.1
  have hcs2 := hcs.2
  refine lv_aload_n hx hb dL_1200 rfl (lv_at hl 2 rfl) ?_
  refine lv_aload_n hx hb dL_1201 rfl (lv_at hl 3 rfl) ?_
  refine lv_iload_n hx hb dL_1202 rfl (lv_at hl 0 rfl) ?_
  refine lv_iconst (v := 1) hx hb dL_1203 (by decide) ?_
  refine lv_iadd hx hb dL_1204 ?_
  refine sc_ld (j := 1) K J (by decide) (by omega) dL_1205 ?_
  obtain ⟨r, cs1, ms1, hL1, hM1, hI1⟩ := hst H.size cs mst (xs (6 * k + 1)) hI (FR_of J.2.1)
  refine lc_op (bytes := cX0_seed) (ret := some .int) (maxL := 3) (As := [.int (xs (6 * k + 1))]) (n := 1) (mc := 0) (ms := 0) K J (op_c J.1 (w_L_seed J.1 hL1)) (lw_meth q1216) (cd_code hts q1216) q1213 q1214 q1215 q85 (by decide +kernel) ⟨(Nat.le_of_ble_eq_true rfl), (Nat.le_of_ble_eq_true rfl)⟩ ⟨by show cells + 0 ≤ _; omega, by show slots + 0 ≤ _; omega⟩ rfl hl.1 rfl (Nat.le_of_ble_eq_true rfl) dL_1206 (fun ks H locs J => ?_)
  refine lv_aload_n hx hb dL_1209 rfl (lv_at hl 1 rfl) ?_
  refine lv_aload_n hx hb dL_1210 rfl (lv_at hl 3 rfl) ?_
  refine lv_iload_n hx hb dL_1211 rfl (lv_at hl 0 rfl) ?_
  refine lv_iconst (v := 1) hx hb dL_1212 (by decide) ?_
  refine lv_iadd hx hb dL_1213 ?_
  refine sc_ld (j := 1) K J (by decide) (by omega) dL_1214 ?_
  refine lm_op (maxL := 3) (As := [.int (xs (6 * k + 1))]) (n := 1) K J (w_seed kInj_a hM1) (lw_meth q1934) q1934 q1931 q1932 q1933 q94 (by decide +kernel) ⟨(Nat.le_of_ble_eq_true rfl), (Nat.le_of_ble_eq_true rfl)⟩ ⟨by omega, by omega⟩ rfl hl.1 rfl (Nat.le_of_ble_eq_true rfl) dL_1215 (fun H locs J => ?_)
  refine lv_icmp_eq (tgt := 1602) hx hb dL_1218 rfl (fun _ => ?_) (fun c => absurd rfl c)
  refine W.widen (k := cells + 60) (n := slots + 420) (by omega) (by omega) ?_
  exact kk ks cs1 ms1 H locs J hI1
theorem q1217 : (Jvm.Cond.methodLink "ChapterLoanLaw" (136 : Nat) ({ cls := "ChapterLoan", name := "voice", desc := "(III)I" } : Jvm.MethodName)) ∈ lw_all := lw_g (lw_at lw_m5 173 rfl) rfl
theorem q1218 : (Jvm.Cond.instanceMethod ({ cls := "ChapterLoan", name := "voice", desc := "(III)I" } : Jvm.MethodName)) ∈ lw_all := lw_g (lw_at lw_m5 174 rfl) rfl
theorem q1219 : (Jvm.Cond.selects "ChapterLoan" ({ cls := "ChapterLoan", name := "voice", desc := "(III)I" } : Jvm.MethodName) ({ cls := "ChapterLoan", name := "voice", desc := "(III)I" } : Jvm.MethodName)) ∈ lw_all := lw_g (lw_at lw_m5 175 rfl) rfl
theorem q1220 : (Jvm.Cond.codeWith ({ cls := "ChapterLoan", name := "voice", desc := "(III)I" } : Jvm.MethodName) prog_1_method_56_code (5 : Nat) (Option.some Jvm.ClassFile.FieldType.int) [((0 : Nat), (56 : Nat), (84 : Nat), (8 : Nat)), ((57 : Nat), (65 : Nat), (84 : Nat), (8 : Nat)), ((66 : Nat), (74 : Nat), (84 : Nat), (8 : Nat)), ((75 : Nat), (83 : Nat), (84 : Nat), (8 : Nat))]) ∈ lw_all := lw_g (lw_at lw_m5 176 rfl) rfl
theorem q1935 : (Jvm.Cond.methodLink "ChapterLoanLaw" (139 : Nat) ({ cls := "ChapterLoanModel", name := "voice", desc := "(III)I" } : Jvm.MethodName)) ∈ lw_all := lw_g (lw_at lw_m8 171 rfl) rfl
theorem q1936 : (Jvm.Cond.instanceMethod ({ cls := "ChapterLoanModel", name := "voice", desc := "(III)I" } : Jvm.MethodName)) ∈ lw_all := lw_g (lw_at lw_m8 172 rfl) rfl
theorem q1937 : (Jvm.Cond.selects "ChapterLoanModel" ({ cls := "ChapterLoanModel", name := "voice", desc := "(III)I" } : Jvm.MethodName) ({ cls := "ChapterLoanModel", name := "voice", desc := "(III)I" } : Jvm.MethodName)) ∈ lw_all := lw_g (lw_at lw_m8 173 rfl) rfl
theorem q1938 : (Jvm.Cond.code ({ cls := "ChapterLoanModel", name := "voice", desc := "(III)I" } : Jvm.MethodName) prog_30_method_89_code (5 : Nat) (Option.some Jvm.ClassFile.FieldType.int)) ∈ lw_all := lw_g (lw_at lw_m8 174 rfl) rfl
theorem lcs_voice {I I2 : CS → MSt → Prop} (hst : stp_voice (ad0 n0) adK cA I I2) (K : lK p s m args c D D2 cA cI adK adV n0 b L xs) (J : lJ s.heap D D2 cA cI n0 ks cs mst H locs) (hI : I cs mst) {k : Nat} (hk : 6 * k + 6 ≤ L) (hl : lv_has ls 4 [(3, .int (nI (6 * k))), (2, .ref (n0 + 73)), (1, .ref (ad0 n0 60)), (0, .ref b)]) (hcs : cells + 60 ≤ room_1.cells ∧ slots + 420 ≤ room_1.slots)
    (kk : ∀ (ks1 : List Nat) (cs1 : CS) (ms1 : MSt) (H1 : Heap) (locs1 : List Loc), lJ s.heap D D2 cA cI n0 ks1 cs1 ms1 H1 locs1 → I2 cs1 ms1 → W p l e room_1 s m args below meth c H1 locs1 (cells + 60) (slots + 420) Q (F0 m 1602 ls [])) : W p l e room_1 s m args below meth c H locs cells slots Q (F0 m 1223 ls []) := by
  have hx := K.1
  have hb := K.2.1
  have hown := K.2.2.2.1
  have hts := K.2.2.2.2.1
  have hcs1 := hcs.1
  have hcs2 := hcs.2
  refine lv_aload_n hx hb dL_1223 rfl (lv_at hl 2 rfl) ?_
  refine lv_aload_n hx hb dL_1224 rfl (lv_at hl 3 rfl) ?_
  refine lv_iload_n hx hb dL_1225 rfl (lv_at hl 0 rfl) ?_
  refine lv_iconst (v := 1) hx hb dL_1226 (by decide) ?_
  refine lv_iadd hx hb dL_1227 ?_
  refine sc_ld (j := 1) K J (by decide) (by omega) dL_1228 ?_
  refine lv_aload_n hx hb dL_1229 rfl (lv_at hl 3 rfl) ?_
  refine lv_iload_n hx hb dL_1230 rfl (lv_at hl 0 rfl) ?_
  refine lv_iconst (v := 2) hx hb dL_1231 (by decide) ?_
  refine lv_iadd hx hb dL_1232 ?_
  refine sc_ld (j := 2) K J (by decide) (by omega) dL_1233 ?_
  refine lv_aload_n hx hb dL_1234 rfl (lv_at hl 3 rfl) ?_
  refine lv_iload_n hx hb dL_1235 rfl (lv_at hl 0 rfl) ?_
  refine lv_iconst (v := 3) hx hb dL_1236 (by decide) ?_
  refine lv_iadd hx hb dL_1237 ?_
  refine sc_ld (j := 3) K J (by decide) (by omega) dL_1238 ?_
  obtain ⟨r, cs1, ms1, hL1, hM1, hI1⟩ := hst H.size cs mst (xs (6 * k + 1)) (xs (6 * k + 2)) (xs (6 * k + 3)) hI (FR_of J.2.1)
  refine lc_op (bytes := cX0_voice) (ret := some .int) (maxL := 5) (As := [.int (xs (6 * k + 1)), .int (xs (6 * k + 2)), .int (xs (6 * k + 3))]) (n := 3) (mc := 0) (ms := 0) K J (op_v J.1 (w_L_voice J.1 hL1)) (lw_methW q1220) (cd_with hts q1220) q1217 q1218 q1219 q85 (by decide +kernel) ⟨(Nat.le_of_ble_eq_true rfl), (Nat.le_of_ble_eq_true rfl)⟩ ⟨by show cells + 0 ≤ _; omega, by show slots + 0 ≤ _; omega⟩ rfl hl.1 rfl (Nat.le_of_ble_eq_true rfl) dL_1239 (fun ks H locs J => ?_)
  refine lv_aload_n hx hb dL_1242 rfl (lv_at hl 1 rfl) ?_
  refine lv_aload_n hx hb dL_1243 rfl (lv_at hl 3 rfl) ?_
  refine lv_iload_n hx hb dL_1244 rfl (lv_at hl 0 rfl) ?_
  refine lv_iconst (v := 1) hx hb dL_1245 (by decide) ?_
  refine lv_iadd hx hb dL_1246 ?_
  refine sc_ld (j := 1) K J (by decide) (by omega) dL_1247 ?_
  refine lv_aload_n hx hb dL_1248 rfl (lv_at hl 3 rfl) ?_
  refine lv_iload_n hx hb dL_1249 rfl (lv_at hl 0 rfl) ?_
  refine lv_iconst (v := 2) hx hb dL_1250 (by decide) ?_
  refine lv_iadd hx hb dL_1251 ?_
  refine sc_ld (j := 2) K J (by decide) (by omega) dL_1252 ?_
  refine lv_aload_n hx hb dL_1253 rfl (lv_at hl 3 rfl) ?_
  refine lv_iload_n hx hb dL_1254 rfl (lv_at hl 0 rfl) ?_
  refine lv_iconst (v := 3) hx hb dL_1255 (by decide) ?_
  refine lv_iadd hx hb dL_1256 ?_
  refine sc_ld (j := 3) K J (by decide) (by omega) dL_1257 ?_
  refine lm_op (maxL := 5) (As := [.int (xs (6 * k + 1)), .int (xs (6 * k + 2)), .int (xs (6 * k + 3))]) (n := 3) K J (w_voice kInj_a hM1) (lw_meth q1938) q1938 q1935 q1936 q1937 q94 (by decide +kernel) ⟨(Nat.le_of_ble_eq_true rfl), (Nat.le_of_ble_eq_true rfl)⟩ ⟨by omega, by omega⟩ rfl hl.1 rfl (Nat.le_of_ble_eq_true rfl) dL_1258 (fun H locs J => ?_)
  refine lv_icmp_eq (tgt := 1602) hx hb dL_1261 rfl (fun _ => ?_) (fun c => absurd rfl c)
  refine W.widen (k := cells + 60) (n := slots + 420) (by omega) (by omega) ?_
  exact kk ks cs1 ms1 H locs J hI1
theorem q1390 : (Jvm.Cond.methodLink "ChapterLoanLaw" (140 : Nat) ({ cls := "ChapterLoan", name := "trace", desc := "(I)I" } : Jvm.MethodName)) ∈ lw_all := lw_g (lw_at lw_m6 106 rfl) rfl
theorem q1391 : (Jvm.Cond.instanceMethod ({ cls := "ChapterLoan", name := "trace", desc := "(I)I" } : Jvm.MethodName)) ∈ lw_all := lw_g (lw_at lw_m6 107 rfl) rfl
theorem q1392 : (Jvm.Cond.selects "ChapterLoan" ({ cls := "ChapterLoan", name := "trace", desc := "(I)I" } : Jvm.MethodName) ({ cls := "ChapterLoan", name := "trace", desc := "(I)I" } : Jvm.MethodName)) ∈ lw_all := lw_g (lw_at lw_m6 108 rfl) rfl
theorem q1393 : (Jvm.Cond.codeWith ({ cls := "ChapterLoan", name := "trace", desc := "(I)I" } : Jvm.MethodName) prog_1_method_57_code (3 : Nat) (Option.some Jvm.ClassFile.FieldType.int) [((0 : Nat), (28 : Nat), (29 : Nat), (8 : Nat))]) ∈ lw_all := lw_g (lw_at lw_m6 109 rfl) rfl
theorem q1963 : (Jvm.Cond.methodLink "ChapterLoanLaw" (143 : Nat) ({ cls := "ChapterLoanModel", name := "trace", desc := "(I)I" } : Jvm.MethodName)) ∈ lw_all := lw_g (lw_at lw_m8 199 rfl) rfl
theorem q1964 : (Jvm.Cond.instanceMethod ({ cls := "ChapterLoanModel", name := "trace", desc := "(I)I" } : Jvm.MethodName)) ∈ lw_all := lw_g (lw_at lw_m8 200 rfl) rfl
theorem q1965 : (Jvm.Cond.selects "ChapterLoanModel" ({ cls := "ChapterLoanModel", name := "trace", desc := "(I)I" } : Jvm.MethodName) ({ cls := "ChapterLoanModel", name := "trace", desc := "(I)I" } : Jvm.MethodName)) ∈ lw_all := lw_g (lw_at lw_m8 201 rfl) rfl
theorem q1966 : (Jvm.Cond.code ({ cls := "ChapterLoanModel", name := "trace", desc := "(I)I" } : Jvm.MethodName) prog_30_method_90_code (2 : Nat) (Option.some Jvm.ClassFile.FieldType.int)) ∈ lw_all := lw_g (lw_at lw_m8 202 rfl) rfl
theorem lcs_trace {I I2 : CS → MSt → Prop} (hst : stp_trace (ad0 n0) adK cA I I2) (K : lK p s m args c D D2 cA cI adK adV n0 b L xs) (J : lJ s.heap D D2 cA cI n0 ks cs mst H locs) (hI : I cs mst) {k : Nat} (hk : 6 * k + 6 ≤ L) (hl : lv_has ls 4 [(3, .int (nI (6 * k))), (2, .ref (n0 + 73)), (1, .ref (ad0 n0 60)), (0, .ref b)]) (hcs : cells + 60 ≤ room_1.cells ∧ slots + 420 ≤ room_1.slots)
    (kk : ∀ (ks1 : List Nat) (cs1 : CS) (ms1 : MSt) (H1 : Heap) (locs1 : List Loc), lJ s.heap D D2 cA cI n0 ks1 cs1 ms1 H1 locs1 → I2 cs1 ms1 → W p l e room_1 s m args below meth c H1 locs1 (cells + 60) (slots + 420) Q (F0 m 1602 ls [])) : W p l e room_1 s m args below meth c H locs cells slots Q (F0 m 1266 ls []) := by
  have hx := K.1
  have hb := K.2.1
  have hown := K.2.2.2.1
  have hts := K.2.2.2.2.1
  have hcs1 := hcs.1
  have hcs2 := hcs.2
  refine lv_aload_n hx hb dL_1266 rfl (lv_at hl 2 rfl) ?_
  refine lv_aload_n hx hb dL_1267 rfl (lv_at hl 3 rfl) ?_
  refine lv_iload_n hx hb dL_1268 rfl (lv_at hl 0 rfl) ?_
  refine lv_iconst (v := 1) hx hb dL_1269 (by decide) ?_
  refine lv_iadd hx hb dL_1270 ?_
  refine sc_ld (j := 1) K J (by decide) (by omega) dL_1271 ?_
  obtain ⟨r, cs1, ms1, hL1, hM1, hI1⟩ := hst H.size cs mst (xs (6 * k + 1)) hI (FR_of J.2.1)
  refine lc_op (bytes := cX0_trace) (ret := some .int) (maxL := 3) (As := [.int (xs (6 * k + 1))]) (n := 1) (mc := 0) (ms := 0) K J (op_c J.1 (w_L_trace J.1 hL1)) (lw_methW q1393) (cd_with hts q1393) q1390 q1391 q1392 q85 (by decide +kernel) ⟨(Nat.le_of_ble_eq_true rfl), (Nat.le_of_ble_eq_true rfl)⟩ ⟨by show cells + 0 ≤ _; omega, by show slots + 0 ≤ _; omega⟩ rfl hl.1 rfl (Nat.le_of_ble_eq_true rfl) dL_1272 (fun ks H locs J => ?_)
  refine lv_aload_n hx hb dL_1275 rfl (lv_at hl 1 rfl) ?_
  refine lv_aload_n hx hb dL_1276 rfl (lv_at hl 3 rfl) ?_
  refine lv_iload_n hx hb dL_1277 rfl (lv_at hl 0 rfl) ?_
  refine lv_iconst (v := 1) hx hb dL_1278 (by decide) ?_
  refine lv_iadd hx hb dL_1279 ?_
  refine sc_ld (j := 1) K J (by decide) (by omega) dL_1280 ?_
  refine lm_op (maxL := 2) (As := [.int (xs (6 * k + 1))]) (n := 1) K J (w_trace kInj_a hM1) (lw_meth q1966) q1966 q1963 q1964 q1965 q94 (by decide +kernel) ⟨(Nat.le_of_ble_eq_true rfl), (Nat.le_of_ble_eq_true rfl)⟩ ⟨by omega, by omega⟩ rfl hl.1 rfl (Nat.le_of_ble_eq_true rfl) dL_1281 (fun H locs J => ?_)
  refine lv_icmp_eq (tgt := 1602) hx hb dL_1284 rfl (fun _ => ?_) (fun c => absurd rfl c)
  refine W.widen (k := cells + 60) (n := slots + 420) (by omega) (by omega) ?_
  exact kk ks cs1 ms1 H locs J hI1
theorem q1402 : (Jvm.Cond.methodLink "ChapterLoanLaw" (144 : Nat) ({ cls := "ChapterLoan", name := "sheet", desc := "(III)I" } : Jvm.MethodName)) ∈ lw_all := lw_g (lw_at lw_m6 118 rfl) rfl
theorem q1403 : (Jvm.Cond.instanceMethod ({ cls := "ChapterLoan", name := "sheet", desc := "(III)I" } : Jvm.MethodName)) ∈ lw_all := lw_g (lw_at lw_m6 119 rfl) rfl
theorem q1404 : (Jvm.Cond.selects "ChapterLoan" ({ cls := "ChapterLoan", name := "sheet", desc := "(III)I" } : Jvm.MethodName) ({ cls := "ChapterLoan", name := "sheet", desc := "(III)I" } : Jvm.MethodName)) ∈ lw_all := lw_g (lw_at lw_m6 120 rfl) rfl
theorem q1405 : (Jvm.Cond.codeWith ({ cls := "ChapterLoan", name := "sheet", desc := "(III)I" } : Jvm.MethodName) prog_1_method_60_code (5 : Nat) (Option.some Jvm.ClassFile.FieldType.int) [((0 : Nat), (43 : Nat), (127 : Nat), (8 : Nat)), ((44 : Nat), (126 : Nat), (127 : Nat), (8 : Nat))]) ∈ lw_all := lw_g (lw_at lw_m6 121 rfl) rfl
theorem q1967 : (Jvm.Cond.methodLink "ChapterLoanLaw" (147 : Nat) ({ cls := "ChapterLoanModel", name := "sheet", desc := "(III)I" } : Jvm.MethodName)) ∈ lw_all := lw_g (lw_at lw_m8 203 rfl) rfl
theorem q1968 : (Jvm.Cond.instanceMethod ({ cls := "ChapterLoanModel", name := "sheet", desc := "(III)I" } : Jvm.MethodName)) ∈ lw_all := lw_g (lw_at lw_m8 204 rfl) rfl
theorem q1969 : (Jvm.Cond.selects "ChapterLoanModel" ({ cls := "ChapterLoanModel", name := "sheet", desc := "(III)I" } : Jvm.MethodName) ({ cls := "ChapterLoanModel", name := "sheet", desc := "(III)I" } : Jvm.MethodName)) ∈ lw_all := lw_g (lw_at lw_m8 205 rfl) rfl
theorem q1970 : (Jvm.Cond.code ({ cls := "ChapterLoanModel", name := "sheet", desc := "(III)I" } : Jvm.MethodName) prog_30_method_92_code (5 : Nat) (Option.some Jvm.ClassFile.FieldType.int)) ∈ lw_all := lw_g (lw_at lw_m8 206 rfl) rfl
theorem lcs_sheet {I I2 : CS → MSt → Prop} (hst : stp_sheet (ad0 n0) adK cA I I2) (K : lK p s m args c D D2 cA cI adK adV n0 b L xs) (J : lJ s.heap D D2 cA cI n0 ks cs mst H locs) (hI : I cs mst) {k : Nat} (hk : 6 * k + 6 ≤ L) (hl : lv_has ls 4 [(3, .int (nI (6 * k))), (2, .ref (n0 + 73)), (1, .ref (ad0 n0 60)), (0, .ref b)]) (hcs : cells + 60 ≤ room_1.cells ∧ slots + 420 ≤ room_1.slots)
    (kk : ∀ (ks1 : List Nat) (cs1 : CS) (ms1 : MSt) (H1 : Heap) (locs1 : List Loc), lJ s.heap D D2 cA cI n0 ks1 cs1 ms1 H1 locs1 → I2 cs1 ms1 → W p l e room_1 s m args below meth c H1 locs1 (cells + 60) (slots + 420) Q (F0 m 1602 ls [])) : W p l e room_1 s m args below meth c H locs cells slots Q (F0 m 1289 ls []) := by
  have hx := K.1
  have hb := K.2.1
  have hown := K.2.2.2.1
  have hts := K.2.2.2.2.1
  have hcs1 := hcs.1
  have hcs2 := hcs.2
  refine lv_aload_n hx hb dL_1289 rfl (lv_at hl 2 rfl) ?_
  refine lv_aload_n hx hb dL_1290 rfl (lv_at hl 3 rfl) ?_
  refine lv_iload_n hx hb dL_1291 rfl (lv_at hl 0 rfl) ?_
  refine lv_iconst (v := 1) hx hb dL_1292 (by decide) ?_
  refine lv_iadd hx hb dL_1293 ?_
  refine sc_ld (j := 1) K J (by decide) (by omega) dL_1294 ?_
  refine lv_aload_n hx hb dL_1295 rfl (lv_at hl 3 rfl) ?_
  refine lv_iload_n hx hb dL_1296 rfl (lv_at hl 0 rfl) ?_
  refine lv_iconst (v := 2) hx hb dL_1297 (by decide) ?_
  refine lv_iadd hx hb dL_1298 ?_
  refine sc_ld (j := 2) K J (by decide) (by omega) dL_1299 ?_
  refine lv_aload_n hx hb dL_1300 rfl (lv_at hl 3 rfl) ?_
  refine lv_iload_n hx hb dL_1301 rfl (lv_at hl 0 rfl) ?_
  refine lv_iconst (v := 3) hx hb dL_1302 (by decide) ?_
  refine lv_iadd hx hb dL_1303 ?_
  refine sc_ld (j := 3) K J (by decide) (by omega) dL_1304 ?_
  obtain ⟨r, cs1, ms1, hL1, hM1, hI1⟩ := hst H.size cs mst (xs (6 * k + 1)) (xs (6 * k + 2)) (xs (6 * k + 3)) hI (FR_of J.2.1)
  refine lc_op (bytes := cX0_sheet) (ret := some .int) (maxL := 5) (As := [.int (xs (6 * k + 1)), .int (xs (6 * k + 2)), .int (xs (6 * k + 3))]) (n := 3) (mc := 2) (ms := 41) K J (op_n (w_L_sheet ad0_P J.1 hL1)) (lw_methW q1405) (cd_with hts q1405) q1402 q1403 q1404 q85 (by decide +kernel) ⟨(Nat.le_of_ble_eq_true rfl), (Nat.le_of_ble_eq_true rfl)⟩ ⟨by show cells + 2 ≤ _; omega, by show slots + 41 ≤ _; omega⟩ rfl hl.1 rfl (Nat.le_of_ble_eq_true rfl) dL_1305 (fun ks H locs J => ?_)
  refine lv_aload_n hx hb dL_1308 rfl (lv_at hl 1 rfl) ?_
  refine lv_aload_n hx hb dL_1309 rfl (lv_at hl 3 rfl) ?_
  refine lv_iload_n hx hb dL_1310 rfl (lv_at hl 0 rfl) ?_
  refine lv_iconst (v := 1) hx hb dL_1311 (by decide) ?_
  refine lv_iadd hx hb dL_1312 ?_
  refine sc_ld (j := 1) K J (by decide) (by omega) dL_1313 ?_
  refine lv_aload_n hx hb dL_1314 rfl (lv_at hl 3 rfl) ?_
  refine lv_iload_n hx hb dL_1315 rfl (lv_at hl 0 rfl) ?_
  refine lv_iconst (v := 2) hx hb dL_1316 (by decide) ?_
  refine lv_iadd hx hb dL_1317 ?_
  refine sc_ld (j := 2) K J (by decide) (by omega) dL_1318 ?_
  refine lv_aload_n hx hb dL_1319 rfl (lv_at hl 3 rfl) ?_
  refine lv_iload_n hx hb dL_1320 rfl (lv_at hl 0 rfl) ?_
  refine lv_iconst (v := 3) hx hb dL_1321 (by decide) ?_
  refine lv_iadd hx hb dL_1322 ?_
  refine sc_ld (j := 3) K J (by decide) (by omega) dL_1323 ?_
  refine lm_op (maxL := 5) (As := [.int (xs (6 * k + 1)), .int (xs (6 * k + 2)), .int (xs (6 * k + 3))]) (n := 3) K J (w_sheet kInj_a hM1) (lw_meth q1970) q1970 q1967 q1968 q1969 q94 (by decide +kernel) ⟨(Nat.le_of_ble_eq_true rfl), (Nat.le_of_ble_eq_true rfl)⟩ ⟨by omega, by omega⟩ rfl hl.1 rfl (Nat.le_of_ble_eq_true rfl) dL_1324 (fun H locs J => ?_)
  refine lv_icmp_eq (tgt := 1602) hx hb dL_1327 rfl (fun _ => ?_) (fun c => absurd rfl c)
  refine W.widen (k := cells + 60) (n := slots + 420) (by omega) (by omega) ?_
  exact kk ks cs1 ms1 H locs J hI1
theorem q1443 : (Jvm.Cond.methodLink "ChapterLoanLaw" (148 : Nat) ({ cls := "ChapterLoan", name := "put", desc := "(III)I" } : Jvm.MethodName)) ∈ lw_all := lw_g (lw_at lw_m6 159 rfl) rfl
theorem q1444 : (Jvm.Cond.instanceMethod ({ cls := "ChapterLoan", name := "put", desc := "(III)I" } : Jvm.MethodName)) ∈ lw_all := lw_g (lw_at lw_m6 160 rfl) rfl
theorem q1445 : (Jvm.Cond.selects "ChapterLoan" ({ cls := "ChapterLoan", name := "put", desc := "(III)I" } : Jvm.MethodName) ({ cls := "ChapterLoan", name := "put", desc := "(III)I" } : Jvm.MethodName)) ∈ lw_all := lw_g (lw_at lw_m6 161 rfl) rfl
theorem q1446 : (Jvm.Cond.codeWith ({ cls := "ChapterLoan", name := "put", desc := "(III)I" } : Jvm.MethodName) prog_1_method_61_code (5 : Nat) (Option.some Jvm.ClassFile.FieldType.int) [((0 : Nat), (41 : Nat), (42 : Nat), (8 : Nat))]) ∈ lw_all := lw_g (lw_at lw_m6 162 rfl) rfl
theorem q1971 : (Jvm.Cond.methodLink "ChapterLoanLaw" (151 : Nat) ({ cls := "ChapterLoanModel", name := "put", desc := "(III)I" } : Jvm.MethodName)) ∈ lw_all := lw_g (lw_at lw_m8 207 rfl) rfl
theorem q1972 : (Jvm.Cond.instanceMethod ({ cls := "ChapterLoanModel", name := "put", desc := "(III)I" } : Jvm.MethodName)) ∈ lw_all := lw_g (lw_at lw_m8 208 rfl) rfl
theorem q1973 : (Jvm.Cond.selects "ChapterLoanModel" ({ cls := "ChapterLoanModel", name := "put", desc := "(III)I" } : Jvm.MethodName) ({ cls := "ChapterLoanModel", name := "put", desc := "(III)I" } : Jvm.MethodName)) ∈ lw_all := lw_g (lw_at lw_m8 209 rfl) rfl
theorem q1974 : (Jvm.Cond.code ({ cls := "ChapterLoanModel", name := "put", desc := "(III)I" } : Jvm.MethodName) prog_30_method_93_code (4 : Nat) (Option.some Jvm.ClassFile.FieldType.int)) ∈ lw_all := lw_g (lw_at lw_m8 210 rfl) rfl
theorem lcs_put {I I2 : CS → MSt → Prop} (hst : stp_put (ad0 n0) adK cA I I2) (K : lK p s m args c D D2 cA cI adK adV n0 b L xs) (J : lJ s.heap D D2 cA cI n0 ks cs mst H locs) (hI : I cs mst) {k : Nat} (hk : 6 * k + 6 ≤ L) (hl : lv_has ls 4 [(3, .int (nI (6 * k))), (2, .ref (n0 + 73)), (1, .ref (ad0 n0 60)), (0, .ref b)]) (hcs : cells + 60 ≤ room_1.cells ∧ slots + 420 ≤ room_1.slots)
    (kk : ∀ (ks1 : List Nat) (cs1 : CS) (ms1 : MSt) (H1 : Heap) (locs1 : List Loc), lJ s.heap D D2 cA cI n0 ks1 cs1 ms1 H1 locs1 → I2 cs1 ms1 → W p l e room_1 s m args below meth c H1 locs1 (cells + 60) (slots + 420) Q (F0 m 1602 ls [])) : W p l e room_1 s m args below meth c H locs cells slots Q (F0 m 1332 ls []) := by
  have hx := K.1
  have hb := K.2.1
  have hown := K.2.2.2.1
  have hts := K.2.2.2.2.1
  have hcs1 := hcs.1
  have hcs2 := hcs.2
  refine lv_aload_n hx hb dL_1332 rfl (lv_at hl 2 rfl) ?_
  refine lv_aload_n hx hb dL_1333 rfl (lv_at hl 3 rfl) ?_
  refine lv_iload_n hx hb dL_1334 rfl (lv_at hl 0 rfl) ?_
  refine lv_iconst (v := 1) hx hb dL_1335 (by decide) ?_
  refine lv_iadd hx hb dL_1336 ?_
  refine sc_ld (j := 1) K J (by decide) (by omega) dL_1337 ?_
  refine lv_aload_n hx hb dL_1338 rfl (lv_at hl 3 rfl) ?_
  refine lv_iload_n hx hb dL_1339 rfl (lv_at hl 0 rfl) ?_
  refine lv_iconst (v := 2) hx hb dL_1340 (by decide) ?_
  refine lv_iadd hx hb dL_1341 ?_
  refine sc_ld (j := 2) K J (by decide) (by omega) dL_1342 ?_
  refine lv_aload_n hx hb dL_1343 rfl (lv_at hl 3 rfl) ?_
  refine lv_iload_n hx hb dL_1344 rfl (lv_at hl 0 rfl) ?_
  refine lv_iconst (v := 3) hx hb dL_1345 (by decide) ?_
  refine lv_iadd hx hb dL_1346 ?_
  refine sc_ld (j := 3) K J (by decide) (by omega) dL_1347 ?_
  obtain ⟨r, cs1, ms1, hL1, hM1, hI1⟩ := hst H.size cs mst (xs (6 * k + 1)) (xs (6 * k + 2)) (xs (6 * k + 3)) hI (FR_of J.2.1)
  refine lc_op (bytes := cX0_put) (ret := some .int) (maxL := 5) (As := [.int (xs (6 * k + 1)), .int (xs (6 * k + 2)), .int (xs (6 * k + 3))]) (n := 3) (mc := 0) (ms := 0) K J (op_c J.1 (w_L_put J.1 hL1)) (lw_methW q1446) (cd_with hts q1446) q1443 q1444 q1445 q85 (by decide +kernel) ⟨(Nat.le_of_ble_eq_true rfl), (Nat.le_of_ble_eq_true rfl)⟩ ⟨by show cells + 0 ≤ _; omega, by show slots + 0 ≤ _; omega⟩ rfl hl.1 rfl (Nat.le_of_ble_eq_true rfl) dL_1348 (fun ks H locs J => ?_)
  refine lv_aload_n hx hb dL_1351 rfl (lv_at hl 1 rfl) ?_
  refine lv_aload_n hx hb dL_1352 rfl (lv_at hl 3 rfl) ?_
  refine lv_iload_n hx hb dL_1353 rfl (lv_at hl 0 rfl) ?_
  refine lv_iconst (v := 1) hx hb dL_1354 (by decide) ?_
  refine lv_iadd hx hb dL_1355 ?_
  refine sc_ld (j := 1) K J (by decide) (by omega) dL_1356 ?_
  refine lv_aload_n hx hb dL_1357 rfl (lv_at hl 3 rfl) ?_
  refine lv_iload_n hx hb dL_1358 rfl (lv_at hl 0 rfl) ?_
  refine lv_iconst (v := 2) hx hb dL_1359 (by decide) ?_
  refine lv_iadd hx hb dL_1360 ?_
  refine sc_ld (j := 2) K J (by decide) (by omega) dL_1361 ?_
  refine lv_aload_n hx hb dL_1362 rfl (lv_at hl 3 rfl) ?_
  refine lv_iload_n hx hb dL_1363 rfl (lv_at hl 0 rfl) ?_
  refine lv_iconst (v := 3) hx hb dL_1364 (by decide) ?_
  refine lv_iadd hx hb dL_1365 ?_
  refine sc_ld (j := 3) K J (by decide) (by omega) dL_1366 ?_
  refine lm_op (maxL := 4) (As := [.int (xs (6 * k + 1)), .int (xs (6 * k + 2)), .int (xs (6 * k + 3))]) (n := 3) K J (w_put kInj_a hM1) (lw_meth q1974) q1974 q1971 q1972 q1973 q94 (by decide +kernel) ⟨(Nat.le_of_ble_eq_true rfl), (Nat.le_of_ble_eq_true rfl)⟩ ⟨by omega, by omega⟩ rfl hl.1 rfl (Nat.le_of_ble_eq_true rfl) dL_1367 (fun H locs J => ?_)
  refine lv_icmp_eq (tgt := 1602) hx hb dL_1370 rfl (fun _ => ?_) (fun c => absurd rfl c)
  refine W.widen (k := cells + 60) (n := slots + 420) (by omega) (by omega) ?_
  exact kk ks cs1 ms1 H locs J hI1
theorem q1459 : (Jvm.Cond.methodLink "ChapterLoanLaw" (152 : Nat) ({ cls := "ChapterLoan", name := "move", desc := "(IIIII)I" } : Jvm.MethodName)) ∈ lw_all := lw_g (lw_at lw_m6 175 rfl) rfl
theorem q1460 : (Jvm.Cond.instanceMethod ({ cls := "ChapterLoan", name := "move", desc := "(IIIII)I" } : Jvm.MethodName)) ∈ lw_all := lw_g (lw_at lw_m6 176 rfl) rfl
theorem q1461 : (Jvm.Cond.selects "ChapterLoan" ({ cls := "ChapterLoan", name := "move", desc := "(IIIII)I" } : Jvm.MethodName) ({ cls := "ChapterLoan", name := "move", desc := "(IIIII)I" } : Jvm.MethodName)) ∈ lw_all := lw_g (lw_at lw_m6 177 rfl) rfl
theorem q1462 : (Jvm.Cond.codeWith ({ cls := "ChapterLoan", name := "move", desc := "(IIIII)I" } : Jvm.MethodName) prog_1_method_62_code (10 : Nat) (Option.some Jvm.ClassFile.FieldType.int) [((0 : Nat), (152 : Nat), (153 : Nat), (8 : Nat))]) ∈ lw_all := lw_g (lw_at lw_m6 178 rfl) rfl
theorem q1975 : (Jvm.Cond.methodLink "ChapterLoanLaw" (156 : Nat) ({ cls := "ChapterLoanModel", name := "move", desc := "(IIIII)I" } : Jvm.MethodName)) ∈ lw_all := lw_g (lw_at lw_m8 211 rfl) rfl
theorem q1976 : (Jvm.Cond.instanceMethod ({ cls := "ChapterLoanModel", name := "move", desc := "(IIIII)I" } : Jvm.MethodName)) ∈ lw_all := lw_g (lw_at lw_m8 212 rfl) rfl
theorem q1977 : (Jvm.Cond.selects "ChapterLoanModel" ({ cls := "ChapterLoanModel", name := "move", desc := "(IIIII)I" } : Jvm.MethodName) ({ cls := "ChapterLoanModel", name := "move", desc := "(IIIII)I" } : Jvm.MethodName)) ∈ lw_all := lw_g (lw_at lw_m8 213 rfl) rfl
theorem q1978 : (Jvm.Cond.code ({ cls := "ChapterLoanModel", name := "move", desc := "(IIIII)I" } : Jvm.MethodName) prog_30_method_94_code (7 : Nat) (Option.some Jvm.ClassFile.FieldType.int)) ∈ lw_all := lw_g (lw_at lw_m8 214 rfl) rfl
theorem lcs_move {I I2 : CS → MSt → Prop} (hst : stp_move (ad0 n0) adK cA I I2) (K : lK p s m args c D D2 cA cI adK adV n0 b L xs) (J : lJ s.heap D D2 cA cI n0 ks cs mst H locs) (hI : I cs mst) {k : Nat} (hk : 6 * k + 6 ≤ L) (hl : lv_has ls 4 [(3, .int (nI (6 * k))), (2, .ref (n0 + 73)), (1, .ref (ad0 n0 60)), (0, .ref b)]) (hcs : cells + 60 ≤ room_1.cells ∧ slots + 420 ≤ room_1.slots)
    (kk : ∀ (ks1 : List Nat) (cs1 : CS) (ms1 : MSt) (H1 : Heap) (locs1 : List Loc), lJ s.heap D D2 cA cI n0 ks1 cs1 ms1 H1 locs1 → I2 cs1 ms1 → W p l e room_1 s m args below meth c H1 locs1 (cells + 60) (slots + 420) Q (F0 m 1602 ls [])) : W p l e room_1 s m args below meth c H locs cells slots Q (F0 m 1375 ls []) := by
  have hx := K.1
  have hb := K.2.1
  have hown := K.2.2.2.1
  have hts := K.2.2.2.2.1
  have hcs1 := hcs.1
  have hcs2 := hcs.2
  refine lv_aload_n hx hb dL_1375 rfl (lv_at hl 2 rfl) ?_
  refine lv_aload_n hx hb dL_1376 rfl (lv_at hl 3 rfl) ?_
  refine lv_iload_n hx hb dL_1377 rfl (lv_at hl 0 rfl) ?_
  refine lv_iconst (v := 1) hx hb dL_1378 (by decide) ?_
  refine lv_iadd hx hb dL_1379 ?_
  refine sc_ld (j := 1) K J (by decide) (by omega) dL_1380 ?_
  refine lv_aload_n hx hb dL_1381 rfl (lv_at hl 3 rfl) ?_
  refine lv_iload_n hx hb dL_1382 rfl (lv_at hl 0 rfl) ?_
  refine lv_iconst (v := 2) hx hb dL_1383 (by decide) ?_
  refine lv_iadd hx hb dL_1384 ?_
  refine sc_ld (j := 2) K J (by decide) (by omega) dL_1385 ?_
  refine lv_aload_n hx hb dL_1386 rfl (lv_at hl 3 rfl) ?_
  refine lv_iload_n hx hb dL_1387 rfl (lv_at hl 0 rfl) ?_
  refine lv_iconst (v := 3) hx hb dL_1388 (by decide) ?_
  refine lv_iadd hx hb dL_1389 ?_
  refine sc_ld (j := 3) K J (by decide) (by omega) dL_1390 ?_
  refine lv_aload_n hx hb dL_1391 rfl (lv_at hl 3 rfl) ?_
  refine lv_iload_n hx hb dL_1392 rfl (lv_at hl 0 rfl) ?_
  refine lv_iconst (v := 4) hx hb dL_1393 (by decide) ?_
  refine lv_iadd hx hb dL_1394 ?_
  refine sc_ld (j := 4) K J (by decide) (by omega) dL_1395 ?_
  refine lv_aload_n hx hb dL_1396 rfl (lv_at hl 3 rfl) ?_
  refine lv_iload_n hx hb dL_1397 rfl (lv_at hl 0 rfl) ?_
  refine lv_iconst (v := 5) hx hb dL_1398 (by decide) ?_
  refine lv_iadd hx hb dL_1399 ?_
  refine sc_ld (j := 5) K J (by decide) (by omega) dL_1400 ?_
  obtain ⟨r, cs1, ms1, hL1, hM1, hI1⟩ := hst H.size cs mst (xs (6 * k + 1)) (xs (6 * k + 2)) (xs (6 * k + 3)) (xs (6 * k + 4)) (xs (6 * k + 5)) hI (FR_of J.2.1)
  refine lc_op (bytes := cX0_move) (ret := some .int) (maxL := 10) (As := [.int (xs (6 * k + 1)), .int (xs (6 * k + 2)), .int (xs (6 * k + 3)), .int (xs (6 * k + 4)), .int (xs (6 * k + 5))]) (n := 5) (mc := 1) (ms := 40) K J (op_n (w_L_move ad0_P J.1 hL1)) (lw_methW q1462) (cd_with hts q1462) q1459 q1460 q1461 q85 (by decide +kernel) ⟨(Nat.le_of_ble_eq_true rfl), (Nat.le_of_ble_eq_true rfl)⟩ ⟨by show cells + 1 ≤ _; omega, by show slots + 40 ≤ _; omega⟩ rfl hl.1 rfl (Nat.le_of_ble_eq_true rfl) dL_1401 (fun ks H locs J => ?_)
  refine lv_aload_n hx hb dL_1404 rfl (lv_at hl 1 rfl) ?_
  refine lv_aload_n hx hb dL_1405 rfl (lv_at hl 3 rfl) ?_
  refine lv_iload_n hx hb dL_1406 rfl (lv_at hl 0 rfl) ?_
  refine lv_iconst (v := 1) hx hb dL_1407 (by decide) ?_
  refine lv_iadd hx hb dL_1408 ?_
  refine sc_ld (j := 1) K J (by decide) (by omega) dL_1409 ?_
  refine lv_aload_n hx hb dL_1410 rfl (lv_at hl 3 rfl) ?_
  refine lv_iload_n hx hb dL_1411 rfl (lv_at hl 0 rfl) ?_
  refine lv_iconst (v := 2) hx hb dL_1412 (by decide) ?_
  refine lv_iadd hx hb dL_1413 ?_
  refine sc_ld (j := 2) K J (by decide) (by omega) dL_1414 ?_
  refine lv_aload_n hx hb dL_1415 rfl (lv_at hl 3 rfl) ?_
  refine lv_iload_n hx hb dL_1416 rfl (lv_at hl 0 rfl) ?_
  refine lv_iconst (v := 3) hx hb dL_1417 (by decide) ?_
  refine lv_iadd hx hb dL_1418 ?_
  refine sc_ld (j := 3) K J (by decide) (by omega) dL_1419 ?_
  refine lv_aload_n hx hb dL_1420 rfl (lv_at hl 3 rfl) ?_
  refine lv_iload_n hx hb dL_1421 rfl (lv_at hl 0 rfl) ?_
  refine lv_iconst (v := 4) hx hb dL_1422 (by decide) ?_
  refine lv_iadd hx hb dL_1423 ?_
  refine sc_ld (j := 4) K J (by decide) (by omega) dL_1424 ?_
  refine lv_aload_n hx hb dL_1425 rfl (lv_at hl 3 rfl) ?_
  refine lv_iload_n hx hb dL_1426 rfl (lv_at hl 0 rfl) ?_
  refine lv_iconst (v := 5) hx hb dL_1427 (by decide) ?_
  refine lv_iadd hx hb dL_1428 ?_
  refine sc_ld (j := 5) K J (by decide) (by omega) dL_1429 ?_
  refine lm_op (maxL := 7) (As := [.int (xs (6 * k + 1)), .int (xs (6 * k + 2)), .int (xs (6 * k + 3)), .int (xs (6 * k + 4)), .int (xs (6 * k + 5))]) (n := 5) K J (w_move kInj_a hM1) (lw_meth q1978) q1978 q1975 q1976 q1977 q94 (by decide +kernel) ⟨(Nat.le_of_ble_eq_true rfl), (Nat.le_of_ble_eq_true rfl)⟩ ⟨by omega, by omega⟩ rfl hl.1 rfl (Nat.le_of_ble_eq_true rfl) dL_1430 (fun H locs J => ?_)
  refine lv_icmp_eq (tgt := 1602) hx hb dL_1433 rfl (fun _ => ?_) (fun c => absurd rfl c)
  refine W.widen (k := cells + 60) (n := slots + 420) (by omega) (by omega) ?_
  exact kk ks cs1 ms1 H locs J hI1
theorem q1394 : (Jvm.Cond.methodLink "ChapterLoanLaw" (157 : Nat) ({ cls := "ChapterLoan", name := "reads", desc := "(I)I" } : Jvm.MethodName)) ∈ lw_all := lw_g (lw_at lw_m6 110 rfl) rfl
theorem q1395 : (Jvm.Cond.instanceMethod ({ cls := "ChapterLoan", name := "reads", desc := "(I)I" } : Jvm.MethodName)) ∈ lw_all := lw_g (lw_at lw_m6 111 rfl) rfl
theorem q1396 : (Jvm.Cond.selects "ChapterLoan" ({ cls := "ChapterLoan", name := "reads", desc := "(I)I" } : Jvm.MethodName) ({ cls := "ChapterLoan", name := "reads", desc := "(I)I" } : Jvm.MethodName)) ∈ lw_all := lw_g (lw_at lw_m6 112 rfl) rfl
theorem q1397 : (Jvm.Cond.codeWith ({ cls := "ChapterLoan", name := "reads", desc := "(I)I" } : Jvm.MethodName) prog_1_method_58_code (4 : Nat) (Option.some Jvm.ClassFile.FieldType.int) [((0 : Nat), (78 : Nat), (79 : Nat), (8 : Nat))]) ∈ lw_all := lw_g (lw_at lw_m6 113 rfl) rfl
theorem q1979 : (Jvm.Cond.methodLink "ChapterLoanLaw" (160 : Nat) ({ cls := "ChapterLoanModel", name := "reads", desc := "(I)I" } : Jvm.MethodName)) ∈ lw_all := lw_g (lw_at lw_m8 215 rfl) rfl
theorem q1980 : (Jvm.Cond.instanceMethod ({ cls := "ChapterLoanModel", name := "reads", desc := "(I)I" } : Jvm.MethodName)) ∈ lw_all := lw_g (lw_at lw_m8 216 rfl) rfl
theorem q1981 : (Jvm.Cond.selects "ChapterLoanModel" ({ cls := "ChapterLoanModel", name := "reads", desc := "(I)I" } : Jvm.MethodName) ({ cls := "ChapterLoanModel", name := "reads", desc := "(I)I" } : Jvm.MethodName)) ∈ lw_all := lw_g (lw_at lw_m8 217 rfl) rfl
theorem q1982 : (Jvm.Cond.code ({ cls := "ChapterLoanModel", name := "reads", desc := "(I)I" } : Jvm.MethodName) prog_30_method_95_code (5 : Nat) (Option.some Jvm.ClassFile.FieldType.int)) ∈ lw_all := lw_g (lw_at lw_m8 218 rfl) rfl
theorem lcs_reads {I I2 : CS → MSt → Prop} (hst : stp_reads (ad0 n0) adK cA I I2) (K : lK p s m args c D D2 cA cI adK adV n0 b L xs) (J : lJ s.heap D D2 cA cI n0 ks cs mst H locs) (hI : I cs mst) {k : Nat} (hk : 6 * k + 6 ≤ L) (hl : lv_has ls 4 [(3, .int (nI (6 * k))), (2, .ref (n0 + 73)), (1, .ref (ad0 n0 60)), (0, .ref b)]) (hcs : cells + 60 ≤ room_1.cells ∧ slots + 420 ≤ room_1.slots)
    (kk : ∀ (ks1 : List Nat) (cs1 : CS) (ms1 : MSt) (H1 : Heap) (locs1 : List Loc), lJ s.heap D D2 cA cI n0 ks1 cs1 ms1 H1 locs1 → I2 cs1 ms1 → W p l e room_1 s m args below meth c H1 locs1 (cells + 60) (slots + 420) Q (F0 m 1602 ls [])) : W p l e room_1 s m args below meth c H locs cells slots Q (F0 m 1438 ls []) := by
  have hx := K.1
  have hb := K.2.1
  have hown := K.2.2.2.1
  have hts := K.2.2.2.2.1
  have hcs1 := hcs.1
  have hcs2 := hcs.2
  refine lv_aload_n hx hb dL_1438 rfl (lv_at hl 2 rfl) ?_
  refine lv_aload_n hx hb dL_1439 rfl (lv_at hl 3 rfl) ?_
  refine lv_iload_n hx hb dL_1440 rfl (lv_at hl 0 rfl) ?_
  refine lv_iconst (v := 1) hx hb dL_1441 (by decide) ?_
  refine lv_iadd hx hb dL_1442 ?_
  refine sc_ld (j := 1) K J (by decide) (by omega) dL_1443 ?_
  obtain ⟨r, cs1, ms1, hL1, hM1, hI1⟩ := hst H.size cs mst (xs (6 * k + 1)) hI (FR_of J.2.1)
  refine lc_op (bytes := cX0_reads) (ret := some .int) (maxL := 4) (As := [.int (xs (6 * k + 1))]) (n := 1) (mc := 0) (ms := 0) K J (op_c J.1 (w_L_reads J.1 hL1)) (lw_methW q1397) (cd_with hts q1397) q1394 q1395 q1396 q85 (by decide +kernel) ⟨(Nat.le_of_ble_eq_true rfl), (Nat.le_of_ble_eq_true rfl)⟩ ⟨by show cells + 0 ≤ _; omega, by show slots + 0 ≤ _; omega⟩ rfl hl.1 rfl (Nat.le_of_ble_eq_true rfl) dL_1444 (fun ks H locs J => ?_)
  refine lv_aload_n hx hb dL_1447 rfl (lv_at hl 1 rfl) ?_
  refine lv_aload_n hx hb dL_1448 rfl (lv_at hl 3 rfl) ?_
  refine lv_iload_n hx hb dL_1449 rfl (lv_at hl 0 rfl) ?_
  refine lv_iconst (v := 1) hx hb dL_1450 (by decide) ?_
  refine lv_iadd hx hb dL_1451 ?_
  refine sc_ld (j := 1) K J (by decide) (by omega) dL_1452 ?_
  refine lm_op (maxL := 5) (As := [.int (xs (6 * k + 1))]) (n := 1) K J (w_reads kInj_a hM1) (lw_meth q1982) q1982 q1979 q1980 q1981 q94 (by decide +kernel) ⟨(Nat.le_of_ble_eq_true rfl), (Nat.le_of_ble_eq_true rfl)⟩ ⟨by omega, by omega⟩ rfl hl.1 rfl (Nat.le_of_ble_eq_true rfl) dL_1453 (fun H locs J => ?_)
  refine lv_icmp_eq (tgt := 1602) hx hb dL_1456 rfl (fun _ => ?_) (fun c => absurd rfl c)
  refine W.widen (k := cells + 60) (n := slots + 420) (by omega) (by omega) ?_
  exact kk ks cs1 ms1 H locs J hI1
theorem q1398 : (Jvm.Cond.methodLink "ChapterLoanLaw" (161 : Nat) ({ cls := "ChapterLoan", name := "judge", desc := "(II)I" } : Jvm.MethodName)) ∈ lw_all := lw_g (lw_at lw_m6 114 rfl) rfl
theorem q1399 : (Jvm.Cond.instanceMethod ({ cls := "ChapterLoan", name := "judge", desc := "(II)I" } : Jvm.MethodName)) ∈ lw_all := lw_g (lw_at lw_m6 115 rfl) rfl
theorem q1400 : (Jvm.Cond.selects "ChapterLoan" ({ cls := "ChapterLoan", name := "judge", desc := "(II)I" } : Jvm.MethodName) ({ cls := "ChapterLoan", name := "judge", desc := "(II)I" } : Jvm.MethodName)) ∈ lw_all := lw_g (lw_at lw_m6 116 rfl) rfl
theorem q1401 : (Jvm.Cond.codeWith ({ cls := "ChapterLoan", name := "judge", desc := "(II)I" } : Jvm.MethodName) prog_1_method_59_code (6 : Nat) (Option.some Jvm.ClassFile.FieldType.int) [((0 : Nat), (108 : Nat), (109 : Nat), (8 : Nat))]) ∈ lw_all := lw_g (lw_at lw_m6 117 rfl) rfl
theorem q1983 : (Jvm.Cond.methodLink "ChapterLoanLaw" (164 : Nat) ({ cls := "ChapterLoanModel", name := "judge", desc := "(II)I" } : Jvm.MethodName)) ∈ lw_all := lw_g (lw_at lw_m8 219 rfl) rfl
theorem q1984 : (Jvm.Cond.instanceMethod ({ cls := "ChapterLoanModel", name := "judge", desc := "(II)I" } : Jvm.MethodName)) ∈ lw_all := lw_g (lw_at lw_m8 220 rfl) rfl
theorem q1985 : (Jvm.Cond.selects "ChapterLoanModel" ({ cls := "ChapterLoanModel", name := "judge", desc := "(II)I" } : Jvm.MethodName) ({ cls := "ChapterLoanModel", name := "judge", desc := "(II)I" } : Jvm.MethodName)) ∈ lw_all := lw_g (lw_at lw_m8 221 rfl) rfl
theorem q1986 : (Jvm.Cond.code ({ cls := "ChapterLoanModel", name := "judge", desc := "(II)I" } : Jvm.MethodName) prog_30_method_96_code (5 : Nat) (Option.some Jvm.ClassFile.FieldType.int)) ∈ lw_all := lw_g (lw_at lw_m8 222 rfl) rfl
theorem lcs_judge {I I2 : CS → MSt → Prop} (hst : stp_judge (ad0 n0) adK cA I I2) (K : lK p s m args c D D2 cA cI adK adV n0 b L xs) (J : lJ s.heap D D2 cA cI n0 ks cs mst H locs) (hI : I cs mst) {k : Nat} (hk : 6 * k + 6 ≤ L) (hl : lv_has ls 4 [(3, .int (nI (6 * k))), (2, .ref (n0 + 73)), (1, .ref (ad0 n0 60)), (0, .ref b)]) (hcs : cells + 60 ≤ room_1.cells ∧ slots + 420 ≤ room_1.slots)
    (kk : ∀ (ks1 : List Nat) (cs1 : CS) (ms1 : MSt) (H1 : Heap) (locs1 : List Loc), lJ s.heap D D2 cA cI n0 ks1 cs1 ms1 H1 locs1 → I2 cs1 ms1 → W p l e room_1 s m args below meth c H1 locs1 (cells + 60) (slots + 420) Q (F0 m 1602 ls [])) : W p l e room_1 s m args below meth c H locs cells slots Q (F0 m 1461 ls []) := by
  have hx := K.1
  have hb := K.2.1
  have hown := K.2.2.2.1
  have hts := K.2.2.2.2.1
  have hcs1 := hcs.1
  have hcs2 := hcs.2
  refine lv_aload_n hx hb dL_1461 rfl (lv_at hl 2 rfl) ?_
  refine lv_aload_n hx hb dL_1462 rfl (lv_at hl 3 rfl) ?_
  refine lv_iload_n hx hb dL_1463 rfl (lv_at hl 0 rfl) ?_
  refine lv_iconst (v := 1) hx hb dL_1464 (by decide) ?_
  refine lv_iadd hx hb dL_1465 ?_
  refine sc_ld (j := 1) K J (by decide) (by omega) dL_1466 ?_
  refine lv_aload_n hx hb dL_1467 rfl (lv_at hl 3 rfl) ?_
  refine lv_iload_n hx hb dL_1468 rfl (lv_at hl 0 rfl) ?_
  refine lv_iconst (v := 2) hx hb dL_1469 (by decide) ?_
  refine lv_iadd hx hb dL_1470 ?_
  refine sc_ld (j := 2) K J (by decide) (by omega) dL_1471 ?_
  obtain ⟨r, cs1, ms1, hL1, hM1, hI1⟩ := hst H.size cs mst (xs (6 * k + 1)) (xs (6 * k + 2)) hI (FR_of J.2.1)
  refine lc_op (bytes := cX0_judge) (ret := some .int) (maxL := 6) (As := [.int (xs (6 * k + 1)), .int (xs (6 * k + 2))]) (n := 2) (mc := 0) (ms := 0) K J (op_c J.1 (w_L_judge J.1 hL1)) (lw_methW q1401) (cd_with hts q1401) q1398 q1399 q1400 q85 (by decide +kernel) ⟨(Nat.le_of_ble_eq_true rfl), (Nat.le_of_ble_eq_true rfl)⟩ ⟨by show cells + 0 ≤ _; omega, by show slots + 0 ≤ _; omega⟩ rfl hl.1 rfl (Nat.le_of_ble_eq_true rfl) dL_1472 (fun ks H locs J => ?_)
  refine lv_aload_n hx hb dL_1475 rfl (lv_at hl 1 rfl) ?_
  refine lv_aload_n hx hb dL_1476 rfl (lv_at hl 3 rfl) ?_
  refine lv_iload_n hx hb dL_1477 rfl (lv_at hl 0 rfl) ?_
  refine lv_iconst (v := 1) hx hb dL_1478 (by decide) ?_
  refine lv_iadd hx hb dL_1479 ?_
  refine sc_ld (j := 1) K J (by decide) (by omega) dL_1480 ?_
  refine lv_aload_n hx hb dL_1481 rfl (lv_at hl 3 rfl) ?_
  refine lv_iload_n hx hb dL_1482 rfl (lv_at hl 0 rfl) ?_
  refine lv_iconst (v := 2) hx hb dL_1483 (by decide) ?_
  refine lv_iadd hx hb dL_1484 ?_
  refine sc_ld (j := 2) K J (by decide) (by omega) dL_1485 ?_
  refine lm_op (maxL := 5) (As := [.int (xs (6 * k + 1)), .int (xs (6 * k + 2))]) (n := 2) K J (w_judge kInj_a hM1) (lw_meth q1986) q1986 q1983 q1984 q1985 q94 (by decide +kernel) ⟨(Nat.le_of_ble_eq_true rfl), (Nat.le_of_ble_eq_true rfl)⟩ ⟨by omega, by omega⟩ rfl hl.1 rfl (Nat.le_of_ble_eq_true rfl) dL_1486 (fun H locs J => ?_)
  refine lv_icmp_eq (tgt := 1602) hx hb dL_1489 rfl (fun _ => ?_) (fun c => absurd rfl c)
  refine W.widen (k := cells + 60) (n := slots + 420) (by omega) (by omega) ?_
  exact kk ks cs1 ms1 H locs J hI1
theorem q1484 : (Jvm.Cond.methodLink "ChapterLoanLaw" (165 : Nat) ({ cls := "ChapterLoan", name := "image", desc := "()I" } : Jvm.MethodName)) ∈ lw_all := lw_g (lw_at lw_m6 200 rfl) rfl
theorem q1987 : (Jvm.Cond.methodLink "ChapterLoanLaw" (169 : Nat) ({ cls := "ChapterLoanModel", name := "image", desc := "()I" } : Jvm.MethodName)) ∈ lw_all := lw_g (lw_at lw_m8 223 rfl) rfl
theorem q1988 : (Jvm.Cond.instanceMethod ({ cls := "ChapterLoanModel", name := "image", desc := "()I" } : Jvm.MethodName)) ∈ lw_all := lw_g (lw_at lw_m8 224 rfl) rfl
theorem q1989 : (Jvm.Cond.selects "ChapterLoanModel" ({ cls := "ChapterLoanModel", name := "image", desc := "()I" } : Jvm.MethodName) ({ cls := "ChapterLoanModel", name := "image", desc := "()I" } : Jvm.MethodName)) ∈ lw_all := lw_g (lw_at lw_m8 225 rfl) rfl
theorem q1990 : (Jvm.Cond.code ({ cls := "ChapterLoanModel", name := "image", desc := "()I" } : Jvm.MethodName) prog_30_method_97_code (2 : Nat) (Option.some Jvm.ClassFile.FieldType.int)) ∈ lw_all := lw_g (lw_at lw_m8 226 rfl) rfl
theorem lcs_image {I I2 : CS → MSt → Prop} (hst : stp_image (ad0 n0) adK cA I I2) (K : lK p s m args c D D2 cA cI adK adV n0 b L xs) (J : lJ s.heap D D2 cA cI n0 ks cs mst H locs) (hI : I cs mst) {k : Nat} (hk : 6 * k + 6 ≤ L) (hl : lv_has ls 4 [(3, .int (nI (6 * k))), (2, .ref (n0 + 73)), (1, .ref (ad0 n0 60)), (0, .ref b)]) (hcs : cells + 60 ≤ room_1.cells ∧ slots + 420 ≤ room_1.slots)
    (kk : ∀ (ks1 : List Nat) (cs1 : CS) (ms1 : MSt) (H1 : Heap) (locs1 : List Loc), lJ s.heap D D2 cA cI n0 ks1 cs1 ms1 H1 locs1 → I2 cs1 ms1 → W p l e room_1 s m args below meth c H1 locs1 (cells + 60) (slots + 420) Q (F0 m 1602 ls [])) : W p l e room_1 s m args below meth c H locs cells slots Q (F0 m 1494 ls []) := by
  have hx := K.1
  have hb := K.2.1
  have hown := K.2.2.2.1
  have hts := K.2.2.2.2.1
  have hcs1 := hcs.1
  have hcs2 := hcs.2
  refine lv_aload_n hx hb dL_1494 rfl (lv_at hl 2 rfl) ?_
  obtain ⟨r, cs1, ms1, hL1, hM1, hI1⟩ := hst H.size cs mst  hI (FR_of J.2.1)
  refine lc_op (bytes := cX0_image) (ret := some .int) (maxL := 2) (As := []) (n := 0) (mc := 0) (ms := 0) K J (op_c J.1 (w_L_image J.1 hL1)) (lw_meth q1487) (cd_code hts q1487) q1484 q1485 q1486 q85 (by decide +kernel) ⟨(Nat.le_of_ble_eq_true rfl), (Nat.le_of_ble_eq_true rfl)⟩ ⟨by show cells + 0 ≤ _; omega, by show slots + 0 ≤ _; omega⟩ rfl hl.1 rfl (Nat.le_of_ble_eq_true rfl) dL_1495 (fun ks H locs J => ?_)
  refine lv_aload_n hx hb dL_1498 rfl (lv_at hl 1 rfl) ?_
  refine lm_op (maxL := 2) (As := []) (n := 0) K J (w_image kInj_a hM1) (lw_meth q1990) q1990 q1987 q1988 q1989 q94 (by decide +kernel) ⟨(Nat.le_of_ble_eq_true rfl), (Nat.le_of_ble_eq_true rfl)⟩ ⟨by omega, by omega⟩ rfl hl.1 rfl (Nat.le_of_ble_eq_true rfl) dL_1499 (fun H locs J => ?_)
  refine lv_icmp_eq (tgt := 1602) hx hb dL_1502 rfl (fun _ => ?_) (fun c => absurd rfl c)
  refine W.widen (k := cells + 60) (n := slots + 420) (by omega) (by omega) ?_
  exact kk ks cs1 ms1 H locs J hI1
theorem q1488 : (Jvm.Cond.methodLink "ChapterLoanLaw" (170 : Nat) ({ cls := "ChapterLoan", name := "restore", desc := "()I" } : Jvm.MethodName)) ∈ lw_all := lw_g (lw_at lw_m6 204 rfl) rfl
theorem q1489 : (Jvm.Cond.instanceMethod ({ cls := "ChapterLoan", name := "restore", desc := "()I" } : Jvm.MethodName)) ∈ lw_all := lw_g (lw_at lw_m6 205 rfl) rfl
theorem q1490 : (Jvm.Cond.selects "ChapterLoan" ({ cls := "ChapterLoan", name := "restore", desc := "()I" } : Jvm.MethodName) ({ cls := "ChapterLoan", name := "restore", desc := "()I" } : Jvm.MethodName)) ∈ lw_all := lw_g (lw_at lw_m6 206 rfl) rfl
theorem q1491 : (Jvm.Cond.codeWith ({ cls := "ChapterLoan", name := "restore", desc := "()I" } : Jvm.MethodName) prog_1_method_64_code (2 : Nat) (Option.some Jvm.ClassFile.FieldType.int) [((0 : Nat), (31 : Nat), (32 : Nat), (8 : Nat))]) ∈ lw_all := lw_g (lw_at lw_m6 207 rfl) rfl
theorem q1991 : (Jvm.Cond.methodLink "ChapterLoanLaw" (173 : Nat) ({ cls := "ChapterLoanModel", name := "restore", desc := "()I" } : Jvm.MethodName)) ∈ lw_all := lw_g (lw_at lw_m8 227 rfl) rfl
theorem q1992 : (Jvm.Cond.instanceMethod ({ cls := "ChapterLoanModel", name := "restore", desc := "()I" } : Jvm.MethodName)) ∈ lw_all := lw_g (lw_at lw_m8 228 rfl) rfl
theorem q1993 : (Jvm.Cond.selects "ChapterLoanModel" ({ cls := "ChapterLoanModel", name := "restore", desc := "()I" } : Jvm.MethodName) ({ cls := "ChapterLoanModel", name := "restore", desc := "()I" } : Jvm.MethodName)) ∈ lw_all := lw_g (lw_at lw_m8 229 rfl) rfl
theorem q1994 : (Jvm.Cond.code ({ cls := "ChapterLoanModel", name := "restore", desc := "()I" } : Jvm.MethodName) prog_30_method_98_code (2 : Nat) (Option.some Jvm.ClassFile.FieldType.int)) ∈ lw_all := lw_g (lw_at lw_m8 230 rfl) rfl
theorem lcs_restore {I I2 : CS → MSt → Prop} (hst : stp_restore (ad0 n0) adK cA I I2) (K : lK p s m args c D D2 cA cI adK adV n0 b L xs) (J : lJ s.heap D D2 cA cI n0 ks cs mst H locs) (hI : I cs mst) {k : Nat} (hk : 6 * k + 6 ≤ L) (hl : lv_has ls 4 [(3, .int (nI (6 * k))), (2, .ref (n0 + 73)), (1, .ref (ad0 n0 60)), (0, .ref b)]) (hcs : cells + 60 ≤ room_1.cells ∧ slots + 420 ≤ room_1.slots)
    (kk : ∀ (ks1 : List Nat) (cs1 : CS) (ms1 : MSt) (H1 : Heap) (locs1 : List Loc), lJ s.heap D D2 cA cI n0 ks1 cs1 ms1 H1 locs1 → I2 cs1 ms1 → W p l e room_1 s m args below meth c H1 locs1 (cells + 60) (slots + 420) Q (F0 m 1602 ls [])) : W p l e room_1 s m args below meth c H locs cells slots Q (F0 m 1507 ls []) := by
  have hx := K.1
  have hb := K.2.1
  have hown := K.2.2.2.1
  have hts := K.2.2.2.2.1
  have hcs1 := hcs.1
  have hcs2 := hcs.2
  refine lv_aload_n hx hb dL_1507 rfl (lv_at hl 2 rfl) ?_
  obtain ⟨r, cs1, ms1, hL1, hM1, hI1⟩ := hst H.size cs mst  hI (FR_of J.2.1)
  refine lc_op (bytes := cX0_restore) (ret := some .int) (maxL := 2) (As := []) (n := 0) (mc := 0) (ms := 0) K J (op_c J.1 (w_L_restore J.1 hL1)) (lw_methW q1491) (cd_with hts q1491) q1488 q1489 q1490 q85 (by decide +kernel) ⟨(Nat.le_of_ble_eq_true rfl), (Nat.le_of_ble_eq_true rfl)⟩ ⟨by show cells + 0 ≤ _; omega, by show slots + 0 ≤ _; omega⟩ rfl hl.1 rfl (Nat.le_of_ble_eq_true rfl) dL_1508 (fun ks H locs J => ?_)
  refine lv_aload_n hx hb dL_1511 rfl (lv_at hl 1 rfl) ?_
  refine lm_op (maxL := 2) (As := []) (n := 0) K J (w_restore kInj_a hM1) (lw_meth q1994) q1994 q1991 q1992 q1993 q94 (by decide +kernel) ⟨(Nat.le_of_ble_eq_true rfl), (Nat.le_of_ble_eq_true rfl)⟩ ⟨by omega, by omega⟩ rfl hl.1 rfl (Nat.le_of_ble_eq_true rfl) dL_1512 (fun H locs J => ?_)
  refine lv_icmp_eq (tgt := 1602) hx hb dL_1515 rfl (fun _ => ?_) (fun c => absurd rfl c)
  refine W.widen (k := cells + 60) (n := slots + 420) (by omega) (by omega) ?_
  exact kk ks cs1 ms1 H locs J hI1
theorem q1492 : (Jvm.Cond.methodLink "ChapterLoanLaw" (174 : Nat) ({ cls := "ChapterLoan", name := "tell", desc := "(I)I" } : Jvm.MethodName)) ∈ lw_all := lw_g (lw_at lw_m6 208 rfl) rfl
theorem q1493 : (Jvm.Cond.instanceMethod ({ cls := "ChapterLoan", name := "tell", desc := "(I)I" } : Jvm.MethodName)) ∈ lw_all := lw_g (lw_at lw_m6 209 rfl) rfl
theorem q1494 : (Jvm.Cond.selects "ChapterLoan" ({ cls := "ChapterLoan", name := "tell", desc := "(I)I" } : Jvm.MethodName) ({ cls := "ChapterLoan", name := "tell", desc := "(I)I" } : Jvm.MethodName)) ∈ lw_all := lw_g (lw_at lw_m6 210 rfl) rfl
theorem q1495 : (Jvm.Cond.codeWith ({ cls := "ChapterLoan", name := "tell", desc := "(I)I" } : Jvm.MethodName) prog_1_method_65_code (3 : Nat) (Option.some Jvm.ClassFile.FieldType.int) [((0 : Nat), (58 : Nat), (59 : Nat), (8 : Nat))]) ∈ lw_all := lw_g (lw_at lw_m6 211 rfl) rfl
theorem q1995 : (Jvm.Cond.methodLink "ChapterLoanLaw" (177 : Nat) ({ cls := "ChapterLoanModel", name := "tell", desc := "(I)I" } : Jvm.MethodName)) ∈ lw_all := lw_g (lw_at lw_m8 231 rfl) rfl
theorem q1996 : (Jvm.Cond.instanceMethod ({ cls := "ChapterLoanModel", name := "tell", desc := "(I)I" } : Jvm.MethodName)) ∈ lw_all := lw_g (lw_at lw_m8 232 rfl) rfl
theorem q1997 : (Jvm.Cond.selects "ChapterLoanModel" ({ cls := "ChapterLoanModel", name := "tell", desc := "(I)I" } : Jvm.MethodName) ({ cls := "ChapterLoanModel", name := "tell", desc := "(I)I" } : Jvm.MethodName)) ∈ lw_all := lw_g (lw_at lw_m8 233 rfl) rfl
theorem q1998 : (Jvm.Cond.code ({ cls := "ChapterLoanModel", name := "tell", desc := "(I)I" } : Jvm.MethodName) prog_30_method_99_code (2 : Nat) (Option.some Jvm.ClassFile.FieldType.int)) ∈ lw_all := lw_g (lw_at lw_m8 234 rfl) rfl
theorem lcs_tell {I I2 : CS → MSt → Prop} (hst : stp_tell (ad0 n0) adK cA I I2) (K : lK p s m args c D D2 cA cI adK adV n0 b L xs) (J : lJ s.heap D D2 cA cI n0 ks cs mst H locs) (hI : I cs mst) {k : Nat} (hk : 6 * k + 6 ≤ L) (hl : lv_has ls 4 [(3, .int (nI (6 * k))), (2, .ref (n0 + 73)), (1, .ref (ad0 n0 60)), (0, .ref b)]) (hcs : cells + 60 ≤ room_1.cells ∧ slots + 420 ≤ room_1.slots)
    (kk : ∀ (ks1 : List Nat) (cs1 : CS) (ms1 : MSt) (H1 : Heap) (locs1 : List Loc), lJ s.heap D D2 cA cI n0 ks1 cs1 ms1 H1 locs1 → I2 cs1 ms1 → W p l e room_1 s m args below meth c H1 locs1 (cells + 60) (slots + 420) Q (F0 m 1602 ls [])) : W p l e room_1 s m args below meth c H locs cells slots Q (F0 m 1520 ls []) := by
  have hx := K.1
  have hb := K.2.1
  have hown := K.2.2.2.1
  have hts := K.2.2.2.2.1
  have hcs1 := hcs.1
  have hcs2 := hcs.2
  refine lv_aload_n hx hb dL_1520 rfl (lv_at hl 2 rfl) ?_
  refine lv_aload_n hx hb dL_1521 rfl (lv_at hl 3 rfl) ?_
  refine lv_iload_n hx hb dL_1522 rfl (lv_at hl 0 rfl) ?_
  refine lv_iconst (v := 1) hx hb dL_1523 (by decide) ?_
  refine lv_iadd hx hb dL_1524 ?_
  refine sc_ld (j := 1) K J (by decide) (by omega) dL_1525 ?_
  obtain ⟨r, cs1, ms1, hL1, hM1, hI1⟩ := hst H.size cs mst (xs (6 * k + 1)) hI (FR_of J.2.1)
  refine lc_op (bytes := cX0_tell) (ret := some .int) (maxL := 3) (As := [.int (xs (6 * k + 1))]) (n := 1) (mc := 0) (ms := 0) K J (op_c J.1 (w_L_tell J.1 hL1)) (lw_methW q1495) (cd_with hts q1495) q1492 q1493 q1494 q85 (by decide +kernel) ⟨(Nat.le_of_ble_eq_true rfl), (Nat.le_of_ble_eq_true rfl)⟩ ⟨by show cells + 0 ≤ _; omega, by show slots + 0 ≤ _; omega⟩ rfl hl.1 rfl (Nat.le_of_ble_eq_true rfl) dL_1526 (fun ks H locs J => ?_)
  refine lv_aload_n hx hb dL_1529 rfl (lv_at hl 1 rfl) ?_
  refine lv_aload_n hx hb dL_1530 rfl (lv_at hl 3 rfl) ?_
  refine lv_iload_n hx hb dL_1531 rfl (lv_at hl 0 rfl) ?_
  refine lv_iconst (v := 1) hx hb dL_1532 (by decide) ?_
  refine lv_iadd hx hb dL_1533 ?_
  refine sc_ld (j := 1) K J (by decide) (by omega) dL_1534 ?_
  refine lm_op (maxL := 2) (As := [.int (xs (6 * k + 1))]) (n := 1) K J (w_tell kInj_a hM1) (lw_meth q1998) q1998 q1995 q1996 q1997 q94 (by decide +kernel) ⟨(Nat.le_of_ble_eq_true rfl), (Nat.le_of_ble_eq_true rfl)⟩ ⟨by omega, by omega⟩ rfl hl.1 rfl (Nat.le_of_ble_eq_true rfl) dL_1535 (fun H locs J => ?_)
  refine lv_icmp_eq (tgt := 1602) hx hb dL_1538 rfl (fun _ => ?_) (fun c => absurd rfl c)
  refine W.widen (k := cells + 60) (n := slots + 420) (by omega) (by omega) ?_
  exact kk ks cs1 ms1 H locs J hI1
theorem q1496 : (Jvm.Cond.methodLink "ChapterLoanLaw" (178 : Nat) ({ cls := "ChapterLoan", name := "check", desc := "()I" } : Jvm.MethodName)) ∈ lw_all := lw_g (lw_at lw_m6 212 rfl) rfl
theorem q1999 : (Jvm.Cond.methodLink "ChapterLoanLaw" (181 : Nat) ({ cls := "ChapterLoanModel", name := "check", desc := "()I" } : Jvm.MethodName)) ∈ lw_all := lw_g (lw_at lw_m8 235 rfl) rfl
theorem q2000 : (Jvm.Cond.instanceMethod ({ cls := "ChapterLoanModel", name := "check", desc := "()I" } : Jvm.MethodName)) ∈ lw_all := lw_g (lw_at lw_m8 236 rfl) rfl
theorem q2001 : (Jvm.Cond.selects "ChapterLoanModel" ({ cls := "ChapterLoanModel", name := "check", desc := "()I" } : Jvm.MethodName) ({ cls := "ChapterLoanModel", name := "check", desc := "()I" } : Jvm.MethodName)) ∈ lw_all := lw_g (lw_at lw_m8 237 rfl) rfl
theorem q2002 : (Jvm.Cond.code ({ cls := "ChapterLoanModel", name := "check", desc := "()I" } : Jvm.MethodName) prog_30_method_101_code (4 : Nat) (Option.some Jvm.ClassFile.FieldType.int)) ∈ lw_all := lw_g (lw_at lw_m8 238 rfl) rfl
theorem lcs_check {I I2 : CS → MSt → Prop} (hst : stp_check (ad0 n0) adK cA I I2) (K : lK p s m args c D D2 cA cI adK adV n0 b L xs) (J : lJ s.heap D D2 cA cI n0 ks cs mst H locs) (hI : I cs mst) {k : Nat} (hk : 6 * k + 6 ≤ L) (hl : lv_has ls 4 [(3, .int (nI (6 * k))), (2, .ref (n0 + 73)), (1, .ref (ad0 n0 60)), (0, .ref b)]) (hcs : cells + 60 ≤ room_1.cells ∧ slots + 420 ≤ room_1.slots)
    (kk : ∀ (ks1 : List Nat) (cs1 : CS) (ms1 : MSt) (H1 : Heap) (locs1 : List Loc), lJ s.heap D D2 cA cI n0 ks1 cs1 ms1 H1 locs1 → I2 cs1 ms1 → W p l e room_1 s m args below meth c H1 locs1 (cells + 60) (slots + 420) Q (F0 m 1602 ls [])) : W p l e room_1 s m args below meth c H locs cells slots Q (F0 m 1543 ls []) := by
  have hx := K.1
  have hb := K.2.1
  have hown := K.2.2.2.1
  have hts := K.2.2.2.2.1
  have hcs1 := hcs.1
  have hcs2 := hcs.2
  refine lv_aload_n hx hb dL_1543 rfl (lv_at hl 2 rfl) ?_
  obtain ⟨r, cs1, ms1, hL1, hM1, hI1⟩ := hst H.size cs mst  hI (FR_of J.2.1)
  refine lc_op (bytes := cX0_check) (ret := some .int) (maxL := 4) (As := []) (n := 0) (mc := 0) (ms := 0) K J (op_c J.1 (w_L_check J.1 hL1)) (lw_meth q1499) (cd_code hts q1499) q1496 q1497 q1498 q85 (by decide +kernel) ⟨(Nat.le_of_ble_eq_true rfl), (Nat.le_of_ble_eq_true rfl)⟩ ⟨by show cells + 0 ≤ _; omega, by show slots + 0 ≤ _; omega⟩ rfl hl.1 rfl (Nat.le_of_ble_eq_true rfl) dL_1544 (fun ks H locs J => ?_)
  refine lv_aload_n hx hb dL_1547 rfl (lv_at hl 1 rfl) ?_
  refine lm_op (maxL := 4) (As := []) (n := 0) K J (w_check kInj_a hM1) (lw_meth q2002) q2002 q1999 q2000 q2001 q94 (by decide +kernel) ⟨(Nat.le_of_ble_eq_true rfl), (Nat.le_of_ble_eq_true rfl)⟩ ⟨by omega, by omega⟩ rfl hl.1 rfl (Nat.le_of_ble_eq_true rfl) dL_1548 (fun H locs J => ?_)
  refine lv_icmp_eq (tgt := 1602) hx hb dL_1551 rfl (fun _ => ?_) (fun c => absurd rfl c)
  refine W.widen (k := cells + 60) (n := slots + 420) (by omega) (by omega) ?_
  exact kk ks cs1 ms1 H locs J hI1
theorem q1504 : (Jvm.Cond.methodLink "ChapterLoanLaw" (182 : Nat) ({ cls := "ChapterLoan", name := "count", desc := "(I)I" } : Jvm.MethodName)) ∈ lw_all := lw_g (lw_at lw_m6 220 rfl) rfl
theorem q1505 : (Jvm.Cond.instanceMethod ({ cls := "ChapterLoan", name := "count", desc := "(I)I" } : Jvm.MethodName)) ∈ lw_all := lw_g (lw_at lw_m6 221 rfl) rfl
theorem q1506 : (Jvm.Cond.selects "ChapterLoan" ({ cls := "ChapterLoan", name := "count", desc := "(I)I" } : Jvm.MethodName) ({ cls := "ChapterLoan", name := "count", desc := "(I)I" } : Jvm.MethodName)) ∈ lw_all := lw_g (lw_at lw_m6 222 rfl) rfl
theorem q1507 : (Jvm.Cond.codeWith ({ cls := "ChapterLoan", name := "count", desc := "(I)I" } : Jvm.MethodName) prog_1_method_67_code (3 : Nat) (Option.some Jvm.ClassFile.FieldType.int) [((0 : Nat), (71 : Nat), (144 : Nat), (8 : Nat)), ((72 : Nat), (79 : Nat), (144 : Nat), (8 : Nat)), ((80 : Nat), (87 : Nat), (144 : Nat), (8 : Nat)), ((88 : Nat), (95 : Nat), (144 : Nat), (8 : Nat)), ((96 : Nat), (103 : Nat), (144 : Nat), (8 : Nat)), ((104 : Nat), (111 : Nat), (144 : Nat), (8 : Nat)), ((112 : Nat), (119 : Nat), (144 : Nat), (8 : Nat)), ((120 : Nat), (127 : Nat), (144 : Nat), (8 : Nat)), ((128 : Nat), (135 : Nat), (144 : Nat), (8 : Nat)), ((136 : Nat), (143 : Nat), (144 : Nat), (8 : Nat))]) ∈ lw_all := lw_g (lw_at lw_m6 223 rfl) rfl
theorem q2007 : (Jvm.Cond.methodLink "ChapterLoanLaw" (185 : Nat) ({ cls := "ChapterLoanModel", name := "count", desc := "(I)I" } : Jvm.MethodName)) ∈ lw_all := lw_g (lw_at lw_m9 3 rfl) rfl
theorem q2008 : (Jvm.Cond.instanceMethod ({ cls := "ChapterLoanModel", name := "count", desc := "(I)I" } : Jvm.MethodName)) ∈ lw_all := lw_g (lw_at lw_m9 4 rfl) rfl
theorem q2009 : (Jvm.Cond.selects "ChapterLoanModel" ({ cls := "ChapterLoanModel", name := "count", desc := "(I)I" } : Jvm.MethodName) ({ cls := "ChapterLoanModel", name := "count", desc := "(I)I" } : Jvm.MethodName)) ∈ lw_all := lw_g (lw_at lw_m9 5 rfl) rfl
theorem q2010 : (Jvm.Cond.code ({ cls := "ChapterLoanModel", name := "count", desc := "(I)I" } : Jvm.MethodName) prog_30_method_102_code (2 : Nat) (Option.some Jvm.ClassFile.FieldType.int)) ∈ lw_all := lw_g (lw_at lw_m9 6 rfl) rfl
theorem lcs_count {I I2 : CS → MSt → Prop} (hst : stp_count (ad0 n0) adK cA I I2) (K : lK p s m args c D D2 cA cI adK adV n0 b L xs) (J : lJ s.heap D D2 cA cI n0 ks cs mst H locs) (hI : I cs mst) {k : Nat} (hk : 6 * k + 6 ≤ L) (hl : lv_has ls 4 [(3, .int (nI (6 * k))), (2, .ref (n0 + 73)), (1, .ref (ad0 n0 60)), (0, .ref b)]) (hcs : cells + 60 ≤ room_1.cells ∧ slots + 420 ≤ room_1.slots)
    (kk : ∀ (ks1 : List Nat) (cs1 : CS) (ms1 : MSt) (H1 : Heap) (locs1 : List Loc), lJ s.heap D D2 cA cI n0 ks1 cs1 ms1 H1 locs1 → I2 cs1 ms1 → W p l e room_1 s m args below meth c H1 locs1 (cells + 60) (slots + 420) Q (F0 m 1602 ls [])) : W p l e room_1 s m args below meth c H locs cells slots Q (F0 m 1556 ls []) := by
  have hx := K.1
  have hb := K.2.1
  have hown := K.2.2.2.1
  have hts := K.2.2.2.2.1
  have hcs1 := hcs.1
  have hcs2 := hcs.2
  refine lv_aload_n hx hb dL_1556 rfl (lv_at hl 2 rfl) ?_
  refine lv_aload_n hx hb dL_1557 rfl (lv_at hl 3 rfl) ?_
  refine lv_iload_n hx hb dL_1558 rfl (lv_at hl 0 rfl) ?_
  refine lv_iconst (v := 1) hx hb dL_1559 (by decide) ?_
  refine lv_iadd hx hb dL_1560 ?_
  refine sc_ld (j := 1) K J (by decide) (by omega) dL_1561 ?_
  obtain ⟨r, cs1, ms1, hL1, hM1, hI1⟩ := hst H.size cs mst (xs (6 * k + 1)) hI (FR_of J.2.1)
  refine lc_op (bytes := cX0_count) (ret := some .int) (maxL := 3) (As := [.int (xs (6 * k + 1))]) (n := 1) (mc := 0) (ms := 0) K J (op_c J.1 (w_L_count J.1 hL1)) (lw_methW q1507) (cd_with hts q1507) q1504 q1505 q1506 q85 (by decide +kernel) ⟨(Nat.le_of_ble_eq_true rfl), (Nat.le_of_ble_eq_true rfl)⟩ ⟨by show cells + 0 ≤ _; omega, by show slots + 0 ≤ _; omega⟩ rfl hl.1 rfl (Nat.le_of_ble_eq_true rfl) dL_1562 (fun ks H locs J => ?_)
  refine lv_aload_n hx hb dL_1565 rfl (lv_at hl 1 rfl) ?_
  refine lv_aload_n hx hb dL_1566 rfl (lv_at hl 3 rfl) ?_
  refine lv_iload_n hx hb dL_1567 rfl (lv_at hl 0 rfl) ?_
  refine lv_iconst (v := 1) hx hb dL_1568 (by decide) ?_
  refine lv_iadd hx hb dL_1569 ?_
  refine sc_ld (j := 1) K J (by decide) (by omega) dL_1570 ?_
  refine lm_op (maxL := 2) (As := [.int (xs (6 * k + 1))]) (n := 1) K J (w_count kInj_a hM1) (lw_meth q2010) q2010 q2007 q2008 q2009 q94 (by decide +kernel) ⟨(Nat.le_of_ble_eq_true rfl), (Nat.le_of_ble_eq_true rfl)⟩ ⟨by omega, by omega⟩ rfl hl.1 rfl (Nat.le_of_ble_eq_true rfl) dL_1571 (fun H locs J => ?_)
  refine lv_icmp_eq (tgt := 1602) hx hb dL_1574 rfl (fun _ => ?_) (fun c => absurd rfl c)
  refine W.widen (k := cells + 60) (n := slots + 420) (by omega) (by omega) ?_
  exact kk ks cs1 ms1 H locs J hI1
theorem q1508 : (Jvm.Cond.methodLink "ChapterLoanLaw" (186 : Nat) ({ cls := "ChapterLoan", name := "told", desc := "(I)I" } : Jvm.MethodName)) ∈ lw_all := lw_g (lw_at lw_m6 224 rfl) rfl
theorem q1509 : (Jvm.Cond.instanceMethod ({ cls := "ChapterLoan", name := "told", desc := "(I)I" } : Jvm.MethodName)) ∈ lw_all := lw_g (lw_at lw_m6 225 rfl) rfl
theorem q1510 : (Jvm.Cond.selects "ChapterLoan" ({ cls := "ChapterLoan", name := "told", desc := "(I)I" } : Jvm.MethodName) ({ cls := "ChapterLoan", name := "told", desc := "(I)I" } : Jvm.MethodName)) ∈ lw_all := lw_g (lw_at lw_m6 226 rfl) rfl
theorem q1511 : (Jvm.Cond.codeWith ({ cls := "ChapterLoan", name := "told", desc := "(I)I" } : Jvm.MethodName) prog_1_method_68_code (3 : Nat) (Option.some Jvm.ClassFile.FieldType.int) [((0 : Nat), (17 : Nat), (18 : Nat), (8 : Nat))]) ∈ lw_all := lw_g (lw_at lw_m6 227 rfl) rfl
theorem q2011 : (Jvm.Cond.methodLink "ChapterLoanLaw" (189 : Nat) ({ cls := "ChapterLoanModel", name := "told", desc := "(I)I" } : Jvm.MethodName)) ∈ lw_all := lw_g (lw_at lw_m9 7 rfl) rfl
theorem q2012 : (Jvm.Cond.instanceMethod ({ cls := "ChapterLoanModel", name := "told", desc := "(I)I" } : Jvm.MethodName)) ∈ lw_all := lw_g (lw_at lw_m9 8 rfl) rfl
theorem q2013 : (Jvm.Cond.selects "ChapterLoanModel" ({ cls := "ChapterLoanModel", name := "told", desc := "(I)I" } : Jvm.MethodName) ({ cls := "ChapterLoanModel", name := "told", desc := "(I)I" } : Jvm.MethodName)) ∈ lw_all := lw_g (lw_at lw_m9 9 rfl) rfl
theorem q2014 : (Jvm.Cond.code ({ cls := "ChapterLoanModel", name := "told", desc := "(I)I" } : Jvm.MethodName) prog_30_method_103_code (2 : Nat) (Option.some Jvm.ClassFile.FieldType.int)) ∈ lw_all := lw_g (lw_at lw_m9 10 rfl) rfl
theorem lcs_told {I I2 : CS → MSt → Prop} (hst : stp_told (ad0 n0) adK cA I I2) (K : lK p s m args c D D2 cA cI adK adV n0 b L xs) (J : lJ s.heap D D2 cA cI n0 ks cs mst H locs) (hI : I cs mst) {k : Nat} (hk : 6 * k + 6 ≤ L) (hl : lv_has ls 4 [(3, .int (nI (6 * k))), (2, .ref (n0 + 73)), (1, .ref (ad0 n0 60)), (0, .ref b)]) (hcs : cells + 60 ≤ room_1.cells ∧ slots + 420 ≤ room_1.slots)
    (kk : ∀ (ks1 : List Nat) (cs1 : CS) (ms1 : MSt) (H1 : Heap) (locs1 : List Loc), lJ s.heap D D2 cA cI n0 ks1 cs1 ms1 H1 locs1 → I2 cs1 ms1 → W p l e room_1 s m args below meth c H1 locs1 (cells + 60) (slots + 420) Q (F0 m 1602 ls [])) : W p l e room_1 s m args below meth c H locs cells slots Q (F0 m 1579 ls []) := by
  have hx := K.1
  have hb := K.2.1
  have hown := K.2.2.2.1
  have hts := K.2.2.2.2.1
  have hcs1 := hcs.1
  have hcs2 := hcs.2
  refine lv_aload_n hx hb dL_1579 rfl (lv_at hl 2 rfl) ?_
  refine lv_aload_n hx hb dL_1580 rfl (lv_at hl 3 rfl) ?_
  refine lv_iload_n hx hb dL_1581 rfl (lv_at hl 0 rfl) ?_
  refine lv_iconst (v := 1) hx hb dL_1582 (by decide) ?_
  refine lv_iadd hx hb dL_1583 ?_
  refine sc_ld (j := 1) K J (by decide) (by omega) dL_1584 ?_
  obtain ⟨r, cs1, ms1, hL1, hM1, hI1⟩ := hst H.size cs mst (xs (6 * k + 1)) hI (FR_of J.2.1)
  refine lc_op (bytes := cX0_told) (ret := some .int) (maxL := 3) (As := [.int (xs (6 * k + 1))]) (n := 1) (mc := 0) (ms := 0) K J (op_c J.1 (w_L_told J.1 hL1)) (lw_methW q1511) (cd_with hts q1511) q1508 q1509 q1510 q85 (by decide +kernel) ⟨(Nat.le_of_ble_eq_true rfl), (Nat.le_of_ble_eq_true rfl)⟩ ⟨by show cells + 0 ≤ _; omega, by show slots + 0 ≤ _; omega⟩ rfl hl.1 rfl (Nat.le_of_ble_eq_true rfl) dL_1585 (fun ks H locs J => ?_)
  refine lv_aload_n hx hb dL_1588 rfl (lv_at hl 1 rfl) ?_
  refine lv_aload_n hx hb dL_1589 rfl (lv_at hl 3 rfl) ?_
  refine lv_iload_n hx hb dL_1590 rfl (lv_at hl 0 rfl) ?_
  refine lv_iconst (v := 1) hx hb dL_1591 (by decide) ?_
  refine lv_iadd hx hb dL_1592 ?_
  refine sc_ld (j := 1) K J (by decide) (by omega) dL_1593 ?_
  refine lm_op (maxL := 2) (As := [.int (xs (6 * k + 1))]) (n := 1) K J (w_told kInj_a hM1) (lw_meth q2014) q2014 q2011 q2012 q2013 q94 (by decide +kernel) ⟨(Nat.le_of_ble_eq_true rfl), (Nat.le_of_ble_eq_true rfl)⟩ ⟨by omega, by omega⟩ rfl hl.1 rfl (Nat.le_of_ble_eq_true rfl) dL_1594 (fun H locs J => ?_)
  refine lv_icmp_eq (tgt := 1602) hx hb dL_1597 rfl (fun _ => ?_) (fun c => absurd rfl c)
  refine W.widen (k := cells + 60) (n := slots + 420) (by omega) (by omega) ?_
  exact kk ks cs1 ms1 H locs J hI1
end
