/-! debtors' voices: plain functions -/
set_option maxRecDepth 100000
def J_begins (st : CS) (x1 : Int32) : Option CS :=
  if 40 ≤ (st.1 62 1) then
    some st
  else
    bd1 (wr (st.2.1 63) 40 (st.1 62 1) x1) fun b2 =>
    some (csF (csA st 63 b2) 62 1 (((csA st 63 b2).1 62 1) + 1))
def V0_0_owes (st : CS) (dn dm x1 : Int32) : Option (Int32 × CS) :=
  bd1 (J_begins st 10) fun st1 =>
  some (x1 + dn, st1)
def V1_0_owes (st : CS) (dn dm x1 : Int32) : Option (Int32 × CS) :=
  bd1 (J_begins st 10) fun st1 =>
  some (x1 + dn, st1)
def V2_0_owes (st : CS) (dn dm x1 : Int32) : Option (Int32 × CS) :=
  bd1 (J_begins st 10) fun st1 =>
  some (x1 + dn, st1)
def V2_2_owes (st : CS) (dn dm x1 : Int32) : Option (Int32 × CS) :=
  bd1 (J_begins st 30) fun st1 =>
  bd2 (V2_0_owes st1 dn dm x1) fun v3 st2 =>
  some (v3 * 3, st2)
def V3_0_owes (st : CS) (dn dm x1 : Int32) : Option (Int32 × CS) :=
  bd1 (J_begins st 10) fun st1 =>
  some (x1 + dn, st1)
def V4_0_owes (st : CS) (dn dm x1 : Int32) : Option (Int32 × CS) :=
  bd1 (J_begins st 10) fun st1 =>
  some (x1 + dn, st1)
def V5_0_owes (st : CS) (dn dm x1 : Int32) : Option (Int32 × CS) :=
  bd1 (J_begins st 10) fun st1 =>
  some (x1 + dn, st1)
def V5_2_owes (st : CS) (dn dm x1 : Int32) : Option (Int32 × CS) :=
  bd1 (J_begins st 30) fun st1 =>
  bd2 (V5_0_owes st1 dn dm x1) fun v3 st2 =>
  some (v3 * 3, st2)
def V6_0_owes (st : CS) (dn dm x1 : Int32) : Option (Int32 × CS) :=
  bd1 (J_begins st 10) fun st1 =>
  some (x1 + dn, st1)
def V0_0_reads (st : CS) (dn dm x1 : Int32) : Option (Int32 × CS) :=
  bd1 (J_begins st 12) fun st1 =>
  some (x1 - dm, st1)
def V1_0_reads (st : CS) (dn dm x1 : Int32) : Option (Int32 × CS) :=
  bd1 (J_begins st 12) fun st1 =>
  some (x1 - dm, st1)
def V2_0_reads (st : CS) (dn dm x1 : Int32) : Option (Int32 × CS) :=
  bd1 (J_begins st 12) fun st1 =>
  some (x1 - dm, st1)
def V3_0_reads (st : CS) (dn dm x1 : Int32) : Option (Int32 × CS) :=
  bd1 (J_begins st 12) fun st1 =>
  some (x1 - dm, st1)
def V3_3_reads (st : CS) (dn dm x1 : Int32) : Option (Int32 × CS) :=
  bd1 (J_begins st 40) fun st1 =>
  bd2 (V3_0_reads st1 dn dm x1) fun v3 st2 =>
  some (-v3, st2)
def V4_0_reads (st : CS) (dn dm x1 : Int32) : Option (Int32 × CS) :=
  bd1 (J_begins st 12) fun st1 =>
  some (x1 - dm, st1)
def V5_0_reads (st : CS) (dn dm x1 : Int32) : Option (Int32 × CS) :=
  bd1 (J_begins st 12) fun st1 =>
  some (x1 - dm, st1)
def V6_0_reads (st : CS) (dn dm x1 : Int32) : Option (Int32 × CS) :=
  bd1 (J_begins st 12) fun st1 =>
  some (x1 - dm, st1)
def V6_3_reads (st : CS) (dn dm x1 : Int32) : Option (Int32 × CS) :=
  bd1 (J_begins st 40) fun st1 =>
  bd2 (V6_0_reads st1 dn dm x1) fun v3 st2 =>
  some (-v3, st2)
def V6_6_reads (st : CS) (dn dm x1 : Int32) : Option (Int32 × CS) :=
  bd1 (J_begins st 70) fun st1 =>
  bd2 (V6_3_reads st1 dn dm x1) fun v3 st2 =>
  some (v3 ^^^ dn, st2)
def V0_0_writes (st : CS) (dn dm x1 : Int32) : Option (Int32 × CS) :=
  bd1 (J_begins st 11) fun st1 =>
  bd2 (V0_0_owes st1 dn dm x1) fun v3 st2 =>
  some (v3 * 2, st2)
def V1_0_writes (st : CS) (dn dm x1 : Int32) : Option (Int32 × CS) :=
  bd1 (J_begins st 11) fun st1 =>
  bd2 (V1_0_owes st1 dn dm x1) fun v3 st2 =>
  some (v3 * 2, st2)
def V1_1_writes (st : CS) (dn dm x1 : Int32) : Option (Int32 × CS) :=
  bd1 (J_begins st 20) fun st1 =>
  bd2 (V1_0_writes st1 dn dm x1) fun v3 st2 =>
  bd2 (V1_0_reads st2 dn dm 1) fun v5 st4 =>
  some (v3 - v5, st4)
def V2_0_writes (st : CS) (dn dm x1 : Int32) : Option (Int32 × CS) :=
  bd1 (J_begins st 11) fun st1 =>
  bd2 (V2_2_owes st1 dn dm x1) fun v3 st2 =>
  some (v3 * 2, st2)
def V3_0_writes (st : CS) (dn dm x1 : Int32) : Option (Int32 × CS) :=
  bd1 (J_begins st 11) fun st1 =>
  bd2 (V3_0_owes st1 dn dm x1) fun v3 st2 =>
  some (v3 * 2, st2)
def V4_0_writes (st : CS) (dn dm x1 : Int32) : Option (Int32 × CS) :=
  bd1 (J_begins st 11) fun st1 =>
  bd2 (V4_0_owes st1 dn dm x1) fun v3 st2 =>
  some (v3 * 2, st2)
def V4_1_writes (st : CS) (dn dm x1 : Int32) : Option (Int32 × CS) :=
  bd1 (J_begins st 20) fun st1 =>
  bd2 (V4_0_writes st1 dn dm x1) fun v3 st2 =>
  bd2 (V4_0_reads st2 dn dm 1) fun v5 st4 =>
  some (v3 - v5, st4)
def V4_4_writes (st : CS) (dn dm x1 : Int32) : Option (Int32 × CS) :=
  bd1 (J_begins st 50) fun st1 =>
  bd2 (V4_1_writes st1 dn dm (x1 + 1)) fun v3 st2 =>
  some (v3, st2)
def V5_0_writes (st : CS) (dn dm x1 : Int32) : Option (Int32 × CS) :=
  bd1 (J_begins st 11) fun st1 =>
  bd2 (V5_2_owes st1 dn dm x1) fun v3 st2 =>
  some (v3 * 2, st2)
def V6_0_writes (st : CS) (dn dm x1 : Int32) : Option (Int32 × CS) :=
  bd1 (J_begins st 11) fun st1 =>
  bd2 (V6_0_owes st1 dn dm x1) fun v3 st2 =>
  some (v3 * 2, st2)
def V0_0_tells (st : CS) (dn dm x1 : Int32) : Option (Int32 × CS) :=
  bd1 (J_begins st 13) fun st1 =>
  bd2 (V0_0_writes st1 dn dm x1) fun v3 st2 =>
  bd2 (V0_0_reads st2 dn dm x1) fun v5 st4 =>
  some (v3 ^^^ v5, st4)
def V1_0_tells (st : CS) (dn dm x1 : Int32) : Option (Int32 × CS) :=
  bd1 (J_begins st 13) fun st1 =>
  bd2 (V1_1_writes st1 dn dm x1) fun v3 st2 =>
  bd2 (V1_0_reads st2 dn dm x1) fun v5 st4 =>
  some (v3 ^^^ v5, st4)
def V2_0_tells (st : CS) (dn dm x1 : Int32) : Option (Int32 × CS) :=
  bd1 (J_begins st 13) fun st1 =>
  bd2 (V2_0_writes st1 dn dm x1) fun v3 st2 =>
  bd2 (V2_0_reads st2 dn dm x1) fun v5 st4 =>
  some (v3 ^^^ v5, st4)
def V3_0_tells (st : CS) (dn dm x1 : Int32) : Option (Int32 × CS) :=
  bd1 (J_begins st 13) fun st1 =>
  bd2 (V3_0_writes st1 dn dm x1) fun v3 st2 =>
  bd2 (V3_3_reads st2 dn dm x1) fun v5 st4 =>
  some (v3 ^^^ v5, st4)
def V4_0_tells (st : CS) (dn dm x1 : Int32) : Option (Int32 × CS) :=
  bd1 (J_begins st 13) fun st1 =>
  bd2 (V4_4_writes st1 dn dm x1) fun v3 st2 =>
  bd2 (V4_0_reads st2 dn dm x1) fun v5 st4 =>
  some (v3 ^^^ v5, st4)
def V5_0_tells (st : CS) (dn dm x1 : Int32) : Option (Int32 × CS) :=
  bd1 (J_begins st 13) fun st1 =>
  bd2 (V5_0_writes st1 dn dm x1) fun v3 st2 =>
  bd2 (V5_0_reads st2 dn dm x1) fun v5 st4 =>
  some (v3 ^^^ v5, st4)
def V5_5_tells (st : CS) (dn dm x1 : Int32) : Option (Int32 × CS) :=
  bd1 (J_begins st 60) fun st1 =>
  bd2 (V5_0_tells st1 dn dm x1) fun v3 st2 =>
  bd2 (V5_2_owes st2 dn dm 2) fun v5 st4 =>
  some (v3 - v5, st4)
def V6_0_tells (st : CS) (dn dm x1 : Int32) : Option (Int32 × CS) :=
  bd1 (J_begins st 13) fun st1 =>
  bd2 (V6_0_writes st1 dn dm x1) fun v3 st2 =>
  bd2 (V6_6_reads st2 dn dm x1) fun v5 st4 =>
  some (v3 ^^^ v5, st4)
def V6_6_tells (st : CS) (dn dm x1 : Int32) : Option (Int32 × CS) :=
  bd1 (J_begins st 71) fun st1 =>
  bd2 (V6_0_writes st1 dn dm x1) fun v3 st2 =>
  bd2 (V6_0_tells st2 dn dm x1) fun v5 st4 =>
  some (v3 - v5, st4)
