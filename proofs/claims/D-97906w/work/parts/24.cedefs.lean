/-! the rest of a town: plain functions -/
set_option maxRecDepth 100000
def T_with (t : Nat) (st : CS) (x1 x2 : Int32) : Option CS :=
  bd1 (wr (st.2.1 (20 * t + 16)) 128 x1 x2) fun b => some (csA st (20 * t + 16) b)
def T_payBy (t : Nat) (st : CS) (x1 : Int32) (x2 : Int32) (x3 : Int32) : Option (Int32 × CS) :=
  bd1 (rdq (st.2.2.1 (20 * t + 18)) 2 0) fun r1 =>
  onq r1 (
    bd1 (L_held 10 0 999) fun v3 =>
    some (v3, st)
  ) fun a2 =>
  bd1 (rdq (st.2.2.1 (20 * t + 18)) 2 0) fun r4 =>
  onq r4 none fun a5 =>
  bd1 (T_with t st 102 x1) fun st6 =>
  bd1 (T_with t st6 119 x2) fun st7 =>
  bd1 (T_with t st7 100 x3) fun st8 =>
  bd1 (tmV st8.2.2.2 (st8.2.1 (20 * t + 16)) 60 a5) fun v9 =>
  bd1 (L_held v9 0 999) fun v10 =>
  some (v10, st8)
def T_trustBy (t : Nat) (st : CS) (x1 : Int32) (x2 : Int32) (x3 : Int32) : Option (Int32 × CS) :=
  bd1 (rdq (st.2.2.1 (20 * t + 18)) 2 1) fun r1 =>
  onq r1 (
    bd1 (L_held (((10 * x3) - (5 * x2)) - x1) (-999) 999) fun v3 =>
    some (v3, st)
  ) fun a2 =>
  bd1 (rdq (st.2.2.1 (20 * t + 18)) 2 1) fun r4 =>
  onq r4 none fun a5 =>
  bd1 (T_with t st 100 x1) fun st6 =>
  bd1 (T_with t st6 111 x2) fun st7 =>
  bd1 (T_with t st7 110 x3) fun st8 =>
  bd1 (tmV st8.2.2.2 (st8.2.1 (20 * t + 16)) 60 a5) fun v9 =>
  bd1 (L_held v9 (-999) 999) fun v10 =>
  some (v10, st8)
def T_may (t : Nat) (N : Nat) (st : CS) (x1 : Int32) (x2 : Int32) : Option (Int32) :=
  bd1 (T_told t N st x1) fun v1 =>
  bd1 (rd (st.2.1 (20 * t + 1)) 8 x2) fun v2 =>
  bd1 (J_bitCount (v2 &&& (v1 ^^^ (-1)))) fun v3 =>
  bd1 (L_isIn v1 x2) fun v4 =>
  if v4 = 0 then
    bd1 (rdq (st.2.2.1 (20 * t + 17)) 4 x1) fun r6 =>
    onq r6 none fun a7 =>
    bd1 (rd (st.2.1 (20 * t + 2)) 8 x2) fun v8 =>
    if (v8 &&& v1) = 0 then
      bd1 (T_isElsewhere t N st x1 x2) fun v17 =>
      bd4 (dvOf (st.2.2.2 (1000 + a7))) fun k18 tr19 dn20 dm21 =>
      bd1 (D_may k18 dn20 dm21 x2 v3 1 v17) fun v22 =>
      if v22 = 0 then
        some 0
      else
        some 1
    else
      bd1 (T_isElsewhere t N st x1 x2) fun v10 =>
      bd4 (dvOf (st.2.2.2 (1000 + a7))) fun k11 tr12 dn13 dm14 =>
      bd1 (D_may k11 dn13 dm14 x2 v3 0 v10) fun v15 =>
      if v15 = 0 then
        some 0
      else
        some 1
  else
    some 0
def T_mayAll_L4 (N : Nat) (t : Nat) (st : CS) (x1 : Int32) : Nat → Int32 → Int32 → Option (Int32)
  | 0, _, _ => none
  | n + 1, x2, x3 =>
    if (st.1 (20 * t) 0) ≤ x3 then
      some x2
    else
      bd1 (T_may t N st x1 x3) fun v2 =>
      if v2 = 0 then
        T_mayAll_L4 N t st x1 n (x2 ||| 0) (x3 + 1)
      else
        T_mayAll_L4 N t st x1 n (x2 ||| (1 <<< (x3 &&& 31))) (x3 + 1)
def T_mayAll (t : Nat) (N : Nat) (st : CS) (x1 : Int32) : Option (Int32) :=
  bd1 (T_mayAll_L4 N t st x1 N 0 0) fun z4 =>
  some z4
def T_trust (t : Nat) (N : Nat) (st : CS) (x1 : Int32) : Option (Int32 × CS) :=
  bd1 (rd (st.2.1 (20 * t + 6)) 4 x1) fun v1 =>
  bd1 (T_open t N st x1) fun v2 =>
  bd1 (rd (st.2.1 (20 * t + 8)) 4 x1) fun v3 =>
  bd2 (T_trustBy t st v1 v2 v3) fun v4 st5 =>
  some (v4, st5)
def T_due (t : Nat) (st : CS) (x1 : Int32) : Option (Int32) :=
  if x1 = (st.1 (20 * t) 25) then
    some (st.1 (20 * t) 26)
  else
    bd1 (rdq (st.2.2.1 (20 * t + 17)) 4 x1) fun r2 =>
    onq r2 none fun a3 =>
    bd4 (dvOf (st.2.2.2 (1000 + a3))) fun k4 tr5 dn6 dm7 =>
    bd1 (D_due k4 dn6 dm7) fun v8 =>
    some v8
def T_tells (t : Nat) (st : CS) (x1 : Int32) (x2 : Int32) : Option (CS) :=
  bd1 (rdq (st.2.2.1 (20 * t + 17)) 4 x1) fun r1 =>
  onq r1 none fun a2 =>
  bd1 (rd (st.2.1 (20 * t + 6)) 4 x1) fun v3 =>
  bd2 (T_payBy t st x2 (st.1 (20 * t) 13) v3) fun v4 st5 =>
  bd4 (dvOf (st5.2.2.2 (1000 + a2))) fun k6 tr7 dn8 dm9 =>
  bd1 (D_pays k6 dn8 dm9 v4) fun v10 =>
  bd1 (T_writes t st5 x1 x2) fun st12 =>
  bd1 (rd (st12.2.1 (20 * t + 6)) 4 x1) fun v13 =>
  bd1 (J_max 0 (v13 - v10)) fun v14 =>
  bd1 (wr (st12.2.1 (20 * t + 6)) 4 x1 v14) fun b15 =>
  some (csA st12 (20 * t + 6) b15)
def T_passes_L25 (N : Nat) (t : Nat) (x1 : Int32) : Nat → CS → Int32 → Option (CS)
  | 0, _, _ => none
  | n + 1, st, x2 =>
    if x2 ≤ 0 then
      some st
    else
      bd1 (rd (st.2.1 (20 * t + 6)) 4 x1) fun v7 =>
      if v7 ≤ 0 then
        some st
      else
        bd1 (rd (st.2.1 (20 * t + 7)) 4 x1) fun v9 =>
        if v9 = 0 then
          bd1 (T_mayAll t N st x1) fun v11 =>
          if v11 = 0 then
            bd1 (wr (st.2.1 (20 * t + 7)) 4 x1 1) fun b18 =>
            if v11 = 0 then
              T_passes_L25 N t x1 n (csA st (20 * t + 7) b18) (x2 + (-1))
            else
              bd1 (J_ntz v11) fun v20 =>
              bd1 (T_tells t (csA st (20 * t + 7) b18) x1 v20) fun st22 =>
              T_passes_L25 N t x1 n st22 (x2 + (-1))
          else
            bd1 (wr (st.2.1 (20 * t + 7)) 4 x1 0) fun b13 =>
            if v11 = 0 then
              T_passes_L25 N t x1 n (csA st (20 * t + 7) b13) (x2 + (-1))
            else
              bd1 (J_ntz v11) fun v15 =>
              bd1 (T_tells t (csA st (20 * t + 7) b13) x1 v15) fun st17 =>
              T_passes_L25 N t x1 n st17 (x2 + (-1))
        else
          some st
def T_passes (t : Nat) (N : Nat) (st : CS) (x1 : Int32) : Option (CS) :=
  bd1 (rd (st.2.1 (20 * t + 7)) 4 x1) fun v1 =>
  if v1 = 0 then
    bd1 (rd (st.2.1 (20 * t + 6)) 4 x1) fun v3 =>
    if v3 = 0 then
      some st
    else
      bd1 (T_due t st x1) fun v5 =>
      bd1 (T_passes_L25 N t x1 N st v5) fun st23 =>
      bd1 (rd (st23.2.1 (20 * t + 7)) 4 x1) fun v24 =>
      bd1 (T_isOverdue t N st23 x1) fun v25 =>
      bd1 (zr (v24 ||| v25)) fun w27 =>
      bd1 (wr (st23.2.1 (20 * t + 7)) 4 x1 (v24 ||| v25)) fun b26 =>
      some (csA st23 (20 * t + 7) b26)
  else
    some st
def T_goes_L2 (N : Nat) (t : Nat) : Nat → CS → Int32 → Option (CS)
  | 0, _, _ => none
  | n + 1, st, x1 =>
    if (st.1 (20 * t) 6) ≤ x1 then
      some st
    else
      bd1 (T_passes t N st x1) fun st3 =>
      T_goes_L2 N t n st3 (x1 + 1)
def T_goes (t : Nat) (N : Nat) (st : CS) : Option (CS) :=
  bd1 (T_goes_L2 N t N st 0) fun st4 =>
  some (csF st4 (20 * t) 13 ((st4.1 (20 * t) 13) + 1))
def T_goesLoose (t : Nat) (N : Nat) (st : CS) : Option (CS) :=
  bd2 (T_draw t st) fun v1 st2 =>
  bd2 (T_draw t st2) fun v3 st4 =>
  if (st4.1 (20 * t) 6) ≤ (v1 - v1 / 4 * 4) then
    bd1 (T_goes t N st4) fun st7 =>
    some st7
  else
    bd1 (rd (st4.2.1 (20 * t + 7)) 4 (v1 - v1 / 4 * 4)) fun v8 =>
    if v8 = 0 then
      bd1 (T_lends t st4 (v1 - v1 / 4 * 4) (v3 - v3 / 50 * 50)) fun st13 =>
      bd1 (T_goes t N st13) fun st15 =>
      some st15
    else
      bd1 (T_goes t N st4) fun st11 =>
      some st11
