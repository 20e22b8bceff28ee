/-! the component: a town: plain functions -/
set_option maxRecDepth 100000
def T_factAt (t : Nat) (st : CS) (x1 : Int32) (x2 : Int32) : Option (Int32) :=
  bd1 (rd (st.2.1 (20 * t + 9)) 32 ((8 * x1) + x2)) fun v1 =>
  some v1
def T_told_L4 (N : Nat) (t : Nat) (st : CS) (x1 : Int32) : Nat → Int32 → Int32 → Option (Int32)
  | 0, _, _ => none
  | n + 1, x2, x3 =>
    bd1 (rd (st.2.1 (20 * t + 8)) 4 x1) fun v1 =>
    if v1 ≤ x3 then
      some x2
    else
      bd1 (T_factAt t st x1 x3) fun v3 =>
      T_told_L4 N t st x1 n (x2 ||| (1 <<< (v3 &&& 31))) (x3 + 1)
def T_told (t : Nat) (N : Nat) (st : CS) (x1 : Int32) : Option (Int32) :=
  bd1 (T_told_L4 N t st x1 N 0 0) fun z4 =>
  some z4
def T_isElsewhere_L5 (N : Nat) (t : Nat) (st : CS) (x1 : Int32) (x2 : Int32) : Nat → Int32 → Int32 → Option (Int32)
  | 0, _, _ => none
  | n + 1, x3, x4 =>
    if (st.1 (20 * t) 6) ≤ x4 then
      some x3
    else
      if x4 = x1 then
        T_isElsewhere_L5 N t st x1 x2 n (x3 ||| 0) (x4 + 1)
      else
        bd1 (T_told t N st x4) fun v3 =>
        bd1 (L_isIn v3 x2) fun v4 =>
        if v4 = 0 then
          T_isElsewhere_L5 N t st x1 x2 n (x3 ||| 0) (x4 + 1)
        else
          T_isElsewhere_L5 N t st x1 x2 n (x3 ||| 1) (x4 + 1)
def T_isElsewhere (t : Nat) (N : Nat) (st : CS) (x1 : Int32) (x2 : Int32) : Option (Int32) :=
  bd1 (T_isElsewhere_L5 N t st x1 x2 N 0 0) fun z6 =>
  zr z6
def T_isOpen (t : Nat) (st : CS) (x1 : Int32) (x2 : Int32) : Option (Int32) :=
  bd1 (rd (st.2.1 (20 * t + 3)) 8 x2) fun v1 =>
  if v1 ≤ 0 then
    some 0
  else
    bd1 (rd (st.2.1 (20 * t + 4)) 8 x2) fun v3 =>
    bd1 (L_isIn x1 v3) fun v4 =>
    if v4 = 0 then
      some 1
    else
      some 0
def T_open_L11 (N : Nat) (t : Nat) (st : CS) (x2 : Int32) : Nat → Int32 → Int32 → Option (Int32)
  | 0, _, _ => none
  | n + 1, x3, x4 =>
    if (st.1 (20 * t) 0) ≤ x4 then
      some x3
    else
      bd1 (L_isIn x2 x4) fun v3 =>
      if v3 = 0 then
        T_open_L11 N t st x2 n (x3 + 0) (x4 + 1)
      else
        bd1 (T_isOpen t st x2 x4) fun v5 =>
        if v5 = 0 then
          T_open_L11 N t st x2 n (x3 + 0) (x4 + 1)
        else
          T_open_L11 N t st x2 n (x3 + 1) (x4 + 1)
def T_open (t : Nat) (N : Nat) (st : CS) (x1 : Int32) : Option (Int32) :=
  bd1 (T_told t N st x1) fun v1 =>
  bd1 (T_open_L11 N t st v1 N 0 0) fun z7 =>
  some z7
def T_isOverdue_L11 (N : Nat) (t : Nat) (st : CS) (x1 : Int32) (x2 : Int32) : Nat → Int32 → Int32 → Option (Int32)
  | 0, _, _ => none
  | n + 1, x3, x4 =>
    bd1 (rd (st.2.1 (20 * t + 8)) 4 x1) fun v2 =>
    if v2 ≤ x4 then
      some x3
    else
      bd1 (T_factAt t st x1 x4) fun v4 =>
      bd1 (T_isOpen t st x2 v4) fun v5 =>
      if v5 = 0 then
        T_isOverdue_L11 N t st x1 x2 n (x3 ||| 0) (x4 + 1)
      else
        bd1 (rd (st.2.1 (20 * t + 10)) 32 ((8 * x1) + x4)) fun v7 =>
        bd1 (rd (st.2.1 (20 * t + 3)) 8 v4) fun v8 =>
        if (st.1 (20 * t) 13) < (v7 + v8) then
          T_isOverdue_L11 N t st x1 x2 n (x3 ||| 0) (x4 + 1)
        else
          T_isOverdue_L11 N t st x1 x2 n (x3 ||| 1) (x4 + 1)
def T_isOverdue (t : Nat) (N : Nat) (st : CS) (x1 : Int32) : Option (Int32) :=
  bd1 (T_told t N st x1) fun v1 =>
  bd1 (T_isOverdue_L11 N t st x1 v1 N 0 0) fun z10 =>
  zr z10
def T_writes (t : Nat) (st : CS) (x1 : Int32) (x2 : Int32) : Option (CS) :=
  bd1 (rd (st.2.1 (20 * t + 8)) 4 x1) fun v1 =>
  bd1 (wr (st.2.1 (20 * t + 9)) 32 ((8 * x1) + v1) x2) fun b2 =>
  bd1 (rd ((csA st (20 * t + 9) b2).2.1 (20 * t + 8)) 4 x1) fun v3 =>
  bd1 (wr ((csA st (20 * t + 9) b2).2.1 (20 * t + 10)) 32 ((8 * x1) + v3) ((csA st (20 * t + 9) b2).1 (20 * t) 13)) fun b4 =>
  bd1 (rd ((csA (csA st (20 * t + 9) b2) (20 * t + 10) b4).2.1 (20 * t + 8)) 4 x1) fun v5 =>
  bd1 (wr ((csA (csA st (20 * t + 9) b2) (20 * t + 10) b4).2.1 (20 * t + 8)) 4 x1 (v5 + 1)) fun b6 =>
  some (csA (csA (csA st (20 * t + 9) b2) (20 * t + 10) b4) (20 * t + 8) b6)
def T_draw (t : Nat) (st : CS) : Option (Int32 × CS) :=
  some ((((csF st (20 * t) 19 (((st.1 (20 * t) 19) * 1103515245) + 12345)).1 (20 * t) 19).toUInt32 >>> ((8 : Int32).toUInt32 &&& Int32.toUInt32 31)).toInt32, csF st (20 * t) 19 (((st.1 (20 * t) 19) * 1103515245) + 12345))
def T_lends (t : Nat) (st : CS) (x1 : Int32) (x2 : Int32) : Option (CS) :=
  bd1 (rd (st.2.1 (20 * t + 6)) 4 x1) fun v1 =>
  bd1 (J_min 9999 (v1 + x2)) fun v2 =>
  bd1 (wr (st.2.1 (20 * t + 6)) 4 x1 v2) fun b3 =>
  some (csA st (20 * t + 6) b3)
def T_broken_L4 (N : Nat) (t : Nat) (st : CS) : Nat → Int32 → Int32 → Option (Int32)
  | 0, _, _ => none
  | n + 1, x1, x2 =>
    if (st.1 (20 * t) 6) ≤ x2 then
      some x1
    else
      bd1 (rd (st.2.1 (20 * t + 7)) 4 x2) fun v2 =>
      if v2 = 0 then
        T_broken_L4 N t st n (x1 + 0) (x2 + 1)
      else
        T_broken_L4 N t st n (x1 + 1) (x2 + 1)
def T_broken (t : Nat) (N : Nat) (st : CS) : Option (Int32) :=
  bd1 (T_broken_L4 N t st N 0 0) fun z4 =>
  some z4
def T_debts_L4 (N : Nat) (t : Nat) (st : CS) : Nat → Int32 → Int32 → Option (Int32)
  | 0, _, _ => none
  | n + 1, x1, x2 =>
    if (st.1 (20 * t) 6) ≤ x2 then
      some x1
    else
      bd1 (rd (st.2.1 (20 * t + 6)) 4 x2) fun v2 =>
      T_debts_L4 N t st n (x1 + v2) (x2 + 1)
def T_debts (t : Nat) (N : Nat) (st : CS) : Option (Int32) :=
  bd1 (T_debts_L4 N t st N 0 0) fun z3 =>
  some z3
def T_sees_L17 (N : Nat) (t : Nat) (st : CS) (x1 : Int32) (x2 : Int32) (x4 : Int32) : Nat → Int32 → Int32 → Option (Int32)
  | 0, _, _ => none
  | n + 1, x3, x5 =>
    bd1 (rd (st.2.1 (20 * t + 8)) 4 x4) fun v2 =>
    if v2 ≤ x5 then
      some x3
    else
      bd1 (T_factAt t st x4 x5) fun v4 =>
      bd1 (rd (st.2.1 (20 * t + 10)) 32 ((8 * x4) + x5)) fun v5 =>
      if x2 < v5 then
        T_sees_L17 N t st x1 x2 x4 n (x3 ||| 0) (x5 + 1)
      else
        bd1 (rd (st.2.1 (20 * t + 5)) 8 v4) fun v7 =>
        bd1 (L_isIn v7 x1) fun v8 =>
        if v8 = 0 then
          T_sees_L17 N t st x1 x2 x4 n (x3 ||| 0) (x5 + 1)
        else
          T_sees_L17 N t st x1 x2 x4 n (x3 ||| (1 <<< (v4 &&& 31))) (x5 + 1)
def T_sees_L5 (N : Nat) (t : Nat) (st : CS) (x1 : Int32) (x2 : Int32) : Nat → Int32 → Int32 → Option (Int32)
  | 0, _, _ => none
  | n + 1, x3, x4 =>
    if (st.1 (20 * t) 6) ≤ x4 then
      some x3
    else
      bd1 (T_sees_L17 N t st x1 x2 x4 N x3 0) fun z10 =>
      T_sees_L5 N t st x1 x2 n z10 (x4 + 1)
def T_sees (t : Nat) (N : Nat) (st : CS) (x1 : Int32) (x2 : Int32) : Option (Int32) :=
  bd1 (T_sees_L5 N t st x1 x2 N 0 0) fun z12 =>
  some z12
