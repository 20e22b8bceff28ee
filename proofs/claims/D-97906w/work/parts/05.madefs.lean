/-! the model: plain functions of its methods (ma) -/
set_option maxRecDepth 100000
def M_in (x0 : Int64) (x2 : Int64) (x4 : Int64) : Option (Int32) :=
  if (lg_cmp x0 x2) < 0 then
    some 0
  else
    if 0 < (lg_cmp x0 x4) then
      some 0
    else
      some 1
def M_finds (st : MSt) (x1 : Int32) : Option (Int32 × MSt) :=
  bd1 (rd (st.2 4) 6 x1) fun v1 =>
  bd1 (wr (st.2 4) 6 x1 (v1 + 1)) fun b2 =>
  some ((-1000000000) - x1, sa st 4 b2)
def M_feed_L40 (N : Nat) (x1 : Int64) (x3 : Int32) : Nat → MSt → Int32 → Option (MSt)
  | 0, _, _ => none
  | n + 1, st, x4 =>
    if x3 ≤ x4 then
      some st
    else
      bd1 (rd (st.2 1) 342 5) fun v6 =>
      bd1 (wr (st.2 1) 342 (292 + v6) (((x1 >>> ((8 * x4).toInt64 &&& 63)) &&& 255).toInt32)) fun b7 =>
      bd1 (rd ((sa st 1 b7).2 1) 342 5) fun v8 =>
      bd1 (wr ((sa st 1 b7).2 1) 342 5 (v8 + 1)) fun b9 =>
      M_feed_L40 N x1 x3 n (sa (sa st 1 b7) 1 b9) (x4 + 1)
def M_feed (N : Nat) (st : MSt) (x1 : Int64) (x3 : Int32) : Option (Int32 × MSt) :=
  bd1 (M_in x3.toInt64 1 8) fun v1 =>
  if v1 = 0 then
    bd2 (M_finds st 1) fun v15 st16 =>
    some (v15, st16)
  else
    bd1 (rd (st.2 1) 342 5) fun v3 =>
    if (v3 + x3) ≤ 50 then
      bd1 (M_feed_L40 N x1 x3 N st 0) fun st10 =>
      bd1 (rd (st10.2 1) 342 5) fun v11 =>
      some (v11, st10)
    else
      bd2 (M_finds st 4) fun v13 st14 =>
      some (v13, st14)
def M_here (st : MSt) : Option (Int32) :=
  if (st.1 7) ≤ (st.1 6) then
    some (-1)
  else
    if 0 ≤ (st.1 8) then
      some (-1)
    else
      bd1 (rd (st.2 1) 342 ((st.1 5) + (st.1 6))) fun v3 =>
      some v3
def M_wrong (st : MSt) : Option (Int32 × MSt) :=
  if 0 ≤ (st.1 8) then
    some (0, sf st 8 (st.1 8))
  else
    some (0, sf st 8 (st.1 6))
def M_takes (st : MSt) (x1 : Int32) : Option (Int32 × MSt) :=
  bd1 (M_here st) fun v1 =>
  if v1 = x1 then
    some (1, sf st 6 ((st.1 6) + 1))
  else
    some (0, st)
def M_nameOf (st : MSt) (x1 : Int32) : Option (Int32) :=
  if (st.1 10) = 0 then
    if x1 = 102 then
      some 0
    else
      if x1 = 119 then
        some 1
      else
        if x1 = 100 then
          some 2
        else
          some (-1)
  else
    if x1 = 100 then
      some 0
    else
      if x1 = 111 then
        some 1
      else
        if x1 = 110 then
          some 2
        else
          some (-1)
def M_held (x0 : Int32) (x1 : Int32) (x2 : Int32) : Option (Int32) :=
  if x1 ≤ x0 then
    if x0 ≤ x2 then
      some x0
    else
      some x2
  else
    some x1
def M_puts (st : MSt) (x1 : Int32) (x2 : Int32) (x3 : Int32) : Option (MSt) :=
  bd1 (wr (st.2 1) 342 ((10 + (5 * x1)) + x2) x3) fun b1 =>
  some (sa st 1 b1)
def M_fact (st : MSt) (x1 : Int32) (x2 : Int32) : Option (Int32 × MSt) :=
  bd1 (M_in x1.toInt64 0 255) fun v1 =>
  if v1 = 0 then
    bd2 (M_finds st 1) fun v3 st4 =>
    some (v3, st4)
  else
    bd1 (rd (st.2 1) 342 0) fun v5 =>
    if ((x1 >>> (v5 &&& 31)) &&& 1) = 1 then
      bd2 (M_finds st 1) fun v7 st8 =>
      some (v7, st8)
    else
      bd1 (M_in x2.toInt64 0 31) fun v9 =>
      if v9 = 0 then
        bd2 (M_finds st 1) fun v28 st29 =>
        some (v28, st29)
      else
        bd1 (rd (st.2 1) 342 0) fun v11 =>
        if v11 = 8 then
          bd2 (M_finds st 4) fun v26 st27 =>
          some (v26, st27)
        else
          bd1 (rd (st.2 1) 342 0) fun v13 =>
          bd1 (rd (st.2 1) 342 0) fun v14 =>
          bd1 (wr (st.2 1) 342 0 (v14 + 1)) fun b15 =>
          bd1 (M_puts (sa st 1 b15) v13 0 x1) fun st17 =>
          bd1 (M_puts st17 v13 1 0) fun st19 =>
          bd1 (M_puts st19 v13 2 0) fun st21 =>
          bd1 (M_puts st21 v13 3 (-1)) fun st23 =>
          bd1 (M_puts st23 v13 4 x2) fun st25 =>
          some (v13, st25)
def M_isFact (st : MSt) (x1 : Int32) : Option (Int32) :=
  bd1 (rd (st.2 1) 342 0) fun v1 =>
  bd1 (M_in x1.toInt64 0 ((v1 - 1).toInt64)) fun v2 =>
  zr v2
def M_its (st : MSt) (x1 : Int32) (x2 : Int32) : Option (Int32) :=
  bd1 (rd (st.2 1) 342 ((10 + (5 * x1)) + x2)) fun v1 =>
  some v1
def M_clash (st : MSt) (x1 : Int32) (x2 : Int32) (x3 : Int32) : Option (Int32 × MSt) :=
  bd1 (M_isFact st x1) fun v1 =>
  if v1 = 0 then
    bd2 (M_finds st 1) fun v3 st4 =>
    some (v3, st4)
  else
    bd1 (M_isFact st x2) fun v5 =>
    if v5 = 0 then
      bd2 (M_finds st 1) fun v7 st8 =>
      some (v7, st8)
    else
      if x1 = x2 then
        bd2 (M_finds st 1) fun v10 st11 =>
        some (v10, st11)
      else
        bd1 (M_in x3.toInt64 0 1) fun v12 =>
        if v12 = 0 then
          bd2 (M_finds st 1) fun v21 st22 =>
          some (v21, st22)
        else
          bd1 (M_its st x1 1) fun v14 =>
          bd1 (M_its st x1 1) fun v15 =>
          bd1 (M_puts st x1 1 ((v15 &&& ((1 <<< (x2 &&& 31)) ^^^ (-1))) ||| (x3 <<< (x2 &&& 31)))) fun st17 =>
          bd1 (M_its st17 x2 1) fun v18 =>
          bd1 (M_puts st17 x2 1 ((v18 &&& ((1 <<< (x1 &&& 31)) ^^^ (-1))) ||| (x3 <<< (x1 &&& 31)))) fun st20 =>
          some ((v14 >>> (x2 &&& 31)) &&& 1, st20)
def M_explain (st : MSt) (x1 : Int32) (x2 : Int32) (x3 : Int32) : Option (Int32 × MSt) :=
  bd1 (M_isFact st x1) fun v1 =>
  if v1 = 0 then
    bd2 (M_finds st 1) fun v3 st4 =>
    some (v3, st4)
  else
    bd1 (M_in x2.toInt64 0 9) fun v5 =>
    if v5 = 0 then
      bd2 (M_finds st 1) fun v7 st8 =>
      some (v7, st8)
    else
      if x2 ≤ 0 then
        bd1 (M_its st x1 2) fun v10 =>
        bd1 (M_puts st x1 2 x2) fun st12 =>
        if x2 ≤ 0 then
          bd1 (M_puts st12 x1 3 (-1)) fun st15 =>
          some (v10, st15)
        else
          bd1 (M_puts st12 x1 3 x3) fun st17 =>
          some (v10, st17)
      else
        bd1 (M_isFact st x3) fun v18 =>
        if v18 = 0 then
          bd2 (M_finds st 1) fun v20 st21 =>
          some (v20, st21)
        else
          if x3 = x1 then
            bd2 (M_finds st 1) fun v31 st32 =>
            some (v31, st32)
          else
            bd1 (M_its st x1 2) fun v23 =>
            bd1 (M_puts st x1 2 x2) fun st25 =>
            if x2 ≤ 0 then
              bd1 (M_puts st25 x1 3 (-1)) fun st28 =>
              some (v23, st28)
            else
              bd1 (M_puts st25 x1 3 x3) fun st30 =>
              some (v23, st30)
def M_of (st : MSt) (x1 : Int32) (x2 : Int32) : Option (Int32) :=
  bd1 (rd (st.2 1) 342 ((50 + (21 * x1)) + x2)) fun v1 =>
  some v1
def M_bookOf_L4 (N : Nat) (st : MSt) (x1 : Int32) : Nat → Int32 → Int32 → Option (Int32)
  | 0, _, _ => none
  | n + 1, x2, x3 =>
    bd1 (M_of st x1 4) fun v1 =>
    if v1 ≤ x3 then
      some x2
    else
      bd1 (M_of st x1 (5 + x3)) fun v3 =>
      M_bookOf_L4 N st x1 n (x2 ||| (1 <<< (v3 &&& 31))) (x3 + 1)
def M_bookOf (N : Nat) (st : MSt) (x1 : Int32) : Option (Int32) :=
  bd1 (M_bookOf_L4 N st x1 N 0 0) fun z4 =>
  some z4
def M_booksWith_L4 (N : Nat) (st : MSt) (x1 : Int32) : Nat → Int32 → Int32 → Option (Int32)
  | 0, _, _ => none
  | n + 1, x2, x3 =>
    bd1 (rd (st.2 1) 342 1) fun v1 =>
    if v1 ≤ x3 then
      some x2
    else
      bd1 (M_bookOf N st x3) fun v3 =>
      M_booksWith_L4 N st x1 n (x2 + ((v3 >>> (x1 &&& 31)) &&& 1)) (x3 + 1)
def M_booksWith (N : Nat) (st : MSt) (x1 : Int32) : Option (Int32) :=
  bd1 (M_booksWith_L4 N st x1 N 0 0) fun z4 =>
  some z4
def M_ofFact (N : Nat) (st : MSt) (x1 : Int32) (x2 : Int32) : Option (Int32 × MSt) :=
  bd1 (M_isFact st x1) fun v1 =>
  if v1 = 0 then
    bd2 (M_finds st 1) fun v3 st4 =>
    some (v3, st4)
  else
    bd1 (M_in x2.toInt64 0 5) fun v5 =>
    if v5 = 0 then
      bd2 (M_finds st 1) fun v10 st11 =>
      some (v10, st11)
    else
      if 5 ≤ x2 then
        bd1 (M_booksWith N st x1) fun v8 =>
        some (v8, st)
      else
        bd1 (M_its st x1 x2) fun v9 =>
        some (v9, st)
def M_sets (st : MSt) (x1 : Int32) (x2 : Int32) (x3 : Int32) : Option (MSt) :=
  bd1 (wr (st.2 1) 342 ((50 + (21 * x1)) + x2) x3) fun b1 =>
  some (sa st 1 b1)
def M_debtor (st : MSt) (x1 : Int32) (x2 : Int32) : Option (Int32 × MSt) :=
  bd1 (M_in x1.toInt64 0 69) fun v1 =>
  if v1 = 0 then
    bd2 (M_finds st 1) fun v3 st4 =>
    some (v3, st4)
  else
    bd1 (M_in x2.toInt64 0 9999) fun v5 =>
    if v5 = 0 then
      bd2 (M_finds st 1) fun v24 st25 =>
      some (v24, st25)
    else
      bd1 (rd (st.2 1) 342 1) fun v7 =>
      if v7 = 4 then
        bd2 (M_finds st 4) fun v22 st23 =>
        some (v22, st23)
      else
        bd1 (rd (st.2 1) 342 1) fun v9 =>
        bd1 (rd (st.2 1) 342 1) fun v10 =>
        bd1 (wr (st.2 1) 342 1 (v10 + 1)) fun b11 =>
        bd1 (M_sets (sa st 1 b11) v9 0 (x1 / 10)) fun st13 =>
        bd1 (M_sets st13 v9 1 (x1 - x1 / 10 * 10)) fun st15 =>
        bd1 (M_sets st15 v9 2 x2) fun st17 =>
        bd1 (M_sets st17 v9 3 0) fun st19 =>
        bd1 (M_sets st19 v9 4 0) fun st21 =>
        some (v9, st21)
def M_isDebtor (st : MSt) (x1 : Int32) : Option (Int32) :=
  bd1 (rd (st.2 1) 342 1) fun v1 =>
  bd1 (M_in x1.toInt64 0 ((v1 - 1).toInt64)) fun v2 =>
  zr v2
def M_dueOf (st : MSt) (x1 : Int32) : Option (Int32) :=
  if x1 = (st.1 12) then
    some (st.1 13)
  else
    bd1 (M_of st x1 1) fun v2 =>
    bd1 (M_of st x1 0) fun v3 =>
    if v3 = 3 then
      some 2
    else
      if v3 = 6 then
        some (2 - (v2 - v2 / 2 * 2))
      else
        if v3 = 4 then
          some (1 + (v2 - v2 / 2 * 2))
        else
          some 1
def M_isOpen (st : MSt) (x1 : Int32) (x2 : Int32) : Option (Int32) :=
  bd1 (M_its st x1 2) fun v1 =>
  if v1 ≤ 0 then
    some 0
  else
    bd1 (M_its st x1 3) fun v3 =>
    if ((x2 >>> (v3 &&& 31)) &&& 1) = 0 then
      some 1
    else
      some 0
def M_openOf_L11 (N : Nat) (st : MSt) (x1 : Int32) (x2 : Int32) : Nat → Int32 → Int32 → Option (Int32)
  | 0, _, _ => none
  | n + 1, x3, x4 =>
    bd1 (M_of st x1 4) fun v2 =>
    if v2 ≤ x4 then
      some x3
    else
      bd1 (M_of st x1 (5 + x4)) fun v4 =>
      bd1 (M_isOpen st v4 x2) fun v5 =>
      if v5 = 0 then
        M_openOf_L11 N st x1 x2 n (x3 + 0) (x4 + 1)
      else
        M_openOf_L11 N st x1 x2 n (x3 + 1) (x4 + 1)
def M_openOf (N : Nat) (st : MSt) (x1 : Int32) : Option (Int32) :=
  bd1 (M_bookOf N st x1) fun v1 =>
  bd1 (M_openOf_L11 N st x1 v1 N 0 0) fun z7 =>
  some z7
def M_ones_L4 (N : Nat) (x0 : Int32) : Nat → Int32 → Int32 → Option (Int32)
  | 0, _, _ => none
  | n + 1, x1, x2 =>
    if 8 ≤ x2 then
      some x1
    else
      M_ones_L4 N x0 n (x1 + ((x0 >>> (x2 &&& 31)) &&& 1)) (x2 + 1)
def M_ones (N : Nat) (x0 : Int32) : Option (Int32) :=
  bd1 (M_ones_L4 N x0 N 0 0) fun z2 =>
  some z2
def M_mayTell (N : Nat) (st : MSt) (x1 : Int32) (x2 : Int32) : Option (Int32) :=
  bd1 (M_bookOf N st x1) fun v1 =>
  if ((v1 >>> (x2 &&& 31)) &&& 1) = 1 then
    some 0
  else
    bd1 (M_its st x2 0) fun v3 =>
    bd1 (M_ones N (v3 &&& (v1 ^^^ (-1)))) fun v4 =>
    bd1 (M_its st x2 1) fun v5 =>
    if (v5 &&& v1) = 0 then
      bd1 (M_of st x1 1) fun v18 =>
      bd1 (M_of st x1 0) fun v19 =>
      if v19 = 1 then
        if v4 = 0 then
          some 1
        else
          bd1 (M_booksWith N st x2) fun v22 =>
          if v22 ≤ 0 then
            some 0
          else
            some 1
      else
        if v19 = 2 then
          if (v18 - v18 / 3 * 3) < v4 then
            some 0
          else
            some 1
        else
          if v19 = 3 then
            if v4 = 0 then
              some 1
            else
              some 0
          else
            if v19 = 4 then
              if v4 = 0 then
                some 1
              else
                bd1 (M_booksWith N st x2) fun v30 =>
                if v30 ≤ 0 then
                  some 0
                else
                  some 1
            else
              if v19 = 5 then
                if (v18 - v18 / 3 * 3) < v4 then
                  some 0
                else
                  if x2 = v18 then
                    some 0
                  else
                    some 1
              else
                if v19 = 6 then
                  if v4 = 0 then
                    some 1
                  else
                    some 0
                else
                  if v4 = 0 then
                    some 1
                  else
                    some 0
    else
      bd1 (M_of st x1 1) fun v7 =>
      bd1 (M_of st x1 0) fun v8 =>
      if v8 = 1 then
        some 0
      else
        if v8 = 2 then
          some 0
        else
          if v8 = 3 then
            if v4 = 0 then
              some 1
            else
              some 0
          else
            if v8 = 4 then
              some 0
            else
              if v8 = 5 then
                some 0
              else
                if v8 = 6 then
                  if v4 = 0 then
                    if (v7 - v7 / 2 * 2) = 1 then
                      some 1
                    else
                      some 0
                  else
                    some 0
                else
                  some 0
def M_allMay_L4 (N : Nat) (st : MSt) (x1 : Int32) : Nat → Int32 → Int32 → Option (Int32)
  | 0, _, _ => none
  | n + 1, x2, x3 =>
    bd1 (rd (st.2 1) 342 0) fun v1 =>
    if v1 ≤ x3 then
      some x2
    else
      bd1 (M_mayTell N st x1 x3) fun v3 =>
      if v3 = 0 then
        M_allMay_L4 N st x1 n (x2 ||| 0) (x3 + 1)
      else
        M_allMay_L4 N st x1 n (x2 ||| (1 <<< (x3 &&& 31))) (x3 + 1)
def M_allMay (N : Nat) (st : MSt) (x1 : Int32) : Option (Int32) :=
  bd1 (M_allMay_L4 N st x1 N 0 0) fun z5 =>
  some z5
def M_book (st : MSt) (x1 : Int32) (x2 : Int32) (x3 : Int32) : Option (Int32 × MSt) :=
  bd1 (M_isDebtor st x1) fun v1 =>
  if v1 = 0 then
    bd2 (M_finds st 1) fun v3 st4 =>
    some (v3, st4)
  else
    bd1 (M_in x3.toInt64 0 1) fun v5 =>
    if v5 = 0 then
      bd2 (M_finds st 1) fun v15 st16 =>
      some (v15, st16)
    else
      bd1 (M_of st x1 4) fun v7 =>
      bd1 (M_in x2.toInt64 0 ((v7 - 1).toInt64)) fun v8 =>
      if v8 = 0 then
        bd2 (M_finds st 2) fun v13 st14 =>
        some (v13, st14)
      else
        if x3 = 0 then
          bd1 (M_of st x1 (5 + x2)) fun v12 =>
          some (v12, st)
        else
          bd1 (M_of st x1 (13 + x2)) fun v11 =>
          some (v11, st)
def M_become (st : MSt) (x1 : Int32) (x2 : Int32) : Option (Int32 × MSt) :=
  bd1 (M_isDebtor st x1) fun v1 =>
  if v1 = 0 then
    bd2 (M_finds st 1) fun v3 st4 =>
    some (v3, st4)
  else
    bd1 (M_in x2.toInt64 0 69) fun v5 =>
    if v5 = 0 then
      bd2 (M_finds st 1) fun v12 st13 =>
      some (v12, st13)
    else
      bd1 (M_of st x1 0) fun v7 =>
      bd1 (M_sets st x1 0 (x2 / 10)) fun st9 =>
      bd1 (M_sets st9 x1 1 (x2 - x2 / 10 * 10)) fun st11 =>
      some (v7, st11)
def M_above (x0 : Int32) : Option (Int32) :=
  if 4 ≤ x0 then
    some (x0 - 3)
  else
    some 0
def M_as (st : MSt) (x1 : Int32) (x2 : Int32) : Option (Int32 × MSt) :=
  bd1 (M_isDebtor st x1) fun v1 =>
  if v1 = 0 then
    bd2 (M_finds st 1) fun v3 st4 =>
    some (v3, st4)
  else
    bd1 (M_in x2.toInt64 0 6) fun v5 =>
    if v5 = 0 then
      bd2 (M_finds st 1) fun v17 st18 =>
      some (v17, st18)
    else
      bd1 (M_of st x1 0) fun v7 =>
      if x2 = 0 then
        bd1 (M_of st x1 1) fun v9 =>
        some (v9, st)
      else
        if x2 = v7 then
          bd1 (M_of st x1 1) fun v11 =>
          some (v11, st)
        else
          bd1 (M_above v7) fun v12 =>
          if x2 = v12 then
            bd1 (M_of st x1 1) fun v16 =>
            some (v16, st)
          else
            bd2 (M_finds st 5) fun v14 st15 =>
            some (v14, st15)
def M_lends (st : MSt) (x1 : Int32) (x2 : Int32) : Option (MSt) :=
  bd1 (M_of st x1 2) fun v1 =>
  bd1 (M_held (v1 + x2) 0 9999) fun v2 =>
  bd1 (M_sets st x1 2 v2) fun st4 =>
  some st4
def M_lend (st : MSt) (x1 : Int32) (x2 : Int32) : Option (Int32 × MSt) :=
  bd1 (M_isDebtor st x1) fun v1 =>
  if v1 = 0 then
    bd2 (M_finds st 1) fun v3 st4 =>
    some (v3, st4)
  else
    bd1 (M_in x2.toInt64 1 999) fun v5 =>
    if v5 = 0 then
      bd2 (M_finds st 1) fun v14 st15 =>
      some (v14, st15)
    else
      bd1 (M_of st x1 3) fun v7 =>
      if v7 = 1 then
        bd2 (M_finds st 3) fun v12 st13 =>
        some (v12, st13)
      else
        bd1 (M_lends st x1 x2) fun st10 =>
        bd1 (M_of st10 x1 2) fun v11 =>
        some (v11, st10)
def M_writes (st : MSt) (x1 : Int32) (x2 : Int32) : Option (MSt) :=
  bd1 (M_of st x1 4) fun v1 =>
  bd1 (M_sets st x1 (5 + v1) x2) fun st3 =>
  bd1 (M_of st3 x1 4) fun v4 =>
  bd1 (rd (st3.2 1) 342 3) fun v5 =>
  bd1 (M_sets st3 x1 (13 + v4) v5) fun st7 =>
  bd1 (M_of st7 x1 4) fun v8 =>
  bd1 (M_sets st7 x1 4 (v8 + 1)) fun st10 =>
  some st10
def M_pardon (st : MSt) (x1 : Int32) : Option (Int32 × MSt) :=
  bd1 (M_isDebtor st x1) fun v1 =>
  if v1 = 0 then
    bd2 (M_finds st 1) fun v14 st15 =>
    some (v14, st15)
  else
    bd1 (M_of st x1 3) fun v3 =>
    if v3 = 0 then
      bd2 (M_finds st 3) fun v12 st13 =>
      some (v12, st13)
    else
      bd1 (M_of st x1 4) fun v5 =>
      bd1 (M_sets st x1 2 0) fun st7 =>
      bd1 (M_sets st7 x1 3 0) fun st9 =>
      bd1 (M_sets st9 x1 4 0) fun st11 =>
      some (v5, st11)
def M_drawn (st : MSt) : Option (Int32 × MSt) :=
  bd1 (rd (st.2 1) 342 4) fun v1 =>
  bd1 (wr (st.2 1) 342 4 ((v1 * 1103515245) + 12345)) fun b2 =>
  bd1 (rd ((sa st 1 b2).2 1) 342 4) fun v3 =>
  some ((v3.toUInt32 >>> ((8 : Int32).toUInt32 &&& Int32.toUInt32 31)).toInt32, sa st 1 b2)
def M_isOverdue_L11 (N : Nat) (st : MSt) (x1 : Int32) (x2 : Int32) : Nat → Int32 → Int32 → Option (Int32)
  | 0, _, _ => none
  | n + 1, x3, x4 =>
    bd1 (M_of st x1 4) fun v2 =>
    if v2 ≤ x4 then
      some x3
    else
      bd1 (M_of st x1 (5 + x4)) fun v4 =>
      if x3 = 0 then
        bd1 (M_isOpen st v4 x2) fun v6 =>
        if v6 = 0 then
          M_isOverdue_L11 N st x1 x2 n 0 (x4 + 1)
        else
          bd1 (rd (st.2 1) 342 3) fun v8 =>
          bd1 (M_of st x1 (13 + x4)) fun v9 =>
          bd1 (M_its st v4 2) fun v10 =>
          if v8 < (v9 + v10) then
            M_isOverdue_L11 N st x1 x2 n 0 (x4 + 1)
          else
            M_isOverdue_L11 N st x1 x2 n 1 (x4 + 1)
      else
        M_isOverdue_L11 N st x1 x2 n 1 (x4 + 1)
def M_isOverdue (N : Nat) (st : MSt) (x1 : Int32) : Option (Int32) :=
  bd1 (M_bookOf N st x1) fun v1 =>
  bd1 (M_isOverdue_L11 N st x1 v1 N 0 0) fun z12 =>
  zr z12
def M_brokenMany_L4 (N : Nat) (st : MSt) : Nat → Int32 → Int32 → Option (Int32)
  | 0, _, _ => none
  | n + 1, x1, x2 =>
    bd1 (rd (st.2 1) 342 1) fun v1 =>
    if v1 ≤ x2 then
      some x1
    else
      bd1 (M_of st x2 3) fun v3 =>
      M_brokenMany_L4 N st n (x1 + v3) (x2 + 1)
def M_brokenMany (N : Nat) (st : MSt) : Option (Int32) :=
  bd1 (M_brokenMany_L4 N st N 0 0) fun z4 =>
  some z4
def M_keepAside_L2 (N : Nat) : Nat → MSt → Int32 → Option (MSt)
  | 0, _, _ => none
  | n + 1, st, x1 =>
    if 170 ≤ x1 then
      some st
    else
      bd1 (rd (st.2 1) 342 x1) fun v2 =>
      bd1 (wr (st.2 3) 170 x1 v2) fun b3 =>
      M_keepAside_L2 N n (sa st 3 b3) (x1 + 1)
def M_keepAside (N : Nat) (st : MSt) : Option (MSt) :=
  bd1 (M_keepAside_L2 N N st 0) fun st4 =>
  some st4
def M_putBack_L2 (N : Nat) : Nat → MSt → Int32 → Option (MSt)
  | 0, _, _ => none
  | n + 1, st, x1 =>
    if 170 ≤ x1 then
      some st
    else
      bd1 (rd (st.2 3) 170 x1) fun v2 =>
      bd1 (wr (st.2 1) 342 x1 v2) fun b3 =>
      M_putBack_L2 N n (sa st 1 b3) (x1 + 1)
def M_putBack (N : Nat) (st : MSt) : Option (MSt) :=
  bd1 (M_putBack_L2 N N st 0) fun st4 =>
  some st4
def M_looksAt_L63 (N : Nat) (x2 : Int32) : Nat → MSt → Int32 → Option (MSt)
  | 0, _, _ => none
  | n + 1, st, x5 =>
    if x2 ≤ x5 then
      some st
    else
      bd1 (rd (st.2 7) 9 x5) fun v4 =>
      bd1 (wr (st.2 8) 9 x5 v4) fun b5 =>
      M_looksAt_L63 N x2 n (sa st 8 b5) (x5 + 1)
def M_looksAt (N : Nat) (st : MSt) (x1 : Int32) (x2 : Int32) (x3 : Int32) : Option (MSt) :=
  if x3 = 0 then
    if x2 ≤ (st.1 17) then
      some st
    else
      bd1 (M_looksAt_L63 N x2 N (sf st 17 x2) 0) fun st6 =>
      some st6
  else
    bd1 (M_openOf N st x1) fun v8 =>
    if v8 = 0 then
      if (st.1 17) < 0 then
        bd1 (M_looksAt_L63 N x2 N (sf st 17 x2) 0) fun st11 =>
        some st11
      else
        if (st.1 17) ≤ x2 then
          some st
        else
          bd1 (M_looksAt_L63 N x2 N (sf st 17 x2) 0) fun st14 =>
          some st14
    else
      some st
def M_takes_2 (N : Nat) (st : MSt) (x1 : Int32) (x2 : Int32) : Option (Int32 × MSt) :=
  bd1 (M_mayTell N st x1 x2) fun v1 =>
  if v1 = 0 then
    some (0, st)
  else
    bd1 (M_writes st x1 x2) fun st4 =>
    bd1 (M_isOverdue N st4 x1) fun v5 =>
    if v5 = 0 then
      some (1, st4)
    else
      bd1 (M_of st4 x1 4) fun v7 =>
      bd1 (M_sets st4 x1 4 (v7 - 1)) fun st9 =>
      some (0, st9)
def M_findRow_L39 (N : Nat) (x1 : Int32) (x2 : Int32) (x3 : Int32) : Nat → MSt → Int32 → Option (MSt × Int32)
  | 0, _, _ => none
  | n + 1, st, x4 =>
    bd1 (rd (st.2 1) 342 0) fun v8 =>
    if v8 ≤ x4 then
      some (st, x4)
    else
      bd2 (M_takes_2 N st x1 x4) fun v10 st11 =>
      if v10 = 0 then
        M_findRow_L39 N x1 x2 x3 n st11 (x4 + 1)
      else
        some (st11, x4)
def M_findRow_L25 (N : Nat) (x1 : Int32) (x2 : Int32) : Nat → MSt → Int32 → Option (MSt)
  | 0, _, _ => none
  | n + 1, st, x3 =>
    if x3 < 0 then
      some st
    else
      bd1 (rd (st.2 6) 9 x3) fun v7 =>
      bd2 (M_findRow_L39 N x1 x2 x3 N st (v7 + 1)) fun st13 z14 =>
      bd1 (wr (st13.2 6) 9 x3 z14) fun b15 =>
      bd1 (rd ((sa st13 6 b15).2 1) 342 0) fun v16 =>
      if v16 ≤ z14 then
        if (x3 + (-1)) < 0 then
          M_findRow_L25 N x1 x2 n (sa st13 6 b15) (x3 + (-1))
        else
          bd1 (M_of (sa st13 6 b15) x1 4) fun v19 =>
          bd1 (M_sets (sa st13 6 b15) x1 4 (v19 - 1)) fun st21 =>
          bd1 (rd (st21.2 1) 342 3) fun v22 =>
          bd1 (wr (st21.2 1) 342 3 (v22 - 1)) fun b23 =>
          M_findRow_L25 N x1 x2 n (sa st21 1 b23) (x3 + (-1))
      else
        bd1 (wr ((sa st13 6 b15).2 7) 9 x3 z14) fun b24 =>
        bd1 (rd ((sa (sa st13 6 b15) 7 b24).2 1) 342 3) fun v25 =>
        bd1 (wr ((sa (sa st13 6 b15) 7 b24).2 1) 342 3 (v25 + 1)) fun b26 =>
        bd1 (wr ((sa (sa (sa st13 6 b15) 7 b24) 1 b26).2 6) 9 (x3 + 1) (-1)) fun b27 =>
        bd1 (M_looksAt N (sa (sa (sa (sa st13 6 b15) 7 b24) 1 b26) 6 b27) x1 (x3 + 1) x2) fun st29 =>
        M_findRow_L25 N x1 x2 n st29 (x3 + 1)
def M_findRow (N : Nat) (st : MSt) (x1 : Int32) (x2 : Int32) : Option (MSt) :=
  bd1 (M_keepAside N st) fun st2 =>
  bd1 (wr ((sf st2 17 (-1)).2 6) 9 0 (-1)) fun b3 =>
  bd1 (M_looksAt N (sa (sf st2 17 (-1)) 6 b3) x1 0 x2) fun st5 =>
  bd1 (M_findRow_L25 N x1 x2 N st5 0) fun st31 =>
  bd1 (M_putBack N st31) fun st33 =>
  some st33
def M_rowTold (N : Nat) (st : MSt) (x1 : Int32) (x2 : Int32) (x3 : Int32) : Option (Int32 × MSt) :=
  bd1 (M_isDebtor st x1) fun v1 =>
  if v1 = 0 then
    bd2 (M_finds st 1) fun v3 st4 =>
    some (v3, st4)
  else
    bd1 (M_in x2.toInt64 (-1) 7) fun v5 =>
    if v5 = 0 then
      bd2 (M_finds st 1) fun v21 st22 =>
      some (v21, st22)
    else
      bd1 (M_of st x1 3) fun v7 =>
      if v7 = 1 then
        bd2 (M_finds st 3) fun v19 st20 =>
        some (v19, st20)
      else
        bd1 (M_findRow N st x1 x3) fun st10 =>
        if (st10.1 17) < 0 then
          bd2 (M_finds st10 2) fun v12 st13 =>
          some (v12, st13)
        else
          if x2 < (st10.1 17) then
            if 0 ≤ x2 then
              bd1 (rd (st10.2 8) 9 x2) fun v16 =>
              some (v16, st10)
            else
              some (st10.1 17, st10)
          else
            bd2 (M_finds st10 2) fun v17 st18 =>
            some (v17, st18)
def M_served (N : Nat) (st : MSt) (x1 : Int32) (x2 : Int32) : Option (Int32 × MSt) :=
  bd2 (M_rowTold N st x1 x2 0) fun v1 st2 =>
  some (v1, st2)
def M_closed (N : Nat) (st : MSt) (x1 : Int32) (x2 : Int32) : Option (Int32 × MSt) :=
  bd2 (M_rowTold N st x1 x2 1) fun v1 st2 =>
  some (v1, st2)
def M_clashOf_L42 (N : Nat) (st : MSt) (x1 : Int32) (x2 : Int32) (k : Option (Int32 × MSt)) : Nat → Int32 → Option (Int32 × MSt)
  | 0, _ => none
  | n + 1, x3 =>
    bd1 (rd (st.2 1) 342 0) fun v6 =>
    if v6 ≤ x3 then
      k 
    else
      if ((x1 >>> (x2 &&& 31)) &&& 1) = 1 then
        if ((x1 >>> (x3 &&& 31)) &&& 1) = 1 then
          bd1 (M_its st x2 1) fun v10 =>
          if ((v10 >>> (x3 &&& 31)) &&& 1) = 1 then
            some ((10 * x2) + x3, st)
          else
            M_clashOf_L42 N st x1 x2 k n (x3 + 1)
        else
          M_clashOf_L42 N st x1 x2 k n (x3 + 1)
      else
        M_clashOf_L42 N st x1 x2 k n (x3 + 1)
def M_clashOf_L28 (N : Nat) (st : MSt) (x1 : Int32) (k : Option (Int32 × MSt)) : Nat → Int32 → Option (Int32 × MSt)
  | 0, _ => none
  | n + 1, x2 =>
    bd1 (rd (st.2 1) 342 0) fun v4 =>
    if v4 ≤ x2 then
      k 
    else
      M_clashOf_L42 N st x1 x2 (M_clashOf_L28 N st x1 k n (x2 + 1)) N (x2 + 1)
def M_clashOf (N : Nat) (st : MSt) (x1 : Int32) : Option (Int32 × MSt) :=
  bd1 (rd (st.2 1) 342 0) fun v1 =>
  bd1 (M_in x1.toInt64 0 (((1 <<< (v1 &&& 31)) - 1).toInt64)) fun v2 =>
  if v2 = 0 then
    bd2 (M_finds st 1) fun v14 st15 =>
    some (v14, st15)
  else
    M_clashOf_L28 N st x1 (bd2 (M_finds st 2) fun v12 st13 =>
    some (v12, st13)) N 0
def M_joined_L43 (N : Nat) (st : MSt) (x3 : Int32) (x4 : Int32) (k : Option (Int32 × MSt)) : Nat → Int32 → Option (Int32 × MSt)
  | 0, _ => none
  | n + 1, x5 =>
    bd1 (rd (st.2 1) 342 0) fun v12 =>
    if v12 ≤ x5 then
      k 
    else
      if ((x3 >>> (x5 &&& 31)) &&& 1) = 1 then
        bd1 (M_its st x5 1) fun v15 =>
        if (v15 &&& x4) = 0 then
          M_joined_L43 N st x3 x4 k n (x5 + 1)
        else
          bd2 (M_finds st 2) fun v17 st18 =>
          some (v17, st18)
      else
        M_joined_L43 N st x3 x4 k n (x5 + 1)
def M_joined (N : Nat) (st : MSt) (x1 : Int32) (x2 : Int32) : Option (Int32 × MSt) :=
  bd1 (M_isDebtor st x1) fun v1 =>
  if v1 = 0 then
    bd2 (M_finds st 1) fun v3 st4 =>
    some (v3, st4)
  else
    bd1 (M_isDebtor st x2) fun v5 =>
    if v5 = 0 then
      bd2 (M_finds st 1) fun v7 st8 =>
      some (v7, st8)
    else
      if x1 = x2 then
        bd2 (M_finds st 1) fun v19 st20 =>
        some (v19, st20)
      else
        bd1 (M_bookOf N st x1) fun v10 =>
        bd1 (M_bookOf N st x2) fun v11 =>
        M_joined_L43 N st v10 v11 (some (v10 ||| v11, st)) N 0
def M_isSheet (x0 : Int32) : Option (Int32) :=
  bd1 (M_in x0.toInt64 0 3) fun v1 =>
  zr v1
def M_meeting (st : MSt) (x1 : Int32) (x2 : Int32) (x3 : Int32) : Option (Int32 × MSt) :=
  bd1 (M_in x1.toInt64 0 999) fun v1 =>
  if v1 = 0 then
    bd2 (M_finds st 1) fun v3 st4 =>
    some (v3, st4)
  else
    bd1 (M_in x2.toInt64 0 4) fun v5 =>
    if v5 = 0 then
      bd2 (M_finds st 1) fun v7 st8 =>
      some (v7, st8)
    else
      bd1 (M_in x3.toInt64 0 4) fun v9 =>
      if v9 = 0 then
        bd2 (M_finds st 1) fun v11 st12 =>
        some (v11, st12)
      else
        if x2 = x3 then
          bd2 (M_finds st 1) fun v24 st25 =>
          some (v24, st25)
        else
          bd1 (rd (st.2 1) 342 2) fun v14 =>
          if v14 = 12 then
            bd2 (M_finds st 4) fun v22 st23 =>
            some (v22, st23)
          else
            bd1 (rd (st.2 1) 342 2) fun v16 =>
            bd1 (rd (st.2 1) 342 2) fun v17 =>
            bd1 (wr (st.2 1) 342 2 (v17 + 1)) fun b18 =>
            bd1 (wr ((sa st 1 b18).2 1) 342 (134 + (3 * v16)) x1) fun b19 =>
            bd1 (wr ((sa (sa st 1 b18) 1 b19).2 1) 342 ((134 + (3 * v16)) + 1) x2) fun b20 =>
            bd1 (wr ((sa (sa (sa st 1 b18) 1 b19) 1 b20).2 1) 342 ((134 + (3 * v16)) + 2) x3) fun b21 =>
            some (v16, sa (sa (sa (sa st 1 b18) 1 b19) 1 b20) 1 b21)
def M_saw_L19 (N : Nat) (st : MSt) (x1 : Int32) (x2 : Int32) (x4 : Int32) : Nat → Int32 → Int32 → Option (Int32)
  | 0, _, _ => none
  | n + 1, x3, x5 =>
    bd1 (M_of st x4 4) fun v3 =>
    if v3 ≤ x5 then
      some x3
    else
      bd1 (M_of st x4 (5 + x5)) fun v5 =>
      bd1 (M_of st x4 (13 + x5)) fun v6 =>
      if x2 < v6 then
        M_saw_L19 N st x1 x2 x4 n (x3 ||| 0) (x5 + 1)
      else
        bd1 (M_its st v5 4) fun v8 =>
        if ((v8 >>> (x1 &&& 31)) &&& 1) = 1 then
          M_saw_L19 N st x1 x2 x4 n (x3 ||| (1 <<< (v5 &&& 31))) (x5 + 1)
        else
          M_saw_L19 N st x1 x2 x4 n (x3 ||| 0) (x5 + 1)
def M_saw_L5 (N : Nat) (st : MSt) (x1 : Int32) (x2 : Int32) : Nat → Int32 → Int32 → Option (Int32)
  | 0, _, _ => none
  | n + 1, x3, x4 =>
    bd1 (rd (st.2 1) 342 1) fun v1 =>
    if v1 ≤ x4 then
      some x3
    else
      bd1 (M_saw_L19 N st x1 x2 x4 N x3 0) fun z10 =>
      M_saw_L5 N st x1 x2 n z10 (x4 + 1)
def M_saw (N : Nat) (st : MSt) (x1 : Int32) (x2 : Int32) : Option (Int32) :=
  bd1 (M_saw_L5 N st x1 x2 N 0 0) fun z12 =>
  some z12
def M_knownBy_L2 (N : Nat) (x1 : Int32) (x2 : Int32) : Nat → MSt → Int32 → Option (MSt)
  | 0, _, _ => none
  | n + 1, st, x3 =>
    if 5 ≤ x3 then
      some st
    else
      bd1 (wr (st.2 9) 5 x3 0) fun b2 =>
      M_knownBy_L2 N x1 x2 n (sa st 9 b2) (x3 + 1)
def M_knownBy_L36 (N : Nat) (st : MSt) (x1 : Int32) (x2 : Int32) (x3 : Int32) : Nat → Int32 → Int32 → Option (Int32)
  | 0, _, _ => none
  | n + 1, x5, x6 =>
    bd1 (rd (st.2 1) 342 2) fun v5 =>
    if v5 ≤ x6 then
      some x5
    else
      bd1 (rd (st.2 1) 342 (134 + (3 * x6))) fun v7 =>
      if x5 < 0 then
        if ((12 * v7) + x6) ≤ x3 then
          M_knownBy_L36 N st x1 x2 x3 n x5 (x6 + 1)
        else
          bd1 (rd (st.2 1) 342 (134 + (3 * x6))) fun v10 =>
          if x2 < v10 then
            M_knownBy_L36 N st x1 x2 x3 n x5 (x6 + 1)
          else
            M_knownBy_L36 N st x1 x2 x3 n x6 (x6 + 1)
      else
        bd1 (rd (st.2 1) 342 (134 + (3 * x5))) fun v12 =>
        if ((12 * v12) + x5) ≤ ((12 * v7) + x6) then
          if ((12 * v7) + x6) ≤ x3 then
            M_knownBy_L36 N st x1 x2 x3 n x5 (x6 + 1)
          else
            bd1 (rd (st.2 1) 342 (134 + (3 * x6))) fun v15 =>
            if x2 < v15 then
              M_knownBy_L36 N st x1 x2 x3 n x5 (x6 + 1)
            else
              M_knownBy_L36 N st x1 x2 x3 n x5 (x6 + 1)
        else
          if ((12 * v7) + x6) ≤ x3 then
            M_knownBy_L36 N st x1 x2 x3 n x5 (x6 + 1)
          else
            bd1 (rd (st.2 1) 342 (134 + (3 * x6))) fun v18 =>
            if x2 < v18 then
              M_knownBy_L36 N st x1 x2 x3 n x5 (x6 + 1)
            else
              M_knownBy_L36 N st x1 x2 x3 n x6 (x6 + 1)
def M_knownBy_L25 (N : Nat) (x1 : Int32) (x2 : Int32) : Nat → MSt → Int32 → Int32 → Option (MSt)
  | 0, _, _, _ => none
  | n + 1, st, x3, x4 =>
    if x4 = 0 then
      some st
    else
      bd1 (M_knownBy_L36 N st x1 x2 x3 N (-1) 0) fun z20 =>
      if z20 < 0 then
        M_knownBy_L25 N x1 x2 n st x3 0
      else
        bd1 (rd (st.2 1) 342 (134 + (3 * z20))) fun v22 =>
        bd1 (rd (st.2 1) 342 ((134 + (3 * z20)) + 1)) fun v23 =>
        bd1 (rd (st.2 1) 342 ((134 + (3 * z20)) + 2)) fun v24 =>
        bd1 (rd (st.2 9) 5 v23) fun v25 =>
        bd1 (rd (st.2 9) 5 v24) fun v26 =>
        bd1 (M_saw N st v23 v22) fun v27 =>
        bd1 (M_saw N st v24 v22) fun v28 =>
        bd1 (wr (st.2 9) 5 v23 (((v25 ||| v26) ||| v27) ||| v28)) fun b29 =>
        bd1 (wr ((sa st 9 b29).2 9) 5 v24 (((v25 ||| v26) ||| v27) ||| v28)) fun b30 =>
        M_knownBy_L25 N x1 x2 n (sa (sa st 9 b29) 9 b30) ((12 * v22) + z20) 1
def M_knownBy (N : Nat) (st : MSt) (x1 : Int32) (x2 : Int32) : Option (Int32 × MSt) :=
  bd1 (M_knownBy_L2 N x1 x2 N st 0) fun st3 =>
  bd1 (M_knownBy_L25 N x1 x2 N st3 (-1) 1) fun st32 =>
  bd1 (rd (st32.2 9) 5 x1) fun v33 =>
  bd1 (M_saw N st32 x1 x2) fun v34 =>
  some (v33 ||| v34, st32)
def M_knows (N : Nat) (st : MSt) (x1 : Int32) (x2 : Int32) : Option (Int32 × MSt) :=
  bd1 (M_in x1.toInt64 0 4) fun v1 =>
  if v1 = 0 then
    bd2 (M_finds st 1) fun v3 st4 =>
    some (v3, st4)
  else
    bd1 (M_in x2.toInt64 0 999) fun v5 =>
    if v5 = 0 then
      bd2 (M_finds st 1) fun v7 st8 =>
      some (v7, st8)
    else
      bd2 (M_knownBy N st x1 x2) fun v9 st10 =>
      some (v9, st10)
def M_common_L37 (N : Nat) (x1 : Int32) (x2 : Int32) : Nat → MSt → Int32 → Int32 → Option (MSt × Int32)
  | 0, _, _, _ => none
  | n + 1, st, x3, x4 =>
    if 5 ≤ x4 then
      some (st, x3)
    else
      if ((x1 >>> (x4 &&& 31)) &&& 1) = 1 then
        bd2 (M_knownBy N st x4 x2) fun v9 st10 =>
        M_common_L37 N x1 x2 n st10 (x3 &&& v9) (x4 + 1)
      else
        M_common_L37 N x1 x2 n st (x3 &&& 255) (x4 + 1)
def M_common (N : Nat) (st : MSt) (x1 : Int32) (x2 : Int32) : Option (Int32 × MSt) :=
  bd1 (M_in x1.toInt64 1 31) fun v1 =>
  if v1 = 0 then
    bd2 (M_finds st 1) fun v3 st4 =>
    some (v3, st4)
  else
    bd1 (M_in x2.toInt64 0 999) fun v5 =>
    if v5 = 0 then
      bd2 (M_finds st 1) fun v14 st15 =>
      some (v14, st15)
    else
      bd2 (M_common_L37 N x1 x2 N st 255 0) fun st11 z12 =>
      some (z12, st11)
def M_since_L28 (N : Nat) (x1 : Int32) (x2 : Int32) (k : MSt → Option (Int32 × MSt)) : Nat → MSt → Int32 → Option (Int32 × MSt)
  | 0, _, _ => none
  | n + 1, st, x3 =>
    if 999 < x3 then
      k st
    else
      bd2 (M_knownBy N st x1 x3) fun v8 st9 =>
      if ((v8 >>> (x2 &&& 31)) &&& 1) = 1 then
        some (x3, st9)
      else
        M_since_L28 N x1 x2 k n st9 (x3 + 1)
def M_since (N : Nat) (st : MSt) (x1 : Int32) (x2 : Int32) : Option (Int32 × MSt) :=
  bd1 (M_in x1.toInt64 0 4) fun v1 =>
  if v1 = 0 then
    bd2 (M_finds st 1) fun v3 st4 =>
    some (v3, st4)
  else
    bd1 (M_isFact st x2) fun v5 =>
    if v5 = 0 then
      bd2 (M_finds st 1) fun v14 st15 =>
      some (v14, st15)
    else
      M_since_L28 N x1 x2 (fun st11 => bd2 (M_finds st11 2) fun v12 st13 =>
      some (v12, st13)) N st 0
def M_seed (st : MSt) (x1 : Int32) : Option (Int32 × MSt) :=
  bd1 (rd (st.2 1) 342 4) fun v1 =>
  bd1 (wr (st.2 1) 342 4 x1) fun b2 =>
  some (v1, sa st 1 b2)
def M_own (st : MSt) : Option (Int32) :=
  bd1 (M_of st (st.1 21) 0) fun v1 =>
  some v1
def M_ran (st : MSt) (x1 : Int32) : Option (MSt) :=
  if 40 ≤ (st.1 20) then
    some st
  else
    bd1 (wr (st.2 10) 40 (st.1 20) x1) fun b2 =>
    some (sf (sa st 10 b2) 20 (((sa st 10 b2).1 20) + 1))
def M_trace (st : MSt) (x1 : Int32) : Option (Int32 × MSt) :=
  bd1 (M_in x1.toInt64 0 (((st.1 20) - 1).toInt64)) fun v1 =>
  if v1 = 0 then
    bd2 (M_finds st 2) fun v3 st4 =>
    some (v3, st4)
  else
    bd1 (rd (st.2 10) 40 x1) fun v5 =>
    some (v5, st)
def M_sheet_L90 (N : Nat) (x1 : Int32) : Nat → MSt → Int32 → Option (MSt)
  | 0, _, _ => none
  | n + 1, st, x4 =>
    if 40 ≤ x4 then
      some st
    else
      bd1 (wr (st.2 13) 160 ((40 * x1) + x4) 0) fun b12 =>
      M_sheet_L90 N x1 n (sa st 13 b12) (x4 + 1)
def M_sheet (N : Nat) (st : MSt) (x1 : Int32) (x2 : Int32) (x3 : Int32) : Option (Int32 × MSt) :=
  bd1 (M_isSheet x1) fun v1 =>
  if v1 = 0 then
    bd2 (M_finds st 1) fun v3 st4 =>
    some (v3, st4)
  else
    if x2 = 0 then
      if x2 = 0 then
        if x2 = 0 then
          bd1 (wr (st.2 11) 4 x1 x2) fun b8 =>
          if x2 = 0 then
            bd1 (wr ((sa st 11 b8).2 12) 4 x1 0) fun b15 =>
            bd1 (M_sheet_L90 N x1 N (sa (sa st 11 b8) 12 b15) 0) fun st16 =>
            some (1, st16)
          else
            bd1 (wr ((sa st 11 b8).2 12) 4 x1 x3) fun b10 =>
            bd1 (M_sheet_L90 N x1 N (sa (sa st 11 b8) 12 b10) 0) fun st13 =>
            some (1, st13)
        else
          if x3 ≤ 40 then
            bd1 (wr (st.2 11) 4 x1 x2) fun b19 =>
            if x2 = 0 then
              bd1 (wr ((sa st 11 b19).2 12) 4 x1 0) fun b24 =>
              bd1 (M_sheet_L90 N x1 N (sa (sa st 11 b19) 12 b24) 0) fun st25 =>
              some (1, st25)
            else
              bd1 (wr ((sa st 11 b19).2 12) 4 x1 x3) fun b21 =>
              bd1 (M_sheet_L90 N x1 N (sa (sa st 11 b19) 12 b21) 0) fun st22 =>
              some (1, st22)
          else
            bd2 (M_finds st 1) fun v27 st28 =>
            some (v27, st28)
      else
        if 0 ≤ x3 then
          if x2 = 0 then
            bd1 (wr (st.2 11) 4 x1 x2) fun b31 =>
            if x2 = 0 then
              bd1 (wr ((sa st 11 b31).2 12) 4 x1 0) fun b36 =>
              bd1 (M_sheet_L90 N x1 N (sa (sa st 11 b31) 12 b36) 0) fun st37 =>
              some (1, st37)
            else
              bd1 (wr ((sa st 11 b31).2 12) 4 x1 x3) fun b33 =>
              bd1 (M_sheet_L90 N x1 N (sa (sa st 11 b31) 12 b33) 0) fun st34 =>
              some (1, st34)
          else
            if x3 ≤ 40 then
              bd1 (wr (st.2 11) 4 x1 x2) fun b40 =>
              if x2 = 0 then
                bd1 (wr ((sa st 11 b40).2 12) 4 x1 0) fun b45 =>
                bd1 (M_sheet_L90 N x1 N (sa (sa st 11 b40) 12 b45) 0) fun st46 =>
                some (1, st46)
              else
                bd1 (wr ((sa st 11 b40).2 12) 4 x1 x3) fun b42 =>
                bd1 (M_sheet_L90 N x1 N (sa (sa st 11 b40) 12 b42) 0) fun st43 =>
                some (1, st43)
            else
              bd2 (M_finds st 1) fun v48 st49 =>
              some (v48, st49)
        else
          bd2 (M_finds st 3) fun v50 st51 =>
          some (v50, st51)
    else
      if x2 = 8 then
        if x2 = 0 then
          if x2 = 0 then
            bd1 (wr (st.2 11) 4 x1 x2) fun b55 =>
            if x2 = 0 then
              bd1 (wr ((sa st 11 b55).2 12) 4 x1 0) fun b60 =>
              bd1 (M_sheet_L90 N x1 N (sa (sa st 11 b55) 12 b60) 0) fun st61 =>
              some (1, st61)
            else
              bd1 (wr ((sa st 11 b55).2 12) 4 x1 x3) fun b57 =>
              bd1 (M_sheet_L90 N x1 N (sa (sa st 11 b55) 12 b57) 0) fun st58 =>
              some (1, st58)
          else
            if x3 ≤ 40 then
              bd1 (wr (st.2 11) 4 x1 x2) fun b64 =>
              if x2 = 0 then
                bd1 (wr ((sa st 11 b64).2 12) 4 x1 0) fun b69 =>
                bd1 (M_sheet_L90 N x1 N (sa (sa st 11 b64) 12 b69) 0) fun st70 =>
                some (1, st70)
              else
                bd1 (wr ((sa st 11 b64).2 12) 4 x1 x3) fun b66 =>
                bd1 (M_sheet_L90 N x1 N (sa (sa st 11 b64) 12 b66) 0) fun st67 =>
                some (1, st67)
            else
              bd2 (M_finds st 1) fun v72 st73 =>
              some (v72, st73)
        else
          if 0 ≤ x3 then
            if x2 = 0 then
              bd1 (wr (st.2 11) 4 x1 x2) fun b76 =>
              if x2 = 0 then
                bd1 (wr ((sa st 11 b76).2 12) 4 x1 0) fun b81 =>
                bd1 (M_sheet_L90 N x1 N (sa (sa st 11 b76) 12 b81) 0) fun st82 =>
                some (1, st82)
              else
                bd1 (wr ((sa st 11 b76).2 12) 4 x1 x3) fun b78 =>
                bd1 (M_sheet_L90 N x1 N (sa (sa st 11 b76) 12 b78) 0) fun st79 =>
                some (1, st79)
            else
              if x3 ≤ 40 then
                bd1 (wr (st.2 11) 4 x1 x2) fun b85 =>
                if x2 = 0 then
                  bd1 (wr ((sa st 11 b85).2 12) 4 x1 0) fun b90 =>
                  bd1 (M_sheet_L90 N x1 N (sa (sa st 11 b85) 12 b90) 0) fun st91 =>
                  some (1, st91)
                else
                  bd1 (wr ((sa st 11 b85).2 12) 4 x1 x3) fun b87 =>
                  bd1 (M_sheet_L90 N x1 N (sa (sa st 11 b85) 12 b87) 0) fun st88 =>
                  some (1, st88)
              else
                bd2 (M_finds st 1) fun v93 st94 =>
                some (v93, st94)
          else
            bd2 (M_finds st 3) fun v95 st96 =>
            some (v95, st96)
      else
        if x2 = 16 then
          if x2 = 0 then
            if x2 = 0 then
              bd1 (wr (st.2 11) 4 x1 x2) fun b100 =>
              if x2 = 0 then
                bd1 (wr ((sa st 11 b100).2 12) 4 x1 0) fun b105 =>
                bd1 (M_sheet_L90 N x1 N (sa (sa st 11 b100) 12 b105) 0) fun st106 =>
                some (1, st106)
              else
                bd1 (wr ((sa st 11 b100).2 12) 4 x1 x3) fun b102 =>
                bd1 (M_sheet_L90 N x1 N (sa (sa st 11 b100) 12 b102) 0) fun st103 =>
                some (1, st103)
            else
              if x3 ≤ 40 then
                bd1 (wr (st.2 11) 4 x1 x2) fun b109 =>
                if x2 = 0 then
                  bd1 (wr ((sa st 11 b109).2 12) 4 x1 0) fun b114 =>
                  bd1 (M_sheet_L90 N x1 N (sa (sa st 11 b109) 12 b114) 0) fun st115 =>
                  some (1, st115)
                else
                  bd1 (wr ((sa st 11 b109).2 12) 4 x1 x3) fun b111 =>
                  bd1 (M_sheet_L90 N x1 N (sa (sa st 11 b109) 12 b111) 0) fun st112 =>
                  some (1, st112)
              else
                bd2 (M_finds st 1) fun v117 st118 =>
                some (v117, st118)
          else
            if 0 ≤ x3 then
              if x2 = 0 then
                bd1 (wr (st.2 11) 4 x1 x2) fun b121 =>
                if x2 = 0 then
                  bd1 (wr ((sa st 11 b121).2 12) 4 x1 0) fun b126 =>
                  bd1 (M_sheet_L90 N x1 N (sa (sa st 11 b121) 12 b126) 0) fun st127 =>
                  some (1, st127)
                else
                  bd1 (wr ((sa st 11 b121).2 12) 4 x1 x3) fun b123 =>
                  bd1 (M_sheet_L90 N x1 N (sa (sa st 11 b121) 12 b123) 0) fun st124 =>
                  some (1, st124)
              else
                if x3 ≤ 40 then
                  bd1 (wr (st.2 11) 4 x1 x2) fun b130 =>
                  if x2 = 0 then
                    bd1 (wr ((sa st 11 b130).2 12) 4 x1 0) fun b135 =>
                    bd1 (M_sheet_L90 N x1 N (sa (sa st 11 b130) 12 b135) 0) fun st136 =>
                    some (1, st136)
                  else
                    bd1 (wr ((sa st 11 b130).2 12) 4 x1 x3) fun b132 =>
                    bd1 (M_sheet_L90 N x1 N (sa (sa st 11 b130) 12 b132) 0) fun st133 =>
                    some (1, st133)
                else
                  bd2 (M_finds st 1) fun v138 st139 =>
                  some (v138, st139)
            else
              bd2 (M_finds st 3) fun v140 st141 =>
              some (v140, st141)
        else
          if x2 = 32 then
            if x2 = 0 then
              if x2 = 0 then
                bd1 (wr (st.2 11) 4 x1 x2) fun b145 =>
                if x2 = 0 then
                  bd1 (wr ((sa st 11 b145).2 12) 4 x1 0) fun b150 =>
                  bd1 (M_sheet_L90 N x1 N (sa (sa st 11 b145) 12 b150) 0) fun st151 =>
                  some (1, st151)
                else
                  bd1 (wr ((sa st 11 b145).2 12) 4 x1 x3) fun b147 =>
                  bd1 (M_sheet_L90 N x1 N (sa (sa st 11 b145) 12 b147) 0) fun st148 =>
                  some (1, st148)
              else
                if x3 ≤ 40 then
                  bd1 (wr (st.2 11) 4 x1 x2) fun b154 =>
                  if x2 = 0 then
                    bd1 (wr ((sa st 11 b154).2 12) 4 x1 0) fun b159 =>
                    bd1 (M_sheet_L90 N x1 N (sa (sa st 11 b154) 12 b159) 0) fun st160 =>
                    some (1, st160)
                  else
                    bd1 (wr ((sa st 11 b154).2 12) 4 x1 x3) fun b156 =>
                    bd1 (M_sheet_L90 N x1 N (sa (sa st 11 b154) 12 b156) 0) fun st157 =>
                    some (1, st157)
                else
                  bd2 (M_finds st 1) fun v162 st163 =>
                  some (v162, st163)
            else
              if 0 ≤ x3 then
                if x2 = 0 then
                  bd1 (wr (st.2 11) 4 x1 x2) fun b166 =>
                  if x2 = 0 then
                    bd1 (wr ((sa st 11 b166).2 12) 4 x1 0) fun b171 =>
                    bd1 (M_sheet_L90 N x1 N (sa (sa st 11 b166) 12 b171) 0) fun st172 =>
                    some (1, st172)
                  else
                    bd1 (wr ((sa st 11 b166).2 12) 4 x1 x3) fun b168 =>
                    bd1 (M_sheet_L90 N x1 N (sa (sa st 11 b166) 12 b168) 0) fun st169 =>
                    some (1, st169)
                else
                  if x3 ≤ 40 then
                    bd1 (wr (st.2 11) 4 x1 x2) fun b175 =>
                    if x2 = 0 then
                      bd1 (wr ((sa st 11 b175).2 12) 4 x1 0) fun b180 =>
                      bd1 (M_sheet_L90 N x1 N (sa (sa st 11 b175) 12 b180) 0) fun st181 =>
                      some (1, st181)
                    else
                      bd1 (wr ((sa st 11 b175).2 12) 4 x1 x3) fun b177 =>
                      bd1 (M_sheet_L90 N x1 N (sa (sa st 11 b175) 12 b177) 0) fun st178 =>
                      some (1, st178)
                  else
                    bd2 (M_finds st 1) fun v183 st184 =>
                    some (v183, st184)
              else
                bd2 (M_finds st 3) fun v185 st186 =>
                some (v185, st186)
          else
            bd2 (M_finds st 1) fun v187 st188 =>
            some (v187, st188)
def M_put (st : MSt) (x1 : Int32) (x2 : Int32) (x3 : Int32) : Option (Int32 × MSt) :=
  bd1 (M_isSheet x1) fun v1 =>
  if v1 = 0 then
    bd2 (M_finds st 1) fun v19 st20 =>
    some (v19, st20)
  else
    bd1 (rd (st.2 11) 4 x1) fun v3 =>
    if v3 = 0 then
      bd2 (M_finds st 2) fun v17 st18 =>
      some (v17, st18)
    else
      bd1 (rd (st.2 12) 4 x1) fun v5 =>
      bd1 (M_in x2.toInt64 0 ((v5 - 1).toInt64)) fun v6 =>
      if v6 = 0 then
        bd2 (M_finds st 1) fun v15 st16 =>
        some (v15, st16)
      else
        bd1 (rd (st.2 11) 4 x1) fun v8 =>
        if v8 = 8 then
          bd1 (wr (st.2 13) 160 ((40 * x1) + x2) x3.toInt8.toInt32) fun b14 =>
          some (1, sa st 13 b14)
        else
          bd1 (rd (st.2 11) 4 x1) fun v10 =>
          if v10 = 16 then
            bd1 (wr (st.2 13) 160 ((40 * x1) + x2) x3.toInt16.toInt32) fun b13 =>
            some (1, sa st 13 b13)
          else
            bd1 (wr (st.2 13) 160 ((40 * x1) + x2) x3) fun b12 =>
            some (1, sa st 13 b12)
def M_move_L115 (N : Nat) (x1 : Int32) (x2 : Int32) (x3 : Int32) (x4 : Int32) (x5 : Int32) : Nat → MSt → Int32 → Option (MSt)
  | 0, _, _ => none
  | n + 1, st, x6 =>
    if x5 ≤ x6 then
      some st
    else
      bd1 (rd (st.2 13) 160 (((40 * x1) + x2) + x6)) fun v32 =>
      bd1 (wr (st.2 14) 40 x6 v32) fun b33 =>
      M_move_L115 N x1 x2 x3 x4 x5 n (sa st 14 b33) (x6 + 1)
def M_move_L152 (N : Nat) (x3 : Int32) (x4 : Int32) (x5 : Int32) : Nat → MSt → Int32 → Option (MSt)
  | 0, _, _ => none
  | n + 1, st, x6 =>
    if x5 ≤ x6 then
      some st
    else
      bd1 (rd (st.2 14) 40 x6) fun v36 =>
      bd1 (wr (st.2 13) 160 (((40 * x3) + x4) + x6) v36) fun b37 =>
      M_move_L152 N x3 x4 x5 n (sa st 13 b37) (x6 + 1)
def M_move (N : Nat) (st : MSt) (x1 : Int32) (x2 : Int32) (x3 : Int32) (x4 : Int32) (x5 : Int32) : Option (Int32 × MSt) :=
  bd1 (M_isSheet x1) fun v1 =>
  if v1 = 0 then
    bd2 (M_finds st 1) fun v3 st4 =>
    some (v3, st4)
  else
    bd1 (M_isSheet x3) fun v5 =>
    if v5 = 0 then
      bd2 (M_finds st 1) fun v47 st48 =>
      some (v47, st48)
    else
      bd1 (rd (st.2 11) 4 x1) fun v7 =>
      if v7 = 0 then
        bd2 (M_finds st 2) fun v9 st10 =>
        some (v9, st10)
      else
        bd1 (rd (st.2 11) 4 x3) fun v11 =>
        if v11 = 0 then
          bd2 (M_finds st 2) fun v45 st46 =>
          some (v45, st46)
        else
          bd1 (rd (st.2 11) 4 x1) fun v13 =>
          bd1 (rd (st.2 11) 4 x3) fun v14 =>
          if v13 = v14 then
            if x5 < 0 then
              bd2 (M_finds st 1) fun v17 st18 =>
              some (v17, st18)
            else
              if x2 < 0 then
                bd2 (M_finds st 1) fun v20 st21 =>
                some (v20, st21)
              else
                if x4 < 0 then
                  bd2 (M_finds st 1) fun v23 st24 =>
                  some (v23, st24)
                else
                  bd1 (rd (st.2 12) 4 x1) fun v25 =>
                  if (v25 - x2) < x5 then
                    bd2 (M_finds st 1) fun v27 st28 =>
                    some (v27, st28)
                  else
                    bd1 (rd (st.2 12) 4 x3) fun v29 =>
                    if x5 ≤ (v29 - x4) then
                      bd1 (M_move_L115 N x1 x2 x3 x4 x5 N st 0) fun st34 =>
                      bd1 (M_move_L152 N x3 x4 x5 N st34 0) fun st38 =>
                      some (x5, st38)
                    else
                      bd2 (M_finds st 1) fun v41 st42 =>
                      some (v41, st42)
          else
            bd2 (M_finds st 5) fun v43 st44 =>
            some (v43, st44)
def M_judge_L46 (N : Nat) (st : MSt) (x1 : Int32) (x2 : Int32) (x3 : Int32) : Nat → Int32 → Option (Int32)
  | 0, _ => none
  | n + 1, x4 =>
    bd1 (rd (st.2 12) 4 x1) fun v10 =>
    if v10 ≤ x4 then
      some x4
    else
      if x3 ≤ x4 then
        some x4
      else
        bd1 (rd (st.2 13) 160 ((40 * x1) + x4)) fun v13 =>
        bd1 (M_of st x2 (5 + x4)) fun v14 =>
        if v13 = v14 then
          M_judge_L46 N st x1 x2 x3 n (x4 + 1)
        else
          some x4
def M_judge (N : Nat) (st : MSt) (x1 : Int32) (x2 : Int32) : Option (Int32 × MSt) :=
  bd1 (M_isSheet x1) fun v1 =>
  if v1 = 0 then
    bd2 (M_finds st 1) fun v3 st4 =>
    some (v3, st4)
  else
    bd1 (M_isDebtor st x2) fun v5 =>
    if v5 = 0 then
      bd2 (M_finds st 1) fun v23 st24 =>
      some (v23, st24)
    else
      bd1 (rd (st.2 11) 4 x1) fun v7 =>
      if v7 = 0 then
        bd2 (M_finds st 2) fun v21 st22 =>
        some (v21, st22)
      else
        bd1 (M_of st x2 4) fun v9 =>
        bd1 (M_judge_L46 N st x1 x2 v9 N 0) fun z16 =>
        bd1 (rd (st.2 12) 4 x1) fun v17 =>
        if z16 = v17 then
          if z16 = v9 then
            some ((-1), st)
          else
            some (z16, st)
        else
          some (z16, st)
def M_image_L2 (N : Nat) : Nat → MSt → Int32 → Option (MSt)
  | 0, _, _ => none
  | n + 1, st, x1 =>
    if 342 ≤ x1 then
      some st
    else
      bd1 (rd (st.2 1) 342 x1) fun v2 =>
      bd1 (wr (st.2 2) 342 x1 v2) fun b3 =>
      M_image_L2 N n (sa st 2 b3) (x1 + 1)
def M_image (N : Nat) (st : MSt) : Option (Int32 × MSt) :=
  bd1 (M_image_L2 N N st 0) fun st4 =>
  some ((sf st4 3 ((st4.1 3) + 1)).1 3, sf st4 3 ((st4.1 3) + 1))
def M_restore_L15 (N : Nat) : Nat → MSt → Int32 → Option (MSt)
  | 0, _, _ => none
  | n + 1, st, x1 =>
    if 342 ≤ x1 then
      some st
    else
      bd1 (rd (st.2 2) 342 x1) fun v3 =>
      bd1 (wr (st.2 1) 342 x1 v3) fun b4 =>
      M_restore_L15 N n (sa st 1 b4) (x1 + 1)
def M_restore (N : Nat) (st : MSt) : Option (Int32 × MSt) :=
  if (st.1 3) = 0 then
    bd2 (M_finds st 2) fun v8 st9 =>
    some (v8, st9)
  else
    bd1 (M_restore_L15 N N st 0) fun st5 =>
    bd1 (rd (st5.2 1) 342 3) fun v6 =>
    some (v6, st5)
def M_tell (st : MSt) (x1 : Int32) : Option (Int32 × MSt) :=
  bd1 (rd (st.2 1) 342 6) fun v1 =>
  if v1 = 20 then
    bd2 (M_finds st 4) fun v8 st9 =>
    some (v8, st9)
  else
    bd1 (rd (st.2 1) 342 6) fun v3 =>
    bd1 (wr (st.2 1) 342 (172 + v3) x1) fun b4 =>
    bd1 (rd ((sa st 1 b4).2 1) 342 6) fun v5 =>
    bd1 (wr ((sa st 1 b4).2 1) 342 6 (v5 + 1)) fun b6 =>
    bd1 (rd ((sa (sa st 1 b4) 1 b6).2 1) 342 6) fun v7 =>
    some (v7, sa (sa st 1 b4) 1 b6)
def M_debts_L4 (N : Nat) (st : MSt) : Nat → Int32 → Int32 → Option (Int32)
  | 0, _, _ => none
  | n + 1, x1, x2 =>
    bd1 (rd (st.2 1) 342 1) fun v1 =>
    if v1 ≤ x2 then
      some x1
    else
      bd1 (M_of st x2 2) fun v3 =>
      M_debts_L4 N st n (x1 + v3) (x2 + 1)
def M_debts (N : Nat) (st : MSt) : Option (Int32) :=
  bd1 (M_debts_L4 N st N 0 0) fun z4 =>
  some z4
def M_count (N : Nat) (st : MSt) (x1 : Int32) : Option (Int32 × MSt) :=
  if x1 = 0 then
    bd1 (rd (st.2 1) 342 0) fun v2 =>
    some (v2, st)
  else
    if x1 = 1 then
      bd1 (rd (st.2 1) 342 1) fun v4 =>
      some (v4, st)
    else
      if x1 = 2 then
        bd1 (rd (st.2 1) 342 3) fun v6 =>
        some (v6, st)
      else
        if x1 = 3 then
          bd1 (rd (st.2 1) 342 2) fun v8 =>
          some (v8, st)
        else
          if x1 = 4 then
            bd1 (M_debts N st) fun v10 =>
            some (v10, st)
          else
            if x1 = 5 then
              bd1 (M_brokenMany N st) fun v12 =>
              some (v12, st)
            else
              if x1 = 6 then
                bd1 (rd (st.2 1) 342 5) fun v14 =>
                some (v14, st)
              else
                if x1 = 7 then
                  bd1 (rd (st.2 1) 342 6) fun v16 =>
                  some (v16, st)
                else
                  if x1 = 8 then
                    some (st.1 20, st)
                  else
                    if x1 = 9 then
                      bd1 (rd (st.2 1) 342 4) fun v19 =>
                      some (v19, st)
                    else
                      bd2 (M_finds st 1) fun v20 st21 =>
                      some (v20, st21)
def M_told (st : MSt) (x1 : Int32) : Option (Int32 × MSt) :=
  bd1 (M_in x1.toInt64 1 5) fun v1 =>
  if v1 = 0 then
    bd2 (M_finds st 1) fun v3 st4 =>
    some (v3, st4)
  else
    bd1 (rd (st.2 4) 6 x1) fun v5 =>
    some (v5, st)
