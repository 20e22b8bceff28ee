/-! the model: plain functions of its methods (mb) -/
set_option maxRecDepth 100000
def M_either_b_L5 (N : Nat) (f_both : MSt → Option (Int32 × MSt)) : Nat → MSt → Int32 → Option (MSt × Int32)
  | 0, _, _ => none
  | n + 1, st, x1 =>
    bd2 (M_takes st 124) fun v3 st4 =>
    if v3 = 0 then
      some (st4, x1)
    else
      bd2 (f_both st4) fun v6 st7 =>
      if x1 = 0 then
        if v6 = 0 then
          M_either_b_L5 N f_both n st7 0
        else
          M_either_b_L5 N f_both n st7 1
      else
        M_either_b_L5 N f_both n st7 1
def M_either_b (N : Nat) (f_both : MSt → Option (Int32 × MSt)) (st : MSt) : Option (Int32 × MSt) :=
  bd2 (f_both st) fun v1 st2 =>
  bd2 (M_either_b_L5 N f_both N st2 v1) fun st10 z11 =>
  some (z11, st10)
def M_both_b_L5 (N : Nat) (f_compared : MSt → Option (Int32 × MSt)) : Nat → MSt → Int32 → Option (MSt × Int32)
  | 0, _, _ => none
  | n + 1, st, x1 =>
    bd2 (M_takes st 38) fun v3 st4 =>
    if v3 = 0 then
      some (st4, x1)
    else
      bd2 (f_compared st4) fun v6 st7 =>
      if x1 = 0 then
        M_both_b_L5 N f_compared n st7 0
      else
        if v6 = 0 then
          M_both_b_L5 N f_compared n st7 0
        else
          M_both_b_L5 N f_compared n st7 1
def M_both_b (N : Nat) (f_compared : MSt → Option (Int32 × MSt)) (st : MSt) : Option (Int32 × MSt) :=
  bd2 (f_compared st) fun v1 st2 =>
  bd2 (M_both_b_L5 N f_compared N st2 v1) fun st10 z11 =>
  some (z11, st10)
def M_compared_b (f_sum : MSt → Option (Int32 × MSt)) (st : MSt) : Option (Int32 × MSt) :=
  bd2 (f_sum st) fun v1 st2 =>
  bd1 (M_here st2) fun v3 =>
  if v3 = 60 then
    bd2 (f_sum (sf st2 6 ((st2.1 6) + 1))) fun v5 st6 =>
    if v3 = 60 then
      if v5 ≤ v1 then
        some (0, st6)
      else
        some (1, st6)
    else
      if v3 = 61 then
        if v1 = v5 then
          some (1, st6)
        else
          some (0, st6)
      else
        if v1 ≤ v5 then
          some (0, st6)
        else
          some (1, st6)
  else
    if v3 = 61 then
      bd2 (f_sum (sf st2 6 ((st2.1 6) + 1))) fun v13 st14 =>
      if v3 = 60 then
        if v13 ≤ v1 then
          some (0, st14)
        else
          some (1, st14)
      else
        if v3 = 61 then
          if v1 = v13 then
            some (1, st14)
          else
            some (0, st14)
        else
          if v1 ≤ v13 then
            some (0, st14)
          else
            some (1, st14)
    else
      if v3 = 62 then
        bd2 (f_sum (sf st2 6 ((st2.1 6) + 1))) fun v21 st22 =>
        if v3 = 60 then
          if v21 ≤ v1 then
            some (0, st22)
          else
            some (1, st22)
        else
          if v3 = 61 then
            if v1 = v21 then
              some (1, st22)
            else
              some (0, st22)
          else
            if v1 ≤ v21 then
              some (0, st22)
            else
              some (1, st22)
      else
        some (v1, st2)
def M_sum_b_L5 (N : Nat) (f_product : MSt → Option (Int32 × MSt)) : Nat → MSt → Int32 → Option (MSt × Int32)
  | 0, _, _ => none
  | n + 1, st, x1 =>
    bd1 (M_here st) fun v3 =>
    if v3 = 43 then
      bd1 (M_here st) fun v5 =>
      bd2 (f_product (sf st 6 ((st.1 6) + 1))) fun v6 st7 =>
      if v5 = 43 then
        M_sum_b_L5 N f_product n st7 (x1 + v6)
      else
        M_sum_b_L5 N f_product n st7 (x1 - v6)
    else
      bd1 (M_here st) fun v9 =>
      if v9 = 45 then
        bd1 (M_here st) fun v11 =>
        bd2 (f_product (sf st 6 ((st.1 6) + 1))) fun v12 st13 =>
        if v11 = 43 then
          M_sum_b_L5 N f_product n st13 (x1 + v12)
        else
          M_sum_b_L5 N f_product n st13 (x1 - v12)
      else
        some (st, x1)
def M_sum_b (N : Nat) (f_product : MSt → Option (Int32 × MSt)) (st : MSt) : Option (Int32 × MSt) :=
  bd2 (f_product st) fun v1 st2 =>
  bd2 (M_sum_b_L5 N f_product N st2 v1) fun st15 z16 =>
  some (z16, st15)
def M_product_b_L5 (N : Nat) (f_unit : MSt → Option (Int32 × MSt)) : Nat → MSt → Int32 → Option (MSt × Int32)
  | 0, _, _ => none
  | n + 1, st, x1 =>
    bd1 (M_here st) fun v3 =>
    if v3 = 42 then
      bd1 (M_here st) fun v5 =>
      bd2 (f_unit (sf st 6 ((st.1 6) + 1))) fun v6 st7 =>
      if v5 = 42 then
        M_product_b_L5 N f_unit n st7 (x1 * v6)
      else
        if v6 = 0 then
          M_product_b_L5 N f_unit n st7 0
        else
          if v5 = 47 then
            bd1 (dv x1 v6) fun v12 =>
            M_product_b_L5 N f_unit n st7 v12
          else
            bd1 (rmd x1 v6) fun v11 =>
            M_product_b_L5 N f_unit n st7 v11
    else
      bd1 (M_here st) fun v13 =>
      if v13 = 47 then
        bd1 (M_here st) fun v15 =>
        bd2 (f_unit (sf st 6 ((st.1 6) + 1))) fun v16 st17 =>
        if v15 = 42 then
          M_product_b_L5 N f_unit n st17 (x1 * v16)
        else
          if v16 = 0 then
            M_product_b_L5 N f_unit n st17 0
          else
            if v15 = 47 then
              bd1 (dv x1 v16) fun v22 =>
              M_product_b_L5 N f_unit n st17 v22
            else
              bd1 (rmd x1 v16) fun v21 =>
              M_product_b_L5 N f_unit n st17 v21
      else
        bd1 (M_here st) fun v23 =>
        if v23 = 37 then
          bd1 (M_here st) fun v25 =>
          bd2 (f_unit (sf st 6 ((st.1 6) + 1))) fun v26 st27 =>
          if v25 = 42 then
            M_product_b_L5 N f_unit n st27 (x1 * v26)
          else
            if v26 = 0 then
              M_product_b_L5 N f_unit n st27 0
            else
              if v25 = 47 then
                bd1 (dv x1 v26) fun v32 =>
                M_product_b_L5 N f_unit n st27 v32
              else
                bd1 (rmd x1 v26) fun v31 =>
                M_product_b_L5 N f_unit n st27 v31
        else
          some (st, x1)
def M_product_b (N : Nat) (f_unit : MSt → Option (Int32 × MSt)) (st : MSt) : Option (Int32 × MSt) :=
  bd2 (f_unit st) fun v1 st2 =>
  bd2 (M_product_b_L5 N f_unit N st2 v1) fun st33 z34 =>
  some (z34, st33)
def M_unit_b_L150 (N : Nat) (f_either : MSt → Option (Int32 × MSt)) (f_unit : MSt → Option (Int32 × MSt)) : Nat → MSt → Int32 → Int32 → Option (MSt × Int32 × Int32)
  | 0, _, _, _ => none
  | n + 1, st, x3, x4 =>
    if 4 ≤ x4 then
      some (st, x3, x4)
    else
      bd1 (M_here st) fun v35 =>
      bd1 (M_in v35.toInt64 48 57) fun v36 =>
      if v36 = 0 then
        some (st, x3, x4)
      else
        bd1 (M_here st) fun v38 =>
        M_unit_b_L150 N f_either f_unit n (sf st 6 ((st.1 6) + 1)) (((10 * x3) + v38) - 48) (x4 + 1)
def M_unit_b (N : Nat) (f_either : MSt → Option (Int32 × MSt)) (f_unit : MSt → Option (Int32 × MSt)) (st : MSt) : Option (Int32 × MSt) :=
  bd1 (M_here st) fun v1 =>
  if v1 = 33 then
    if (st.1 9) = 5 then
      bd2 (M_wrong st) fun v29 st30 =>
      some (v29, st30)
    else
      if v1 = 40 then
        bd2 (f_either (sf (sf st 9 ((st.1 9) + 1)) 6 (((sf st 9 ((st.1 9) + 1)).1 6) + 1))) fun v17 st18 =>
        if v1 = 40 then
          bd2 (M_takes st18 41) fun v22 st23 =>
          if v22 = 0 then
            bd2 (M_wrong st23) fun v27 st28 =>
            some (v27, st28)
          else
            if v1 = 40 then
              some (v17, sf st23 9 ((st23.1 9) - 1))
            else
              if v17 = 0 then
                some (1, sf st23 9 ((st23.1 9) - 1))
              else
                some (0, sf st23 9 ((st23.1 9) - 1))
        else
          if v1 = 40 then
            some (v17, sf st18 9 ((st18.1 9) - 1))
          else
            if v17 = 0 then
              some (1, sf st18 9 ((st18.1 9) - 1))
            else
              some (0, sf st18 9 ((st18.1 9) - 1))
      else
        bd2 (f_unit (sf (sf st 9 ((st.1 9) + 1)) 6 (((sf st 9 ((st.1 9) + 1)).1 6) + 1))) fun v5 st6 =>
        if v1 = 40 then
          bd2 (M_takes st6 41) fun v10 st11 =>
          if v10 = 0 then
            bd2 (M_wrong st11) fun v15 st16 =>
            some (v15, st16)
          else
            if v1 = 40 then
              some (v5, sf st11 9 ((st11.1 9) - 1))
            else
              if v5 = 0 then
                some (1, sf st11 9 ((st11.1 9) - 1))
              else
                some (0, sf st11 9 ((st11.1 9) - 1))
        else
          if v1 = 40 then
            some (v5, sf st6 9 ((st6.1 9) - 1))
          else
            if v5 = 0 then
              some (1, sf st6 9 ((st6.1 9) - 1))
            else
              some (0, sf st6 9 ((st6.1 9) - 1))
  else
    if v1 = 40 then
      if (st.1 9) = 5 then
        bd2 (M_wrong st) fun v73 st74 =>
        some (v73, st74)
      else
        if v1 = 40 then
          bd2 (f_either (sf (sf st 9 ((st.1 9) + 1)) 6 (((sf st 9 ((st.1 9) + 1)).1 6) + 1))) fun v61 st62 =>
          if v1 = 40 then
            bd2 (M_takes st62 41) fun v66 st67 =>
            if v66 = 0 then
              bd2 (M_wrong st67) fun v71 st72 =>
              some (v71, st72)
            else
              if v1 = 40 then
                some (v61, sf st67 9 ((st67.1 9) - 1))
              else
                if v61 = 0 then
                  some (1, sf st67 9 ((st67.1 9) - 1))
                else
                  some (0, sf st67 9 ((st67.1 9) - 1))
          else
            if v1 = 40 then
              some (v61, sf st62 9 ((st62.1 9) - 1))
            else
              if v61 = 0 then
                some (1, sf st62 9 ((st62.1 9) - 1))
              else
                some (0, sf st62 9 ((st62.1 9) - 1))
        else
          bd2 (f_unit (sf (sf st 9 ((st.1 9) + 1)) 6 (((sf st 9 ((st.1 9) + 1)).1 6) + 1))) fun v49 st50 =>
          if v1 = 40 then
            bd2 (M_takes st50 41) fun v54 st55 =>
            if v54 = 0 then
              bd2 (M_wrong st55) fun v59 st60 =>
              some (v59, st60)
            else
              if v1 = 40 then
                some (v49, sf st55 9 ((st55.1 9) - 1))
              else
                if v49 = 0 then
                  some (1, sf st55 9 ((st55.1 9) - 1))
                else
                  some (0, sf st55 9 ((st55.1 9) - 1))
          else
            if v1 = 40 then
              some (v49, sf st50 9 ((st50.1 9) - 1))
            else
              if v49 = 0 then
                some (1, sf st50 9 ((st50.1 9) - 1))
              else
                some (0, sf st50 9 ((st50.1 9) - 1))
    else
      bd1 (M_nameOf st v1) fun v32 =>
      if v32 < 0 then
        bd3 (M_unit_b_L150 N f_either f_unit N st 0 0) fun st39 z40 z41 =>
        if z41 = 0 then
          bd2 (M_wrong st39) fun v43 st44 =>
          some (v43, st44)
        else
          some (z40, st39)
      else
        bd1 (rd ((sf st 6 ((st.1 6) + 1)).2 5) 3 v32) fun v46 =>
        some (v46, sf st 6 ((st.1 6) + 1))
def M_ex (N : Nat) : Nat → Nat → MSt → Option (Int32 × MSt)
  | 0, _, _ => none
  | d + 1, 0, st => M_either_b N (M_ex N d 1) st
  | d + 1, 1, st => M_both_b N (M_ex N d 2) st
  | d + 1, 2, st => M_compared_b (M_ex N d 3) st
  | d + 1, 3, st => M_sum_b N (M_ex N d 4) st
  | d + 1, 4, st => M_product_b N (M_ex N d 5) st
  | d + 1, _, st => M_unit_b N (M_ex N d 0) (M_ex N d 5) st
def M_owesBy_b (f_owesBy : MSt → Int32 → Int32 → Option (Int32 × MSt)) (st : MSt) (x1 : Int32) (x2 : Int32) : Option (Int32 × MSt) :=
  if x1 = 0 then
    bd1 (M_ran st 10) fun st3 =>
    some (x2 + (st3.1 21), st3)
  else
    if x1 = 2 then
      bd1 (M_ran st 30) fun st6 =>
      bd1 (M_above 2) fun v7 =>
      bd2 (f_owesBy st6 v7 x2) fun v8 st9 =>
      some (v8 * 3, st9)
    else
      bd1 (M_above x1) fun v10 =>
      bd2 (f_owesBy st v10 x2) fun v11 st12 =>
      some (v11, st12)
def M_owesBy : Nat → MSt → Int32 → Int32 → Option (Int32 × MSt)
  | 0, _, _, _ => none
  | d + 1, st, a0, a1 => M_owesBy_b (M_owesBy d) st a0 a1
def M_readsBy_b (f_readsBy : MSt → Int32 → Int32 → Option (Int32 × MSt)) (st : MSt) (x1 : Int32) (x2 : Int32) : Option (Int32 × MSt) :=
  if x1 = 0 then
    bd1 (M_ran st 12) fun st3 =>
    bd1 (M_of st3 (st3.1 21) 1) fun v4 =>
    some (x2 - v4, st3)
  else
    if x1 = 3 then
      bd1 (M_ran st 40) fun st7 =>
      bd1 (M_above 3) fun v8 =>
      bd2 (f_readsBy st7 v8 x2) fun v9 st10 =>
      some (-v9, st10)
    else
      if x1 = 6 then
        bd1 (M_ran st 70) fun st13 =>
        bd1 (M_above 6) fun v14 =>
        bd2 (f_readsBy st13 v14 x2) fun v15 st16 =>
        some (v15 ^^^ (st16.1 21), st16)
      else
        bd1 (M_above x1) fun v17 =>
        bd2 (f_readsBy st v17 x2) fun v18 st19 =>
        some (v18, st19)
def M_readsBy : Nat → MSt → Int32 → Int32 → Option (Int32 × MSt)
  | 0, _, _, _ => none
  | d + 1, st, a0, a1 => M_readsBy_b (M_readsBy d) st a0 a1
def M_writesBy_b (f_writesBy : MSt → Int32 → Int32 → Option (Int32 × MSt)) (st : MSt) (x1 : Int32) (x2 : Int32) : Option (Int32 × MSt) :=
  if x1 = 0 then
    bd1 (M_ran st 11) fun st3 =>
    bd1 (M_own st3) fun v4 =>
    bd2 (M_owesBy 4 st3 v4 x2) fun v5 st6 =>
    some (v5 * 2, st6)
  else
    if x1 = 1 then
      bd1 (M_ran st 20) fun st9 =>
      bd1 (M_above 1) fun v10 =>
      bd2 (f_writesBy st9 v10 x2) fun v11 st12 =>
      bd1 (M_own st12) fun v13 =>
      bd2 (M_readsBy 4 st12 v13 1) fun v14 st15 =>
      some (v11 - v14, st15)
    else
      if x1 = 2 then
        bd1 (M_above x1) fun v17 =>
        bd2 (f_writesBy st v17 x2) fun v18 st19 =>
        some (v18, st19)
      else
        if x1 = 3 then
          bd1 (M_above x1) fun v21 =>
          bd2 (f_writesBy st v21 x2) fun v22 st23 =>
          some (v22, st23)
        else
          if x1 = 4 then
            bd1 (M_ran st 50) fun st26 =>
            bd1 (M_above 4) fun v27 =>
            bd2 (f_writesBy st26 v27 (x2 + 1)) fun v28 st29 =>
            some (v28, st29)
          else
            bd1 (M_above x1) fun v30 =>
            bd2 (f_writesBy st v30 x2) fun v31 st32 =>
            some (v31, st32)
def M_writesBy : Nat → MSt → Int32 → Int32 → Option (Int32 × MSt)
  | 0, _, _, _ => none
  | d + 1, st, a0, a1 => M_writesBy_b (M_writesBy d) st a0 a1
def M_tellsBy_b (f_tellsBy : MSt → Int32 → Int32 → Option (Int32 × MSt)) (st : MSt) (x1 : Int32) (x2 : Int32) : Option (Int32 × MSt) :=
  if x1 = 0 then
    bd1 (M_ran st 13) fun st3 =>
    bd1 (M_own st3) fun v4 =>
    bd2 (M_writesBy 4 st3 v4 x2) fun v5 st6 =>
    bd1 (M_own st6) fun v7 =>
    bd2 (M_readsBy 4 st6 v7 x2) fun v8 st9 =>
    some (v5 ^^^ v8, st9)
  else
    if x1 = 5 then
      bd1 (M_ran st 60) fun st12 =>
      bd1 (M_above 5) fun v13 =>
      bd2 (f_tellsBy st12 v13 x2) fun v14 st15 =>
      bd1 (M_own st15) fun v16 =>
      bd2 (M_owesBy 4 st15 v16 2) fun v17 st18 =>
      some (v14 - v17, st18)
    else
      if x1 = 6 then
        bd1 (M_ran st 71) fun st21 =>
        bd1 (M_own st21) fun v22 =>
        bd2 (M_writesBy 4 st21 v22 x2) fun v23 st24 =>
        bd1 (M_above 6) fun v25 =>
        bd2 (f_tellsBy st24 v25 x2) fun v26 st27 =>
        some (v23 - v26, st27)
      else
        bd1 (M_above x1) fun v28 =>
        bd2 (f_tellsBy st v28 x2) fun v29 st30 =>
        some (v29, st30)
def M_tellsBy : Nat → MSt → Int32 → Int32 → Option (Int32 × MSt)
  | 0, _, _, _ => none
  | d + 1, st, a0, a1 => M_tellsBy_b (M_tellsBy d) st a0 a1
def M_worked (N : Nat) (st : MSt) (x1 : Int32) (x2 : Int32) (x3 : Int32) : Option (Int32 × MSt) :=
  if x3 = 1 then
    bd2 (M_ex N 50 0 (sf (sf (sf (sf (sf (sf st 5 x1) 6 0) 7 x2) 8 (-1)) 9 0) 10 1)) fun v8 st9 =>
    if 0 ≤ (st9.1 8) then
      some (v8, st9)
    else
      if (st9.1 7) ≤ (st9.1 6) then
        some (v8, st9)
      else
        bd2 (M_wrong st9) fun v12 st13 =>
        some (v12, st13)
  else
    bd2 (M_ex N 50 0 (sf (sf (sf (sf (sf (sf st 5 x1) 6 0) 7 x2) 8 (-1)) 9 0) 10 0)) fun v2 st3 =>
    if 0 ≤ (st3.1 8) then
      some (v2, st3)
    else
      if (st3.1 7) ≤ (st3.1 6) then
        some (v2, st3)
      else
        bd2 (M_wrong st3) fun v6 st7 =>
        some (v6, st7)
def M_text_L69 (N : Nat) (x1 : Int32) (x2 : Int32) : Nat → MSt → Int32 → Option (MSt)
  | 0, _, _ => none
  | n + 1, st, x4 =>
    if x2 ≤ x4 then
      some st
    else
      bd1 (rd (st.2 1) 342 (292 + x4)) fun v10 =>
      bd1 (wr (st.2 1) 342 ((192 + (50 * x1)) + x4) v10) fun b11 =>
      M_text_L69 N x1 x2 n (sa st 1 b11) (x4 + 1)
def M_text (N : Nat) (st : MSt) (x1 : Int32) : Option (Int32 × MSt) :=
  bd1 (M_in x1.toInt64 0 1) fun v1 =>
  if v1 = 0 then
    bd2 (M_finds st 1) fun v14 st15 =>
    some (v14, st15)
  else
    bd1 (rd (st.2 1) 342 5) fun v3 =>
    bd1 (wr (st.2 1) 342 5 0) fun b4 =>
    bd2 (M_worked N (sa st 1 b4) 292 v3 x1) fun v5 st6 =>
    if (st6.1 8) < 0 then
      bd1 (wr (st6.2 1) 342 (170 + x1) v3) fun b8 =>
      bd1 (M_text_L69 N x1 v3 N (sa st6 1 b8) 0) fun st12 =>
      some (1, st12)
    else
      some ((-10) - (st6.1 8), st6)
def M_textGives (N : Nat) (st : MSt) (x1 : Int32) (x2 : Int32) (x3 : Int32) (x4 : Int32) : Option (Int32 × MSt) :=
  if x1 = 0 then
    bd1 (rd (st.2 1) 342 (170 + x1)) fun v16 =>
    if v16 ≤ 0 then
      if x1 = 0 then
        bd1 (M_held 10 0 999) fun v20 =>
        some (v20, st)
      else
        bd1 (M_held 10 (-999) 999) fun v19 =>
        some (v19, st)
    else
      bd1 (wr (st.2 5) 3 0 x2) fun b21 =>
      bd1 (wr ((sa st 5 b21).2 5) 3 1 x3) fun b22 =>
      bd1 (wr ((sa (sa st 5 b21) 5 b22).2 5) 3 2 x4) fun b23 =>
      bd1 (rd ((sa (sa (sa st 5 b21) 5 b22) 5 b23).2 1) 342 (170 + x1)) fun v24 =>
      bd2 (M_worked N (sa (sa (sa st 5 b21) 5 b22) 5 b23) (192 + (50 * x1)) v24 x1) fun v25 st26 =>
      if x1 = 0 then
        bd1 (M_held v25 0 999) fun v29 =>
        some (v29, st26)
      else
        bd1 (M_held v25 (-999) 999) fun v28 =>
        some (v28, st26)
  else
    bd1 (rd (st.2 1) 342 (170 + x1)) fun v2 =>
    if v2 ≤ 0 then
      if x1 = 0 then
        bd1 (M_held (((10 * x4) - (5 * x3)) - x2) 0 999) fun v6 =>
        some (v6, st)
      else
        bd1 (M_held (((10 * x4) - (5 * x3)) - x2) (-999) 999) fun v5 =>
        some (v5, st)
    else
      bd1 (wr (st.2 5) 3 0 x2) fun b7 =>
      bd1 (wr ((sa st 5 b7).2 5) 3 1 x3) fun b8 =>
      bd1 (wr ((sa (sa st 5 b7) 5 b8).2 5) 3 2 x4) fun b9 =>
      bd1 (rd ((sa (sa (sa st 5 b7) 5 b8) 5 b9).2 1) 342 (170 + x1)) fun v10 =>
      bd2 (M_worked N (sa (sa (sa st 5 b7) 5 b8) 5 b9) (192 + (50 * x1)) v10 x1) fun v11 st12 =>
      if x1 = 0 then
        bd1 (M_held v11 0 999) fun v15 =>
        some (v15, st12)
      else
        bd1 (M_held v11 (-999) 999) fun v14 =>
        some (v14, st12)
def M_law (N : Nat) (st : MSt) (x1 : Int32) (x2 : Int32) (x3 : Int32) (x4 : Int32) : Option (Int32 × MSt) :=
  bd1 (M_in x1.toInt64 0 1) fun v1 =>
  if v1 = 0 then
    bd2 (M_finds st 1) fun v3 st4 =>
    some (v3, st4)
  else
    bd2 (M_textGives N st x1 x2 x3 x4) fun v5 st6 =>
    some (v5, st6)
def M_toldOf (N : Nat) (st : MSt) (x1 : Int32) (x2 : Int32) : Option (Int32 × MSt) :=
  if x2 = 0 then
    bd1 (M_of st x1 0) fun v2 =>
    some (v2, st)
  else
    if x2 = 1 then
      bd1 (M_of st x1 1) fun v4 =>
      some (v4, st)
    else
      if x2 = 2 then
        bd1 (M_of st x1 2) fun v6 =>
        some (v6, st)
      else
        if x2 = 3 then
          bd1 (M_of st x1 4) fun v8 =>
          some (v8, st)
        else
          if x2 = 4 then
            bd1 (M_bookOf N st x1) fun v10 =>
            some (v10, st)
          else
            if x2 = 5 then
              bd1 (M_of st x1 3) fun v12 =>
              some (v12, st)
            else
              if x2 = 6 then
                bd1 (M_dueOf st x1) fun v14 =>
                some (v14, st)
              else
                if x2 = 7 then
                  bd1 (M_openOf N st x1) fun v16 =>
                  some (v16, st)
                else
                  if x2 = 8 then
                    bd1 (M_allMay N st x1) fun v18 =>
                    some (v18, st)
                  else
                    bd1 (M_of st x1 2) fun v19 =>
                    bd1 (M_openOf N st x1) fun v20 =>
                    bd1 (M_of st x1 4) fun v21 =>
                    bd2 (M_textGives N st 1 v19 v20 v21) fun v22 st23 =>
                    some (v22, st23)
def M_ofDebtor (N : Nat) (st : MSt) (x1 : Int32) (x2 : Int32) : Option (Int32 × MSt) :=
  bd1 (M_isDebtor st x1) fun v1 =>
  if v1 = 0 then
    bd2 (M_finds st 1) fun v3 st4 =>
    some (v3, st4)
  else
    bd1 (M_in x2.toInt64 0 9) fun v5 =>
    if v5 = 0 then
      bd2 (M_finds st 1) fun v7 st8 =>
      some (v7, st8)
    else
      bd2 (M_toldOf N st x1 x2) fun v9 st10 =>
      some (v9, st10)
def M_paysOf (N : Nat) (st : MSt) (x1 : Int32) (x2 : Int32) : Option (Int32 × MSt) :=
  bd1 (rd (st.2 1) 342 3) fun v1 =>
  bd1 (M_of st x1 2) fun v2 =>
  bd2 (M_textGives N st 0 x2 v1 v2) fun v3 st4 =>
  bd1 (M_of st4 x1 0) fun v5 =>
  if v5 = 5 then
    some (2 * v3, st4)
  else
    if v5 = 1 then
      some (v3 / 2, st4)
    else
      if v5 = 4 then
        some (v3 / 2, st4)
      else
        some (v3, st4)
def M_tellsNow (N : Nat) (st : MSt) (x1 : Int32) (x2 : Int32) : Option (MSt) :=
  bd2 (M_paysOf N st x1 x2) fun v1 st2 =>
  bd1 (M_writes st2 x1 x2) fun st4 =>
  bd1 (M_of st4 x1 2) fun v5 =>
  if v5 ≤ v1 then
    bd1 (M_sets st4 x1 2 0) fun st8 =>
    some st8
  else
    bd1 (M_of st4 x1 2) fun v9 =>
    bd1 (M_sets st4 x1 2 (v9 - v1)) fun st11 =>
    some st11
def M_tells (N : Nat) (st : MSt) (x1 : Int32) (x2 : Int32) : Option (Int32 × MSt) :=
  bd1 (M_isDebtor st x1) fun v1 =>
  if v1 = 0 then
    bd2 (M_finds st 1) fun v3 st4 =>
    some (v3, st4)
  else
    bd1 (M_isFact st x2) fun v5 =>
    if v5 = 0 then
      bd2 (M_finds st 1) fun v18 st19 =>
      some (v18, st19)
    else
      bd1 (M_of st x1 3) fun v7 =>
      if v7 = 1 then
        bd2 (M_finds st 3) fun v9 st10 =>
        some (v9, st10)
      else
        bd1 (M_mayTell N st x1 x2) fun v11 =>
        if v11 = 0 then
          bd2 (M_finds st 3) fun v16 st17 =>
          some (v16, st17)
        else
          bd1 (M_tellsNow N st x1 x2) fun st14 =>
          bd1 (M_of st14 x1 2) fun v15 =>
          some (v15, st14)
def M_serves_L34 (N : Nat) (st : MSt) (x1 : Int32) (x2 : Int32) (x3 : Int32) : Nat → Int32 → Option (Int32)
  | 0, _ => none
  | n + 1, x4 =>
    bd1 (rd (st.2 1) 342 0) fun v7 =>
    if v7 ≤ x4 then
      some x4
    else
      bd1 (M_mayTell N st x1 x4) fun v9 =>
      if v9 = 0 then
        M_serves_L34 N st x1 x2 x3 n (x4 + 1)
      else
        some x4
def M_serves_L8 (N : Nat) (x1 : Int32) (x2 : Int32) : Nat → MSt → Int32 → Option (MSt)
  | 0, _, _ => none
  | n + 1, st, x3 =>
    if x2 ≤ x3 then
      some st
    else
      bd1 (M_of st x1 2) fun v3 =>
      if v3 ≤ 0 then
        some st
      else
        bd1 (M_of st x1 3) fun v5 =>
        if v5 = 0 then
          bd1 (M_serves_L34 N st x1 x2 x3 N 0) fun z11 =>
          bd1 (rd (st.2 1) 342 0) fun v12 =>
          if v12 ≤ z11 then
            bd1 (M_sets st x1 3 1) fun st15 =>
            M_serves_L8 N x1 x2 n st15 (x3 + 1)
          else
            bd1 (M_tellsNow N st x1 z11) fun st17 =>
            M_serves_L8 N x1 x2 n st17 (x3 + 1)
        else
          some st
def M_serves (N : Nat) (st : MSt) (x1 : Int32) : Option (MSt) :=
  bd1 (M_dueOf st x1) fun v1 =>
  bd1 (M_serves_L8 N x1 v1 N st 0) fun st19 =>
  bd1 (M_isOverdue N st19 x1) fun v20 =>
  if v20 = 0 then
    some st19
  else
    bd1 (M_sets st19 x1 3 1) fun st23 =>
    some st23
def M_aWeek_L2 (N : Nat) : Nat → MSt → Int32 → Option (MSt)
  | 0, _, _ => none
  | n + 1, st, x1 =>
    bd1 (rd (st.2 1) 342 1) fun v1 =>
    if v1 ≤ x1 then
      some st
    else
      bd1 (M_of st x1 3) fun v3 =>
      if v3 = 0 then
        bd1 (M_of st x1 2) fun v5 =>
        if v5 ≤ 0 then
          M_aWeek_L2 N n st (x1 + 1)
        else
          bd1 (M_serves N st x1) fun st8 =>
          M_aWeek_L2 N n st8 (x1 + 1)
      else
        M_aWeek_L2 N n st (x1 + 1)
def M_aWeek (N : Nat) (st : MSt) : Option (MSt) :=
  bd1 (M_aWeek_L2 N N st 0) fun st9 =>
  bd1 (rd (st9.2 1) 342 3) fun v10 =>
  bd1 (wr (st9.2 1) 342 3 (v10 + 1)) fun b11 =>
  some (sa st9 1 b11)
def M_passes_L40 (N : Nat) (x1 : Int32) (x2 : Int32) : Nat → MSt → Int32 → Option (MSt)
  | 0, _, _ => none
  | n + 1, st, x3 =>
    if x1 ≤ x3 then
      some st
    else
      if x2 = 0 then
        if x2 = 0 then
          bd1 (M_isDebtor st 0) fun v8 =>
          if v8 = 0 then
            bd1 (M_aWeek N st) fun st11 =>
            M_passes_L40 N x1 x2 n st11 (x3 + 1)
          else
            bd1 (M_of st 0 3) fun v12 =>
            if v12 = 0 then
              bd1 (M_lends st 0 0) fun st17 =>
              bd1 (M_aWeek N st17) fun st19 =>
              M_passes_L40 N x1 x2 n st19 (x3 + 1)
            else
              bd1 (M_aWeek N st) fun st15 =>
              M_passes_L40 N x1 x2 n st15 (x3 + 1)
        else
          bd2 (M_drawn st) fun v20 st21 =>
          bd1 (M_isDebtor st21 0) fun v22 =>
          if v22 = 0 then
            bd1 (M_aWeek N st21) fun st25 =>
            M_passes_L40 N x1 x2 n st25 (x3 + 1)
          else
            bd1 (M_of st21 0 3) fun v26 =>
            if v26 = 0 then
              bd1 (M_lends st21 0 (v20 - v20 / 50 * 50)) fun st31 =>
              bd1 (M_aWeek N st31) fun st33 =>
              M_passes_L40 N x1 x2 n st33 (x3 + 1)
            else
              bd1 (M_aWeek N st21) fun st29 =>
              M_passes_L40 N x1 x2 n st29 (x3 + 1)
      else
        bd2 (M_drawn st) fun v34 st35 =>
        if x2 = 0 then
          bd1 (M_isDebtor st35 (v34 - v34 / 4 * 4)) fun v37 =>
          if v37 = 0 then
            bd1 (M_aWeek N st35) fun st40 =>
            M_passes_L40 N x1 x2 n st40 (x3 + 1)
          else
            bd1 (M_of st35 (v34 - v34 / 4 * 4) 3) fun v41 =>
            if v41 = 0 then
              bd1 (M_lends st35 (v34 - v34 / 4 * 4) 0) fun st46 =>
              bd1 (M_aWeek N st46) fun st48 =>
              M_passes_L40 N x1 x2 n st48 (x3 + 1)
            else
              bd1 (M_aWeek N st35) fun st44 =>
              M_passes_L40 N x1 x2 n st44 (x3 + 1)
        else
          bd2 (M_drawn st35) fun v49 st50 =>
          bd1 (M_isDebtor st50 (v34 - v34 / 4 * 4)) fun v51 =>
          if v51 = 0 then
            bd1 (M_aWeek N st50) fun st54 =>
            M_passes_L40 N x1 x2 n st54 (x3 + 1)
          else
            bd1 (M_of st50 (v34 - v34 / 4 * 4) 3) fun v55 =>
            if v55 = 0 then
              bd1 (M_lends st50 (v34 - v34 / 4 * 4) (v49 - v49 / 50 * 50)) fun st60 =>
              bd1 (M_aWeek N st60) fun st62 =>
              M_passes_L40 N x1 x2 n st62 (x3 + 1)
            else
              bd1 (M_aWeek N st50) fun st58 =>
              M_passes_L40 N x1 x2 n st58 (x3 + 1)
def M_passes (N : Nat) (st : MSt) (x1 : Int32) (x2 : Int32) : Option (Int32 × MSt) :=
  bd1 (M_in x1.toInt64 1 60) fun v1 =>
  if v1 = 0 then
    bd2 (M_finds st 1) fun v68 st69 =>
    some (v68, st69)
  else
    bd1 (rd (st.2 1) 342 3) fun v3 =>
    if (v3 + x1) ≤ 999 then
      bd1 (M_passes_L40 N x1 x2 N st 0) fun st63 =>
      bd1 (M_brokenMany N st63) fun v64 =>
      some (v64, st63)
    else
      bd2 (M_finds st 3) fun v66 st67 =>
      some (v66, st67)
def M_weeks (N : Nat) (st : MSt) (x1 : Int32) : Option (Int32 × MSt) :=
  bd2 (M_passes N st x1 0) fun v1 st2 =>
  some (v1, st2)
def M_loose (N : Nat) (st : MSt) (x1 : Int32) : Option (Int32 × MSt) :=
  bd2 (M_passes N st x1 1) fun v1 st2 =>
  some (v1, st2)
def M_then_L53 (N : Nat) (x1 : Int32) (x2 : Int32) (x3 : Int32) : Nat → MSt → Int32 → Option (MSt)
  | 0, _, _ => none
  | n + 1, st, x4 =>
    if x1 ≤ x4 then
      some st
    else
      bd1 (M_aWeek N st) fun st18 =>
      M_then_L53 N x1 x2 x3 n st18 (x4 + 1)
def M_then (N : Nat) (st : MSt) (x1 : Int32) (x2 : Int32) (x3 : Int32) : Option (Int32 × MSt) :=
  bd1 (M_in x1.toInt64 0 60) fun v1 =>
  if v1 = 0 then
    bd2 (M_finds st 1) fun v3 st4 =>
    some (v3, st4)
  else
    bd1 (M_isDebtor st x2) fun v5 =>
    if v5 = 0 then
      bd2 (M_finds st 1) fun v7 st8 =>
      some (v7, st8)
    else
      bd1 (M_in x3.toInt64 2 7) fun v9 =>
      if v9 = 0 then
        bd2 (M_finds st 1) fun v11 st12 =>
        some (v11, st12)
      else
        if x3 = 6 then
          bd2 (M_finds st 1) fun v25 st26 =>
          some (v25, st26)
        else
          bd1 (M_keepAside N st) fun st15 =>
          bd1 (M_then_L53 N x1 x2 x3 N st15 0) fun st19 =>
          bd2 (M_toldOf N st19 x2 x3) fun v20 st21 =>
          bd1 (M_putBack N st21) fun st23 =>
          some (v20, st23)
def M_ratedBy_L16 (N : Nat) (x1 : Int32) : Nat → MSt → Int32 → Option (MSt × Int32)
  | 0, _, _ => none
  | n + 1, st, x3 =>
    if 60 < x3 then
      some (st, x3)
    else
      bd1 (M_of st x1 2) fun v4 =>
      if v4 ≤ 0 then
        some (st, x3)
      else
        bd1 (M_aWeek N st) fun st7 =>
        M_ratedBy_L16 N x1 n st7 (x3 + 1)
def M_ratedBy (N : Nat) (st : MSt) (x1 : Int32) (x2 : Int32) : Option (Int32 × MSt) :=
  bd1 (M_keepAside N (sf (sf st 12 x1) 13 x2)) fun st2 =>
  bd2 (M_ratedBy_L16 N x1 N st2 0) fun st8 z9 =>
  bd1 (M_putBack N st8) fun st11 =>
  if z9 ≤ 60 then
    some (z9, sf st11 12 (-1))
  else
    some ((-1), sf st11 12 (-1))
def M_rated_L73 (N : Nat) (x1 : Int32) : Nat → MSt → Int32 → Int32 → Int32 → Option (MSt × Int32)
  | 0, _, _, _, _ => none
  | n + 1, st, x4, x5, x6 =>
    if 4 < x6 then
      some (st, x4)
    else
      bd2 (M_ratedBy N st x1 x6) fun v13 st14 =>
      if v13 < 0 then
        M_rated_L73 N x1 n st14 x4 x5 (x6 + 1)
      else
        if x4 < 0 then
          M_rated_L73 N x1 n st14 x6 v13 (x6 + 1)
        else
          if x5 ≤ v13 then
            M_rated_L73 N x1 n st14 x4 x5 (x6 + 1)
          else
            M_rated_L73 N x1 n st14 x6 v13 (x6 + 1)
def M_rated (N : Nat) (st : MSt) (x1 : Int32) (x2 : Int32) (x3 : Int32) : Option (Int32 × MSt) :=
  bd1 (M_isDebtor st x1) fun v1 =>
  if v1 = 0 then
    bd2 (M_finds st 1) fun v3 st4 =>
    some (v3, st4)
  else
    bd1 (M_in x2.toInt64 1 4) fun v5 =>
    if v5 = 0 then
      bd2 (M_finds st 1) fun v7 st8 =>
      some (v7, st8)
    else
      bd1 (M_in x3.toInt64 0 1) fun v9 =>
      if v9 = 0 then
        bd2 (M_finds st 1) fun v29 st30 =>
        some (v29, st30)
      else
        if x3 = 0 then
          bd2 (M_ratedBy N st x1 x2) fun v24 st25 =>
          if 0 ≤ v24 then
            some (v24, st25)
          else
            bd2 (M_finds st25 2) fun v27 st28 =>
            some (v27, st28)
        else
          bd2 (M_rated_L73 N x1 N st (-1) 0 1) fun st18 z19 =>
          if 0 ≤ z19 then
            some (z19, st18)
          else
            bd2 (M_finds st18 2) fun v21 st22 =>
            some (v21, st22)
def M_begins_L14 (N : Nat) (x1 : Int32) (x2 : Int32) (x3 : Int32) : Nat → MSt → Int32 → Option (MSt)
  | 0, _, _ => none
  | n + 1, st, x4 =>
    if 60 ≤ x4 then
      some st
    else
      bd1 (M_aWeek N st) fun st6 =>
      M_begins_L14 N x1 x2 x3 n st6 (x4 + 1)
def M_begins_L58 (N : Nat) (st : MSt) (x1 : Int32) (x2 : Int32) (x3 : Int32) : Nat → Int32 → Int32 → Option (Int32)
  | 0, _, _ => none
  | n + 1, x4, x5 =>
    bd1 (rd (st.2 12) 4 x2) fun v11 =>
    if v11 ≤ x5 then
      some x4
    else
      if x4 = 0 then
        some x4
      else
        bd1 (M_of st x1 ((5 + x3) + x5)) fun v14 =>
        bd1 (rd (st.2 13) 160 ((40 * x2) + x5)) fun v15 =>
        if v14 = v15 then
          M_begins_L58 N st x1 x2 x3 n 1 (x5 + 1)
        else
          M_begins_L58 N st x1 x2 x3 n 0 (x5 + 1)
def M_begins (N : Nat) (st : MSt) (x1 : Int32) (x2 : Int32) : Option (Int32 × MSt) :=
  bd1 (M_keepAside N st) fun st2 =>
  bd1 (M_of st2 x1 4) fun v3 =>
  bd1 (M_begins_L14 N x1 x2 v3 N st2 0) fun st7 =>
  bd1 (M_of st7 x1 4) fun v8 =>
  bd1 (rd (st7.2 12) 4 x2) fun v9 =>
  if (v8 - v3) < v9 then
    bd1 (M_begins_L58 N st7 x1 x2 v3 N 0 0) fun z17 =>
    bd1 (M_putBack N st7) fun st19 =>
    bd1 (zr z17) fun z0 => some (z0, st19)
  else
    bd1 (M_begins_L58 N st7 x1 x2 v3 N 1 0) fun z21 =>
    bd1 (M_putBack N st7) fun st23 =>
    bd1 (zr z21) fun z0 => some (z0, st23)
def M_explained_L49 (N : Nat) (x1 : Int32) (x2 : Int32) (x3 : Int32) : Nat → MSt → Int32 → Int32 → Option (MSt × Int32)
  | 0, _, _, _ => none
  | n + 1, st, x4, x5 =>
    if 6 < x5 then
      some (st, x4)
    else
      if 0 ≤ x4 then
        some (st, x4)
      else
        bd1 (M_sets st x1 0 x5) fun st13 =>
        bd2 (M_begins N st13 x1 x2) fun v14 st15 =>
        if v14 = 0 then
          M_explained_L49 N x1 x2 x3 n st15 (-1) (x5 + 1)
        else
          M_explained_L49 N x1 x2 x3 n st15 x5 (x5 + 1)
def M_explained (N : Nat) (st : MSt) (x1 : Int32) (x2 : Int32) : Option (Int32 × MSt) :=
  bd1 (M_isDebtor st x1) fun v1 =>
  if v1 = 0 then
    bd2 (M_finds st 1) fun v3 st4 =>
    some (v3, st4)
  else
    bd1 (M_isSheet x2) fun v5 =>
    if v5 = 0 then
      bd2 (M_finds st 1) fun v27 st28 =>
      some (v27, st28)
    else
      bd1 (rd (st.2 11) 4 x2) fun v7 =>
      if v7 = 0 then
        bd2 (M_finds st 2) fun v25 st26 =>
        some (v25, st26)
      else
        bd1 (M_of st x1 0) fun v9 =>
        bd2 (M_explained_L49 N x1 x2 v9 N st (-1) 0) fun st17 z18 =>
        bd1 (M_sets st17 x1 0 v9) fun st20 =>
        if 0 ≤ z18 then
          some (z18, st20)
        else
          bd2 (M_finds st20 2) fun v22 st23 =>
          some (v22, st23)
def M_voice (st : MSt) (x1 : Int32) (x2 : Int32) (x3 : Int32) : Option (Int32 × MSt) :=
  bd1 (M_isDebtor st x1) fun v1 =>
  if v1 = 0 then
    bd2 (M_finds st 1) fun v3 st4 =>
    some (v3, st4)
  else
    bd1 (M_in x2.toInt64 0 3) fun v5 =>
    if v5 = 0 then
      bd2 (M_finds st 1) fun v19 st20 =>
      some (v19, st20)
    else
      bd1 (M_own (sf (sf st 20 0) 21 x1)) fun v7 =>
      if x2 = 0 then
        bd2 (M_owesBy 4 (sf (sf st 20 0) 21 x1) v7 x3) fun v17 st18 =>
        some (v17, st18)
      else
        if x2 = 1 then
          bd2 (M_writesBy 4 (sf (sf st 20 0) 21 x1) v7 x3) fun v15 st16 =>
          some (v15, st16)
        else
          if x2 = 2 then
            bd2 (M_readsBy 4 (sf (sf st 20 0) 21 x1) v7 x3) fun v13 st14 =>
            some (v13, st14)
          else
            bd2 (M_tellsBy 4 (sf (sf st 20 0) 21 x1) v7 x3) fun v11 st12 =>
            some (v11, st12)
def M_reads_L53 (N : Nat) (x1 : Int32) : Nat → MSt → Int32 → Int32 → Option (MSt × Int32)
  | 0, _, _, _ => none
  | n + 1, st, x2, x3 =>
    bd1 (rd (st.2 12) 4 x1) fun v7 =>
    if v7 ≤ x2 then
      some (st, x2)
    else
      if x3 = 0 then
        some (st, x2)
      else
        bd1 (rd (st.2 13) 160 ((40 * x1) + x2)) fun v10 =>
        bd1 (M_isFact st v10) fun v11 =>
        if v11 = 0 then
          M_reads_L53 N x1 n st x2 0
        else
          bd1 (M_mayTell N st 0 v10) fun v13 =>
          if v13 = 0 then
            M_reads_L53 N x1 n st x2 0
          else
            bd1 (M_tellsNow N st 0 v10) fun st16 =>
            M_reads_L53 N x1 n st16 (x2 + 1) 1
def M_reads (N : Nat) (st : MSt) (x1 : Int32) : Option (Int32 × MSt) :=
  bd1 (M_isSheet x1) fun v1 =>
  if v1 = 0 then
    bd2 (M_finds st 1) fun v30 st31 =>
    some (v30, st31)
  else
    bd1 (rd (st.2 11) 4 x1) fun v3 =>
    if v3 = 0 then
      bd2 (M_finds st 2) fun v28 st29 =>
      some (v28, st29)
    else
      bd1 (M_isDebtor st 0) fun v5 =>
      if v5 = 0 then
        bd2 (M_reads_L53 N x1 N st 0 0) fun st17 z18 =>
        some (z18, st17)
      else
        bd1 (M_of st 0 3) fun v20 =>
        if v20 = 0 then
          bd2 (M_reads_L53 N x1 N st 0 1) fun st25 z26 =>
          some (z26, st25)
        else
          bd2 (M_reads_L53 N x1 N st 0 0) fun st22 z23 =>
          some (z23, st22)
def M_check_L24 (N : Nat) (x1 : Int32) : Nat → MSt → Int32 → Int32 → Option (MSt × Int32)
  | 0, _, _, _ => none
  | n + 1, st, x2, x3 =>
    if x1 ≤ x2 then
      some (st, x2)
    else
      if x3 = 0 then
        some (st, x2)
      else
        bd1 (M_aWeek N st) fun st8 =>
        bd1 (M_debts N st8) fun v9 =>
        bd1 (rd (st8.2 1) 342 (172 + x2)) fun v10 =>
        if v9 = v10 then
          M_check_L24 N x1 n st8 (x2 + 1) 1
        else
          M_check_L24 N x1 n st8 (x2 + 0) 0
def M_check (N : Nat) (st : MSt) : Option (Int32 × MSt) :=
  bd1 (rd (st.2 1) 342 6) fun v1 =>
  bd1 (wr (st.2 1) 342 6 0) fun b2 =>
  bd1 (M_keepAside N (sa st 1 b2)) fun st4 =>
  bd2 (M_check_L24 N v1 N st4 0 1) fun st12 z13 =>
  bd1 (M_putBack N st12) fun st15 =>
  if z13 = v1 then
    some (0, st15)
  else
    some (1 + z13, st15)
