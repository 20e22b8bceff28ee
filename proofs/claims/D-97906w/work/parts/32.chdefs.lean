/-! ChapterLoan: rows of facts, debtors: plain functions -/
set_option maxRecDepth 100000
/-- a part of a row is copied -/
def cpn (f g : Nat → Int32) (n : Int32) (k : Nat) : Option (Nat → Int32) := if ¬ n < 0 ∧ n.toNatClampNeg ≤ k then some (va_cpy f g 0 0 n.toNatClampNeg) else none
def L_takes (N : Nat) (st : CS) (x1 : Int32) (x2 : Int32) : Option (CS) :=
  if (st.1 60 11) = 0 then
    if x2 ≤ (st.1 60 10) then
      some st
    else
      bd1 (cpn ((csF st 60 10 x2).2.1 65) ((csF st 60 10 x2).2.1 66) x2 8) fun b3 =>
      some (csA (csF st 60 10 x2) 66 b3)
  else
    bd1 (T_open 2 N st x1) fun v4 =>
    if v4 = 0 then
      if (st.1 60 10) = (-1) then
        bd1 (cpn ((csF st 60 10 x2).2.1 65) ((csF st 60 10 x2).2.1 66) x2 8) fun b7 =>
        some (csA (csF st 60 10 x2) 66 b7)
      else
        if (st.1 60 10) ≤ x2 then
          some st
        else
          bd1 (cpn ((csF st 60 10 x2).2.1 65) ((csF st 60 10 x2).2.1 66) x2 8) fun b9 =>
          some (csA (csF st 60 10 x2) 66 b9)
    else
      some st
def L_goesOn_b_L18 (N : Nat) (f_goesOn : CS → Int32 → Int32 → Option CS) (x1 : Int32) (x2 : Int32) (x3 : Int32) : Nat → CS → Int32 → Option (CS)
  | 0, _, _ => none
  | n + 1, st, x4 =>
    if (st.1 (20 * 0) 0) ≤ x4 then
      some st
    else
      bd1 (L_isIn x3 x4) fun v5 =>
      if v5 = 0 then
        L_goesOn_b_L18 N f_goesOn x1 x2 x3 n st (x4 + 1)
      else
        bd1 (wr (st.2.1 65) 8 x2 x4) fun b7 =>
        bd1 (T_writes 2 (csA st 65 b7) x1 x4) fun st9 =>
        bd1 (T_isOverdue 2 N st9 x1) fun v10 =>
        if v10 = 0 then
          bd1 (f_goesOn (csF st9 (20 * 2) 13 ((st9.1 (20 * 2) 13) + 1)) x1 (x2 + 1)) fun st15 =>
          bd1 (rd ((csF st15 (20 * 2) 13 ((st15.1 (20 * 2) 13) - 1)).2.1 (20 * 2 + 8)) 4 x1) fun v16 =>
          bd1 (wr ((csF st15 (20 * 2) 13 ((st15.1 (20 * 2) 13) - 1)).2.1 (20 * 2 + 8)) 4 x1 (v16 - 1)) fun b17 =>
          L_goesOn_b_L18 N f_goesOn x1 x2 x3 n (csA (csF st15 (20 * 2) 13 ((st15.1 (20 * 2) 13) - 1)) (20 * 2 + 8) b17) (x4 + 1)
        else
          bd1 (rd (st9.2.1 (20 * 2 + 8)) 4 x1) fun v12 =>
          bd1 (wr (st9.2.1 (20 * 2 + 8)) 4 x1 (v12 - 1)) fun b13 =>
          L_goesOn_b_L18 N f_goesOn x1 x2 x3 n (csA st9 (20 * 2 + 8) b13) (x4 + 1)
def L_goesOn_b (N : Nat) (f_goesOn : CS → Int32 → Int32 → Option CS) (st : CS) (x1 x2 : Int32) : Option CS :=
  bd1 (L_takes N st x1 x2) fun st2 =>
  bd1 (T_mayAll 2 N st2 x1) fun v3 =>
  bd1 (L_goesOn_b_L18 N f_goesOn x1 x2 v3 N st2 0) fun st18 =>
  some st18
def L_goesOn_r (N : Nat) : Nat → CS → Int32 → Int32 → Option CS
  | 0, _, _, _ => none
  | d + 1, st, x1, x2 => L_goesOn_b N (L_goesOn_r N d) st x1 x2
def L_goesOn (N : Nat) (st : CS) (x1 x2 : Int32) : Option CS := L_goesOn_r N 10 st x1 x2
def L_rowOf (N : Nat) (st : CS) (x1 : Int32) (x2 : Int32) (x3 : Int32) : Option (Option Int32 × CS) :=
  bd1 (L_isDebtor st x1) fun v1 =>
  if v1 = 0 then
    bd2 (L_need st 0 1) fun o5 st4 =>
    onx o5 (
      some (none, st4)
    ) fun _ =>
    bd1 (rd (st4.2.1 (20 * 0 + 7)) 4 x1) fun v6 =>
    if v6 = 0 then
      bd2 (L_need st4 1 3) fun o34 st33 =>
      onx o34 (
        some (none, st33)
      ) fun _ =>
      bd1 (T_become 2 0 st33) fun st35 =>
      bd1 (zr x2) fun w36 =>
      bd1 (L_goesOn N (csF (csF st35 60 11 x2) 60 10 (-1)) x1 0) fun st38 =>
      if (st38.1 60 10) = (-1) then
        bd2 (L_need st38 0 2) fun o42 st41 =>
        onx o42 (
          some (none, st41)
        ) fun _ =>
        if 0 ≤ x3 then
          bd1 (rd (st41.2.1 66) 8 x3) fun v44 =>
          some (some v44, st41)
        else
          some (some (st41.1 60 10), st41)
      else
        if (st38.1 60 10) ≤ x3 then
          bd2 (L_need st38 0 2) fun o48 st47 =>
          onx o48 (
            some (none, st47)
          ) fun _ =>
          if 0 ≤ x3 then
            bd1 (rd (st47.2.1 66) 8 x3) fun v50 =>
            some (some v50, st47)
          else
            some (some (st47.1 60 10), st47)
        else
          bd2 (L_need st38 1 2) fun o53 st52 =>
          onx o53 (
            some (none, st52)
          ) fun _ =>
          if 0 ≤ x3 then
            bd1 (rd (st52.2.1 66) 8 x3) fun v55 =>
            some (some v55, st52)
          else
            some (some (st52.1 60 10), st52)
    else
      bd2 (L_need st4 0 3) fun o10 st9 =>
      onx o10 (
        some (none, st9)
      ) fun _ =>
      bd1 (T_become 2 0 st9) fun st11 =>
      bd1 (zr x2) fun w12 =>
      bd1 (L_goesOn N (csF (csF st11 60 11 x2) 60 10 (-1)) x1 0) fun st14 =>
      if (st14.1 60 10) = (-1) then
        bd2 (L_need st14 0 2) fun o18 st17 =>
        onx o18 (
          some (none, st17)
        ) fun _ =>
        if 0 ≤ x3 then
          bd1 (rd (st17.2.1 66) 8 x3) fun v20 =>
          some (some v20, st17)
        else
          some (some (st17.1 60 10), st17)
      else
        if (st14.1 60 10) ≤ x3 then
          bd2 (L_need st14 0 2) fun o24 st23 =>
          onx o24 (
            some (none, st23)
          ) fun _ =>
          if 0 ≤ x3 then
            bd1 (rd (st23.2.1 66) 8 x3) fun v26 =>
            some (some v26, st23)
          else
            some (some (st23.1 60 10), st23)
        else
          bd2 (L_need st14 1 2) fun o29 st28 =>
          onx o29 (
            some (none, st28)
          ) fun _ =>
          if 0 ≤ x3 then
            bd1 (rd (st28.2.1 66) 8 x3) fun v31 =>
            some (some v31, st28)
          else
            some (some (st28.1 60 10), st28)
  else
    bd1 (L_in x3 (-1) 7) fun v56 =>
    if v56 = 0 then
      bd2 (L_need st 0 1) fun o60 st59 =>
      onx o60 (
        some (none, st59)
      ) fun _ =>
      bd1 (rd (st59.2.1 (20 * 0 + 7)) 4 x1) fun v61 =>
      if v61 = 0 then
        bd2 (L_need st59 1 3) fun o89 st88 =>
        onx o89 (
          some (none, st88)
        ) fun _ =>
        bd1 (T_become 2 0 st88) fun st90 =>
        bd1 (zr x2) fun w91 =>
        bd1 (L_goesOn N (csF (csF st90 60 11 x2) 60 10 (-1)) x1 0) fun st93 =>
        if (st93.1 60 10) = (-1) then
          bd2 (L_need st93 0 2) fun o97 st96 =>
          onx o97 (
            some (none, st96)
          ) fun _ =>
          if 0 ≤ x3 then
            bd1 (rd (st96.2.1 66) 8 x3) fun v99 =>
            some (some v99, st96)
          else
            some (some (st96.1 60 10), st96)
        else
          if (st93.1 60 10) ≤ x3 then
            bd2 (L_need st93 0 2) fun o103 st102 =>
            onx o103 (
              some (none, st102)
            ) fun _ =>
            if 0 ≤ x3 then
              bd1 (rd (st102.2.1 66) 8 x3) fun v105 =>
              some (some v105, st102)
            else
              some (some (st102.1 60 10), st102)
          else
            bd2 (L_need st93 1 2) fun o108 st107 =>
            onx o108 (
              some (none, st107)
            ) fun _ =>
            if 0 ≤ x3 then
              bd1 (rd (st107.2.1 66) 8 x3) fun v110 =>
              some (some v110, st107)
            else
              some (some (st107.1 60 10), st107)
      else
        bd2 (L_need st59 0 3) fun o65 st64 =>
        onx o65 (
          some (none, st64)
        ) fun _ =>
        bd1 (T_become 2 0 st64) fun st66 =>
        bd1 (zr x2) fun w67 =>
        bd1 (L_goesOn N (csF (csF st66 60 11 x2) 60 10 (-1)) x1 0) fun st69 =>
        if (st69.1 60 10) = (-1) then
          bd2 (L_need st69 0 2) fun o73 st72 =>
          onx o73 (
            some (none, st72)
          ) fun _ =>
          if 0 ≤ x3 then
            bd1 (rd (st72.2.1 66) 8 x3) fun v75 =>
            some (some v75, st72)
          else
            some (some (st72.1 60 10), st72)
        else
          if (st69.1 60 10) ≤ x3 then
            bd2 (L_need st69 0 2) fun o79 st78 =>
            onx o79 (
              some (none, st78)
            ) fun _ =>
            if 0 ≤ x3 then
              bd1 (rd (st78.2.1 66) 8 x3) fun v81 =>
              some (some v81, st78)
            else
              some (some (st78.1 60 10), st78)
          else
            bd2 (L_need st69 1 2) fun o84 st83 =>
            onx o84 (
              some (none, st83)
            ) fun _ =>
            if 0 ≤ x3 then
              bd1 (rd (st83.2.1 66) 8 x3) fun v86 =>
              some (some v86, st83)
            else
              some (some (st83.1 60 10), st83)
    else
      bd2 (L_need st 1 1) fun o113 st112 =>
      onx o113 (
        some (none, st112)
      ) fun _ =>
      bd1 (rd (st112.2.1 (20 * 0 + 7)) 4 x1) fun v114 =>
      if v114 = 0 then
        bd2 (L_need st112 1 3) fun o142 st141 =>
        onx o142 (
          some (none, st141)
        ) fun _ =>
        bd1 (T_become 2 0 st141) fun st143 =>
        bd1 (zr x2) fun w144 =>
        bd1 (L_goesOn N (csF (csF st143 60 11 x2) 60 10 (-1)) x1 0) fun st146 =>
        if (st146.1 60 10) = (-1) then
          bd2 (L_need st146 0 2) fun o150 st149 =>
          onx o150 (
            some (none, st149)
          ) fun _ =>
          if 0 ≤ x3 then
            bd1 (rd (st149.2.1 66) 8 x3) fun v152 =>
            some (some v152, st149)
          else
            some (some (st149.1 60 10), st149)
        else
          if (st146.1 60 10) ≤ x3 then
            bd2 (L_need st146 0 2) fun o156 st155 =>
            onx o156 (
              some (none, st155)
            ) fun _ =>
            if 0 ≤ x3 then
              bd1 (rd (st155.2.1 66) 8 x3) fun v158 =>
              some (some v158, st155)
            else
              some (some (st155.1 60 10), st155)
          else
            bd2 (L_need st146 1 2) fun o161 st160 =>
            onx o161 (
              some (none, st160)
            ) fun _ =>
            if 0 ≤ x3 then
              bd1 (rd (st160.2.1 66) 8 x3) fun v163 =>
              some (some v163, st160)
            else
              some (some (st160.1 60 10), st160)
      else
        bd2 (L_need st112 0 3) fun o118 st117 =>
        onx o118 (
          some (none, st117)
        ) fun _ =>
        bd1 (T_become 2 0 st117) fun st119 =>
        bd1 (zr x2) fun w120 =>
        bd1 (L_goesOn N (csF (csF st119 60 11 x2) 60 10 (-1)) x1 0) fun st122 =>
        if (st122.1 60 10) = (-1) then
          bd2 (L_need st122 0 2) fun o126 st125 =>
          onx o126 (
            some (none, st125)
          ) fun _ =>
          if 0 ≤ x3 then
            bd1 (rd (st125.2.1 66) 8 x3) fun v128 =>
            some (some v128, st125)
          else
            some (some (st125.1 60 10), st125)
        else
          if (st122.1 60 10) ≤ x3 then
            bd2 (L_need st122 0 2) fun o132 st131 =>
            onx o132 (
              some (none, st131)
            ) fun _ =>
            if 0 ≤ x3 then
              bd1 (rd (st131.2.1 66) 8 x3) fun v134 =>
              some (some v134, st131)
            else
              some (some (st131.1 60 10), st131)
          else
            bd2 (L_need st122 1 2) fun o137 st136 =>
            onx o137 (
              some (none, st136)
            ) fun _ =>
            if 0 ≤ x3 then
              bd1 (rd (st136.2.1 66) 8 x3) fun v139 =>
              some (some v139, st136)
            else
              some (some (st136.1 60 10), st136)
def L_served (N : Nat) (st : CS) (x1 : Int32) (x2 : Int32) : Option (Int32 × CS) :=
  bd2 (L_rowOf N st x1 0 x2) fun o3 st2 =>
  onx o3 (
    bd2 (L_finds st2) fun v4 st5 =>
    some (v4, st5)
  ) fun v1 =>
  some (v1, st2)
def L_closed (N : Nat) (st : CS) (x1 : Int32) (x2 : Int32) : Option (Int32 × CS) :=
  bd2 (L_rowOf N st x1 1 x2) fun o3 st2 =>
  onx o3 (
    bd2 (L_finds st2) fun v4 st5 =>
    some (v4, st5)
  ) fun v1 =>
  some (v1, st2)
def L_debtorAt (st : CS) (x1 : Int32) (x2 : Int32) : Option (Option Nat × CS) :=
  bd1 (L_isDebtor st x1) fun v1 =>
  if v1 = 0 then
    bd2 (L_need st 0 1) fun o5 st4 =>
    onx o5 (
      some (none, st4)
    ) fun _ =>
    bd1 (rdq (st4.2.2.1 (20 * 0 + 17)) 4 x1) fun r6 =>
    onq r6 none fun a7 =>
    some (some a7, st4)
  else
    if x2 = 0 then
      bd2 (L_need st 0 1) fun o11 st10 =>
      onx o11 (
        some (none, st10)
      ) fun _ =>
      bd1 (rdq (st10.2.2.1 (20 * 0 + 17)) 4 x1) fun r12 =>
      onq r12 none fun a13 =>
      some (some a13, st10)
    else
      bd2 (L_need st 1 1) fun o16 st15 =>
      onx o16 (
        some (none, st15)
      ) fun _ =>
      bd1 (rdq (st15.2.2.1 (20 * 0 + 17)) 4 x1) fun r17 =>
      onq r17 none fun a18 =>
      some (some a18, st15)
def L_ofDebtor (N : Nat) (st : CS) (x1 : Int32) (x2 : Int32) : Option (Int32 × CS) :=
  bd1 (L_in x2 0 9) fun v1 =>
  bd2 (L_debtorAt st x1 v1) fun o4 st3 =>
  onx o4 (
    bd2 (L_finds st3) fun v5 st6 =>
    some (v5, st6)
  ) fun v2 =>
  if x2 = 0 then
    bd4 (dvOf (st3.2.2.2 (1000 + v2))) fun k8 tr9 dn10 dm11 =>
    bd1 (D_kind k8 dn10 dm11) fun v12 =>
    some (v12, st3)
  else
    if x2 = 1 then
      bd4 (dvOf (st3.2.2.2 (1000 + v2))) fun k14 tr15 dn16 dm17 =>
      some (dm17, st3)
    else
      if x2 = 2 then
        bd1 (L_isOn 0 N st3 x1 x2) fun v19 =>
        some (v19, st3)
      else
        if x2 = 3 then
          bd1 (L_isOn 0 N st3 x1 x2) fun v21 =>
          some (v21, st3)
        else
          if x2 = 4 then
            bd1 (L_isOn 0 N st3 x1 x2) fun v23 =>
            some (v23, st3)
          else
            if x2 = 5 then
              bd1 (L_isOn 0 N st3 x1 x2) fun v25 =>
              some (v25, st3)
            else
              if x2 = 6 then
                bd4 (dvOf (st3.2.2.2 (1000 + v2))) fun k27 tr28 dn29 dm30 =>
                bd1 (D_due k27 dn29 dm30) fun v31 =>
                some (v31, st3)
              else
                if x2 = 7 then
                  bd1 (L_isOn 0 N st3 x1 x2) fun v33 =>
                  some (v33, st3)
                else
                  if x2 = 8 then
                    bd1 (T_mayAll 0 N st3 x1) fun v35 =>
                    some (v35, st3)
                  else
                    if x2 = 9 then
                      bd2 (T_trust 0 N st3 x1) fun v37 st38 =>
                      some (v37, st38)
                    else
                      bd1 (L_isOn 0 N st3 x1 x2) fun v39 =>
                      some (v39, st3)
def L_as (st : CS) (x1 : Int32) (x2 : Int32) : Option (Int32 × CS) :=
  bd1 (L_in x2 0 6) fun v1 =>
  bd2 (L_debtorAt st x1 v1) fun o4 st3 =>
  onx o4 (
    bd2 (L_finds st3) fun v5 st6 =>
    some (v5, st6)
  ) fun v2 =>
  bd4 (dvOf (st3.2.2.2 (1000 + v2))) fun k7 tr8 dn9 dm10 =>
  bd1 (D_isOf k7 dn9 dm10 x2) fun v11 =>
  bd2 (L_need st3 v11 5) fun o14 st13 =>
  onx o14 (
    bd2 (L_finds st13) fun v15 st16 =>
    some (v15, st16)
  ) fun _ =>
  bd4 (dvOf (st13.2.2.2 (1000 + v2))) fun k17 tr18 dn19 dm20 =>
  some (dm20, st13)
