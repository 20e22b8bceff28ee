/-! explains: plain functions -/
set_option maxRecDepth 100000
def L_explains_L56 (N : Nat) (cA : Nat → ClassId) (x1 : Nat) (x2 : Int32) (x4 : Int32) : Nat → CS → Int32 → Option (CS)
  | 0, _, _ => none
  | n + 1, st, x5 =>
    if 60 ≤ x5 then
      some st
    else
      bd1 (T_goes 2 N st) fun st14 =>
      L_explains_L56 N cA x1 x2 x4 n st14 (x5 + 1)
def L_explains_L105 (N : Nat) (cA : Nat → ClassId) (st : CS) (x1 : Nat) (x2 : Int32) (x4 : Int32) : Nat → Int32 → Int32 → Option (Int32)
  | 0, _, _ => none
  | n + 1, x5, x6 =>
    bd1 (S_size cA st x1) fun v19 =>
    if v19 ≤ x6 then
      some x5
    else
      if x5 = 0 then
        some x5
      else
        bd1 (S_get cA st x1 x6) fun v22 =>
        bd1 (T_factAt 2 st x2 (x4 + x6)) fun v23 =>
        if v22 = v23 then
          L_explains_L105 N cA st x1 x2 x4 n 1 (x6 + 1)
        else
          L_explains_L105 N cA st x1 x2 x4 n 0 (x6 + 1)
def L_explains (tr0 nx : Nat) (N : Nat) (cA : Nat → ClassId) (st : CS) (x1 : Nat) (x2 x3 : Int32) : Option (Int32 × CS) :=
  bd1 (T_become 2 0 st) fun st1 =>
  bd1 (rdq (st1.2.2.1 (20 * 0 + 17)) 4 x2) fun r2 =>
  onq r2 none fun a3 =>
  bd4 (dvOf (st1.2.2.2 (1000 + a3))) fun k4 tr5 dn6 dm7 =>
  bd1 (L_debtorOf tr0 nx st1 x3 x2 dm7) fun st8 =>
  if isDeb st8.2.2.2 nx = true then
    bd1 (wrq (st8.2.2.1 (20 * 2 + 17)) 4 x2 (some nx)) fun b9 =>
    bd1 (rd ((csQ st8 (20 * 2 + 17) b9).2.1 (20 * 0 + 8)) 4 x2) fun v11 =>
    bd1 (L_explains_L56 N cA x1 x2 v11 N (csQ st8 (20 * 2 + 17) b9) 0) fun st15 =>
    bd1 (S_size cA st15 x1) fun v16 =>
    bd1 (rd (st15.2.1 (20 * 2 + 8)) 4 x2) fun v17 =>
    if (v17 - v11) < v16 then
      bd1 (L_explains_L105 N cA st15 x1 x2 v11 N 0 0) fun z25 =>
      bd1 (zr z25) fun w26 =>
      some (w26, st15)
    else
      bd1 (L_explains_L105 N cA st15 x1 x2 v11 N 1 0) fun z28 =>
      bd1 (zr z28) fun w29 =>
      some (w29, st15)
  else
    none
