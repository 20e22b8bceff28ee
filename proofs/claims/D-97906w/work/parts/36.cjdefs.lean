/-! ChapterLoan: sheets read and written: plain functions -/
set_option maxRecDepth 100000
def L_sheetAt (cA : Nat → ClassId) (st : CS) (x1 : Int32) : Option (Option Nat × CS) :=
  bd1 (rdi 4 x1) fun j1 =>
  bd1 (some (st.2.2.1 (69 + j1) 0)) fun r2 =>
  onq r2 (
    bd2 (L_need st 0 2) fun o6 st5 =>
    onx o6 (
      some (none, st5)
    ) fun _ =>
    bd1 (rdi 4 x1) fun j7 =>
    bd1 (some (st5.2.2.1 (69 + j7) 0)) fun r8 =>
    onq r8 none fun a9 =>
    bd4 (shOf cA st5.2.2.2 a9) fun w10 b11 n12 f13 =>
    some (some a9, st5)
  ) fun a3 =>
  bd2 (L_need st 1 2) fun o16 st15 =>
  onx o16 (
    some (none, st15)
  ) fun _ =>
  bd1 (rdi 4 x1) fun j17 =>
  bd1 (some (st15.2.2.1 (69 + j17) 0)) fun r18 =>
  onq r18 none fun a19 =>
  bd4 (shOf cA st15.2.2.2 a19) fun w20 b21 n22 f23 =>
  some (some a19, st15)
def L_reads_L17 (N : Nat) (cA : Nat → ClassId) (x2 : Nat) : Nat → CS → Int32 → Option (CS × Int32)
  | 0, _, _ => none
  | n + 1, st, x3 =>
    bd1 (S_size cA st x2) fun v12 =>
    if v12 ≤ x3 then
      some (st, x3)
    else
      bd1 (L_isDebtor st 0) fun v14 =>
      if v14 = 0 then
        some (st, x3)
      else
        bd1 (S_get cA st x2 x3) fun v16 =>
        bd1 (L_isFact st v16) fun v17 =>
        if v17 = 0 then
          some (st, x3)
        else
          bd1 (S_get cA st x2 x3) fun v19 =>
          bd1 (L_canTell N st 0 v19) fun v20 =>
          if v20 = 0 then
            some (st, x3)
          else
            bd1 (S_get cA st x2 x3) fun v22 =>
            bd1 (T_tells 0 st 0 v22) fun st24 =>
            L_reads_L17 N cA x2 n st24 (x3 + 1)
def L_reads (cA : Nat → ClassId) (N : Nat) (st : CS) (x1 : Int32) : Option (Int32 × CS) :=
  bd1 (L_isSheet x1) fun v1 =>
  bd2 (L_need st v1 1) fun o4 st3 =>
  onx o4 (
    bd2 (L_finds st3) fun v5 st6 =>
    some (v5, st6)
  ) fun _ =>
  bd2 (L_sheetAt cA st3 x1) fun o9 st8 =>
  onx o9 (
    bd2 (L_finds st8) fun v10 st11 =>
    some (v10, st11)
  ) fun v7 =>
  bd2 (L_reads_L17 N cA v7 N st8 0) fun st25 z26 =>
  some (z26, st25)
def L_judge_L45 (N : Nat) (cA : Nat → ClassId) (st : CS) (x2 : Int32) (x3 : Nat) (x4 : Int32) : Nat → Int32 → Option (Int32)
  | 0, _ => none
  | n + 1, x5 =>
    bd1 (S_size cA st x3) fun v14 =>
    if v14 ≤ x5 then
      some x5
    else
      if x4 ≤ x5 then
        some x5
      else
        bd1 (S_get cA st x3 x5) fun v17 =>
        bd1 (T_factAt 0 st x2 x5) fun v18 =>
        if v17 = v18 then
          L_judge_L45 N cA st x2 x3 x4 n (x5 + 1)
        else
          some x5
def L_judge (cA : Nat → ClassId) (N : Nat) (st : CS) (x1 : Int32) (x2 : Int32) : Option (Int32 × CS) :=
  bd1 (L_isSheet x1) fun v1 =>
  if v1 = 0 then
    bd2 (L_need st 0 1) fun o5 st4 =>
    onx o5 (
      bd2 (L_finds st4) fun v6 st7 =>
      some (v6, st7)
    ) fun _ =>
    bd2 (L_sheetAt cA st4 x1) fun o10 st9 =>
    onx o10 (
      bd2 (L_finds st9) fun v11 st12 =>
      some (v11, st12)
    ) fun v8 =>
    bd1 (rd (st9.2.1 (20 * 0 + 8)) 4 x2) fun v13 =>
    bd1 (L_judge_L45 N cA st9 x2 v8 v13 N 0) fun z20 =>
    bd1 (S_size cA st9 v8) fun v21 =>
    if z20 = v21 then
      if z20 = v13 then
        some ((-1), st9)
      else
        some (z20, st9)
    else
      some (z20, st9)
  else
    bd1 (L_isDebtor st x2) fun v25 =>
    if v25 = 0 then
      bd2 (L_need st 0 1) fun o29 st28 =>
      onx o29 (
        bd2 (L_finds st28) fun v30 st31 =>
        some (v30, st31)
      ) fun _ =>
      bd2 (L_sheetAt cA st28 x1) fun o34 st33 =>
      onx o34 (
        bd2 (L_finds st33) fun v35 st36 =>
        some (v35, st36)
      ) fun v32 =>
      bd1 (rd (st33.2.1 (20 * 0 + 8)) 4 x2) fun v37 =>
      bd1 (L_judge_L45 N cA st33 x2 v32 v37 N 0) fun z38 =>
      bd1 (S_size cA st33 v32) fun v39 =>
      if z38 = v39 then
        if z38 = v37 then
          some ((-1), st33)
        else
          some (z38, st33)
      else
        some (z38, st33)
    else
      bd2 (L_need st 1 1) fun o45 st44 =>
      onx o45 (
        bd2 (L_finds st44) fun v46 st47 =>
        some (v46, st47)
      ) fun _ =>
      bd2 (L_sheetAt cA st44 x1) fun o50 st49 =>
      onx o50 (
        bd2 (L_finds st49) fun v51 st52 =>
        some (v51, st52)
      ) fun v48 =>
      bd1 (rd (st49.2.1 (20 * 0 + 8)) 4 x2) fun v53 =>
      bd1 (L_judge_L45 N cA st49 x2 v48 v53 N 0) fun z54 =>
      bd1 (S_size cA st49 v48) fun v55 =>
      if z54 = v55 then
        if z54 = v53 then
          some ((-1), st49)
        else
          some (z54, st49)
      else
        some (z54, st49)
def L_put (cA : Nat → ClassId) (st : CS) (x1 : Int32) (x2 : Int32) (x3 : Int32) : Option (Int32 × CS) :=
  bd1 (L_isSheet x1) fun v1 =>
  bd2 (L_need st v1 1) fun o4 st3 =>
  onx o4 (
    bd2 (L_finds st3) fun v5 st6 =>
    some (v5, st6)
  ) fun _ =>
  bd2 (L_sheetAt cA st3 x1) fun o9 st8 =>
  onx o9 (
    bd2 (L_finds st8) fun v10 st11 =>
    some (v10, st11)
  ) fun v7 =>
  bd1 (S_size cA st8 v7) fun v12 =>
  bd1 (L_in x2 0 (v12 - 1)) fun v13 =>
  bd2 (L_need st8 v13 1) fun o16 st15 =>
  onx o16 (
    bd2 (L_finds st15) fun v17 st18 =>
    some (v17, st18)
  ) fun _ =>
  bd1 (S_put cA st15 v7 x2 x3) fun st19 =>
  some (1, st19)
