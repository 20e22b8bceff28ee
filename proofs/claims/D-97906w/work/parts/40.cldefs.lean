/-! ChapterLoan.voice: plain functions -/
set_option maxRecDepth 100000
def V_owes (k : Nat) (st : CS) (dn dm x : Int32) : Option (Int32 × CS) := match k with
  | 0 => V0_0_owes st dn dm x
  | 1 => V1_0_owes st dn dm x
  | 2 => V2_2_owes st dn dm x
  | 3 => V3_0_owes st dn dm x
  | 4 => V4_0_owes st dn dm x
  | 5 => V5_2_owes st dn dm x
  | _ => V6_0_owes st dn dm x
def V_writes (k : Nat) (st : CS) (dn dm x : Int32) : Option (Int32 × CS) := match k with
  | 0 => V0_0_writes st dn dm x
  | 1 => V1_1_writes st dn dm x
  | 2 => V2_0_writes st dn dm x
  | 3 => V3_0_writes st dn dm x
  | 4 => V4_4_writes st dn dm x
  | 5 => V5_0_writes st dn dm x
  | _ => V6_0_writes st dn dm x
def V_reads (k : Nat) (st : CS) (dn dm x : Int32) : Option (Int32 × CS) := match k with
  | 0 => V0_0_reads st dn dm x
  | 1 => V1_0_reads st dn dm x
  | 2 => V2_0_reads st dn dm x
  | 3 => V3_3_reads st dn dm x
  | 4 => V4_0_reads st dn dm x
  | 5 => V5_0_reads st dn dm x
  | _ => V6_6_reads st dn dm x
def V_tells (k : Nat) (st : CS) (dn dm x : Int32) : Option (Int32 × CS) := match k with
  | 0 => V0_0_tells st dn dm x
  | 1 => V1_0_tells st dn dm x
  | 2 => V2_0_tells st dn dm x
  | 3 => V3_0_tells st dn dm x
  | 4 => V4_0_tells st dn dm x
  | 5 => V5_5_tells st dn dm x
  | _ => V6_6_tells st dn dm x
def L_voice (tr0 : Nat) (st : CS) (x1 : Int32) (x2 : Int32) (x3 : Int32) : Option (Int32 × CS) :=
  bd1 (L_in x2 0 3) fun v1 =>
  bd2 (L_debtorAt st x1 v1) fun o4 st3 =>
  onx o4 (
    bd2 (L_finds st3) fun v5 st6 =>
    some (v5, st6)
  ) fun v2 =>
  if x2 = 0 then
    bd4 (dvOf ((csF st3 62 1 0).2.2.2 (1000 + v2))) fun k8 tr9 dn10 dm11 =>
    if tr9 = tr0 then
      bd2 (V_owes k8 (csF st3 62 1 0) dn10 dm11 x3) fun v12 st13 =>
      some (v12, st13)
    else
      none
  else
    if x2 = 1 then
      bd4 (dvOf ((csF st3 62 1 0).2.2.2 (1000 + v2))) fun k16 tr17 dn18 dm19 =>
      if tr17 = tr0 then
        bd2 (V_writes k16 (csF st3 62 1 0) dn18 dm19 x3) fun v20 st21 =>
        some (v20, st21)
      else
        none
    else
      if x2 = 2 then
        bd4 (dvOf ((csF st3 62 1 0).2.2.2 (1000 + v2))) fun k24 tr25 dn26 dm27 =>
        if tr25 = tr0 then
          bd2 (V_reads k24 (csF st3 62 1 0) dn26 dm27 x3) fun v28 st29 =>
          some (v28, st29)
        else
          none
      else
        bd4 (dvOf ((csF st3 62 1 0).2.2.2 (1000 + v2))) fun k31 tr32 dn33 dm34 =>
        if tr32 = tr0 then
          bd2 (V_tells k31 (csF st3 62 1 0) dn33 dm34 x3) fun v35 st36 =>
          some (v35, st36)
        else
          none
