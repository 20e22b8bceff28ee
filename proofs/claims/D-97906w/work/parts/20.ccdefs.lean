/-! debtors: plain functions -/
set_option maxRecDepth 100000
def B0_kind (dn dm : Int32) : Option (Int32) :=
  some 0
def B1_kind (dn dm : Int32) : Option (Int32) :=
  some 1
def B2_kind (dn dm : Int32) : Option (Int32) :=
  some 2
def B3_kind (dn dm : Int32) : Option (Int32) :=
  some 3
def B4_kind (dn dm : Int32) : Option (Int32) :=
  some 4
def B5_kind (dn dm : Int32) : Option (Int32) :=
  some 5
def B6_kind (dn dm : Int32) : Option (Int32) :=
  some 6
def D_kind (k : Nat) (dn dm : Int32) : Option (Int32) := match k with
  | 0 => B0_kind dn dm 
  | 1 => B1_kind dn dm 
  | 2 => B2_kind dn dm 
  | 3 => B3_kind dn dm 
  | 4 => B4_kind dn dm 
  | 5 => B5_kind dn dm 
  | _ => B6_kind dn dm 
def B0_isOf (dn dm : Int32) (x1 : Int32) : Option (Int32) :=
  if x1 = 0 then
    some 1
  else
    some 0
def B1_isOf (dn dm : Int32) (x1 : Int32) : Option (Int32) :=
  if x1 = 1 then
    some 1
  else
    bd1 (B0_isOf dn dm x1) fun v2 =>
    if v2 = 0 then
      some 0
    else
      some 1
def B2_isOf (dn dm : Int32) (x1 : Int32) : Option (Int32) :=
  if x1 = 2 then
    some 1
  else
    bd1 (B0_isOf dn dm x1) fun v2 =>
    if v2 = 0 then
      some 0
    else
      some 1
def B3_isOf (dn dm : Int32) (x1 : Int32) : Option (Int32) :=
  if x1 = 3 then
    some 1
  else
    bd1 (B0_isOf dn dm x1) fun v2 =>
    if v2 = 0 then
      some 0
    else
      some 1
def B4_isOf (dn dm : Int32) (x1 : Int32) : Option (Int32) :=
  if x1 = 4 then
    some 1
  else
    bd1 (B1_isOf dn dm x1) fun v2 =>
    if v2 = 0 then
      some 0
    else
      some 1
def B5_isOf (dn dm : Int32) (x1 : Int32) : Option (Int32) :=
  if x1 = 5 then
    some 1
  else
    bd1 (B2_isOf dn dm x1) fun v2 =>
    if v2 = 0 then
      some 0
    else
      some 1
def B6_isOf (dn dm : Int32) (x1 : Int32) : Option (Int32) :=
  if x1 = 6 then
    some 1
  else
    bd1 (B3_isOf dn dm x1) fun v2 =>
    if v2 = 0 then
      some 0
    else
      some 1
def D_isOf (k : Nat) (dn dm : Int32) (a0 : Int32) : Option (Int32) := match k with
  | 0 => B0_isOf dn dm a0
  | 1 => B1_isOf dn dm a0
  | 2 => B2_isOf dn dm a0
  | 3 => B3_isOf dn dm a0
  | 4 => B4_isOf dn dm a0
  | 5 => B5_isOf dn dm a0
  | _ => B6_isOf dn dm a0
def B0_may (dn dm : Int32) (x1 : Int32) (x2 : Int32) (x3 : Int32) (x4 : Int32) : Option (Int32) :=
  if x2 = 0 then
    if x3 = 0 then
      some 0
    else
      some 1
  else
    some 0
def B1_may (dn dm : Int32) (x1 : Int32) (x2 : Int32) (x3 : Int32) (x4 : Int32) : Option (Int32) :=
  bd1 (B0_may dn dm x1 x2 x3 x4) fun v1 =>
  if v1 = 0 then
    if x4 = 0 then
      some 0
    else
      if x3 = 0 then
        some 0
      else
        some 1
  else
    some 1
def B2_may (dn dm : Int32) (x1 : Int32) (x2 : Int32) (x3 : Int32) (x4 : Int32) : Option (Int32) :=
  if (dm - dm / 3 * 3) < x2 then
    some 0
  else
    if x3 = 0 then
      some 0
    else
      some 1
def B3_may (dn dm : Int32) (x1 : Int32) (x2 : Int32) (x3 : Int32) (x4 : Int32) : Option (Int32) :=
  if x2 = 0 then
    some 1
  else
    some 0
def B5_may (dn dm : Int32) (x1 : Int32) (x2 : Int32) (x3 : Int32) (x4 : Int32) : Option (Int32) :=
  if x1 = dm then
    some 0
  else
    bd1 (B2_may dn dm x1 x2 x3 x4) fun v2 =>
    if v2 = 0 then
      some 0
    else
      some 1
def B6_may (dn dm : Int32) (x1 : Int32) (x2 : Int32) (x3 : Int32) (x4 : Int32) : Option (Int32) :=
  bd1 (B3_may dn dm x1 x2 x3 x4) fun v1 =>
  if v1 = 0 then
    some 0
  else
    if x3 = 0 then
      if (dm - dm / 2 * 2) = 1 then
        some 1
      else
        some 0
    else
      some 1
def D_may (k : Nat) (dn dm : Int32) (a0 : Int32) (a1 : Int32) (a2 : Int32) (a3 : Int32) : Option (Int32) := match k with
  | 0 => B0_may dn dm a0 a1 a2 a3
  | 1 => B1_may dn dm a0 a1 a2 a3
  | 2 => B2_may dn dm a0 a1 a2 a3
  | 3 => B3_may dn dm a0 a1 a2 a3
  | 4 => B1_may dn dm a0 a1 a2 a3
  | 5 => B5_may dn dm a0 a1 a2 a3
  | _ => B6_may dn dm a0 a1 a2 a3
def B0_due (dn dm : Int32) : Option (Int32) :=
  some 1
def B3_due (dn dm : Int32) : Option (Int32) :=
  some 2
def B4_due (dn dm : Int32) : Option (Int32) :=
  bd1 (B0_due dn dm) fun v1 =>
  some (v1 + (dm - dm / 2 * 2))
def B6_due (dn dm : Int32) : Option (Int32) :=
  bd1 (B3_due dn dm) fun v1 =>
  some (v1 - (dm - dm / 2 * 2))
def D_due (k : Nat) (dn dm : Int32) : Option (Int32) := match k with
  | 0 => B0_due dn dm 
  | 1 => B0_due dn dm 
  | 2 => B0_due dn dm 
  | 3 => B3_due dn dm 
  | 4 => B4_due dn dm 
  | 5 => B0_due dn dm 
  | _ => B6_due dn dm 
def B0_pays (dn dm : Int32) (x1 : Int32) : Option (Int32) :=
  some x1
def B1_pays (dn dm : Int32) (x1 : Int32) : Option (Int32) :=
  bd1 (B0_pays dn dm x1) fun v1 =>
  some (v1 / 2)
def B5_pays (dn dm : Int32) (x1 : Int32) : Option (Int32) :=
  bd1 (B0_pays dn dm x1) fun v1 =>
  some (2 * v1)
def D_pays (k : Nat) (dn dm : Int32) (a0 : Int32) : Option (Int32) := match k with
  | 0 => B0_pays dn dm a0
  | 1 => B1_pays dn dm a0
  | 2 => B0_pays dn dm a0
  | 3 => B0_pays dn dm a0
  | 4 => B1_pays dn dm a0
  | 5 => B5_pays dn dm a0
  | _ => B0_pays dn dm a0
