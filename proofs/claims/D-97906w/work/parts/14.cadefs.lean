/-! the component: statics: plain functions -/
set_option maxRecDepth 100000
def J_max (x0 : Int32) (x1 : Int32) : Option (Int32) :=
  if x0 < x1 then
    some x1
  else
    some x0
def J_min (x0 : Int32) (x1 : Int32) : Option (Int32) :=
  if x1 < x0 then
    some x1
  else
    some x0
def J_bitCount (x0 : Int32) : Option (Int32) :=
  bd1 (some (x0 - (((x0.toUInt32 >>> ((1 : Int32).toUInt32 &&& Int32.toUInt32 31)).toInt32) &&& 1431655765))) fun e1 =>
  bd1 (some ((e1 &&& 858993459) + (((e1.toUInt32 >>> ((2 : Int32).toUInt32 &&& Int32.toUInt32 31)).toInt32) &&& 858993459))) fun e2 =>
  bd1 (some ((e2 + ((e2.toUInt32 >>> ((4 : Int32).toUInt32 &&& Int32.toUInt32 31)).toInt32)) &&& 252645135)) fun e3 =>
  bd1 (some (e3 + ((e3.toUInt32 >>> ((8 : Int32).toUInt32 &&& Int32.toUInt32 31)).toInt32))) fun e4 =>
  bd1 (some (e4 + ((e4.toUInt32 >>> ((16 : Int32).toUInt32 &&& Int32.toUInt32 31)).toInt32))) fun e5 =>
  some (e5 &&& 63)
def J_ntz (x0 : Int32) : Option (Int32) :=
  if 0 < ((x0 ^^^ (-1)) &&& (x0 - 1)) then
    if ((x0 ^^^ (-1)) &&& (x0 - 1)) ≤ 65536 then
      if ((x0 ^^^ (-1)) &&& (x0 - 1)) ≤ 256 then
        if ((x0 ^^^ (-1)) &&& (x0 - 1)) ≤ 16 then
          if ((x0 ^^^ (-1)) &&& (x0 - 1)) ≤ 4 then
            some (1 + ((((x0 ^^^ (-1)) &&& (x0 - 1)).toUInt32 >>> ((1 : Int32).toUInt32 &&& Int32.toUInt32 31)).toInt32))
          else
            bd1 (some ((((x0 ^^^ (-1)) &&& (x0 - 1)).toUInt32 >>> ((2 : Int32).toUInt32 &&& Int32.toUInt32 31)).toInt32)) fun e6 =>
            some (3 + ((e6.toUInt32 >>> ((1 : Int32).toUInt32 &&& Int32.toUInt32 31)).toInt32))
        else
          bd1 (some ((((x0 ^^^ (-1)) &&& (x0 - 1)).toUInt32 >>> ((4 : Int32).toUInt32 &&& Int32.toUInt32 31)).toInt32)) fun e7 =>
          if e7 ≤ 4 then
            some (5 + ((e7.toUInt32 >>> ((1 : Int32).toUInt32 &&& Int32.toUInt32 31)).toInt32))
          else
            bd1 (some ((e7.toUInt32 >>> ((2 : Int32).toUInt32 &&& Int32.toUInt32 31)).toInt32)) fun e9 =>
            some (7 + ((e9.toUInt32 >>> ((1 : Int32).toUInt32 &&& Int32.toUInt32 31)).toInt32))
      else
        bd1 (some ((((x0 ^^^ (-1)) &&& (x0 - 1)).toUInt32 >>> ((8 : Int32).toUInt32 &&& Int32.toUInt32 31)).toInt32)) fun e10 =>
        if e10 ≤ 16 then
          if e10 ≤ 4 then
            some (9 + ((e10.toUInt32 >>> ((1 : Int32).toUInt32 &&& Int32.toUInt32 31)).toInt32))
          else
            bd1 (some ((e10.toUInt32 >>> ((2 : Int32).toUInt32 &&& Int32.toUInt32 31)).toInt32)) fun e13 =>
            some (11 + ((e13.toUInt32 >>> ((1 : Int32).toUInt32 &&& Int32.toUInt32 31)).toInt32))
        else
          bd1 (some ((e10.toUInt32 >>> ((4 : Int32).toUInt32 &&& Int32.toUInt32 31)).toInt32)) fun e14 =>
          if e14 ≤ 4 then
            some (13 + ((e14.toUInt32 >>> ((1 : Int32).toUInt32 &&& Int32.toUInt32 31)).toInt32))
          else
            bd1 (some ((e14.toUInt32 >>> ((2 : Int32).toUInt32 &&& Int32.toUInt32 31)).toInt32)) fun e16 =>
            some (15 + ((e16.toUInt32 >>> ((1 : Int32).toUInt32 &&& Int32.toUInt32 31)).toInt32))
    else
      bd1 (some ((((x0 ^^^ (-1)) &&& (x0 - 1)).toUInt32 >>> ((16 : Int32).toUInt32 &&& Int32.toUInt32 31)).toInt32)) fun e17 =>
      if e17 ≤ 256 then
        if e17 ≤ 16 then
          if e17 ≤ 4 then
            some (17 + ((e17.toUInt32 >>> ((1 : Int32).toUInt32 &&& Int32.toUInt32 31)).toInt32))
          else
            bd1 (some ((e17.toUInt32 >>> ((2 : Int32).toUInt32 &&& Int32.toUInt32 31)).toInt32)) fun e21 =>
            some (19 + ((e21.toUInt32 >>> ((1 : Int32).toUInt32 &&& Int32.toUInt32 31)).toInt32))
        else
          bd1 (some ((e17.toUInt32 >>> ((4 : Int32).toUInt32 &&& Int32.toUInt32 31)).toInt32)) fun e22 =>
          if e22 ≤ 4 then
            some (21 + ((e22.toUInt32 >>> ((1 : Int32).toUInt32 &&& Int32.toUInt32 31)).toInt32))
          else
            bd1 (some ((e22.toUInt32 >>> ((2 : Int32).toUInt32 &&& Int32.toUInt32 31)).toInt32)) fun e24 =>
            some (23 + ((e24.toUInt32 >>> ((1 : Int32).toUInt32 &&& Int32.toUInt32 31)).toInt32))
      else
        bd1 (some ((e17.toUInt32 >>> ((8 : Int32).toUInt32 &&& Int32.toUInt32 31)).toInt32)) fun e25 =>
        if e25 ≤ 16 then
          if e25 ≤ 4 then
            some (25 + ((e25.toUInt32 >>> ((1 : Int32).toUInt32 &&& Int32.toUInt32 31)).toInt32))
          else
            bd1 (some ((e25.toUInt32 >>> ((2 : Int32).toUInt32 &&& Int32.toUInt32 31)).toInt32)) fun e28 =>
            some (27 + ((e28.toUInt32 >>> ((1 : Int32).toUInt32 &&& Int32.toUInt32 31)).toInt32))
        else
          bd1 (some ((e25.toUInt32 >>> ((4 : Int32).toUInt32 &&& Int32.toUInt32 31)).toInt32)) fun e29 =>
          if e29 ≤ 4 then
            some (29 + ((e29.toUInt32 >>> ((1 : Int32).toUInt32 &&& Int32.toUInt32 31)).toInt32))
          else
            bd1 (some ((e29.toUInt32 >>> ((2 : Int32).toUInt32 &&& Int32.toUInt32 31)).toInt32)) fun e31 =>
            some (31 + ((e31.toUInt32 >>> ((1 : Int32).toUInt32 &&& Int32.toUInt32 31)).toInt32))
  else
    some (((x0 ^^^ (-1)) &&& (x0 - 1)) &&& 32)
def L_in (x0 : Int32) (x1 : Int32) (x2 : Int32) : Option (Int32) :=
  if x0 < x1 then
    some 0
  else
    if x2 < x0 then
      some 0
    else
      some 1
def L_isIn (x0 : Int32) (x1 : Int32) : Option (Int32) :=
  if ((x0 >>> (x1 &&& 31)) &&& 1) = 1 then
    some 1
  else
    some 0
def L_isFigure (x0 : Int32) : Option (Int32) :=
  bd1 (L_in x0 0 4) fun v1 =>
  zr v1
def L_isWeek (x0 : Int32) : Option (Int32) :=
  bd1 (L_in x0 0 999) fun v1 =>
  zr v1
def L_isKind (x0 : Int32) : Option (Int32) :=
  bd1 (L_in x0 0 69) fun v1 =>
  zr v1
def L_isSheet (x0 : Int32) : Option (Int32) :=
  bd1 (L_in x0 0 3) fun v1 =>
  zr v1
def L_isWidth (x0 : Int32) : Option (Int32) :=
  if x0 = 8 then
    some 1
  else
    if x0 = 16 then
      some 1
    else
      if x0 = 32 then
        some 1
      else
        some 0
def L_held (x0 : Int32) (x1 : Int32) (x2 : Int32) : Option (Int32) :=
  bd1 (J_min x2 x0) fun v1 =>
  bd1 (J_max x1 v1) fun v2 =>
  some v2
def L_is (x0 : Int32) : Option (Int32) :=
  if x0 = 0 then
    some 0
  else
    some 1
