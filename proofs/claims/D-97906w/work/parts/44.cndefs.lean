/-! debtorOf: plain functions -/
set_option maxRecDepth 100000
def L_debtorOf (tr0 nx : Nat) (st : CS) (x0 x2 x3 : Int32) : Option CS :=
  if x0 = 1 then
    some (csP st (1000 + nx) (.inr (7 + 1, [.ref tr0, .int x2, .int x3])))
  else
    if x0 = 2 then
      some (csP st (1000 + nx) (.inr (7 + 2, [.ref tr0, .int x2, .int x3])))
    else
      if x0 = 3 then
        some (csP st (1000 + nx) (.inr (7 + 3, [.ref tr0, .int x2, .int x3])))
      else
        if x0 = 4 then
          some (csP st (1000 + nx) (.inr (7 + 4, [.ref tr0, .int x2, .int x3])))
        else
          if x0 = 5 then
            some (csP st (1000 + nx) (.inr (7 + 5, [.ref tr0, .int x2, .int x3])))
          else
            if x0 = 6 then
              some (csP st (1000 + nx) (.inr (7 + 6, [.ref tr0, .int x2, .int x3])))
            else
              some (csP st (1000 + nx) (.inr (7 + 0, [.ref tr0, .int x2, .int x3])))
