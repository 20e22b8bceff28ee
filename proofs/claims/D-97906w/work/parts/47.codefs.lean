/-! debtor, become: plain functions -/
set_option maxRecDepth 100000
def L_debtor (tr0 nx : Nat) (st : CS) (x1 x2 : Int32) : Option (Int32 × CS) :=
  bd1 (L_isKind x1) fun v1 =>
  if v1 = 0 then
    bd2 (L_need st 0 1) fun o5 st4 =>
    onx o5 (
      bd2 (L_finds st4) fun v6 st7 =>
      some (v6, st7)
    ) fun _ =>
    if 4 ≤ (st4.1 (20 * 0) 6) then
      bd2 (L_need st4 0 4) fun o11 st10 =>
      onx o11 (
        bd2 (L_finds st10) fun v12 st13 =>
        some (v12, st13)
      ) fun _ =>
      bd1 (L_debtorOf tr0 nx st10 (x1 / 10) (st10.1 (20 * 0) 6) (x1 - x1 / 10 * 10)) fun st14 =>
      if isDeb st14.2.2.2 nx = true then
        bd1 (wrq (st14.2.2.1 (20 * 0 + 17)) 4 (st10.1 (20 * 0) 6) (some nx)) fun b15 =>
        bd1 (wr ((csQ st14 (20 * 0 + 17) b15).2.1 (20 * 0 + 6)) 4 (st10.1 (20 * 0) 6) x2) fun b17 =>
        bd1 (wr ((csA (csQ st14 (20 * 0 + 17) b15) (20 * 0 + 6) b17).2.1 (20 * 0 + 7)) 4 (st10.1 (20 * 0) 6) 0) fun b18 =>
        bd1 (wr ((csA (csA (csQ st14 (20 * 0 + 17) b15) (20 * 0 + 6) b17) (20 * 0 + 7) b18).2.1 (20 * 0 + 8)) 4 (st10.1 (20 * 0) 6) 0) fun b19 =>
        some (st10.1 (20 * 0) 6, csF (csA (csA (csA (csQ st14 (20 * 0 + 17) b15) (20 * 0 + 6) b17) (20 * 0 + 7) b18) (20 * 0 + 8) b19) (20 * 0) 6 (((csA (csA (csA (csQ st14 (20 * 0 + 17) b15) (20 * 0 + 6) b17) (20 * 0 + 7) b18) (20 * 0 + 8) b19).1 (20 * 0) 6) + 1))
      else
        none
    else
      bd2 (L_need st4 1 4) fun o22 st21 =>
      onx o22 (
        bd2 (L_finds st21) fun v23 st24 =>
        some (v23, st24)
      ) fun _ =>
      bd1 (L_debtorOf tr0 nx st21 (x1 / 10) (st21.1 (20 * 0) 6) (x1 - x1 / 10 * 10)) fun st25 =>
      if isDeb st25.2.2.2 nx = true then
        bd1 (wrq (st25.2.2.1 (20 * 0 + 17)) 4 (st21.1 (20 * 0) 6) (some nx)) fun b26 =>
        bd1 (wr ((csQ st25 (20 * 0 + 17) b26).2.1 (20 * 0 + 6)) 4 (st21.1 (20 * 0) 6) x2) fun b28 =>
        bd1 (wr ((csA (csQ st25 (20 * 0 + 17) b26) (20 * 0 + 6) b28).2.1 (20 * 0 + 7)) 4 (st21.1 (20 * 0) 6) 0) fun b29 =>
        bd1 (wr ((csA (csA (csQ st25 (20 * 0 + 17) b26) (20 * 0 + 6) b28) (20 * 0 + 7) b29).2.1 (20 * 0 + 8)) 4 (st21.1 (20 * 0) 6) 0) fun b30 =>
        some (st21.1 (20 * 0) 6, csF (csA (csA (csA (csQ st25 (20 * 0 + 17) b26) (20 * 0 + 6) b28) (20 * 0 + 7) b29) (20 * 0 + 8) b30) (20 * 0) 6 (((csA (csA (csA (csQ st25 (20 * 0 + 17) b26) (20 * 0 + 6) b28) (20 * 0 + 7) b29) (20 * 0 + 8) b30).1 (20 * 0) 6) + 1))
      else
        none
  else
    bd1 (L_in x2 0 9999) fun v31 =>
    if v31 = 0 then
      bd2 (L_need st 0 1) fun o35 st34 =>
      onx o35 (
        bd2 (L_finds st34) fun v36 st37 =>
        some (v36, st37)
      ) fun _ =>
      if 4 ≤ (st34.1 (20 * 0) 6) then
        bd2 (L_need st34 0 4) fun o41 st40 =>
        onx o41 (
          bd2 (L_finds st40) fun v42 st43 =>
          some (v42, st43)
        ) fun _ =>
        bd1 (L_debtorOf tr0 nx st40 (x1 / 10) (st40.1 (20 * 0) 6) (x1 - x1 / 10 * 10)) fun st44 =>
        if isDeb st44.2.2.2 nx = true then
          bd1 (wrq (st44.2.2.1 (20 * 0 + 17)) 4 (st40.1 (20 * 0) 6) (some nx)) fun b45 =>
          bd1 (wr ((csQ st44 (20 * 0 + 17) b45).2.1 (20 * 0 + 6)) 4 (st40.1 (20 * 0) 6) x2) fun b47 =>
          bd1 (wr ((csA (csQ st44 (20 * 0 + 17) b45) (20 * 0 + 6) b47).2.1 (20 * 0 + 7)) 4 (st40.1 (20 * 0) 6) 0) fun b48 =>
          bd1 (wr ((csA (csA (csQ st44 (20 * 0 + 17) b45) (20 * 0 + 6) b47) (20 * 0 + 7) b48).2.1 (20 * 0 + 8)) 4 (st40.1 (20 * 0) 6) 0) fun b49 =>
          some (st40.1 (20 * 0) 6, csF (csA (csA (csA (csQ st44 (20 * 0 + 17) b45) (20 * 0 + 6) b47) (20 * 0 + 7) b48) (20 * 0 + 8) b49) (20 * 0) 6 (((csA (csA (csA (csQ st44 (20 * 0 + 17) b45) (20 * 0 + 6) b47) (20 * 0 + 7) b48) (20 * 0 + 8) b49).1 (20 * 0) 6) + 1))
        else
          none
      else
        bd2 (L_need st34 1 4) fun o52 st51 =>
        onx o52 (
          bd2 (L_finds st51) fun v53 st54 =>
          some (v53, st54)
        ) fun _ =>
        bd1 (L_debtorOf tr0 nx st51 (x1 / 10) (st51.1 (20 * 0) 6) (x1 - x1 / 10 * 10)) fun st55 =>
        if isDeb st55.2.2.2 nx = true then
          bd1 (wrq (st55.2.2.1 (20 * 0 + 17)) 4 (st51.1 (20 * 0) 6) (some nx)) fun b56 =>
          bd1 (wr ((csQ st55 (20 * 0 + 17) b56).2.1 (20 * 0 + 6)) 4 (st51.1 (20 * 0) 6) x2) fun b58 =>
          bd1 (wr ((csA (csQ st55 (20 * 0 + 17) b56) (20 * 0 + 6) b58).2.1 (20 * 0 + 7)) 4 (st51.1 (20 * 0) 6) 0) fun b59 =>
          bd1 (wr ((csA (csA (csQ st55 (20 * 0 + 17) b56) (20 * 0 + 6) b58) (20 * 0 + 7) b59).2.1 (20 * 0 + 8)) 4 (st51.1 (20 * 0) 6) 0) fun b60 =>
          some (st51.1 (20 * 0) 6, csF (csA (csA (csA (csQ st55 (20 * 0 + 17) b56) (20 * 0 + 6) b58) (20 * 0 + 7) b59) (20 * 0 + 8) b60) (20 * 0) 6 (((csA (csA (csA (csQ st55 (20 * 0 + 17) b56) (20 * 0 + 6) b58) (20 * 0 + 7) b59) (20 * 0 + 8) b60).1 (20 * 0) 6) + 1))
        else
          none
    else
      bd2 (L_need st 1 1) fun o63 st62 =>
      onx o63 (
        bd2 (L_finds st62) fun v64 st65 =>
        some (v64, st65)
      ) fun _ =>
      if 4 ≤ (st62.1 (20 * 0) 6) then
        bd2 (L_need st62 0 4) fun o69 st68 =>
        onx o69 (
          bd2 (L_finds st68) fun v70 st71 =>
          some (v70, st71)
        ) fun _ =>
        bd1 (L_debtorOf tr0 nx st68 (x1 / 10) (st68.1 (20 * 0) 6) (x1 - x1 / 10 * 10)) fun st72 =>
        if isDeb st72.2.2.2 nx = true then
          bd1 (wrq (st72.2.2.1 (20 * 0 + 17)) 4 (st68.1 (20 * 0) 6) (some nx)) fun b73 =>
          bd1 (wr ((csQ st72 (20 * 0 + 17) b73).2.1 (20 * 0 + 6)) 4 (st68.1 (20 * 0) 6) x2) fun b75 =>
          bd1 (wr ((csA (csQ st72 (20 * 0 + 17) b73) (20 * 0 + 6) b75).2.1 (20 * 0 + 7)) 4 (st68.1 (20 * 0) 6) 0) fun b76 =>
          bd1 (wr ((csA (csA (csQ st72 (20 * 0 + 17) b73) (20 * 0 + 6) b75) (20 * 0 + 7) b76).2.1 (20 * 0 + 8)) 4 (st68.1 (20 * 0) 6) 0) fun b77 =>
          some (st68.1 (20 * 0) 6, csF (csA (csA (csA (csQ st72 (20 * 0 + 17) b73) (20 * 0 + 6) b75) (20 * 0 + 7) b76) (20 * 0 + 8) b77) (20 * 0) 6 (((csA (csA (csA (csQ st72 (20 * 0 + 17) b73) (20 * 0 + 6) b75) (20 * 0 + 7) b76) (20 * 0 + 8) b77).1 (20 * 0) 6) + 1))
        else
          none
      else
        bd2 (L_need st62 1 4) fun o80 st79 =>
        onx o80 (
          bd2 (L_finds st79) fun v81 st82 =>
          some (v81, st82)
        ) fun _ =>
        bd1 (L_debtorOf tr0 nx st79 (x1 / 10) (st79.1 (20 * 0) 6) (x1 - x1 / 10 * 10)) fun st83 =>
        if isDeb st83.2.2.2 nx = true then
          bd1 (wrq (st83.2.2.1 (20 * 0 + 17)) 4 (st79.1 (20 * 0) 6) (some nx)) fun b84 =>
          bd1 (wr ((csQ st83 (20 * 0 + 17) b84).2.1 (20 * 0 + 6)) 4 (st79.1 (20 * 0) 6) x2) fun b86 =>
          bd1 (wr ((csA (csQ st83 (20 * 0 + 17) b84) (20 * 0 + 6) b86).2.1 (20 * 0 + 7)) 4 (st79.1 (20 * 0) 6) 0) fun b87 =>
          bd1 (wr ((csA (csA (csQ st83 (20 * 0 + 17) b84) (20 * 0 + 6) b86) (20 * 0 + 7) b87).2.1 (20 * 0 + 8)) 4 (st79.1 (20 * 0) 6) 0) fun b88 =>
          some (st79.1 (20 * 0) 6, csF (csA (csA (csA (csQ st83 (20 * 0 + 17) b84) (20 * 0 + 6) b86) (20 * 0 + 7) b87) (20 * 0 + 8) b88) (20 * 0) 6 (((csA (csA (csA (csQ st83 (20 * 0 + 17) b84) (20 * 0 + 6) b86) (20 * 0 + 7) b87) (20 * 0 + 8) b88).1 (20 * 0) 6) + 1))
        else
          none
def L_become (tr0 nx : Nat) (st : CS) (x1 x2 : Int32) : Option (Int32 × CS) :=
  bd1 (L_isKind x2) fun v1 =>
  bd2 (L_debtorAt st x1 v1) fun o4 st3 =>
  onx o4 (
    bd2 (L_finds st3) fun v5 st6 =>
    some (v5, st6)
  ) fun v2 =>
  bd1 (L_debtorOf tr0 nx st3 (x2 / 10) x1 (x2 - x2 / 10 * 10)) fun st7 =>
  if isDeb st7.2.2.2 nx = true then
    bd1 (wrq (st7.2.2.1 (20 * 0 + 17)) 4 x1 (some nx)) fun b8 =>
    bd4 (dvOf ((csQ st7 (20 * 0 + 17) b8).2.2.2 (1000 + v2))) fun k10 tr11 dn12 dm13 =>
    bd1 (D_kind k10 dn12 dm13) fun v14 =>
    some (v14, csQ st7 (20 * 0 + 17) b8)
  else
    none
