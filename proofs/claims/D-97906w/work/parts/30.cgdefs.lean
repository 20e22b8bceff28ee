/-! ChapterLoan's own: plain functions -/
set_option maxRecDepth 100000
/-- a call that may throw -/
def onx {ρ β : Type} (o : Option ρ) (x : Option β) (f : ρ → Option β) : Option β := match o with
  | none => x
  | some a => f a
def L_isFact (st : CS) (x1 : Int32) : Option (Int32) :=
  bd1 (L_in x1 0 ((st.1 (20 * 0) 0) - 1)) fun v1 =>
  zr v1
def L_isDebtor (st : CS) (x1 : Int32) : Option (Int32) :=
  bd1 (L_in x1 0 ((st.1 (20 * 0) 6) - 1)) fun v1 =>
  zr v1
def L_need (st : CS) (x1 : Int32) (x2 : Int32) : Option (Option Unit × CS) :=
  if x1 = 0 then
    some (none, csF st 61 6 x2)
  else
    some (some (), st)
def L_finds (st : CS) : Option (Int32 × CS) :=
  bd1 (rd (st.2.1 64) 6 (st.1 61 6)) fun v1 =>
  bd1 (wr (st.2.1 64) 6 (st.1 61 6) (v1 + 1)) fun b2 =>
  some ((-1000000000) - ((csA st 64 b2).1 61 6), csA st 64 b2)
def L_isOn (t : Nat) (N : Nat) (st : CS) (x1 : Int32) (x2 : Int32) : Option (Int32) :=
  if x2 = 2 then
    bd1 (rd (st.2.1 (20 * t + 6)) 4 x1) fun v2 =>
    some v2
  else
    if x2 = 3 then
      bd1 (rd (st.2.1 (20 * t + 8)) 4 x1) fun v4 =>
      some v4
    else
      if x2 = 4 then
        bd1 (T_told t N st x1) fun v6 =>
        some v6
      else
        if x2 = 5 then
          bd1 (rd (st.2.1 (20 * t + 7)) 4 x1) fun v8 =>
          if v8 = 0 then
            some 0
          else
            some 1
        else
          bd1 (T_open t N st x1) fun v10 =>
          some v10
def L_canTell (N : Nat) (st : CS) (x1 : Int32) (x2 : Int32) : Option (Int32) :=
  bd1 (rd (st.2.1 (20 * 0 + 7)) 4 x1) fun v1 =>
  if v1 = 0 then
    bd1 (T_may 0 N st x1 x2) fun v3 =>
    if v3 = 0 then
      some 0
    else
      some 1
  else
    some 0
def L_mustGo (st : CS) (x1 : Int32) : Option (Option Unit × CS) :=
  bd1 (L_in x1 1 60) fun v1 =>
  bd2 (L_need st v1 1) fun o4 st3 =>
  onx o4 (
    some (none, st3)
  ) fun _ =>
  if 999 < ((st3.1 (20 * 0) 13) + x1) then
    bd2 (L_need st3 0 3) fun o8 st7 =>
    onx o8 (
      some (none, st7)
    ) fun _ =>
    some (some (), st7)
  else
    bd2 (L_need st3 1 3) fun o11 st10 =>
    onx o11 (
      some (none, st10)
    ) fun _ =>
    some (some (), st10)
def L_fact (st : CS) (x1 : Int32) (x2 : Int32) : Option (Int32 × CS) :=
  bd1 (L_in x1 0 255) fun v1 =>
  if v1 = 0 then
    bd2 (L_need st 0 1) fun o5 st4 =>
    onx o5 (
      bd2 (L_finds st4) fun v6 st7 =>
      some (v6, st7)
    ) fun _ =>
    if (st4.1 (20 * 0) 0) = 8 then
      bd2 (L_need st4 1 1) fun o11 st10 =>
      onx o11 (
        bd2 (L_finds st10) fun v12 st13 =>
        some (v12, st13)
      ) fun _ =>
      if 8 ≤ (st10.1 (20 * 0) 0) then
        bd2 (L_need st10 0 4) fun o17 st16 =>
        onx o17 (
          bd2 (L_finds st16) fun v18 st19 =>
          some (v18, st19)
        ) fun _ =>
        bd1 (wr (st16.2.1 (20 * 0 + 1)) 8 (st16.1 (20 * 0) 0) x1) fun b20 =>
        bd1 (wr ((csA st16 (20 * 0 + 1) b20).2.1 (20 * 0 + 2)) 8 (st16.1 (20 * 0) 0) 0) fun b21 =>
        bd1 (wr ((csA (csA st16 (20 * 0 + 1) b20) (20 * 0 + 2) b21).2.1 (20 * 0 + 3)) 8 (st16.1 (20 * 0) 0) 0) fun b22 =>
        bd1 (wr ((csA (csA (csA st16 (20 * 0 + 1) b20) (20 * 0 + 2) b21) (20 * 0 + 3) b22).2.1 (20 * 0 + 4)) 8 (st16.1 (20 * 0) 0) 0) fun b23 =>
        bd1 (wr ((csA (csA (csA (csA st16 (20 * 0 + 1) b20) (20 * 0 + 2) b21) (20 * 0 + 3) b22) (20 * 0 + 4) b23).2.1 (20 * 0 + 5)) 8 (st16.1 (20 * 0) 0) x2) fun b24 =>
        some (st16.1 (20 * 0) 0, csF (csA (csA (csA (csA (csA st16 (20 * 0 + 1) b20) (20 * 0 + 2) b21) (20 * 0 + 3) b22) (20 * 0 + 4) b23) (20 * 0 + 5) b24) (20 * 0) 0 (((csA (csA (csA (csA (csA st16 (20 * 0 + 1) b20) (20 * 0 + 2) b21) (20 * 0 + 3) b22) (20 * 0 + 4) b23) (20 * 0 + 5) b24).1 (20 * 0) 0) + 1))
      else
        bd2 (L_need st10 1 4) fun o27 st26 =>
        onx o27 (
          bd2 (L_finds st26) fun v28 st29 =>
          some (v28, st29)
        ) fun _ =>
        bd1 (wr (st26.2.1 (20 * 0 + 1)) 8 (st26.1 (20 * 0) 0) x1) fun b30 =>
        bd1 (wr ((csA st26 (20 * 0 + 1) b30).2.1 (20 * 0 + 2)) 8 (st26.1 (20 * 0) 0) 0) fun b31 =>
        bd1 (wr ((csA (csA st26 (20 * 0 + 1) b30) (20 * 0 + 2) b31).2.1 (20 * 0 + 3)) 8 (st26.1 (20 * 0) 0) 0) fun b32 =>
        bd1 (wr ((csA (csA (csA st26 (20 * 0 + 1) b30) (20 * 0 + 2) b31) (20 * 0 + 3) b32).2.1 (20 * 0 + 4)) 8 (st26.1 (20 * 0) 0) 0) fun b33 =>
        bd1 (wr ((csA (csA (csA (csA st26 (20 * 0 + 1) b30) (20 * 0 + 2) b31) (20 * 0 + 3) b32) (20 * 0 + 4) b33).2.1 (20 * 0 + 5)) 8 (st26.1 (20 * 0) 0) x2) fun b34 =>
        some (st26.1 (20 * 0) 0, csF (csA (csA (csA (csA (csA st26 (20 * 0 + 1) b30) (20 * 0 + 2) b31) (20 * 0 + 3) b32) (20 * 0 + 4) b33) (20 * 0 + 5) b34) (20 * 0) 0 (((csA (csA (csA (csA (csA st26 (20 * 0 + 1) b30) (20 * 0 + 2) b31) (20 * 0 + 3) b32) (20 * 0 + 4) b33) (20 * 0 + 5) b34).1 (20 * 0) 0) + 1))
    else
      if ((x1 >>> ((st4.1 (20 * 0) 0) &&& 31)) &&& 1) = 0 then
        bd2 (L_need st4 1 1) fun o64 st63 =>
        onx o64 (
          bd2 (L_finds st63) fun v65 st66 =>
          some (v65, st66)
        ) fun _ =>
        if 8 ≤ (st63.1 (20 * 0) 0) then
          bd2 (L_need st63 0 4) fun o70 st69 =>
          onx o70 (
            bd2 (L_finds st69) fun v71 st72 =>
            some (v71, st72)
          ) fun _ =>
          bd1 (wr (st69.2.1 (20 * 0 + 1)) 8 (st69.1 (20 * 0) 0) x1) fun b73 =>
          bd1 (wr ((csA st69 (20 * 0 + 1) b73).2.1 (20 * 0 + 2)) 8 (st69.1 (20 * 0) 0) 0) fun b74 =>
          bd1 (wr ((csA (csA st69 (20 * 0 + 1) b73) (20 * 0 + 2) b74).2.1 (20 * 0 + 3)) 8 (st69.1 (20 * 0) 0) 0) fun b75 =>
          bd1 (wr ((csA (csA (csA st69 (20 * 0 + 1) b73) (20 * 0 + 2) b74) (20 * 0 + 3) b75).2.1 (20 * 0 + 4)) 8 (st69.1 (20 * 0) 0) 0) fun b76 =>
          bd1 (wr ((csA (csA (csA (csA st69 (20 * 0 + 1) b73) (20 * 0 + 2) b74) (20 * 0 + 3) b75) (20 * 0 + 4) b76).2.1 (20 * 0 + 5)) 8 (st69.1 (20 * 0) 0) x2) fun b77 =>
          some (st69.1 (20 * 0) 0, csF (csA (csA (csA (csA (csA st69 (20 * 0 + 1) b73) (20 * 0 + 2) b74) (20 * 0 + 3) b75) (20 * 0 + 4) b76) (20 * 0 + 5) b77) (20 * 0) 0 (((csA (csA (csA (csA (csA st69 (20 * 0 + 1) b73) (20 * 0 + 2) b74) (20 * 0 + 3) b75) (20 * 0 + 4) b76) (20 * 0 + 5) b77).1 (20 * 0) 0) + 1))
        else
          bd2 (L_need st63 1 4) fun o80 st79 =>
          onx o80 (
            bd2 (L_finds st79) fun v81 st82 =>
            some (v81, st82)
          ) fun _ =>
          bd1 (wr (st79.2.1 (20 * 0 + 1)) 8 (st79.1 (20 * 0) 0) x1) fun b83 =>
          bd1 (wr ((csA st79 (20 * 0 + 1) b83).2.1 (20 * 0 + 2)) 8 (st79.1 (20 * 0) 0) 0) fun b84 =>
          bd1 (wr ((csA (csA st79 (20 * 0 + 1) b83) (20 * 0 + 2) b84).2.1 (20 * 0 + 3)) 8 (st79.1 (20 * 0) 0) 0) fun b85 =>
          bd1 (wr ((csA (csA (csA st79 (20 * 0 + 1) b83) (20 * 0 + 2) b84) (20 * 0 + 3) b85).2.1 (20 * 0 + 4)) 8 (st79.1 (20 * 0) 0) 0) fun b86 =>
          bd1 (wr ((csA (csA (csA (csA st79 (20 * 0 + 1) b83) (20 * 0 + 2) b84) (20 * 0 + 3) b85) (20 * 0 + 4) b86).2.1 (20 * 0 + 5)) 8 (st79.1 (20 * 0) 0) x2) fun b87 =>
          some (st79.1 (20 * 0) 0, csF (csA (csA (csA (csA (csA st79 (20 * 0 + 1) b83) (20 * 0 + 2) b84) (20 * 0 + 3) b85) (20 * 0 + 4) b86) (20 * 0 + 5) b87) (20 * 0) 0 (((csA (csA (csA (csA (csA st79 (20 * 0 + 1) b83) (20 * 0 + 2) b84) (20 * 0 + 3) b85) (20 * 0 + 4) b86) (20 * 0 + 5) b87).1 (20 * 0) 0) + 1))
      else
        bd2 (L_need st4 0 1) fun o38 st37 =>
        onx o38 (
          bd2 (L_finds st37) fun v39 st40 =>
          some (v39, st40)
        ) fun _ =>
        if 8 ≤ (st37.1 (20 * 0) 0) then
          bd2 (L_need st37 0 4) fun o44 st43 =>
          onx o44 (
            bd2 (L_finds st43) fun v45 st46 =>
            some (v45, st46)
          ) fun _ =>
          bd1 (wr (st43.2.1 (20 * 0 + 1)) 8 (st43.1 (20 * 0) 0) x1) fun b47 =>
          bd1 (wr ((csA st43 (20 * 0 + 1) b47).2.1 (20 * 0 + 2)) 8 (st43.1 (20 * 0) 0) 0) fun b48 =>
          bd1 (wr ((csA (csA st43 (20 * 0 + 1) b47) (20 * 0 + 2) b48).2.1 (20 * 0 + 3)) 8 (st43.1 (20 * 0) 0) 0) fun b49 =>
          bd1 (wr ((csA (csA (csA st43 (20 * 0 + 1) b47) (20 * 0 + 2) b48) (20 * 0 + 3) b49).2.1 (20 * 0 + 4)) 8 (st43.1 (20 * 0) 0) 0) fun b50 =>
          bd1 (wr ((csA (csA (csA (csA st43 (20 * 0 + 1) b47) (20 * 0 + 2) b48) (20 * 0 + 3) b49) (20 * 0 + 4) b50).2.1 (20 * 0 + 5)) 8 (st43.1 (20 * 0) 0) x2) fun b51 =>
          some (st43.1 (20 * 0) 0, csF (csA (csA (csA (csA (csA st43 (20 * 0 + 1) b47) (20 * 0 + 2) b48) (20 * 0 + 3) b49) (20 * 0 + 4) b50) (20 * 0 + 5) b51) (20 * 0) 0 (((csA (csA (csA (csA (csA st43 (20 * 0 + 1) b47) (20 * 0 + 2) b48) (20 * 0 + 3) b49) (20 * 0 + 4) b50) (20 * 0 + 5) b51).1 (20 * 0) 0) + 1))
        else
          bd2 (L_need st37 1 4) fun o54 st53 =>
          onx o54 (
            bd2 (L_finds st53) fun v55 st56 =>
            some (v55, st56)
          ) fun _ =>
          bd1 (wr (st53.2.1 (20 * 0 + 1)) 8 (st53.1 (20 * 0) 0) x1) fun b57 =>
          bd1 (wr ((csA st53 (20 * 0 + 1) b57).2.1 (20 * 0 + 2)) 8 (st53.1 (20 * 0) 0) 0) fun b58 =>
          bd1 (wr ((csA (csA st53 (20 * 0 + 1) b57) (20 * 0 + 2) b58).2.1 (20 * 0 + 3)) 8 (st53.1 (20 * 0) 0) 0) fun b59 =>
          bd1 (wr ((csA (csA (csA st53 (20 * 0 + 1) b57) (20 * 0 + 2) b58) (20 * 0 + 3) b59).2.1 (20 * 0 + 4)) 8 (st53.1 (20 * 0) 0) 0) fun b60 =>
          bd1 (wr ((csA (csA (csA (csA st53 (20 * 0 + 1) b57) (20 * 0 + 2) b58) (20 * 0 + 3) b59) (20 * 0 + 4) b60).2.1 (20 * 0 + 5)) 8 (st53.1 (20 * 0) 0) x2) fun b61 =>
          some (st53.1 (20 * 0) 0, csF (csA (csA (csA (csA (csA st53 (20 * 0 + 1) b57) (20 * 0 + 2) b58) (20 * 0 + 3) b59) (20 * 0 + 4) b60) (20 * 0 + 5) b61) (20 * 0) 0 (((csA (csA (csA (csA (csA st53 (20 * 0 + 1) b57) (20 * 0 + 2) b58) (20 * 0 + 3) b59) (20 * 0 + 4) b60) (20 * 0 + 5) b61).1 (20 * 0) 0) + 1))
  else
    bd1 (L_in x2 0 31) fun v88 =>
    if v88 = 0 then
      bd2 (L_need st 0 1) fun o92 st91 =>
      onx o92 (
        bd2 (L_finds st91) fun v93 st94 =>
        some (v93, st94)
      ) fun _ =>
      if (st91.1 (20 * 0) 0) = 8 then
        bd2 (L_need st91 1 1) fun o98 st97 =>
        onx o98 (
          bd2 (L_finds st97) fun v99 st100 =>
          some (v99, st100)
        ) fun _ =>
        if 8 ≤ (st97.1 (20 * 0) 0) then
          bd2 (L_need st97 0 4) fun o104 st103 =>
          onx o104 (
            bd2 (L_finds st103) fun v105 st106 =>
            some (v105, st106)
          ) fun _ =>
          bd1 (wr (st103.2.1 (20 * 0 + 1)) 8 (st103.1 (20 * 0) 0) x1) fun b107 =>
          bd1 (wr ((csA st103 (20 * 0 + 1) b107).2.1 (20 * 0 + 2)) 8 (st103.1 (20 * 0) 0) 0) fun b108 =>
          bd1 (wr ((csA (csA st103 (20 * 0 + 1) b107) (20 * 0 + 2) b108).2.1 (20 * 0 + 3)) 8 (st103.1 (20 * 0) 0) 0) fun b109 =>
          bd1 (wr ((csA (csA (csA st103 (20 * 0 + 1) b107) (20 * 0 + 2) b108) (20 * 0 + 3) b109).2.1 (20 * 0 + 4)) 8 (st103.1 (20 * 0) 0) 0) fun b110 =>
          bd1 (wr ((csA (csA (csA (csA st103 (20 * 0 + 1) b107) (20 * 0 + 2) b108) (20 * 0 + 3) b109) (20 * 0 + 4) b110).2.1 (20 * 0 + 5)) 8 (st103.1 (20 * 0) 0) x2) fun b111 =>
          some (st103.1 (20 * 0) 0, csF (csA (csA (csA (csA (csA st103 (20 * 0 + 1) b107) (20 * 0 + 2) b108) (20 * 0 + 3) b109) (20 * 0 + 4) b110) (20 * 0 + 5) b111) (20 * 0) 0 (((csA (csA (csA (csA (csA st103 (20 * 0 + 1) b107) (20 * 0 + 2) b108) (20 * 0 + 3) b109) (20 * 0 + 4) b110) (20 * 0 + 5) b111).1 (20 * 0) 0) + 1))
        else
          bd2 (L_need st97 1 4) fun o114 st113 =>
          onx o114 (
            bd2 (L_finds st113) fun v115 st116 =>
            some (v115, st116)
          ) fun _ =>
          bd1 (wr (st113.2.1 (20 * 0 + 1)) 8 (st113.1 (20 * 0) 0) x1) fun b117 =>
          bd1 (wr ((csA st113 (20 * 0 + 1) b117).2.1 (20 * 0 + 2)) 8 (st113.1 (20 * 0) 0) 0) fun b118 =>
          bd1 (wr ((csA (csA st113 (20 * 0 + 1) b117) (20 * 0 + 2) b118).2.1 (20 * 0 + 3)) 8 (st113.1 (20 * 0) 0) 0) fun b119 =>
          bd1 (wr ((csA (csA (csA st113 (20 * 0 + 1) b117) (20 * 0 + 2) b118) (20 * 0 + 3) b119).2.1 (20 * 0 + 4)) 8 (st113.1 (20 * 0) 0) 0) fun b120 =>
          bd1 (wr ((csA (csA (csA (csA st113 (20 * 0 + 1) b117) (20 * 0 + 2) b118) (20 * 0 + 3) b119) (20 * 0 + 4) b120).2.1 (20 * 0 + 5)) 8 (st113.1 (20 * 0) 0) x2) fun b121 =>
          some (st113.1 (20 * 0) 0, csF (csA (csA (csA (csA (csA st113 (20 * 0 + 1) b117) (20 * 0 + 2) b118) (20 * 0 + 3) b119) (20 * 0 + 4) b120) (20 * 0 + 5) b121) (20 * 0) 0 (((csA (csA (csA (csA (csA st113 (20 * 0 + 1) b117) (20 * 0 + 2) b118) (20 * 0 + 3) b119) (20 * 0 + 4) b120) (20 * 0 + 5) b121).1 (20 * 0) 0) + 1))
      else
        if ((x1 >>> ((st91.1 (20 * 0) 0) &&& 31)) &&& 1) = 0 then
          bd2 (L_need st91 1 1) fun o151 st150 =>
          onx o151 (
            bd2 (L_finds st150) fun v152 st153 =>
            some (v152, st153)
          ) fun _ =>
          if 8 ≤ (st150.1 (20 * 0) 0) then
            bd2 (L_need st150 0 4) fun o157 st156 =>
            onx o157 (
              bd2 (L_finds st156) fun v158 st159 =>
              some (v158, st159)
            ) fun _ =>
            bd1 (wr (st156.2.1 (20 * 0 + 1)) 8 (st156.1 (20 * 0) 0) x1) fun b160 =>
            bd1 (wr ((csA st156 (20 * 0 + 1) b160).2.1 (20 * 0 + 2)) 8 (st156.1 (20 * 0) 0) 0) fun b161 =>
            bd1 (wr ((csA (csA st156 (20 * 0 + 1) b160) (20 * 0 + 2) b161).2.1 (20 * 0 + 3)) 8 (st156.1 (20 * 0) 0) 0) fun b162 =>
            bd1 (wr ((csA (csA (csA st156 (20 * 0 + 1) b160) (20 * 0 + 2) b161) (20 * 0 + 3) b162).2.1 (20 * 0 + 4)) 8 (st156.1 (20 * 0) 0) 0) fun b163 =>
            bd1 (wr ((csA (csA (csA (csA st156 (20 * 0 + 1) b160) (20 * 0 + 2) b161) (20 * 0 + 3) b162) (20 * 0 + 4) b163).2.1 (20 * 0 + 5)) 8 (st156.1 (20 * 0) 0) x2) fun b164 =>
            some (st156.1 (20 * 0) 0, csF (csA (csA (csA (csA (csA st156 (20 * 0 + 1) b160) (20 * 0 + 2) b161) (20 * 0 + 3) b162) (20 * 0 + 4) b163) (20 * 0 + 5) b164) (20 * 0) 0 (((csA (csA (csA (csA (csA st156 (20 * 0 + 1) b160) (20 * 0 + 2) b161) (20 * 0 + 3) b162) (20 * 0 + 4) b163) (20 * 0 + 5) b164).1 (20 * 0) 0) + 1))
          else
            bd2 (L_need st150 1 4) fun o167 st166 =>
            onx o167 (
              bd2 (L_finds st166) fun v168 st169 =>
              some (v168, st169)
            ) fun _ =>
            bd1 (wr (st166.2.1 (20 * 0 + 1)) 8 (st166.1 (20 * 0) 0) x1) fun b170 =>
            bd1 (wr ((csA st166 (20 * 0 + 1) b170).2.1 (20 * 0 + 2)) 8 (st166.1 (20 * 0) 0) 0) fun b171 =>
            bd1 (wr ((csA (csA st166 (20 * 0 + 1) b170) (20 * 0 + 2) b171).2.1 (20 * 0 + 3)) 8 (st166.1 (20 * 0) 0) 0) fun b172 =>
            bd1 (wr ((csA (csA (csA st166 (20 * 0 + 1) b170) (20 * 0 + 2) b171) (20 * 0 + 3) b172).2.1 (20 * 0 + 4)) 8 (st166.1 (20 * 0) 0) 0) fun b173 =>
            bd1 (wr ((csA (csA (csA (csA st166 (20 * 0 + 1) b170) (20 * 0 + 2) b171) (20 * 0 + 3) b172) (20 * 0 + 4) b173).2.1 (20 * 0 + 5)) 8 (st166.1 (20 * 0) 0) x2) fun b174 =>
            some (st166.1 (20 * 0) 0, csF (csA (csA (csA (csA (csA st166 (20 * 0 + 1) b170) (20 * 0 + 2) b171) (20 * 0 + 3) b172) (20 * 0 + 4) b173) (20 * 0 + 5) b174) (20 * 0) 0 (((csA (csA (csA (csA (csA st166 (20 * 0 + 1) b170) (20 * 0 + 2) b171) (20 * 0 + 3) b172) (20 * 0 + 4) b173) (20 * 0 + 5) b174).1 (20 * 0) 0) + 1))
        else
          bd2 (L_need st91 0 1) fun o125 st124 =>
          onx o125 (
            bd2 (L_finds st124) fun v126 st127 =>
            some (v126, st127)
          ) fun _ =>
          if 8 ≤ (st124.1 (20 * 0) 0) then
            bd2 (L_need st124 0 4) fun o131 st130 =>
            onx o131 (
              bd2 (L_finds st130) fun v132 st133 =>
              some (v132, st133)
            ) fun _ =>
            bd1 (wr (st130.2.1 (20 * 0 + 1)) 8 (st130.1 (20 * 0) 0) x1) fun b134 =>
            bd1 (wr ((csA st130 (20 * 0 + 1) b134).2.1 (20 * 0 + 2)) 8 (st130.1 (20 * 0) 0) 0) fun b135 =>
            bd1 (wr ((csA (csA st130 (20 * 0 + 1) b134) (20 * 0 + 2) b135).2.1 (20 * 0 + 3)) 8 (st130.1 (20 * 0) 0) 0) fun b136 =>
            bd1 (wr ((csA (csA (csA st130 (20 * 0 + 1) b134) (20 * 0 + 2) b135) (20 * 0 + 3) b136).2.1 (20 * 0 + 4)) 8 (st130.1 (20 * 0) 0) 0) fun b137 =>
            bd1 (wr ((csA (csA (csA (csA st130 (20 * 0 + 1) b134) (20 * 0 + 2) b135) (20 * 0 + 3) b136) (20 * 0 + 4) b137).2.1 (20 * 0 + 5)) 8 (st130.1 (20 * 0) 0) x2) fun b138 =>
            some (st130.1 (20 * 0) 0, csF (csA (csA (csA (csA (csA st130 (20 * 0 + 1) b134) (20 * 0 + 2) b135) (20 * 0 + 3) b136) (20 * 0 + 4) b137) (20 * 0 + 5) b138) (20 * 0) 0 (((csA (csA (csA (csA (csA st130 (20 * 0 + 1) b134) (20 * 0 + 2) b135) (20 * 0 + 3) b136) (20 * 0 + 4) b137) (20 * 0 + 5) b138).1 (20 * 0) 0) + 1))
          else
            bd2 (L_need st124 1 4) fun o141 st140 =>
            onx o141 (
              bd2 (L_finds st140) fun v142 st143 =>
              some (v142, st143)
            ) fun _ =>
            bd1 (wr (st140.2.1 (20 * 0 + 1)) 8 (st140.1 (20 * 0) 0) x1) fun b144 =>
            bd1 (wr ((csA st140 (20 * 0 + 1) b144).2.1 (20 * 0 + 2)) 8 (st140.1 (20 * 0) 0) 0) fun b145 =>
            bd1 (wr ((csA (csA st140 (20 * 0 + 1) b144) (20 * 0 + 2) b145).2.1 (20 * 0 + 3)) 8 (st140.1 (20 * 0) 0) 0) fun b146 =>
            bd1 (wr ((csA (csA (csA st140 (20 * 0 + 1) b144) (20 * 0 + 2) b145) (20 * 0 + 3) b146).2.1 (20 * 0 + 4)) 8 (st140.1 (20 * 0) 0) 0) fun b147 =>
            bd1 (wr ((csA (csA (csA (csA st140 (20 * 0 + 1) b144) (20 * 0 + 2) b145) (20 * 0 + 3) b146) (20 * 0 + 4) b147).2.1 (20 * 0 + 5)) 8 (st140.1 (20 * 0) 0) x2) fun b148 =>
            some (st140.1 (20 * 0) 0, csF (csA (csA (csA (csA (csA st140 (20 * 0 + 1) b144) (20 * 0 + 2) b145) (20 * 0 + 3) b146) (20 * 0 + 4) b147) (20 * 0 + 5) b148) (20 * 0) 0 (((csA (csA (csA (csA (csA st140 (20 * 0 + 1) b144) (20 * 0 + 2) b145) (20 * 0 + 3) b146) (20 * 0 + 4) b147) (20 * 0 + 5) b148).1 (20 * 0) 0) + 1))
    else
      bd2 (L_need st 1 1) fun o177 st176 =>
      onx o177 (
        bd2 (L_finds st176) fun v178 st179 =>
        some (v178, st179)
      ) fun _ =>
      if (st176.1 (20 * 0) 0) = 8 then
        bd2 (L_need st176 1 1) fun o183 st182 =>
        onx o183 (
          bd2 (L_finds st182) fun v184 st185 =>
          some (v184, st185)
        ) fun _ =>
        if 8 ≤ (st182.1 (20 * 0) 0) then
          bd2 (L_need st182 0 4) fun o189 st188 =>
          onx o189 (
            bd2 (L_finds st188) fun v190 st191 =>
            some (v190, st191)
          ) fun _ =>
          bd1 (wr (st188.2.1 (20 * 0 + 1)) 8 (st188.1 (20 * 0) 0) x1) fun b192 =>
          bd1 (wr ((csA st188 (20 * 0 + 1) b192).2.1 (20 * 0 + 2)) 8 (st188.1 (20 * 0) 0) 0) fun b193 =>
          bd1 (wr ((csA (csA st188 (20 * 0 + 1) b192) (20 * 0 + 2) b193).2.1 (20 * 0 + 3)) 8 (st188.1 (20 * 0) 0) 0) fun b194 =>
          bd1 (wr ((csA (csA (csA st188 (20 * 0 + 1) b192) (20 * 0 + 2) b193) (20 * 0 + 3) b194).2.1 (20 * 0 + 4)) 8 (st188.1 (20 * 0) 0) 0) fun b195 =>
          bd1 (wr ((csA (csA (csA (csA st188 (20 * 0 + 1) b192) (20 * 0 + 2) b193) (20 * 0 + 3) b194) (20 * 0 + 4) b195).2.1 (20 * 0 + 5)) 8 (st188.1 (20 * 0) 0) x2) fun b196 =>
          some (st188.1 (20 * 0) 0, csF (csA (csA (csA (csA (csA st188 (20 * 0 + 1) b192) (20 * 0 + 2) b193) (20 * 0 + 3) b194) (20 * 0 + 4) b195) (20 * 0 + 5) b196) (20 * 0) 0 (((csA (csA (csA (csA (csA st188 (20 * 0 + 1) b192) (20 * 0 + 2) b193) (20 * 0 + 3) b194) (20 * 0 + 4) b195) (20 * 0 + 5) b196).1 (20 * 0) 0) + 1))
        else
          bd2 (L_need st182 1 4) fun o199 st198 =>
          onx o199 (
            bd2 (L_finds st198) fun v200 st201 =>
            some (v200, st201)
          ) fun _ =>
          bd1 (wr (st198.2.1 (20 * 0 + 1)) 8 (st198.1 (20 * 0) 0) x1) fun b202 =>
          bd1 (wr ((csA st198 (20 * 0 + 1) b202).2.1 (20 * 0 + 2)) 8 (st198.1 (20 * 0) 0) 0) fun b203 =>
          bd1 (wr ((csA (csA st198 (20 * 0 + 1) b202) (20 * 0 + 2) b203).2.1 (20 * 0 + 3)) 8 (st198.1 (20 * 0) 0) 0) fun b204 =>
          bd1 (wr ((csA (csA (csA st198 (20 * 0 + 1) b202) (20 * 0 + 2) b203) (20 * 0 + 3) b204).2.1 (20 * 0 + 4)) 8 (st198.1 (20 * 0) 0) 0) fun b205 =>
          bd1 (wr ((csA (csA (csA (csA st198 (20 * 0 + 1) b202) (20 * 0 + 2) b203) (20 * 0 + 3) b204) (20 * 0 + 4) b205).2.1 (20 * 0 + 5)) 8 (st198.1 (20 * 0) 0) x2) fun b206 =>
          some (st198.1 (20 * 0) 0, csF (csA (csA (csA (csA (csA st198 (20 * 0 + 1) b202) (20 * 0 + 2) b203) (20 * 0 + 3) b204) (20 * 0 + 4) b205) (20 * 0 + 5) b206) (20 * 0) 0 (((csA (csA (csA (csA (csA st198 (20 * 0 + 1) b202) (20 * 0 + 2) b203) (20 * 0 + 3) b204) (20 * 0 + 4) b205) (20 * 0 + 5) b206).1 (20 * 0) 0) + 1))
      else
        if ((x1 >>> ((st176.1 (20 * 0) 0) &&& 31)) &&& 1) = 0 then
          bd2 (L_need st176 1 1) fun o236 st235 =>
          onx o236 (
            bd2 (L_finds st235) fun v237 st238 =>
            some (v237, st238)
          ) fun _ =>
          if 8 ≤ (st235.1 (20 * 0) 0) then
            bd2 (L_need st235 0 4) fun o242 st241 =>
            onx o242 (
              bd2 (L_finds st241) fun v243 st244 =>
              some (v243, st244)
            ) fun _ =>
            bd1 (wr (st241.2.1 (20 * 0 + 1)) 8 (st241.1 (20 * 0) 0) x1) fun b245 =>
            bd1 (wr ((csA st241 (20 * 0 + 1) b245).2.1 (20 * 0 + 2)) 8 (st241.1 (20 * 0) 0) 0) fun b246 =>
            bd1 (wr ((csA (csA st241 (20 * 0 + 1) b245) (20 * 0 + 2) b246).2.1 (20 * 0 + 3)) 8 (st241.1 (20 * 0) 0) 0) fun b247 =>
            bd1 (wr ((csA (csA (csA st241 (20 * 0 + 1) b245) (20 * 0 + 2) b246) (20 * 0 + 3) b247).2.1 (20 * 0 + 4)) 8 (st241.1 (20 * 0) 0) 0) fun b248 =>
            bd1 (wr ((csA (csA (csA (csA st241 (20 * 0 + 1) b245) (20 * 0 + 2) b246) (20 * 0 + 3) b247) (20 * 0 + 4) b248).2.1 (20 * 0 + 5)) 8 (st241.1 (20 * 0) 0) x2) fun b249 =>
            some (st241.1 (20 * 0) 0, csF (csA (csA (csA (csA (csA st241 (20 * 0 + 1) b245) (20 * 0 + 2) b246) (20 * 0 + 3) b247) (20 * 0 + 4) b248) (20 * 0 + 5) b249) (20 * 0) 0 (((csA (csA (csA (csA (csA st241 (20 * 0 + 1) b245) (20 * 0 + 2) b246) (20 * 0 + 3) b247) (20 * 0 + 4) b248) (20 * 0 + 5) b249).1 (20 * 0) 0) + 1))
          else
            bd2 (L_need st235 1 4) fun o252 st251 =>
            onx o252 (
              bd2 (L_finds st251) fun v253 st254 =>
              some (v253, st254)
            ) fun _ =>
            bd1 (wr (st251.2.1 (20 * 0 + 1)) 8 (st251.1 (20 * 0) 0) x1) fun b255 =>
            bd1 (wr ((csA st251 (20 * 0 + 1) b255).2.1 (20 * 0 + 2)) 8 (st251.1 (20 * 0) 0) 0) fun b256 =>
            bd1 (wr ((csA (csA st251 (20 * 0 + 1) b255) (20 * 0 + 2) b256).2.1 (20 * 0 + 3)) 8 (st251.1 (20 * 0) 0) 0) fun b257 =>
            bd1 (wr ((csA (csA (csA st251 (20 * 0 + 1) b255) (20 * 0 + 2) b256) (20 * 0 + 3) b257).2.1 (20 * 0 + 4)) 8 (st251.1 (20 * 0) 0) 0) fun b258 =>
            bd1 (wr ((csA (csA (csA (csA st251 (20 * 0 + 1) b255) (20 * 0 + 2) b256) (20 * 0 + 3) b257) (20 * 0 + 4) b258).2.1 (20 * 0 + 5)) 8 (st251.1 (20 * 0) 0) x2) fun b259 =>
            some (st251.1 (20 * 0) 0, csF (csA (csA (csA (csA (csA st251 (20 * 0 + 1) b255) (20 * 0 + 2) b256) (20 * 0 + 3) b257) (20 * 0 + 4) b258) (20 * 0 + 5) b259) (20 * 0) 0 (((csA (csA (csA (csA (csA st251 (20 * 0 + 1) b255) (20 * 0 + 2) b256) (20 * 0 + 3) b257) (20 * 0 + 4) b258) (20 * 0 + 5) b259).1 (20 * 0) 0) + 1))
        else
          bd2 (L_need st176 0 1) fun o210 st209 =>
          onx o210 (
            bd2 (L_finds st209) fun v211 st212 =>
            some (v211, st212)
          ) fun _ =>
          if 8 ≤ (st209.1 (20 * 0) 0) then
            bd2 (L_need st209 0 4) fun o216 st215 =>
            onx o216 (
              bd2 (L_finds st215) fun v217 st218 =>
              some (v217, st218)
            ) fun _ =>
            bd1 (wr (st215.2.1 (20 * 0 + 1)) 8 (st215.1 (20 * 0) 0) x1) fun b219 =>
            bd1 (wr ((csA st215 (20 * 0 + 1) b219).2.1 (20 * 0 + 2)) 8 (st215.1 (20 * 0) 0) 0) fun b220 =>
            bd1 (wr ((csA (csA st215 (20 * 0 + 1) b219) (20 * 0 + 2) b220).2.1 (20 * 0 + 3)) 8 (st215.1 (20 * 0) 0) 0) fun b221 =>
            bd1 (wr ((csA (csA (csA st215 (20 * 0 + 1) b219) (20 * 0 + 2) b220) (20 * 0 + 3) b221).2.1 (20 * 0 + 4)) 8 (st215.1 (20 * 0) 0) 0) fun b222 =>
            bd1 (wr ((csA (csA (csA (csA st215 (20 * 0 + 1) b219) (20 * 0 + 2) b220) (20 * 0 + 3) b221) (20 * 0 + 4) b222).2.1 (20 * 0 + 5)) 8 (st215.1 (20 * 0) 0) x2) fun b223 =>
            some (st215.1 (20 * 0) 0, csF (csA (csA (csA (csA (csA st215 (20 * 0 + 1) b219) (20 * 0 + 2) b220) (20 * 0 + 3) b221) (20 * 0 + 4) b222) (20 * 0 + 5) b223) (20 * 0) 0 (((csA (csA (csA (csA (csA st215 (20 * 0 + 1) b219) (20 * 0 + 2) b220) (20 * 0 + 3) b221) (20 * 0 + 4) b222) (20 * 0 + 5) b223).1 (20 * 0) 0) + 1))
          else
            bd2 (L_need st209 1 4) fun o226 st225 =>
            onx o226 (
              bd2 (L_finds st225) fun v227 st228 =>
              some (v227, st228)
            ) fun _ =>
            bd1 (wr (st225.2.1 (20 * 0 + 1)) 8 (st225.1 (20 * 0) 0) x1) fun b229 =>
            bd1 (wr ((csA st225 (20 * 0 + 1) b229).2.1 (20 * 0 + 2)) 8 (st225.1 (20 * 0) 0) 0) fun b230 =>
            bd1 (wr ((csA (csA st225 (20 * 0 + 1) b229) (20 * 0 + 2) b230).2.1 (20 * 0 + 3)) 8 (st225.1 (20 * 0) 0) 0) fun b231 =>
            bd1 (wr ((csA (csA (csA st225 (20 * 0 + 1) b229) (20 * 0 + 2) b230) (20 * 0 + 3) b231).2.1 (20 * 0 + 4)) 8 (st225.1 (20 * 0) 0) 0) fun b232 =>
            bd1 (wr ((csA (csA (csA (csA st225 (20 * 0 + 1) b229) (20 * 0 + 2) b230) (20 * 0 + 3) b231) (20 * 0 + 4) b232).2.1 (20 * 0 + 5)) 8 (st225.1 (20 * 0) 0) x2) fun b233 =>
            some (st225.1 (20 * 0) 0, csF (csA (csA (csA (csA (csA st225 (20 * 0 + 1) b229) (20 * 0 + 2) b230) (20 * 0 + 3) b231) (20 * 0 + 4) b232) (20 * 0 + 5) b233) (20 * 0) 0 (((csA (csA (csA (csA (csA st225 (20 * 0 + 1) b229) (20 * 0 + 2) b230) (20 * 0 + 3) b231) (20 * 0 + 4) b232) (20 * 0 + 5) b233).1 (20 * 0) 0) + 1))
def L_clash (st : CS) (x1 : Int32) (x2 : Int32) (x3 : Int32) : Option (Int32 × CS) :=
  bd1 (L_isFact st x1) fun v1 =>
  if v1 = 0 then
    bd2 (L_need st 0 1) fun o5 st4 =>
    onx o5 (
      bd2 (L_finds st4) fun v6 st7 =>
      some (v6, st7)
    ) fun _ =>
    bd1 (rd (st4.2.1 (20 * 0 + 2)) 8 x1) fun v8 =>
    if ((v8 >>> (x2 &&& 31)) &&& 1) = x3 then
      some ((v8 >>> (x2 &&& 31)) &&& 1, st4)
    else
      bd1 (rd (st4.2.1 (20 * 0 + 2)) 8 x1) fun v10 =>
      bd1 (wr (st4.2.1 (20 * 0 + 2)) 8 x1 (v10 ^^^ (1 <<< (x2 &&& 31)))) fun b11 =>
      bd1 (rd ((csA st4 (20 * 0 + 2) b11).2.1 (20 * 0 + 2)) 8 x2) fun v12 =>
      bd1 (wr ((csA st4 (20 * 0 + 2) b11).2.1 (20 * 0 + 2)) 8 x2 (v12 ^^^ (1 <<< (x1 &&& 31)))) fun b13 =>
      some ((v8 >>> (x2 &&& 31)) &&& 1, csA (csA st4 (20 * 0 + 2) b11) (20 * 0 + 2) b13)
  else
    bd1 (L_isFact st x2) fun v14 =>
    if v14 = 0 then
      bd2 (L_need st 0 1) fun o18 st17 =>
      onx o18 (
        bd2 (L_finds st17) fun v19 st20 =>
        some (v19, st20)
      ) fun _ =>
      bd1 (rd (st17.2.1 (20 * 0 + 2)) 8 x1) fun v21 =>
      if ((v21 >>> (x2 &&& 31)) &&& 1) = x3 then
        some ((v21 >>> (x2 &&& 31)) &&& 1, st17)
      else
        bd1 (rd (st17.2.1 (20 * 0 + 2)) 8 x1) fun v23 =>
        bd1 (wr (st17.2.1 (20 * 0 + 2)) 8 x1 (v23 ^^^ (1 <<< (x2 &&& 31)))) fun b24 =>
        bd1 (rd ((csA st17 (20 * 0 + 2) b24).2.1 (20 * 0 + 2)) 8 x2) fun v25 =>
        bd1 (wr ((csA st17 (20 * 0 + 2) b24).2.1 (20 * 0 + 2)) 8 x2 (v25 ^^^ (1 <<< (x1 &&& 31)))) fun b26 =>
        some ((v21 >>> (x2 &&& 31)) &&& 1, csA (csA st17 (20 * 0 + 2) b24) (20 * 0 + 2) b26)
    else
      if x1 = x2 then
        bd2 (L_need st 0 1) fun o30 st29 =>
        onx o30 (
          bd2 (L_finds st29) fun v31 st32 =>
          some (v31, st32)
        ) fun _ =>
        bd1 (rd (st29.2.1 (20 * 0 + 2)) 8 x1) fun v33 =>
        if ((v33 >>> (x2 &&& 31)) &&& 1) = x3 then
          some ((v33 >>> (x2 &&& 31)) &&& 1, st29)
        else
          bd1 (rd (st29.2.1 (20 * 0 + 2)) 8 x1) fun v35 =>
          bd1 (wr (st29.2.1 (20 * 0 + 2)) 8 x1 (v35 ^^^ (1 <<< (x2 &&& 31)))) fun b36 =>
          bd1 (rd ((csA st29 (20 * 0 + 2) b36).2.1 (20 * 0 + 2)) 8 x2) fun v37 =>
          bd1 (wr ((csA st29 (20 * 0 + 2) b36).2.1 (20 * 0 + 2)) 8 x2 (v37 ^^^ (1 <<< (x1 &&& 31)))) fun b38 =>
          some ((v33 >>> (x2 &&& 31)) &&& 1, csA (csA st29 (20 * 0 + 2) b36) (20 * 0 + 2) b38)
      else
        bd1 (L_in x3 0 1) fun v39 =>
        if v39 = 0 then
          bd2 (L_need st 0 1) fun o43 st42 =>
          onx o43 (
            bd2 (L_finds st42) fun v44 st45 =>
            some (v44, st45)
          ) fun _ =>
          bd1 (rd (st42.2.1 (20 * 0 + 2)) 8 x1) fun v46 =>
          if ((v46 >>> (x2 &&& 31)) &&& 1) = x3 then
            some ((v46 >>> (x2 &&& 31)) &&& 1, st42)
          else
            bd1 (rd (st42.2.1 (20 * 0 + 2)) 8 x1) fun v48 =>
            bd1 (wr (st42.2.1 (20 * 0 + 2)) 8 x1 (v48 ^^^ (1 <<< (x2 &&& 31)))) fun b49 =>
            bd1 (rd ((csA st42 (20 * 0 + 2) b49).2.1 (20 * 0 + 2)) 8 x2) fun v50 =>
            bd1 (wr ((csA st42 (20 * 0 + 2) b49).2.1 (20 * 0 + 2)) 8 x2 (v50 ^^^ (1 <<< (x1 &&& 31)))) fun b51 =>
            some ((v46 >>> (x2 &&& 31)) &&& 1, csA (csA st42 (20 * 0 + 2) b49) (20 * 0 + 2) b51)
        else
          bd2 (L_need st 1 1) fun o54 st53 =>
          onx o54 (
            bd2 (L_finds st53) fun v55 st56 =>
            some (v55, st56)
          ) fun _ =>
          bd1 (rd (st53.2.1 (20 * 0 + 2)) 8 x1) fun v57 =>
          if ((v57 >>> (x2 &&& 31)) &&& 1) = x3 then
            some ((v57 >>> (x2 &&& 31)) &&& 1, st53)
          else
            bd1 (rd (st53.2.1 (20 * 0 + 2)) 8 x1) fun v59 =>
            bd1 (wr (st53.2.1 (20 * 0 + 2)) 8 x1 (v59 ^^^ (1 <<< (x2 &&& 31)))) fun b60 =>
            bd1 (rd ((csA st53 (20 * 0 + 2) b60).2.1 (20 * 0 + 2)) 8 x2) fun v61 =>
            bd1 (wr ((csA st53 (20 * 0 + 2) b60).2.1 (20 * 0 + 2)) 8 x2 (v61 ^^^ (1 <<< (x1 &&& 31)))) fun b62 =>
            some ((v57 >>> (x2 &&& 31)) &&& 1, csA (csA st53 (20 * 0 + 2) b60) (20 * 0 + 2) b62)
def L_explain (st : CS) (x1 : Int32) (x2 : Int32) (x3 : Int32) : Option (Int32 × CS) :=
  bd1 (L_isFact st x1) fun v1 =>
  if v1 = 0 then
    bd2 (L_need st 0 1) fun o5 st4 =>
    onx o5 (
      bd2 (L_finds st4) fun v6 st7 =>
      some (v6, st7)
    ) fun _ =>
    bd1 (rd (st4.2.1 (20 * 0 + 3)) 8 x1) fun v8 =>
    bd1 (wr (st4.2.1 (20 * 0 + 3)) 8 x1 x2) fun b9 =>
    if x2 = 0 then
      bd1 (wr ((csA st4 (20 * 0 + 3) b9).2.1 (20 * 0 + 4)) 8 x1 0) fun b12 =>
      some (v8, csA (csA st4 (20 * 0 + 3) b9) (20 * 0 + 4) b12)
    else
      bd1 (wr ((csA st4 (20 * 0 + 3) b9).2.1 (20 * 0 + 4)) 8 x1 x3) fun b11 =>
      some (v8, csA (csA st4 (20 * 0 + 3) b9) (20 * 0 + 4) b11)
  else
    bd1 (L_in x2 0 9) fun v13 =>
    if v13 = 0 then
      bd2 (L_need st 0 1) fun o17 st16 =>
      onx o17 (
        bd2 (L_finds st16) fun v18 st19 =>
        some (v18, st19)
      ) fun _ =>
      bd1 (rd (st16.2.1 (20 * 0 + 3)) 8 x1) fun v20 =>
      bd1 (wr (st16.2.1 (20 * 0 + 3)) 8 x1 x2) fun b21 =>
      if x2 = 0 then
        bd1 (wr ((csA st16 (20 * 0 + 3) b21).2.1 (20 * 0 + 4)) 8 x1 0) fun b24 =>
        some (v20, csA (csA st16 (20 * 0 + 3) b21) (20 * 0 + 4) b24)
      else
        bd1 (wr ((csA st16 (20 * 0 + 3) b21).2.1 (20 * 0 + 4)) 8 x1 x3) fun b23 =>
        some (v20, csA (csA st16 (20 * 0 + 3) b21) (20 * 0 + 4) b23)
    else
      if x2 = 0 then
        bd2 (L_need st 1 1) fun o28 st27 =>
        onx o28 (
          bd2 (L_finds st27) fun v29 st30 =>
          some (v29, st30)
        ) fun _ =>
        bd1 (rd (st27.2.1 (20 * 0 + 3)) 8 x1) fun v31 =>
        bd1 (wr (st27.2.1 (20 * 0 + 3)) 8 x1 x2) fun b32 =>
        if x2 = 0 then
          bd1 (wr ((csA st27 (20 * 0 + 3) b32).2.1 (20 * 0 + 4)) 8 x1 0) fun b35 =>
          some (v31, csA (csA st27 (20 * 0 + 3) b32) (20 * 0 + 4) b35)
        else
          bd1 (wr ((csA st27 (20 * 0 + 3) b32).2.1 (20 * 0 + 4)) 8 x1 x3) fun b34 =>
          some (v31, csA (csA st27 (20 * 0 + 3) b32) (20 * 0 + 4) b34)
      else
        bd1 (L_isFact st x3) fun v36 =>
        if v36 = 0 then
          bd2 (L_need st 0 1) fun o40 st39 =>
          onx o40 (
            bd2 (L_finds st39) fun v41 st42 =>
            some (v41, st42)
          ) fun _ =>
          bd1 (rd (st39.2.1 (20 * 0 + 3)) 8 x1) fun v43 =>
          bd1 (wr (st39.2.1 (20 * 0 + 3)) 8 x1 x2) fun b44 =>
          if x2 = 0 then
            bd1 (wr ((csA st39 (20 * 0 + 3) b44).2.1 (20 * 0 + 4)) 8 x1 0) fun b47 =>
            some (v43, csA (csA st39 (20 * 0 + 3) b44) (20 * 0 + 4) b47)
          else
            bd1 (wr ((csA st39 (20 * 0 + 3) b44).2.1 (20 * 0 + 4)) 8 x1 x3) fun b46 =>
            some (v43, csA (csA st39 (20 * 0 + 3) b44) (20 * 0 + 4) b46)
        else
          if x3 = x1 then
            bd2 (L_need st 0 1) fun o51 st50 =>
            onx o51 (
              bd2 (L_finds st50) fun v52 st53 =>
              some (v52, st53)
            ) fun _ =>
            bd1 (rd (st50.2.1 (20 * 0 + 3)) 8 x1) fun v54 =>
            bd1 (wr (st50.2.1 (20 * 0 + 3)) 8 x1 x2) fun b55 =>
            if x2 = 0 then
              bd1 (wr ((csA st50 (20 * 0 + 3) b55).2.1 (20 * 0 + 4)) 8 x1 0) fun b58 =>
              some (v54, csA (csA st50 (20 * 0 + 3) b55) (20 * 0 + 4) b58)
            else
              bd1 (wr ((csA st50 (20 * 0 + 3) b55).2.1 (20 * 0 + 4)) 8 x1 x3) fun b57 =>
              some (v54, csA (csA st50 (20 * 0 + 3) b55) (20 * 0 + 4) b57)
          else
            bd2 (L_need st 1 1) fun o61 st60 =>
            onx o61 (
              bd2 (L_finds st60) fun v62 st63 =>
              some (v62, st63)
            ) fun _ =>
            bd1 (rd (st60.2.1 (20 * 0 + 3)) 8 x1) fun v64 =>
            bd1 (wr (st60.2.1 (20 * 0 + 3)) 8 x1 x2) fun b65 =>
            if x2 = 0 then
              bd1 (wr ((csA st60 (20 * 0 + 3) b65).2.1 (20 * 0 + 4)) 8 x1 0) fun b68 =>
              some (v64, csA (csA st60 (20 * 0 + 3) b65) (20 * 0 + 4) b68)
            else
              bd1 (wr ((csA st60 (20 * 0 + 3) b65).2.1 (20 * 0 + 4)) 8 x1 x3) fun b67 =>
              some (v64, csA (csA st60 (20 * 0 + 3) b65) (20 * 0 + 4) b67)
def L_ofFact_L135 (N : Nat) (st : CS) (x1 : Int32) : Nat → Int32 → Int32 → Option (Int32)
  | 0, _, _ => none
  | n + 1, x3, x4 =>
    if (st.1 (20 * 0) 6) ≤ x4 then
      some x3
    else
      bd1 (T_told 0 N st x4) fun v21 =>
      bd1 (L_isIn v21 x1) fun v22 =>
      if v22 = 0 then
        L_ofFact_L135 N st x1 n (x3 + 0) (x4 + 1)
      else
        L_ofFact_L135 N st x1 n (x3 + 1) (x4 + 1)
def L_ofFact (N : Nat) (st : CS) (x1 : Int32) (x2 : Int32) : Option (Int32 × CS) :=
  bd1 (L_isFact st x1) fun v1 =>
  if v1 = 0 then
    bd2 (L_need st 0 1) fun o5 st4 =>
    onx o5 (
      bd2 (L_finds st4) fun v6 st7 =>
      some (v6, st7)
    ) fun _ =>
    if x2 = 0 then
      bd1 (rd (st4.2.1 (20 * 0 + 1)) 8 x1) fun v9 =>
      some (v9, st4)
    else
      if x2 = 1 then
        bd1 (rd (st4.2.1 (20 * 0 + 2)) 8 x1) fun v11 =>
        some (v11, st4)
      else
        if x2 = 2 then
          bd1 (rd (st4.2.1 (20 * 0 + 3)) 8 x1) fun v13 =>
          some (v13, st4)
        else
          if x2 = 3 then
            bd1 (rd (st4.2.1 (20 * 0 + 3)) 8 x1) fun v15 =>
            if v15 = 0 then
              some ((-1), st4)
            else
              bd1 (rd (st4.2.1 (20 * 0 + 4)) 8 x1) fun v17 =>
              some (v17, st4)
          else
            if x2 = 4 then
              bd1 (rd (st4.2.1 (20 * 0 + 5)) 8 x1) fun v19 =>
              some (v19, st4)
            else
              bd1 (L_ofFact_L135 N st4 x1 N 0 0) fun z24 =>
              some (z24, st4)
  else
    bd1 (L_in x2 0 5) fun v26 =>
    if v26 = 0 then
      bd2 (L_need st 0 1) fun o30 st29 =>
      onx o30 (
        bd2 (L_finds st29) fun v31 st32 =>
        some (v31, st32)
      ) fun _ =>
      if x2 = 0 then
        bd1 (rd (st29.2.1 (20 * 0 + 1)) 8 x1) fun v34 =>
        some (v34, st29)
      else
        if x2 = 1 then
          bd1 (rd (st29.2.1 (20 * 0 + 2)) 8 x1) fun v36 =>
          some (v36, st29)
        else
          if x2 = 2 then
            bd1 (rd (st29.2.1 (20 * 0 + 3)) 8 x1) fun v38 =>
            some (v38, st29)
          else
            if x2 = 3 then
              bd1 (rd (st29.2.1 (20 * 0 + 3)) 8 x1) fun v40 =>
              if v40 = 0 then
                some ((-1), st29)
              else
                bd1 (rd (st29.2.1 (20 * 0 + 4)) 8 x1) fun v42 =>
                some (v42, st29)
            else
              if x2 = 4 then
                bd1 (rd (st29.2.1 (20 * 0 + 5)) 8 x1) fun v44 =>
                some (v44, st29)
              else
                bd1 (L_ofFact_L135 N st29 x1 N 0 0) fun z45 =>
                some (z45, st29)
    else
      bd2 (L_need st 1 1) fun o49 st48 =>
      onx o49 (
        bd2 (L_finds st48) fun v50 st51 =>
        some (v50, st51)
      ) fun _ =>
      if x2 = 0 then
        bd1 (rd (st48.2.1 (20 * 0 + 1)) 8 x1) fun v53 =>
        some (v53, st48)
      else
        if x2 = 1 then
          bd1 (rd (st48.2.1 (20 * 0 + 2)) 8 x1) fun v55 =>
          some (v55, st48)
        else
          if x2 = 2 then
            bd1 (rd (st48.2.1 (20 * 0 + 3)) 8 x1) fun v57 =>
            some (v57, st48)
          else
            if x2 = 3 then
              bd1 (rd (st48.2.1 (20 * 0 + 3)) 8 x1) fun v59 =>
              if v59 = 0 then
                some ((-1), st48)
              else
                bd1 (rd (st48.2.1 (20 * 0 + 4)) 8 x1) fun v61 =>
                some (v61, st48)
            else
              if x2 = 4 then
                bd1 (rd (st48.2.1 (20 * 0 + 5)) 8 x1) fun v63 =>
                some (v63, st48)
              else
                bd1 (L_ofFact_L135 N st48 x1 N 0 0) fun z64 =>
                some (z64, st48)
def L_book (st : CS) (x1 : Int32) (x2 : Int32) (x3 : Int32) : Option (Int32 × CS) :=
  bd1 (L_isDebtor st x1) fun v1 =>
  if v1 = 0 then
    bd2 (L_need st 0 1) fun o5 st4 =>
    onx o5 (
      bd2 (L_finds st4) fun v6 st7 =>
      some (v6, st7)
    ) fun _ =>
    bd1 (rd (st4.2.1 (20 * 0 + 8)) 4 x1) fun v8 =>
    bd1 (L_in x2 0 (v8 - 1)) fun v9 =>
    bd2 (L_need st4 v9 2) fun o12 st11 =>
    onx o12 (
      bd2 (L_finds st11) fun v13 st14 =>
      some (v13, st14)
    ) fun _ =>
    if x3 = 0 then
      bd1 (T_factAt 0 st11 x1 x2) fun v17 =>
      some (v17, st11)
    else
      bd1 (rd (st11.2.1 (20 * 0 + 10)) 32 ((8 * x1) + x2)) fun v16 =>
      some (v16, st11)
  else
    bd1 (L_in x3 0 1) fun v18 =>
    if v18 = 0 then
      bd2 (L_need st 0 1) fun o22 st21 =>
      onx o22 (
        bd2 (L_finds st21) fun v23 st24 =>
        some (v23, st24)
      ) fun _ =>
      bd1 (rd (st21.2.1 (20 * 0 + 8)) 4 x1) fun v25 =>
      bd1 (L_in x2 0 (v25 - 1)) fun v26 =>
      bd2 (L_need st21 v26 2) fun o29 st28 =>
      onx o29 (
        bd2 (L_finds st28) fun v30 st31 =>
        some (v30, st31)
      ) fun _ =>
      if x3 = 0 then
        bd1 (T_factAt 0 st28 x1 x2) fun v34 =>
        some (v34, st28)
      else
        bd1 (rd (st28.2.1 (20 * 0 + 10)) 32 ((8 * x1) + x2)) fun v33 =>
        some (v33, st28)
    else
      bd2 (L_need st 1 1) fun o37 st36 =>
      onx o37 (
        bd2 (L_finds st36) fun v38 st39 =>
        some (v38, st39)
      ) fun _ =>
      bd1 (rd (st36.2.1 (20 * 0 + 8)) 4 x1) fun v40 =>
      bd1 (L_in x2 0 (v40 - 1)) fun v41 =>
      bd2 (L_need st36 v41 2) fun o44 st43 =>
      onx o44 (
        bd2 (L_finds st43) fun v45 st46 =>
        some (v45, st46)
      ) fun _ =>
      if x3 = 0 then
        bd1 (T_factAt 0 st43 x1 x2) fun v49 =>
        some (v49, st43)
      else
        bd1 (rd (st43.2.1 (20 * 0 + 10)) 32 ((8 * x1) + x2)) fun v48 =>
        some (v48, st43)
def L_lend (st : CS) (x1 : Int32) (x2 : Int32) : Option (Int32 × CS) :=
  bd1 (L_isDebtor st x1) fun v1 =>
  if v1 = 0 then
    bd2 (L_need st 0 1) fun o5 st4 =>
    onx o5 (
      bd2 (L_finds st4) fun v6 st7 =>
      some (v6, st7)
    ) fun _ =>
    bd1 (rd (st4.2.1 (20 * 0 + 7)) 4 x1) fun v8 =>
    if v8 = 0 then
      bd2 (L_need st4 1 3) fun o20 st19 =>
      onx o20 (
        bd2 (L_finds st19) fun v21 st22 =>
        some (v21, st22)
      ) fun _ =>
      bd1 (T_lends 0 st19 x1 x2) fun st24 =>
      bd1 (rd (st24.2.1 (20 * 0 + 6)) 4 x1) fun v25 =>
      some (v25, st24)
    else
      bd2 (L_need st4 0 3) fun o12 st11 =>
      onx o12 (
        bd2 (L_finds st11) fun v13 st14 =>
        some (v13, st14)
      ) fun _ =>
      bd1 (T_lends 0 st11 x1 x2) fun st16 =>
      bd1 (rd (st16.2.1 (20 * 0 + 6)) 4 x1) fun v17 =>
      some (v17, st16)
  else
    bd1 (L_in x2 1 999) fun v26 =>
    if v26 = 0 then
      bd2 (L_need st 0 1) fun o30 st29 =>
      onx o30 (
        bd2 (L_finds st29) fun v31 st32 =>
        some (v31, st32)
      ) fun _ =>
      bd1 (rd (st29.2.1 (20 * 0 + 7)) 4 x1) fun v33 =>
      if v33 = 0 then
        bd2 (L_need st29 1 3) fun o45 st44 =>
        onx o45 (
          bd2 (L_finds st44) fun v46 st47 =>
          some (v46, st47)
        ) fun _ =>
        bd1 (T_lends 0 st44 x1 x2) fun st49 =>
        bd1 (rd (st49.2.1 (20 * 0 + 6)) 4 x1) fun v50 =>
        some (v50, st49)
      else
        bd2 (L_need st29 0 3) fun o37 st36 =>
        onx o37 (
          bd2 (L_finds st36) fun v38 st39 =>
          some (v38, st39)
        ) fun _ =>
        bd1 (T_lends 0 st36 x1 x2) fun st41 =>
        bd1 (rd (st41.2.1 (20 * 0 + 6)) 4 x1) fun v42 =>
        some (v42, st41)
    else
      bd2 (L_need st 1 1) fun o53 st52 =>
      onx o53 (
        bd2 (L_finds st52) fun v54 st55 =>
        some (v54, st55)
      ) fun _ =>
      bd1 (rd (st52.2.1 (20 * 0 + 7)) 4 x1) fun v56 =>
      if v56 = 0 then
        bd2 (L_need st52 1 3) fun o68 st67 =>
        onx o68 (
          bd2 (L_finds st67) fun v69 st70 =>
          some (v69, st70)
        ) fun _ =>
        bd1 (T_lends 0 st67 x1 x2) fun st72 =>
        bd1 (rd (st72.2.1 (20 * 0 + 6)) 4 x1) fun v73 =>
        some (v73, st72)
      else
        bd2 (L_need st52 0 3) fun o60 st59 =>
        onx o60 (
          bd2 (L_finds st59) fun v61 st62 =>
          some (v61, st62)
        ) fun _ =>
        bd1 (T_lends 0 st59 x1 x2) fun st64 =>
        bd1 (rd (st64.2.1 (20 * 0 + 6)) 4 x1) fun v65 =>
        some (v65, st64)
def L_tells (N : Nat) (st : CS) (x1 : Int32) (x2 : Int32) : Option (Int32 × CS) :=
  bd1 (L_isDebtor st x1) fun v1 =>
  if v1 = 0 then
    bd2 (L_need st 0 1) fun o5 st4 =>
    onx o5 (
      bd2 (L_finds st4) fun v6 st7 =>
      some (v6, st7)
    ) fun _ =>
    bd1 (L_canTell N st4 x1 x2) fun v8 =>
    bd2 (L_need st4 v8 3) fun o11 st10 =>
    onx o11 (
      bd2 (L_finds st10) fun v12 st13 =>
      some (v12, st13)
    ) fun _ =>
    bd1 (T_tells 0 st10 x1 x2) fun st15 =>
    bd1 (rd (st15.2.1 (20 * 0 + 6)) 4 x1) fun v16 =>
    some (v16, st15)
  else
    bd1 (L_isFact st x2) fun v17 =>
    if v17 = 0 then
      bd2 (L_need st 0 1) fun o21 st20 =>
      onx o21 (
        bd2 (L_finds st20) fun v22 st23 =>
        some (v22, st23)
      ) fun _ =>
      bd1 (L_canTell N st20 x1 x2) fun v24 =>
      bd2 (L_need st20 v24 3) fun o27 st26 =>
      onx o27 (
        bd2 (L_finds st26) fun v28 st29 =>
        some (v28, st29)
      ) fun _ =>
      bd1 (T_tells 0 st26 x1 x2) fun st31 =>
      bd1 (rd (st31.2.1 (20 * 0 + 6)) 4 x1) fun v32 =>
      some (v32, st31)
    else
      bd2 (L_need st 1 1) fun o35 st34 =>
      onx o35 (
        bd2 (L_finds st34) fun v36 st37 =>
        some (v36, st37)
      ) fun _ =>
      bd1 (L_canTell N st34 x1 x2) fun v38 =>
      bd2 (L_need st34 v38 3) fun o41 st40 =>
      onx o41 (
        bd2 (L_finds st40) fun v42 st43 =>
        some (v42, st43)
      ) fun _ =>
      bd1 (T_tells 0 st40 x1 x2) fun st45 =>
      bd1 (rd (st45.2.1 (20 * 0 + 6)) 4 x1) fun v46 =>
      some (v46, st45)
def L_pardon (st : CS) (x1 : Int32) : Option (Int32 × CS) :=
  bd1 (L_isDebtor st x1) fun v1 =>
  bd2 (L_need st v1 1) fun o4 st3 =>
  onx o4 (
    bd2 (L_finds st3) fun v5 st6 =>
    some (v5, st6)
  ) fun _ =>
  bd1 (rd (st3.2.1 (20 * 0 + 7)) 4 x1) fun v7 =>
  bd2 (L_need st3 v7 3) fun o10 st9 =>
  onx o10 (
    bd2 (L_finds st9) fun v11 st12 =>
    some (v11, st12)
  ) fun _ =>
  bd1 (rd (st9.2.1 (20 * 0 + 8)) 4 x1) fun v13 =>
  bd1 (wr (st9.2.1 (20 * 0 + 7)) 4 x1 0) fun b14 =>
  bd1 (wr ((csA st9 (20 * 0 + 7) b14).2.1 (20 * 0 + 6)) 4 x1 0) fun b15 =>
  bd1 (wr ((csA (csA st9 (20 * 0 + 7) b14) (20 * 0 + 6) b15).2.1 (20 * 0 + 8)) 4 x1 0) fun b16 =>
  some (v13, csA (csA (csA st9 (20 * 0 + 7) b14) (20 * 0 + 6) b15) (20 * 0 + 8) b16)
def L_weeks_L7 (N : Nat) (x1 : Int32) : Nat → CS → Int32 → Option (CS)
  | 0, _, _ => none
  | n + 1, st, x2 =>
    if x1 ≤ x2 then
      some st
    else
      bd1 (T_goes 0 N st) fun st8 =>
      L_weeks_L7 N x1 n st8 (x2 + 1)
def L_weeks (N : Nat) (st : CS) (x1 : Int32) : Option (Int32 × CS) :=
  bd2 (L_mustGo st x1) fun o3 st2 =>
  onx o3 (
    bd2 (L_finds st2) fun v4 st5 =>
    some (v4, st5)
  ) fun _ =>
  bd1 (L_weeks_L7 N x1 N st2 0) fun st9 =>
  bd1 (T_broken 0 N st9) fun v10 =>
  some (v10, st9)
def L_loose_L7 (N : Nat) (x1 : Int32) : Nat → CS → Int32 → Option (CS)
  | 0, _, _ => none
  | n + 1, st, x2 =>
    if x1 ≤ x2 then
      some st
    else
      bd1 (T_goesLoose 0 N st) fun st8 =>
      L_loose_L7 N x1 n st8 (x2 + 1)
def L_loose (N : Nat) (st : CS) (x1 : Int32) : Option (Int32 × CS) :=
  bd2 (L_mustGo st x1) fun o3 st2 =>
  onx o3 (
    bd2 (L_finds st2) fun v4 st5 =>
    some (v4, st5)
  ) fun _ =>
  bd1 (L_loose_L7 N x1 N st2 0) fun st9 =>
  bd1 (T_broken 0 N st9) fun v10 =>
  some (v10, st9)
def L_then_L59 (N : Nat) (x1 : Int32) (x2 : Int32) (x3 : Int32) : Nat → CS → Int32 → Option (CS)
  | 0, _, _ => none
  | n + 1, st, x4 =>
    if x1 ≤ x4 then
      some st
    else
      bd1 (T_goes 2 N st) fun st11 =>
      L_then_L59 N x1 x2 x3 n st11 (x4 + 1)
def L_then (N : Nat) (st : CS) (x1 : Int32) (x2 : Int32) (x3 : Int32) : Option (Int32 × CS) :=
  bd1 (L_in x1 0 60) fun v1 =>
  if v1 = 0 then
    bd2 (L_need st 0 1) fun o5 st4 =>
    onx o5 (
      bd2 (L_finds st4) fun v6 st7 =>
      some (v6, st7)
    ) fun _ =>
    bd1 (T_become 2 0 st4) fun st8 =>
    bd1 (L_then_L59 N x1 x2 x3 N st8 0) fun st12 =>
    bd1 (L_isOn 2 N st12 x2 x3) fun v13 =>
    some (v13, st12)
  else
    bd1 (L_isDebtor st x2) fun v15 =>
    if v15 = 0 then
      bd2 (L_need st 0 1) fun o19 st18 =>
      onx o19 (
        bd2 (L_finds st18) fun v20 st21 =>
        some (v20, st21)
      ) fun _ =>
      bd1 (T_become 2 0 st18) fun st22 =>
      bd1 (L_then_L59 N x1 x2 x3 N st22 0) fun st23 =>
      bd1 (L_isOn 2 N st23 x2 x3) fun v24 =>
      some (v24, st23)
    else
      bd1 (L_in x3 2 7) fun v26 =>
      if v26 = 0 then
        bd2 (L_need st 0 1) fun o30 st29 =>
        onx o30 (
          bd2 (L_finds st29) fun v31 st32 =>
          some (v31, st32)
        ) fun _ =>
        bd1 (T_become 2 0 st29) fun st33 =>
        bd1 (L_then_L59 N x1 x2 x3 N st33 0) fun st34 =>
        bd1 (L_isOn 2 N st34 x2 x3) fun v35 =>
        some (v35, st34)
      else
        if x3 = 6 then
          bd2 (L_need st 0 1) fun o40 st39 =>
          onx o40 (
            bd2 (L_finds st39) fun v41 st42 =>
            some (v41, st42)
          ) fun _ =>
          bd1 (T_become 2 0 st39) fun st43 =>
          bd1 (L_then_L59 N x1 x2 x3 N st43 0) fun st44 =>
          bd1 (L_isOn 2 N st44 x2 x3) fun v45 =>
          some (v45, st44)
        else
          bd2 (L_need st 1 1) fun o49 st48 =>
          onx o49 (
            bd2 (L_finds st48) fun v50 st51 =>
            some (v50, st51)
          ) fun _ =>
          bd1 (T_become 2 0 st48) fun st52 =>
          bd1 (L_then_L59 N x1 x2 x3 N st52 0) fun st53 =>
          bd1 (L_isOn 2 N st53 x2 x3) fun v54 =>
          some (v54, st53)
def L_feed_L39 (N : Nat) (x1 : Int64) (x3 : Int32) : Nat → CS → Int32 → Option (CS)
  | 0, _, _ => none
  | n + 1, st, x4 =>
    if x3 ≤ x4 then
      some st
    else
      bd1 (wr (st.2.1 (20 * 0 + 14)) 50 (st.1 (20 * 0) 21) (vp_nar .byte (((x1 >>> ((8 * x4).toInt64 &&& 63)).toInt32).toInt8.toInt32))) fun b14 =>
      L_feed_L39 N x1 x3 n (csF (csA st (20 * 0 + 14) b14) (20 * 0) 21 (((csA st (20 * 0 + 14) b14).1 (20 * 0) 21) + 1)) (x4 + 1)
def L_feed (N : Nat) (st : CS) (x1 : Int64) (x3 : Int32) : Option (Int32 × CS) :=
  bd1 (L_in x3 1 8) fun v1 =>
  bd2 (L_need st v1 1) fun o4 st3 =>
  onx o4 (
    bd2 (L_finds st3) fun v5 st6 =>
    some (v5, st6)
  ) fun _ =>
  if 50 < ((st3.1 (20 * 0) 21) + x3) then
    bd2 (L_need st3 0 4) fun o10 st9 =>
    onx o10 (
      bd2 (L_finds st9) fun v11 st12 =>
      some (v11, st12)
    ) fun _ =>
    bd1 (L_feed_L39 N x1 x3 N st9 0) fun st15 =>
    some (st15.1 (20 * 0) 21, st15)
  else
    bd2 (L_need st3 1 4) fun o19 st18 =>
    onx o19 (
      bd2 (L_finds st18) fun v20 st21 =>
      some (v20, st21)
    ) fun _ =>
    bd1 (L_feed_L39 N x1 x3 N st18 0) fun st22 =>
    some (st22.1 (20 * 0) 21, st22)
def L_law (st : CS) (x1 : Int32) (x2 : Int32) (x3 : Int32) (x4 : Int32) : Option (Int32 × CS) :=
  bd1 (L_in x1 0 1) fun v1 =>
  bd2 (L_need st v1 1) fun o4 st3 =>
  onx o4 (
    bd2 (L_finds st3) fun v5 st6 =>
    some (v5, st6)
  ) fun _ =>
  if x1 = 0 then
    bd2 (T_payBy 0 st3 x2 x3 x4) fun v10 st11 =>
    some (v10, st11)
  else
    bd2 (T_trustBy 0 st3 x2 x3 x4) fun v8 st9 =>
    some (v8, st9)
def L_clashOf_L48 (N : Nat) (st : CS) (x1 : Int32) (x3 : Int32) : Nat → Int32 → Int32 → Option (Int32)
  | 0, _, _ => none
  | n + 1, x2, x4 =>
    if x4 ≤ x3 then
      some x2
    else
      bd1 (L_isIn x1 x3) fun v9 =>
      if v9 = 0 then
        L_clashOf_L48 N st x1 x3 n x2 (x4 + (-1))
      else
        bd1 (L_isIn x1 x4) fun v11 =>
        if v11 = 0 then
          L_clashOf_L48 N st x1 x3 n x2 (x4 + (-1))
        else
          bd1 (rd (st.2.1 (20 * 0 + 2)) 8 x3) fun v13 =>
          bd1 (L_isIn v13 x4) fun v14 =>
          if v14 = 0 then
            L_clashOf_L48 N st x1 x3 n x2 (x4 + (-1))
          else
            L_clashOf_L48 N st x1 x3 n ((10 * x3) + x4) (x4 + (-1))
def L_clashOf_L33 (N : Nat) (st : CS) (x1 : Int32) : Nat → Int32 → Int32 → Option (Int32)
  | 0, _, _ => none
  | n + 1, x2, x3 =>
    if x3 < 0 then
      some x2
    else
      bd1 (L_clashOf_L48 N st x1 x3 N x2 ((st.1 (20 * 0) 0) - 1)) fun z16 =>
      L_clashOf_L33 N st x1 n z16 (x3 + (-1))
def L_clashOf (N : Nat) (st : CS) (x1 : Int32) : Option (Int32 × CS) :=
  bd1 (L_in x1 0 ((1 <<< ((st.1 (20 * 0) 0) &&& 31)) - 1)) fun v1 =>
  bd2 (L_need st v1 1) fun o4 st3 =>
  onx o4 (
    bd2 (L_finds st3) fun v5 st6 =>
    some (v5, st6)
  ) fun _ =>
  bd1 (L_clashOf_L33 N st3 x1 N (-1) ((st3.1 (20 * 0) 0) - 1)) fun z18 =>
  if z18 = (-1) then
    bd2 (L_need st3 0 2) fun o22 st21 =>
    onx o22 (
      bd2 (L_finds st21) fun v23 st24 =>
      some (v23, st24)
    ) fun _ =>
    some (z18, st21)
  else
    bd2 (L_need st3 1 2) fun o27 st26 =>
    onx o27 (
      bd2 (L_finds st26) fun v28 st29 =>
      some (v28, st29)
    ) fun _ =>
    some (z18, st26)
def L_joined_L56 (N : Nat) (st : CS) (x3 : Int32) (x4 : Int32) : Nat → Int32 → Int32 → Option (Int32)
  | 0, _, _ => none
  | n + 1, x5, x6 =>
    if (st.1 (20 * 0) 0) ≤ x6 then
      some x5
    else
      bd1 (L_isIn x3 x6) fun v11 =>
      if v11 = 0 then
        L_joined_L56 N st x3 x4 n (x5 &&& 1) (x6 + 1)
      else
        bd1 (rd (st.2.1 (20 * 0 + 2)) 8 x6) fun v13 =>
        if (v13 &&& x4) = 0 then
          L_joined_L56 N st x3 x4 n (x5 &&& 1) (x6 + 1)
        else
          L_joined_L56 N st x3 x4 n (x5 &&& 0) (x6 + 1)
def L_joined (N : Nat) (st : CS) (x1 : Int32) (x2 : Int32) : Option (Int32 × CS) :=
  bd1 (L_isDebtor st x1) fun v1 =>
  if v1 = 0 then
    bd2 (L_need st 0 1) fun o5 st4 =>
    onx o5 (
      bd2 (L_finds st4) fun v6 st7 =>
      some (v6, st7)
    ) fun _ =>
    bd1 (T_told 0 N st4 x1) fun v8 =>
    bd1 (T_told 0 N st4 x2) fun v9 =>
    bd1 (L_joined_L56 N st4 v8 v9 N 1 0) fun z15 =>
    bd2 (L_need st4 z15 2) fun o18 st17 =>
    onx o18 (
      bd2 (L_finds st17) fun v19 st20 =>
      some (v19, st20)
    ) fun _ =>
    some (v8 ||| v9, st17)
  else
    bd1 (L_isDebtor st x2) fun v22 =>
    if v22 = 0 then
      bd2 (L_need st 0 1) fun o26 st25 =>
      onx o26 (
        bd2 (L_finds st25) fun v27 st28 =>
        some (v27, st28)
      ) fun _ =>
      bd1 (T_told 0 N st25 x1) fun v29 =>
      bd1 (T_told 0 N st25 x2) fun v30 =>
      bd1 (L_joined_L56 N st25 v29 v30 N 1 0) fun z31 =>
      bd2 (L_need st25 z31 2) fun o34 st33 =>
      onx o34 (
        bd2 (L_finds st33) fun v35 st36 =>
        some (v35, st36)
      ) fun _ =>
      some (v29 ||| v30, st33)
    else
      if x1 = x2 then
        bd2 (L_need st 0 1) fun o41 st40 =>
        onx o41 (
          bd2 (L_finds st40) fun v42 st43 =>
          some (v42, st43)
        ) fun _ =>
        bd1 (T_told 0 N st40 x1) fun v44 =>
        bd1 (T_told 0 N st40 x2) fun v45 =>
        bd1 (L_joined_L56 N st40 v44 v45 N 1 0) fun z46 =>
        bd2 (L_need st40 z46 2) fun o49 st48 =>
        onx o49 (
          bd2 (L_finds st48) fun v50 st51 =>
          some (v50, st51)
        ) fun _ =>
        some (v44 ||| v45, st48)
      else
        bd2 (L_need st 1 1) fun o55 st54 =>
        onx o55 (
          bd2 (L_finds st54) fun v56 st57 =>
          some (v56, st57)
        ) fun _ =>
        bd1 (T_told 0 N st54 x1) fun v58 =>
        bd1 (T_told 0 N st54 x2) fun v59 =>
        bd1 (L_joined_L56 N st54 v58 v59 N 1 0) fun z60 =>
        bd2 (L_need st54 z60 2) fun o63 st62 =>
        onx o63 (
          bd2 (L_finds st62) fun v64 st65 =>
          some (v64, st65)
        ) fun _ =>
        some (v58 ||| v59, st62)
def L_meeting (st : CS) (x1 : Int32) (x2 : Int32) (x3 : Int32) : Option (Int32 × CS) :=
  bd1 (L_isWeek x1) fun v1 =>
  if v1 = 0 then
    bd2 (L_need st 0 1) fun o5 st4 =>
    onx o5 (
      bd2 (L_finds st4) fun v6 st7 =>
      some (v6, st7)
    ) fun _ =>
    if 12 ≤ (st4.1 (20 * 0) 14) then
      bd2 (L_need st4 0 4) fun o11 st10 =>
      onx o11 (
        bd2 (L_finds st10) fun v12 st13 =>
        some (v12, st13)
      ) fun _ =>
      bd1 (wr (st10.2.1 (20 * 0 + 11)) 12 (st10.1 (20 * 0) 14) x1) fun b14 =>
      bd1 (wr ((csA st10 (20 * 0 + 11) b14).2.1 (20 * 0 + 12)) 12 (st10.1 (20 * 0) 14) x2) fun b15 =>
      bd1 (wr ((csA (csA st10 (20 * 0 + 11) b14) (20 * 0 + 12) b15).2.1 (20 * 0 + 13)) 12 (st10.1 (20 * 0) 14) x3) fun b16 =>
      some (st10.1 (20 * 0) 14, csF (csA (csA (csA st10 (20 * 0 + 11) b14) (20 * 0 + 12) b15) (20 * 0 + 13) b16) (20 * 0) 14 (((csA (csA (csA st10 (20 * 0 + 11) b14) (20 * 0 + 12) b15) (20 * 0 + 13) b16).1 (20 * 0) 14) + 1))
    else
      bd2 (L_need st4 1 4) fun o19 st18 =>
      onx o19 (
        bd2 (L_finds st18) fun v20 st21 =>
        some (v20, st21)
      ) fun _ =>
      bd1 (wr (st18.2.1 (20 * 0 + 11)) 12 (st18.1 (20 * 0) 14) x1) fun b22 =>
      bd1 (wr ((csA st18 (20 * 0 + 11) b22).2.1 (20 * 0 + 12)) 12 (st18.1 (20 * 0) 14) x2) fun b23 =>
      bd1 (wr ((csA (csA st18 (20 * 0 + 11) b22) (20 * 0 + 12) b23).2.1 (20 * 0 + 13)) 12 (st18.1 (20 * 0) 14) x3) fun b24 =>
      some (st18.1 (20 * 0) 14, csF (csA (csA (csA st18 (20 * 0 + 11) b22) (20 * 0 + 12) b23) (20 * 0 + 13) b24) (20 * 0) 14 (((csA (csA (csA st18 (20 * 0 + 11) b22) (20 * 0 + 12) b23) (20 * 0 + 13) b24).1 (20 * 0) 14) + 1))
  else
    bd1 (L_isFigure x2) fun v25 =>
    if v25 = 0 then
      bd2 (L_need st 0 1) fun o29 st28 =>
      onx o29 (
        bd2 (L_finds st28) fun v30 st31 =>
        some (v30, st31)
      ) fun _ =>
      if 12 ≤ (st28.1 (20 * 0) 14) then
        bd2 (L_need st28 0 4) fun o35 st34 =>
        onx o35 (
          bd2 (L_finds st34) fun v36 st37 =>
          some (v36, st37)
        ) fun _ =>
        bd1 (wr (st34.2.1 (20 * 0 + 11)) 12 (st34.1 (20 * 0) 14) x1) fun b38 =>
        bd1 (wr ((csA st34 (20 * 0 + 11) b38).2.1 (20 * 0 + 12)) 12 (st34.1 (20 * 0) 14) x2) fun b39 =>
        bd1 (wr ((csA (csA st34 (20 * 0 + 11) b38) (20 * 0 + 12) b39).2.1 (20 * 0 + 13)) 12 (st34.1 (20 * 0) 14) x3) fun b40 =>
        some (st34.1 (20 * 0) 14, csF (csA (csA (csA st34 (20 * 0 + 11) b38) (20 * 0 + 12) b39) (20 * 0 + 13) b40) (20 * 0) 14 (((csA (csA (csA st34 (20 * 0 + 11) b38) (20 * 0 + 12) b39) (20 * 0 + 13) b40).1 (20 * 0) 14) + 1))
      else
        bd2 (L_need st28 1 4) fun o43 st42 =>
        onx o43 (
          bd2 (L_finds st42) fun v44 st45 =>
          some (v44, st45)
        ) fun _ =>
        bd1 (wr (st42.2.1 (20 * 0 + 11)) 12 (st42.1 (20 * 0) 14) x1) fun b46 =>
        bd1 (wr ((csA st42 (20 * 0 + 11) b46).2.1 (20 * 0 + 12)) 12 (st42.1 (20 * 0) 14) x2) fun b47 =>
        bd1 (wr ((csA (csA st42 (20 * 0 + 11) b46) (20 * 0 + 12) b47).2.1 (20 * 0 + 13)) 12 (st42.1 (20 * 0) 14) x3) fun b48 =>
        some (st42.1 (20 * 0) 14, csF (csA (csA (csA st42 (20 * 0 + 11) b46) (20 * 0 + 12) b47) (20 * 0 + 13) b48) (20 * 0) 14 (((csA (csA (csA st42 (20 * 0 + 11) b46) (20 * 0 + 12) b47) (20 * 0 + 13) b48).1 (20 * 0) 14) + 1))
    else
      bd1 (L_isFigure x3) fun v49 =>
      if v49 = 0 then
        bd2 (L_need st 0 1) fun o53 st52 =>
        onx o53 (
          bd2 (L_finds st52) fun v54 st55 =>
          some (v54, st55)
        ) fun _ =>
        if 12 ≤ (st52.1 (20 * 0) 14) then
          bd2 (L_need st52 0 4) fun o59 st58 =>
          onx o59 (
            bd2 (L_finds st58) fun v60 st61 =>
            some (v60, st61)
          ) fun _ =>
          bd1 (wr (st58.2.1 (20 * 0 + 11)) 12 (st58.1 (20 * 0) 14) x1) fun b62 =>
          bd1 (wr ((csA st58 (20 * 0 + 11) b62).2.1 (20 * 0 + 12)) 12 (st58.1 (20 * 0) 14) x2) fun b63 =>
          bd1 (wr ((csA (csA st58 (20 * 0 + 11) b62) (20 * 0 + 12) b63).2.1 (20 * 0 + 13)) 12 (st58.1 (20 * 0) 14) x3) fun b64 =>
          some (st58.1 (20 * 0) 14, csF (csA (csA (csA st58 (20 * 0 + 11) b62) (20 * 0 + 12) b63) (20 * 0 + 13) b64) (20 * 0) 14 (((csA (csA (csA st58 (20 * 0 + 11) b62) (20 * 0 + 12) b63) (20 * 0 + 13) b64).1 (20 * 0) 14) + 1))
        else
          bd2 (L_need st52 1 4) fun o67 st66 =>
          onx o67 (
            bd2 (L_finds st66) fun v68 st69 =>
            some (v68, st69)
          ) fun _ =>
          bd1 (wr (st66.2.1 (20 * 0 + 11)) 12 (st66.1 (20 * 0) 14) x1) fun b70 =>
          bd1 (wr ((csA st66 (20 * 0 + 11) b70).2.1 (20 * 0 + 12)) 12 (st66.1 (20 * 0) 14) x2) fun b71 =>
          bd1 (wr ((csA (csA st66 (20 * 0 + 11) b70) (20 * 0 + 12) b71).2.1 (20 * 0 + 13)) 12 (st66.1 (20 * 0) 14) x3) fun b72 =>
          some (st66.1 (20 * 0) 14, csF (csA (csA (csA st66 (20 * 0 + 11) b70) (20 * 0 + 12) b71) (20 * 0 + 13) b72) (20 * 0) 14 (((csA (csA (csA st66 (20 * 0 + 11) b70) (20 * 0 + 12) b71) (20 * 0 + 13) b72).1 (20 * 0) 14) + 1))
      else
        if x2 = x3 then
          bd2 (L_need st 0 1) fun o76 st75 =>
          onx o76 (
            bd2 (L_finds st75) fun v77 st78 =>
            some (v77, st78)
          ) fun _ =>
          if 12 ≤ (st75.1 (20 * 0) 14) then
            bd2 (L_need st75 0 4) fun o82 st81 =>
            onx o82 (
              bd2 (L_finds st81) fun v83 st84 =>
              some (v83, st84)
            ) fun _ =>
            bd1 (wr (st81.2.1 (20 * 0 + 11)) 12 (st81.1 (20 * 0) 14) x1) fun b85 =>
            bd1 (wr ((csA st81 (20 * 0 + 11) b85).2.1 (20 * 0 + 12)) 12 (st81.1 (20 * 0) 14) x2) fun b86 =>
            bd1 (wr ((csA (csA st81 (20 * 0 + 11) b85) (20 * 0 + 12) b86).2.1 (20 * 0 + 13)) 12 (st81.1 (20 * 0) 14) x3) fun b87 =>
            some (st81.1 (20 * 0) 14, csF (csA (csA (csA st81 (20 * 0 + 11) b85) (20 * 0 + 12) b86) (20 * 0 + 13) b87) (20 * 0) 14 (((csA (csA (csA st81 (20 * 0 + 11) b85) (20 * 0 + 12) b86) (20 * 0 + 13) b87).1 (20 * 0) 14) + 1))
          else
            bd2 (L_need st75 1 4) fun o90 st89 =>
            onx o90 (
              bd2 (L_finds st89) fun v91 st92 =>
              some (v91, st92)
            ) fun _ =>
            bd1 (wr (st89.2.1 (20 * 0 + 11)) 12 (st89.1 (20 * 0) 14) x1) fun b93 =>
            bd1 (wr ((csA st89 (20 * 0 + 11) b93).2.1 (20 * 0 + 12)) 12 (st89.1 (20 * 0) 14) x2) fun b94 =>
            bd1 (wr ((csA (csA st89 (20 * 0 + 11) b93) (20 * 0 + 12) b94).2.1 (20 * 0 + 13)) 12 (st89.1 (20 * 0) 14) x3) fun b95 =>
            some (st89.1 (20 * 0) 14, csF (csA (csA (csA st89 (20 * 0 + 11) b93) (20 * 0 + 12) b94) (20 * 0 + 13) b95) (20 * 0) 14 (((csA (csA (csA st89 (20 * 0 + 11) b93) (20 * 0 + 12) b94) (20 * 0 + 13) b95).1 (20 * 0) 14) + 1))
        else
          bd2 (L_need st 1 1) fun o98 st97 =>
          onx o98 (
            bd2 (L_finds st97) fun v99 st100 =>
            some (v99, st100)
          ) fun _ =>
          if 12 ≤ (st97.1 (20 * 0) 14) then
            bd2 (L_need st97 0 4) fun o104 st103 =>
            onx o104 (
              bd2 (L_finds st103) fun v105 st106 =>
              some (v105, st106)
            ) fun _ =>
            bd1 (wr (st103.2.1 (20 * 0 + 11)) 12 (st103.1 (20 * 0) 14) x1) fun b107 =>
            bd1 (wr ((csA st103 (20 * 0 + 11) b107).2.1 (20 * 0 + 12)) 12 (st103.1 (20 * 0) 14) x2) fun b108 =>
            bd1 (wr ((csA (csA st103 (20 * 0 + 11) b107) (20 * 0 + 12) b108).2.1 (20 * 0 + 13)) 12 (st103.1 (20 * 0) 14) x3) fun b109 =>
            some (st103.1 (20 * 0) 14, csF (csA (csA (csA st103 (20 * 0 + 11) b107) (20 * 0 + 12) b108) (20 * 0 + 13) b109) (20 * 0) 14 (((csA (csA (csA st103 (20 * 0 + 11) b107) (20 * 0 + 12) b108) (20 * 0 + 13) b109).1 (20 * 0) 14) + 1))
          else
            bd2 (L_need st97 1 4) fun o112 st111 =>
            onx o112 (
              bd2 (L_finds st111) fun v113 st114 =>
              some (v113, st114)
            ) fun _ =>
            bd1 (wr (st111.2.1 (20 * 0 + 11)) 12 (st111.1 (20 * 0) 14) x1) fun b115 =>
            bd1 (wr ((csA st111 (20 * 0 + 11) b115).2.1 (20 * 0 + 12)) 12 (st111.1 (20 * 0) 14) x2) fun b116 =>
            bd1 (wr ((csA (csA st111 (20 * 0 + 11) b115) (20 * 0 + 12) b116).2.1 (20 * 0 + 13)) 12 (st111.1 (20 * 0) 14) x3) fun b117 =>
            some (st111.1 (20 * 0) 14, csF (csA (csA (csA st111 (20 * 0 + 11) b115) (20 * 0 + 12) b116) (20 * 0 + 13) b117) (20 * 0) 14 (((csA (csA (csA st111 (20 * 0 + 11) b115) (20 * 0 + 12) b116) (20 * 0 + 13) b117).1 (20 * 0) 14) + 1))
def L_seed (st : CS) (x1 : Int32) : Option (Int32 × CS) :=
  some (st.1 (20 * 0) 19, csF st (20 * 0) 19 x1)
def L_trace (st : CS) (x1 : Int32) : Option (Int32 × CS) :=
  bd1 (L_in x1 0 ((st.1 62 1) - 1)) fun v1 =>
  bd2 (L_need st v1 2) fun o4 st3 =>
  onx o4 (
    bd2 (L_finds st3) fun v5 st6 =>
    some (v5, st6)
  ) fun _ =>
  bd1 (rd (st3.2.1 63) 40 x1) fun v7 =>
  some (v7, st3)
def L_image (st : CS) : Option (Int32 × CS) :=
  bd1 (T_become 1 0 st) fun st1 =>
  some ((csF st1 60 4 ((st1.1 60 4) + 1)).1 60 4, csF st1 60 4 ((st1.1 60 4) + 1))
def L_restore (st : CS) : Option (Int32 × CS) :=
  if (st.1 60 4) ≤ 0 then
    bd2 (L_need st 0 2) fun o4 st3 =>
    onx o4 (
      bd2 (L_finds st3) fun v5 st6 =>
      some (v5, st6)
    ) fun _ =>
    bd1 (T_become 0 1 st3) fun st7 =>
    some (st7.1 (20 * 0) 13, st7)
  else
    bd2 (L_need st 1 2) fun o10 st9 =>
    onx o10 (
      bd2 (L_finds st9) fun v11 st12 =>
      some (v11, st12)
    ) fun _ =>
    bd1 (T_become 0 1 st9) fun st13 =>
    some (st13.1 (20 * 0) 13, st13)
def L_tell (st : CS) (x1 : Int32) : Option (Int32 × CS) :=
  if 20 ≤ (st.1 (20 * 0) 23) then
    bd2 (L_need st 0 4) fun o4 st3 =>
    onx o4 (
      bd2 (L_finds st3) fun v5 st6 =>
      some (v5, st6)
    ) fun _ =>
    bd1 (wr (st3.2.1 (20 * 0 + 15)) 20 (st3.1 (20 * 0) 23) x1) fun b7 =>
    some ((csF (csA st3 (20 * 0 + 15) b7) (20 * 0) 23 (((csA st3 (20 * 0 + 15) b7).1 (20 * 0) 23) + 1)).1 (20 * 0) 23, csF (csA st3 (20 * 0 + 15) b7) (20 * 0) 23 (((csA st3 (20 * 0 + 15) b7).1 (20 * 0) 23) + 1))
  else
    bd2 (L_need st 1 4) fun o10 st9 =>
    onx o10 (
      bd2 (L_finds st9) fun v11 st12 =>
      some (v11, st12)
    ) fun _ =>
    bd1 (wr (st9.2.1 (20 * 0 + 15)) 20 (st9.1 (20 * 0) 23) x1) fun b13 =>
    some ((csF (csA st9 (20 * 0 + 15) b13) (20 * 0) 23 (((csA st9 (20 * 0 + 15) b13).1 (20 * 0) 23) + 1)).1 (20 * 0) 23, csF (csA st9 (20 * 0 + 15) b13) (20 * 0) 23 (((csA st9 (20 * 0 + 15) b13).1 (20 * 0) 23) + 1))
def L_check_L32 (N : Nat) (x1 : Int32) : Nat → CS → Int32 → Int32 → Option (CS × Int32 × Int32)
  | 0, _, _, _ => none
  | n + 1, st, x2, x3 =>
    if x1 ≤ x2 then
      some (st, x2, x3)
    else
      if x3 = 0 then
        some (st, x2, x3)
      else
        bd1 (T_goes 2 N st) fun st5 =>
        bd1 (rd (st5.2.1 (20 * 0 + 15)) 20 x2) fun v6 =>
        bd1 (T_debts 2 N st5) fun v7 =>
        if v6 = v7 then
          L_check_L32 N x1 n st5 (x2 + 1) 1
        else
          L_check_L32 N x1 n st5 (x2 + 0) 0
def L_check (N : Nat) (st : CS) : Option (Int32 × CS) :=
  bd1 (T_become 2 0 (csF st (20 * 0) 23 0)) fun st1 =>
  bd3 (L_check_L32 N (st.1 (20 * 0) 23) N st1 0 1) fun st9 z10 z11 =>
  if z11 = 0 then
    some (1 + z10, st9)
  else
    some (0, st9)
def L_count (N : Nat) (st : CS) (x1 : Int32) : Option (Int32 × CS) :=
  bd1 (L_in x1 0 9) fun v1 =>
  bd2 (L_need st v1 1) fun o4 st3 =>
  onx o4 (
    bd2 (L_finds st3) fun v5 st6 =>
    some (v5, st6)
  ) fun _ =>
  if x1 = 0 then
    some (st3.1 (20 * 0) 0, st3)
  else
    if x1 = 1 then
      some (st3.1 (20 * 0) 6, st3)
    else
      if x1 = 2 then
        some (st3.1 (20 * 0) 13, st3)
      else
        if x1 = 3 then
          some (st3.1 (20 * 0) 14, st3)
        else
          if x1 = 4 then
            bd1 (T_debts 0 N st3) fun v12 =>
            some (v12, st3)
          else
            if x1 = 5 then
              bd1 (T_broken 0 N st3) fun v14 =>
              some (v14, st3)
            else
              if x1 = 6 then
                some (st3.1 (20 * 0) 21, st3)
              else
                if x1 = 7 then
                  some (st3.1 (20 * 0) 23, st3)
                else
                  if x1 = 8 then
                    some (st3.1 62 1, st3)
                  else
                    some (st3.1 (20 * 0) 19, st3)
def L_told (st : CS) (x1 : Int32) : Option (Int32 × CS) :=
  bd1 (L_in x1 1 5) fun v1 =>
  bd2 (L_need st v1 1) fun o4 st3 =>
  onx o4 (
    bd2 (L_finds st3) fun v5 st6 =>
    some (v5, st6)
  ) fun _ =>
  bd1 (rd (st3.2.1 64) 6 x1) fun v7 =>
  some (v7, st3)
def L_freeBy_L30 (N : Nat) (x1 : Int32) : Nat → CS → Int32 → Option (CS × Int32)
  | 0, _, _ => none
  | n + 1, st, x3 =>
    if 60 ≤ x3 then
      some (st, x3)
    else
      bd1 (rd (st.2.1 (20 * 2 + 6)) 4 x1) fun v3 =>
      if v3 ≤ 0 then
        some (st, x3)
      else
        bd1 (T_goes 2 N st) fun st6 =>
        L_freeBy_L30 N x1 n st6 (x3 + 1)
def L_freeBy (N : Nat) (st : CS) (x1 : Int32) (x2 : Int32) : Option (Int32 × CS) :=
  bd1 (T_become 2 0 st) fun st1 =>
  bd2 (L_freeBy_L30 N x1 N (csF (csF st1 (20 * 2) 25 x1) (20 * 2) 26 x2) 0) fun st7 z8 =>
  bd1 (rd (st7.2.1 (20 * 2 + 6)) 4 x1) fun v9 =>
  if v9 = 0 then
    some (z8, st7)
  else
    some ((-1), st7)
def L_rated_L50 (N : Nat) (x1 : Int32) (x3 : Int32) : Nat → CS → Int32 → Int32 → Int32 → Option (CS × Int32 × Int32)
  | 0, _, _, _, _ => none
  | n + 1, st, x4, x5, x6 =>
    if x6 ≤ 0 then
      some (st, x4, x5)
    else
      if x3 = 1 then
        bd2 (L_freeBy N st x1 x6) fun v12 st13 =>
        if v12 = (-1) then
          L_rated_L50 N x1 x3 n st13 x4 x5 (x6 + (-1))
        else
          if x4 = (-1) then
            L_rated_L50 N x1 x3 n st13 v12 x6 (x6 + (-1))
          else
            if x4 < v12 then
              L_rated_L50 N x1 x3 n st13 x4 x5 (x6 + (-1))
            else
              L_rated_L50 N x1 x3 n st13 v12 x6 (x6 + (-1))
      else
        some (st, x4, x5)
def L_rated (N : Nat) (st : CS) (x1 : Int32) (x2 : Int32) (x3 : Int32) : Option (Int32 × CS) :=
  bd1 (L_isDebtor st x1) fun v1 =>
  if v1 = 0 then
    bd2 (L_need st 0 1) fun o5 st4 =>
    onx o5 (
      bd2 (L_finds st4) fun v6 st7 =>
      some (v6, st7)
    ) fun _ =>
    bd2 (L_freeBy N st4 x1 x2) fun v8 st9 =>
    bd3 (L_rated_L50 N x1 x3 N st9 v8 x2 4) fun st17 z18 z19 =>
    if z18 = (-1) then
      bd2 (L_need st17 0 2) fun o23 st22 =>
      onx o23 (
        bd2 (L_finds st22) fun v24 st25 =>
        some (v24, st25)
      ) fun _ =>
      if x3 = 0 then
        some (z18, st22)
      else
        some (z19, st22)
    else
      bd2 (L_need st17 1 2) fun o29 st28 =>
      onx o29 (
        bd2 (L_finds st28) fun v30 st31 =>
        some (v30, st31)
      ) fun _ =>
      if x3 = 0 then
        some (z18, st28)
      else
        some (z19, st28)
  else
    bd1 (L_in x2 1 4) fun v34 =>
    if v34 = 0 then
      bd2 (L_need st 0 1) fun o38 st37 =>
      onx o38 (
        bd2 (L_finds st37) fun v39 st40 =>
        some (v39, st40)
      ) fun _ =>
      bd2 (L_freeBy N st37 x1 x2) fun v41 st42 =>
      bd3 (L_rated_L50 N x1 x3 N st42 v41 x2 4) fun st43 z44 z45 =>
      if z44 = (-1) then
        bd2 (L_need st43 0 2) fun o49 st48 =>
        onx o49 (
          bd2 (L_finds st48) fun v50 st51 =>
          some (v50, st51)
        ) fun _ =>
        if x3 = 0 then
          some (z44, st48)
        else
          some (z45, st48)
      else
        bd2 (L_need st43 1 2) fun o55 st54 =>
        onx o55 (
          bd2 (L_finds st54) fun v56 st57 =>
          some (v56, st57)
        ) fun _ =>
        if x3 = 0 then
          some (z44, st54)
        else
          some (z45, st54)
    else
      bd1 (L_in x3 0 1) fun v60 =>
      if v60 = 0 then
        bd2 (L_need st 0 1) fun o64 st63 =>
        onx o64 (
          bd2 (L_finds st63) fun v65 st66 =>
          some (v65, st66)
        ) fun _ =>
        bd2 (L_freeBy N st63 x1 x2) fun v67 st68 =>
        bd3 (L_rated_L50 N x1 x3 N st68 v67 x2 4) fun st69 z70 z71 =>
        if z70 = (-1) then
          bd2 (L_need st69 0 2) fun o75 st74 =>
          onx o75 (
            bd2 (L_finds st74) fun v76 st77 =>
            some (v76, st77)
          ) fun _ =>
          if x3 = 0 then
            some (z70, st74)
          else
            some (z71, st74)
        else
          bd2 (L_need st69 1 2) fun o81 st80 =>
          onx o81 (
            bd2 (L_finds st80) fun v82 st83 =>
            some (v82, st83)
          ) fun _ =>
          if x3 = 0 then
            some (z70, st80)
          else
            some (z71, st80)
      else
        bd2 (L_need st 1 1) fun o88 st87 =>
        onx o88 (
          bd2 (L_finds st87) fun v89 st90 =>
          some (v89, st90)
        ) fun _ =>
        bd2 (L_freeBy N st87 x1 x2) fun v91 st92 =>
        bd3 (L_rated_L50 N x1 x3 N st92 v91 x2 4) fun st93 z94 z95 =>
        if z94 = (-1) then
          bd2 (L_need st93 0 2) fun o99 st98 =>
          onx o99 (
            bd2 (L_finds st98) fun v100 st101 =>
            some (v100, st101)
          ) fun _ =>
          if x3 = 0 then
            some (z94, st98)
          else
            some (z95, st98)
        else
          bd2 (L_need st93 1 2) fun o105 st104 =>
          onx o105 (
            bd2 (L_finds st104) fun v106 st107 =>
            some (v106, st107)
          ) fun _ =>
          if x3 = 0 then
            some (z94, st104)
          else
            some (z95, st104)
def L_nextMeeting_L12 (N : Nat) (st : CS) (x1 : Int32) : Nat → Int32 → Int32 → Option (Int32)
  | 0, _, _ => none
  | n + 1, x2, x3 =>
    if x3 < 0 then
      some x2
    else
      bd1 (rd (st.2.1 (20 * 0 + 11)) 12 x3) fun v2 =>
      if x1 = (-1) then
        if x2 = (-1) then
          L_nextMeeting_L12 N st x1 n x3 (x3 + (-1))
        else
          bd1 (rd (st.2.1 (20 * 0 + 11)) 12 x2) fun v5 =>
          if v5 < v2 then
            L_nextMeeting_L12 N st x1 n x2 (x3 + (-1))
          else
            L_nextMeeting_L12 N st x1 n x3 (x3 + (-1))
      else
        bd1 (rd (st.2.1 (20 * 0 + 11)) 12 x1) fun v7 =>
        if v7 < v2 then
          if x2 = (-1) then
            L_nextMeeting_L12 N st x1 n x3 (x3 + (-1))
          else
            bd1 (rd (st.2.1 (20 * 0 + 11)) 12 x2) fun v10 =>
            if v10 < v2 then
              L_nextMeeting_L12 N st x1 n x2 (x3 + (-1))
            else
              L_nextMeeting_L12 N st x1 n x3 (x3 + (-1))
        else
          bd1 (rd (st.2.1 (20 * 0 + 11)) 12 x1) fun v12 =>
          if v2 = v12 then
            if x3 ≤ x1 then
              L_nextMeeting_L12 N st x1 n x2 (x3 + (-1))
            else
              if x2 = (-1) then
                L_nextMeeting_L12 N st x1 n x3 (x3 + (-1))
              else
                bd1 (rd (st.2.1 (20 * 0 + 11)) 12 x2) fun v16 =>
                if v16 < v2 then
                  L_nextMeeting_L12 N st x1 n x2 (x3 + (-1))
                else
                  L_nextMeeting_L12 N st x1 n x3 (x3 + (-1))
          else
            L_nextMeeting_L12 N st x1 n x2 (x3 + (-1))
def L_nextMeeting (N : Nat) (st : CS) (x1 : Int32) : Option (Int32) :=
  bd1 (L_nextMeeting_L12 N st x1 N (-1) ((st.1 (20 * 0) 14) - 1)) fun z18 =>
  some z18
def L_knownBy_L2 (N : Nat) (x1 : Int32) (x2 : Int32) : Nat → CS → Int32 → Option (CS)
  | 0, _, _ => none
  | n + 1, st, x3 =>
    if 5 ≤ x3 then
      some st
    else
      bd1 (wr (st.2.1 67) 5 x3 0) fun b2 =>
      L_knownBy_L2 N x1 x2 n (csA st 67 b2) (x3 + 1)
def L_knownBy_L26 (N : Nat) (x1 : Int32) (x2 : Int32) : Nat → CS → Int32 → Option (CS)
  | 0, _, _ => none
  | n + 1, st, x3 =>
    if x3 = (-1) then
      some st
    else
      bd1 (rd (st.2.1 (20 * 0 + 11)) 12 x3) fun v6 =>
      if x2 < v6 then
        some st
      else
        bd1 (rd (st.2.1 (20 * 0 + 12)) 12 x3) fun v8 =>
        bd1 (rd (st.2.1 (20 * 0 + 13)) 12 x3) fun v9 =>
        bd1 (rd (st.2.1 67) 5 v8) fun v10 =>
        bd1 (rd (st.2.1 67) 5 v9) fun v11 =>
        bd1 (rd (st.2.1 (20 * 0 + 11)) 12 x3) fun v12 =>
        bd1 (T_sees 0 N st v8 v12) fun v13 =>
        bd1 (rd (st.2.1 (20 * 0 + 11)) 12 x3) fun v14 =>
        bd1 (T_sees 0 N st v9 v14) fun v15 =>
        bd1 (wr (st.2.1 67) 5 v8 (((v10 ||| v11) ||| v13) ||| v15)) fun b16 =>
        bd1 (wr ((csA st 67 b16).2.1 67) 5 v9 (((v10 ||| v11) ||| v13) ||| v15)) fun b17 =>
        bd1 (L_nextMeeting N (csA (csA st 67 b16) 67 b17) x3) fun v18 =>
        L_knownBy_L26 N x1 x2 n (csA (csA st 67 b16) 67 b17) v18
def L_knownBy (N : Nat) (st : CS) (x1 : Int32) (x2 : Int32) : Option (Int32 × CS) :=
  bd1 (L_knownBy_L2 N x1 x2 N st 0) fun st3 =>
  bd1 (L_nextMeeting N st3 (-1)) fun v4 =>
  bd1 (L_knownBy_L26 N x1 x2 N st3 v4) fun st19 =>
  bd1 (rd (st19.2.1 67) 5 x1) fun v20 =>
  bd1 (T_sees 0 N st19 x1 x2) fun v21 =>
  some (v20 ||| v21, st19)
def L_knows (N : Nat) (st : CS) (x1 : Int32) (x2 : Int32) : Option (Int32 × CS) :=
  bd1 (L_isFigure x1) fun v1 =>
  if v1 = 0 then
    bd2 (L_need st 0 1) fun o5 st4 =>
    onx o5 (
      bd2 (L_finds st4) fun v6 st7 =>
      some (v6, st7)
    ) fun _ =>
    bd2 (L_knownBy N st4 x1 x2) fun v8 st9 =>
    some (v8, st9)
  else
    bd1 (L_isWeek x2) fun v10 =>
    if v10 = 0 then
      bd2 (L_need st 0 1) fun o14 st13 =>
      onx o14 (
        bd2 (L_finds st13) fun v15 st16 =>
        some (v15, st16)
      ) fun _ =>
      bd2 (L_knownBy N st13 x1 x2) fun v17 st18 =>
      some (v17, st18)
    else
      bd2 (L_need st 1 1) fun o21 st20 =>
      onx o21 (
        bd2 (L_finds st20) fun v22 st23 =>
        some (v22, st23)
      ) fun _ =>
      bd2 (L_knownBy N st20 x1 x2) fun v24 st25 =>
      some (v24, st25)
def L_common_L34 (N : Nat) (x1 : Int32) (x2 : Int32) : Nat → CS → Int32 → Int32 → Option (CS × Int32)
  | 0, _, _, _ => none
  | n + 1, st, x3, x4 =>
    if 5 ≤ x4 then
      some (st, x3)
    else
      bd1 (L_isIn x1 x4) fun v9 =>
      if v9 = 0 then
        L_common_L34 N x1 x2 n st (x3 &&& x3) (x4 + 1)
      else
        bd2 (L_knownBy N st x4 x2) fun v11 st12 =>
        L_common_L34 N x1 x2 n st12 (x3 &&& v11) (x4 + 1)
def L_common (N : Nat) (st : CS) (x1 : Int32) (x2 : Int32) : Option (Int32 × CS) :=
  bd1 (L_in x1 1 31) fun v1 =>
  if v1 = 0 then
    bd2 (L_need st 0 1) fun o5 st4 =>
    onx o5 (
      bd2 (L_finds st4) fun v6 st7 =>
      some (v6, st7)
    ) fun _ =>
    bd2 (L_common_L34 N x1 x2 N st4 255 0) fun st13 z14 =>
    some (z14, st13)
  else
    bd1 (L_isWeek x2) fun v16 =>
    if v16 = 0 then
      bd2 (L_need st 0 1) fun o20 st19 =>
      onx o20 (
        bd2 (L_finds st19) fun v21 st22 =>
        some (v21, st22)
      ) fun _ =>
      bd2 (L_common_L34 N x1 x2 N st19 255 0) fun st23 z24 =>
      some (z24, st23)
    else
      bd2 (L_need st 1 1) fun o28 st27 =>
      onx o28 (
        bd2 (L_finds st27) fun v29 st30 =>
        some (v29, st30)
      ) fun _ =>
      bd2 (L_common_L34 N x1 x2 N st27 255 0) fun st31 z32 =>
      some (z32, st31)
def L_since_L32 (N : Nat) (x1 : Int32) (x2 : Int32) : Nat → CS → Int32 → Int32 → Option (CS × Int32)
  | 0, _, _, _ => none
  | n + 1, st, x3, x4 =>
    if x4 ≤ x3 then
      some (st, x3)
    else
      if 999 < ((x3 + x4) / 2) then
        L_since_L32 N x1 x2 n st x3 ((x3 + x4) / 2)
      else
        bd2 (L_knownBy N st x1 ((x3 + x4) / 2)) fun v10 st11 =>
        bd1 (L_isIn v10 x2) fun v12 =>
        if v12 = 0 then
          L_since_L32 N x1 x2 n st11 (((x3 + x4) / 2) + 1) x4
        else
          L_since_L32 N x1 x2 n st11 x3 ((x3 + x4) / 2)
def L_since (N : Nat) (st : CS) (x1 : Int32) (x2 : Int32) : Option (Int32 × CS) :=
  bd1 (L_isFigure x1) fun v1 =>
  if v1 = 0 then
    bd2 (L_need st 0 1) fun o5 st4 =>
    onx o5 (
      bd2 (L_finds st4) fun v6 st7 =>
      some (v6, st7)
    ) fun _ =>
    bd2 (L_since_L32 N x1 x2 N st4 0 1000) fun st14 z15 =>
    if 999 < z15 then
      bd2 (L_need st14 0 2) fun o19 st18 =>
      onx o19 (
        bd2 (L_finds st18) fun v20 st21 =>
        some (v20, st21)
      ) fun _ =>
      some (z15, st18)
    else
      bd2 (L_need st14 1 2) fun o24 st23 =>
      onx o24 (
        bd2 (L_finds st23) fun v25 st26 =>
        some (v25, st26)
      ) fun _ =>
      some (z15, st23)
  else
    bd1 (L_isFact st x2) fun v28 =>
    if v28 = 0 then
      bd2 (L_need st 0 1) fun o32 st31 =>
      onx o32 (
        bd2 (L_finds st31) fun v33 st34 =>
        some (v33, st34)
      ) fun _ =>
      bd2 (L_since_L32 N x1 x2 N st31 0 1000) fun st35 z36 =>
      if 999 < z36 then
        bd2 (L_need st35 0 2) fun o40 st39 =>
        onx o40 (
          bd2 (L_finds st39) fun v41 st42 =>
          some (v41, st42)
        ) fun _ =>
        some (z36, st39)
      else
        bd2 (L_need st35 1 2) fun o45 st44 =>
        onx o45 (
          bd2 (L_finds st44) fun v46 st47 =>
          some (v46, st47)
        ) fun _ =>
        some (z36, st44)
    else
      bd2 (L_need st 1 1) fun o51 st50 =>
      onx o51 (
        bd2 (L_finds st50) fun v52 st53 =>
        some (v52, st53)
      ) fun _ =>
      bd2 (L_since_L32 N x1 x2 N st50 0 1000) fun st54 z55 =>
      if 999 < z55 then
        bd2 (L_need st54 0 2) fun o59 st58 =>
        onx o59 (
          bd2 (L_finds st58) fun v60 st61 =>
          some (v60, st61)
        ) fun _ =>
        some (z55, st58)
      else
        bd2 (L_need st54 1 2) fun o64 st63 =>
        onx o64 (
          bd2 (L_finds st63) fun v65 st66 =>
          some (v65, st66)
        ) fun _ =>
        some (z55, st63)
