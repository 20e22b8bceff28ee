/-! explained: plain functions -/
set_option maxRecDepth 100000
def L_explained (tr0 nx : Nat) (N : Nat) (cA : Nat → ClassId) (st : CS) (x1 x2 : Int32) : Option (Int32 × CS) :=
  bd1 (L_isDebtor st x1) fun v1 =>
  if v1 = 0 then
    bd2 (L_need st 0 1) fun o5 st4 =>
    onx o5 (
      bd2 (L_finds st4) fun v6 st7 =>
      some (v6, st7)
    ) fun _ =>
    bd2 (L_sheetAt cA st4 x2) fun o10 st9 =>
    onx o10 (
      bd2 (L_finds st9) fun v11 st12 =>
      some (v11, st12)
    ) fun v8 =>
    bd2 (L_explains tr0 (nx + 0) N cA st9 v8 x1 0) fun v13 st14 =>
    if v13 = 0 then
      bd2 (L_explains tr0 (nx + 1) N cA st14 v8 x1 1) fun v21 st22 =>
      if v21 = 0 then
        bd2 (L_explains tr0 (nx + 2) N cA st22 v8 x1 2) fun v29 st30 =>
        if v29 = 0 then
          bd2 (L_explains tr0 (nx + 3) N cA st30 v8 x1 3) fun v37 st38 =>
          if v37 = 0 then
            bd2 (L_explains tr0 (nx + 4) N cA st38 v8 x1 4) fun v45 st46 =>
            if v45 = 0 then
              bd2 (L_explains tr0 (nx + 5) N cA st46 v8 x1 5) fun v53 st54 =>
              if v53 = 0 then
                bd2 (L_explains tr0 (nx + 6) N cA st54 v8 x1 6) fun v61 st62 =>
                if v61 = 0 then
                  bd2 (L_need st62 0 2) fun o71 st70 =>
                  onx o71 (
                    bd2 (L_finds st70) fun v72 st73 =>
                    some (v72, st73)
                  ) fun _ =>
                  some (7, st70)
                else
                  bd2 (L_need st62 1 2) fun o66 st65 =>
                  onx o66 (
                    bd2 (L_finds st65) fun v67 st68 =>
                    some (v67, st68)
                  ) fun _ =>
                  some (6, st65)
              else
                bd2 (L_need st54 1 2) fun o58 st57 =>
                onx o58 (
                  bd2 (L_finds st57) fun v59 st60 =>
                  some (v59, st60)
                ) fun _ =>
                some (5, st57)
            else
              bd2 (L_need st46 1 2) fun o50 st49 =>
              onx o50 (
                bd2 (L_finds st49) fun v51 st52 =>
                some (v51, st52)
              ) fun _ =>
              some (4, st49)
          else
            bd2 (L_need st38 1 2) fun o42 st41 =>
            onx o42 (
              bd2 (L_finds st41) fun v43 st44 =>
              some (v43, st44)
            ) fun _ =>
            some (3, st41)
        else
          bd2 (L_need st30 1 2) fun o34 st33 =>
          onx o34 (
            bd2 (L_finds st33) fun v35 st36 =>
            some (v35, st36)
          ) fun _ =>
          some (2, st33)
      else
        bd2 (L_need st22 1 2) fun o26 st25 =>
        onx o26 (
          bd2 (L_finds st25) fun v27 st28 =>
          some (v27, st28)
        ) fun _ =>
        some (1, st25)
    else
      bd2 (L_need st14 1 2) fun o18 st17 =>
      onx o18 (
        bd2 (L_finds st17) fun v19 st20 =>
        some (v19, st20)
      ) fun _ =>
      some (0, st17)
  else
    bd1 (L_isSheet x2) fun v74 =>
    if v74 = 0 then
      bd2 (L_need st 0 1) fun o78 st77 =>
      onx o78 (
        bd2 (L_finds st77) fun v79 st80 =>
        some (v79, st80)
      ) fun _ =>
      bd2 (L_sheetAt cA st77 x2) fun o83 st82 =>
      onx o83 (
        bd2 (L_finds st82) fun v84 st85 =>
        some (v84, st85)
      ) fun v81 =>
      bd2 (L_explains tr0 (nx + 0) N cA st82 v81 x1 0) fun v86 st87 =>
      if v86 = 0 then
        bd2 (L_explains tr0 (nx + 1) N cA st87 v81 x1 1) fun v94 st95 =>
        if v94 = 0 then
          bd2 (L_explains tr0 (nx + 2) N cA st95 v81 x1 2) fun v102 st103 =>
          if v102 = 0 then
            bd2 (L_explains tr0 (nx + 3) N cA st103 v81 x1 3) fun v110 st111 =>
            if v110 = 0 then
              bd2 (L_explains tr0 (nx + 4) N cA st111 v81 x1 4) fun v118 st119 =>
              if v118 = 0 then
                bd2 (L_explains tr0 (nx + 5) N cA st119 v81 x1 5) fun v126 st127 =>
                if v126 = 0 then
                  bd2 (L_explains tr0 (nx + 6) N cA st127 v81 x1 6) fun v134 st135 =>
                  if v134 = 0 then
                    bd2 (L_need st135 0 2) fun o144 st143 =>
                    onx o144 (
                      bd2 (L_finds st143) fun v145 st146 =>
                      some (v145, st146)
                    ) fun _ =>
                    some (7, st143)
                  else
                    bd2 (L_need st135 1 2) fun o139 st138 =>
                    onx o139 (
                      bd2 (L_finds st138) fun v140 st141 =>
                      some (v140, st141)
                    ) fun _ =>
                    some (6, st138)
                else
                  bd2 (L_need st127 1 2) fun o131 st130 =>
                  onx o131 (
                    bd2 (L_finds st130) fun v132 st133 =>
                    some (v132, st133)
                  ) fun _ =>
                  some (5, st130)
              else
                bd2 (L_need st119 1 2) fun o123 st122 =>
                onx o123 (
                  bd2 (L_finds st122) fun v124 st125 =>
                  some (v124, st125)
                ) fun _ =>
                some (4, st122)
            else
              bd2 (L_need st111 1 2) fun o115 st114 =>
              onx o115 (
                bd2 (L_finds st114) fun v116 st117 =>
                some (v116, st117)
              ) fun _ =>
              some (3, st114)
          else
            bd2 (L_need st103 1 2) fun o107 st106 =>
            onx o107 (
              bd2 (L_finds st106) fun v108 st109 =>
              some (v108, st109)
            ) fun _ =>
            some (2, st106)
        else
          bd2 (L_need st95 1 2) fun o99 st98 =>
          onx o99 (
            bd2 (L_finds st98) fun v100 st101 =>
            some (v100, st101)
          ) fun _ =>
          some (1, st98)
      else
        bd2 (L_need st87 1 2) fun o91 st90 =>
        onx o91 (
          bd2 (L_finds st90) fun v92 st93 =>
          some (v92, st93)
        ) fun _ =>
        some (0, st90)
    else
      bd2 (L_need st 1 1) fun o149 st148 =>
      onx o149 (
        bd2 (L_finds st148) fun v150 st151 =>
        some (v150, st151)
      ) fun _ =>
      bd2 (L_sheetAt cA st148 x2) fun o154 st153 =>
      onx o154 (
        bd2 (L_finds st153) fun v155 st156 =>
        some (v155, st156)
      ) fun v152 =>
      bd2 (L_explains tr0 (nx + 0) N cA st153 v152 x1 0) fun v157 st158 =>
      if v157 = 0 then
        bd2 (L_explains tr0 (nx + 1) N cA st158 v152 x1 1) fun v165 st166 =>
        if v165 = 0 then
          bd2 (L_explains tr0 (nx + 2) N cA st166 v152 x1 2) fun v173 st174 =>
          if v173 = 0 then
            bd2 (L_explains tr0 (nx + 3) N cA st174 v152 x1 3) fun v181 st182 =>
            if v181 = 0 then
              bd2 (L_explains tr0 (nx + 4) N cA st182 v152 x1 4) fun v189 st190 =>
              if v189 = 0 then
                bd2 (L_explains tr0 (nx + 5) N cA st190 v152 x1 5) fun v197 st198 =>
                if v197 = 0 then
                  bd2 (L_explains tr0 (nx + 6) N cA st198 v152 x1 6) fun v205 st206 =>
                  if v205 = 0 then
                    bd2 (L_need st206 0 2) fun o215 st214 =>
                    onx o215 (
                      bd2 (L_finds st214) fun v216 st217 =>
                      some (v216, st217)
                    ) fun _ =>
                    some (7, st214)
                  else
                    bd2 (L_need st206 1 2) fun o210 st209 =>
                    onx o210 (
                      bd2 (L_finds st209) fun v211 st212 =>
                      some (v211, st212)
                    ) fun _ =>
                    some (6, st209)
                else
                  bd2 (L_need st198 1 2) fun o202 st201 =>
                  onx o202 (
                    bd2 (L_finds st201) fun v203 st204 =>
                    some (v203, st204)
                  ) fun _ =>
                  some (5, st201)
              else
                bd2 (L_need st190 1 2) fun o194 st193 =>
                onx o194 (
                  bd2 (L_finds st193) fun v195 st196 =>
                  some (v195, st196)
                ) fun _ =>
                some (4, st193)
            else
              bd2 (L_need st182 1 2) fun o186 st185 =>
              onx o186 (
                bd2 (L_finds st185) fun v187 st188 =>
                some (v187, st188)
              ) fun _ =>
              some (3, st185)
          else
            bd2 (L_need st174 1 2) fun o178 st177 =>
            onx o178 (
              bd2 (L_finds st177) fun v179 st180 =>
              some (v179, st180)
            ) fun _ =>
            some (2, st177)
        else
          bd2 (L_need st166 1 2) fun o170 st169 =>
          onx o170 (
            bd2 (L_finds st169) fun v171 st172 =>
            some (v171, st172)
          ) fun _ =>
          some (1, st169)
      else
        bd2 (L_need st158 1 2) fun o162 st161 =>
        onx o162 (
          bd2 (L_finds st161) fun v163 st164 =>
          some (v163, st164)
        ) fun _ =>
        some (0, st161)
