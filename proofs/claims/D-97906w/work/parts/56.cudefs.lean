/-! sheet: plain functions -/
set_option maxRecDepth 100000
def L_sheet (nx : Nat) (cA : Nat → ClassId) (st : CS) (x1 x2 x3 : Int32) : Option (Int32 × CS) :=
  bd1 (L_isSheet x1) fun v1 =>
  if v1 = 0 then
    bd2 (L_need st 0 1) fun o5 st4 =>
    onx o5 (
      bd2 (L_finds st4) fun v6 st7 =>
      some (v6, st7)
    ) fun _ =>
    if x2 = 0 then
      bd1 (rdi 4 x1) fun j78 =>
      some (1, csQ st4 (69 + j78) (va_up (st4.2.2.1 (69 + j78)) 0 none))
    else
      if x3 < 0 then
        bd2 (L_need st4 0 3) fun o12 st11 =>
        onx o12 (
          bd2 (L_finds st11) fun v13 st14 =>
          some (v13, st14)
        ) fun _ =>
        if 40 < x3 then
          bd2 (L_need st11 0 1) fun o18 st17 =>
          onx o18 (
            bd2 (L_finds st17) fun v19 st20 =>
            some (v19, st20)
          ) fun _ =>
          bd1 (rdi 4 x1) fun j21 =>
          if x2 = 8 then
            bd1 (some (csP st17 (1000 + nx) (.inr (19, [.null])))) fun st28 =>
            bd1 (S_init 0 cA (nx + 1) nx st28 x3) fun st29 =>
            some (1, csQ st29 (69 + j21) (va_up (st29.2.2.1 (69 + j21)) 0 (some nx)))
          else
            if x2 = 16 then
              bd1 (some (csP st17 (1000 + nx) (.inr (20, [.null])))) fun st26 =>
              bd1 (S_init 1 cA (nx + 1) nx st26 x3) fun st27 =>
              some (1, csQ st27 (69 + j21) (va_up (st27.2.2.1 (69 + j21)) 0 (some nx)))
            else
              bd1 (some (csP st17 (1000 + nx) (.inr (21, [.null])))) fun st24 =>
              bd1 (S_init 2 cA (nx + 1) nx st24 x3) fun st25 =>
              some (1, csQ st25 (69 + j21) (va_up (st25.2.2.1 (69 + j21)) 0 (some nx)))
        else
          bd2 (L_need st11 1 1) fun o32 st31 =>
          onx o32 (
            bd2 (L_finds st31) fun v33 st34 =>
            some (v33, st34)
          ) fun _ =>
          bd1 (rdi 4 x1) fun j35 =>
          if x2 = 8 then
            bd1 (some (csP st31 (1000 + nx) (.inr (19, [.null])))) fun st42 =>
            bd1 (S_init 0 cA (nx + 1) nx st42 x3) fun st43 =>
            some (1, csQ st43 (69 + j35) (va_up (st43.2.2.1 (69 + j35)) 0 (some nx)))
          else
            if x2 = 16 then
              bd1 (some (csP st31 (1000 + nx) (.inr (20, [.null])))) fun st40 =>
              bd1 (S_init 1 cA (nx + 1) nx st40 x3) fun st41 =>
              some (1, csQ st41 (69 + j35) (va_up (st41.2.2.1 (69 + j35)) 0 (some nx)))
            else
              bd1 (some (csP st31 (1000 + nx) (.inr (21, [.null])))) fun st38 =>
              bd1 (S_init 2 cA (nx + 1) nx st38 x3) fun st39 =>
              some (1, csQ st39 (69 + j35) (va_up (st39.2.2.1 (69 + j35)) 0 (some nx)))
      else
        bd2 (L_need st4 1 3) fun o46 st45 =>
        onx o46 (
          bd2 (L_finds st45) fun v47 st48 =>
          some (v47, st48)
        ) fun _ =>
        if 40 < x3 then
          bd2 (L_need st45 0 1) fun o52 st51 =>
          onx o52 (
            bd2 (L_finds st51) fun v53 st54 =>
            some (v53, st54)
          ) fun _ =>
          bd1 (rdi 4 x1) fun j55 =>
          if x2 = 8 then
            bd1 (some (csP st51 (1000 + nx) (.inr (19, [.null])))) fun st62 =>
            bd1 (S_init 0 cA (nx + 1) nx st62 x3) fun st63 =>
            some (1, csQ st63 (69 + j55) (va_up (st63.2.2.1 (69 + j55)) 0 (some nx)))
          else
            if x2 = 16 then
              bd1 (some (csP st51 (1000 + nx) (.inr (20, [.null])))) fun st60 =>
              bd1 (S_init 1 cA (nx + 1) nx st60 x3) fun st61 =>
              some (1, csQ st61 (69 + j55) (va_up (st61.2.2.1 (69 + j55)) 0 (some nx)))
            else
              bd1 (some (csP st51 (1000 + nx) (.inr (21, [.null])))) fun st58 =>
              bd1 (S_init 2 cA (nx + 1) nx st58 x3) fun st59 =>
              some (1, csQ st59 (69 + j55) (va_up (st59.2.2.1 (69 + j55)) 0 (some nx)))
        else
          bd2 (L_need st45 1 1) fun o66 st65 =>
          onx o66 (
            bd2 (L_finds st65) fun v67 st68 =>
            some (v67, st68)
          ) fun _ =>
          bd1 (rdi 4 x1) fun j69 =>
          if x2 = 8 then
            bd1 (some (csP st65 (1000 + nx) (.inr (19, [.null])))) fun st76 =>
            bd1 (S_init 0 cA (nx + 1) nx st76 x3) fun st77 =>
            some (1, csQ st77 (69 + j69) (va_up (st77.2.2.1 (69 + j69)) 0 (some nx)))
          else
            if x2 = 16 then
              bd1 (some (csP st65 (1000 + nx) (.inr (20, [.null])))) fun st74 =>
              bd1 (S_init 1 cA (nx + 1) nx st74 x3) fun st75 =>
              some (1, csQ st75 (69 + j69) (va_up (st75.2.2.1 (69 + j69)) 0 (some nx)))
            else
              bd1 (some (csP st65 (1000 + nx) (.inr (21, [.null])))) fun st72 =>
              bd1 (S_init 2 cA (nx + 1) nx st72 x3) fun st73 =>
              some (1, csQ st73 (69 + j69) (va_up (st73.2.2.1 (69 + j69)) 0 (some nx)))
  else
    if x2 = 0 then
      bd2 (L_need st 1 1) fun o82 st81 =>
      onx o82 (
        bd2 (L_finds st81) fun v83 st84 =>
        some (v83, st84)
      ) fun _ =>
      if x2 = 0 then
        bd1 (rdi 4 x1) fun j155 =>
        some (1, csQ st81 (69 + j155) (va_up (st81.2.2.1 (69 + j155)) 0 none))
      else
        if x3 < 0 then
          bd2 (L_need st81 0 3) fun o89 st88 =>
          onx o89 (
            bd2 (L_finds st88) fun v90 st91 =>
            some (v90, st91)
          ) fun _ =>
          if 40 < x3 then
            bd2 (L_need st88 0 1) fun o95 st94 =>
            onx o95 (
              bd2 (L_finds st94) fun v96 st97 =>
              some (v96, st97)
            ) fun _ =>
            bd1 (rdi 4 x1) fun j98 =>
            if x2 = 8 then
              bd1 (some (csP st94 (1000 + nx) (.inr (19, [.null])))) fun st105 =>
              bd1 (S_init 0 cA (nx + 1) nx st105 x3) fun st106 =>
              some (1, csQ st106 (69 + j98) (va_up (st106.2.2.1 (69 + j98)) 0 (some nx)))
            else
              if x2 = 16 then
                bd1 (some (csP st94 (1000 + nx) (.inr (20, [.null])))) fun st103 =>
                bd1 (S_init 1 cA (nx + 1) nx st103 x3) fun st104 =>
                some (1, csQ st104 (69 + j98) (va_up (st104.2.2.1 (69 + j98)) 0 (some nx)))
              else
                bd1 (some (csP st94 (1000 + nx) (.inr (21, [.null])))) fun st101 =>
                bd1 (S_init 2 cA (nx + 1) nx st101 x3) fun st102 =>
                some (1, csQ st102 (69 + j98) (va_up (st102.2.2.1 (69 + j98)) 0 (some nx)))
          else
            bd2 (L_need st88 1 1) fun o109 st108 =>
            onx o109 (
              bd2 (L_finds st108) fun v110 st111 =>
              some (v110, st111)
            ) fun _ =>
            bd1 (rdi 4 x1) fun j112 =>
            if x2 = 8 then
              bd1 (some (csP st108 (1000 + nx) (.inr (19, [.null])))) fun st119 =>
              bd1 (S_init 0 cA (nx + 1) nx st119 x3) fun st120 =>
              some (1, csQ st120 (69 + j112) (va_up (st120.2.2.1 (69 + j112)) 0 (some nx)))
            else
              if x2 = 16 then
                bd1 (some (csP st108 (1000 + nx) (.inr (20, [.null])))) fun st117 =>
                bd1 (S_init 1 cA (nx + 1) nx st117 x3) fun st118 =>
                some (1, csQ st118 (69 + j112) (va_up (st118.2.2.1 (69 + j112)) 0 (some nx)))
              else
                bd1 (some (csP st108 (1000 + nx) (.inr (21, [.null])))) fun st115 =>
                bd1 (S_init 2 cA (nx + 1) nx st115 x3) fun st116 =>
                some (1, csQ st116 (69 + j112) (va_up (st116.2.2.1 (69 + j112)) 0 (some nx)))
        else
          bd2 (L_need st81 1 3) fun o123 st122 =>
          onx o123 (
            bd2 (L_finds st122) fun v124 st125 =>
            some (v124, st125)
          ) fun _ =>
          if 40 < x3 then
            bd2 (L_need st122 0 1) fun o129 st128 =>
            onx o129 (
              bd2 (L_finds st128) fun v130 st131 =>
              some (v130, st131)
            ) fun _ =>
            bd1 (rdi 4 x1) fun j132 =>
            if x2 = 8 then
              bd1 (some (csP st128 (1000 + nx) (.inr (19, [.null])))) fun st139 =>
              bd1 (S_init 0 cA (nx + 1) nx st139 x3) fun st140 =>
              some (1, csQ st140 (69 + j132) (va_up (st140.2.2.1 (69 + j132)) 0 (some nx)))
            else
              if x2 = 16 then
                bd1 (some (csP st128 (1000 + nx) (.inr (20, [.null])))) fun st137 =>
                bd1 (S_init 1 cA (nx + 1) nx st137 x3) fun st138 =>
                some (1, csQ st138 (69 + j132) (va_up (st138.2.2.1 (69 + j132)) 0 (some nx)))
              else
                bd1 (some (csP st128 (1000 + nx) (.inr (21, [.null])))) fun st135 =>
                bd1 (S_init 2 cA (nx + 1) nx st135 x3) fun st136 =>
                some (1, csQ st136 (69 + j132) (va_up (st136.2.2.1 (69 + j132)) 0 (some nx)))
          else
            bd2 (L_need st122 1 1) fun o143 st142 =>
            onx o143 (
              bd2 (L_finds st142) fun v144 st145 =>
              some (v144, st145)
            ) fun _ =>
            bd1 (rdi 4 x1) fun j146 =>
            if x2 = 8 then
              bd1 (some (csP st142 (1000 + nx) (.inr (19, [.null])))) fun st153 =>
              bd1 (S_init 0 cA (nx + 1) nx st153 x3) fun st154 =>
              some (1, csQ st154 (69 + j146) (va_up (st154.2.2.1 (69 + j146)) 0 (some nx)))
            else
              if x2 = 16 then
                bd1 (some (csP st142 (1000 + nx) (.inr (20, [.null])))) fun st151 =>
                bd1 (S_init 1 cA (nx + 1) nx st151 x3) fun st152 =>
                some (1, csQ st152 (69 + j146) (va_up (st152.2.2.1 (69 + j146)) 0 (some nx)))
              else
                bd1 (some (csP st142 (1000 + nx) (.inr (21, [.null])))) fun st149 =>
                bd1 (S_init 2 cA (nx + 1) nx st149 x3) fun st150 =>
                some (1, csQ st150 (69 + j146) (va_up (st150.2.2.1 (69 + j146)) 0 (some nx)))
    else
      bd1 (L_isWidth x2) fun v156 =>
      if v156 = 0 then
        bd2 (L_need st 0 1) fun o160 st159 =>
        onx o160 (
          bd2 (L_finds st159) fun v161 st162 =>
          some (v161, st162)
        ) fun _ =>
        if x2 = 0 then
          bd1 (rdi 4 x1) fun j233 =>
          some (1, csQ st159 (69 + j233) (va_up (st159.2.2.1 (69 + j233)) 0 none))
        else
          if x3 < 0 then
            bd2 (L_need st159 0 3) fun o167 st166 =>
            onx o167 (
              bd2 (L_finds st166) fun v168 st169 =>
              some (v168, st169)
            ) fun _ =>
            if 40 < x3 then
              bd2 (L_need st166 0 1) fun o173 st172 =>
              onx o173 (
                bd2 (L_finds st172) fun v174 st175 =>
                some (v174, st175)
              ) fun _ =>
              bd1 (rdi 4 x1) fun j176 =>
              if x2 = 8 then
                bd1 (some (csP st172 (1000 + nx) (.inr (19, [.null])))) fun st183 =>
                bd1 (S_init 0 cA (nx + 1) nx st183 x3) fun st184 =>
                some (1, csQ st184 (69 + j176) (va_up (st184.2.2.1 (69 + j176)) 0 (some nx)))
              else
                if x2 = 16 then
                  bd1 (some (csP st172 (1000 + nx) (.inr (20, [.null])))) fun st181 =>
                  bd1 (S_init 1 cA (nx + 1) nx st181 x3) fun st182 =>
                  some (1, csQ st182 (69 + j176) (va_up (st182.2.2.1 (69 + j176)) 0 (some nx)))
                else
                  bd1 (some (csP st172 (1000 + nx) (.inr (21, [.null])))) fun st179 =>
                  bd1 (S_init 2 cA (nx + 1) nx st179 x3) fun st180 =>
                  some (1, csQ st180 (69 + j176) (va_up (st180.2.2.1 (69 + j176)) 0 (some nx)))
            else
              bd2 (L_need st166 1 1) fun o187 st186 =>
              onx o187 (
                bd2 (L_finds st186) fun v188 st189 =>
                some (v188, st189)
              ) fun _ =>
              bd1 (rdi 4 x1) fun j190 =>
              if x2 = 8 then
                bd1 (some (csP st186 (1000 + nx) (.inr (19, [.null])))) fun st197 =>
                bd1 (S_init 0 cA (nx + 1) nx st197 x3) fun st198 =>
                some (1, csQ st198 (69 + j190) (va_up (st198.2.2.1 (69 + j190)) 0 (some nx)))
              else
                if x2 = 16 then
                  bd1 (some (csP st186 (1000 + nx) (.inr (20, [.null])))) fun st195 =>
                  bd1 (S_init 1 cA (nx + 1) nx st195 x3) fun st196 =>
                  some (1, csQ st196 (69 + j190) (va_up (st196.2.2.1 (69 + j190)) 0 (some nx)))
                else
                  bd1 (some (csP st186 (1000 + nx) (.inr (21, [.null])))) fun st193 =>
                  bd1 (S_init 2 cA (nx + 1) nx st193 x3) fun st194 =>
                  some (1, csQ st194 (69 + j190) (va_up (st194.2.2.1 (69 + j190)) 0 (some nx)))
          else
            bd2 (L_need st159 1 3) fun o201 st200 =>
            onx o201 (
              bd2 (L_finds st200) fun v202 st203 =>
              some (v202, st203)
            ) fun _ =>
            if 40 < x3 then
              bd2 (L_need st200 0 1) fun o207 st206 =>
              onx o207 (
                bd2 (L_finds st206) fun v208 st209 =>
                some (v208, st209)
              ) fun _ =>
              bd1 (rdi 4 x1) fun j210 =>
              if x2 = 8 then
                bd1 (some (csP st206 (1000 + nx) (.inr (19, [.null])))) fun st217 =>
                bd1 (S_init 0 cA (nx + 1) nx st217 x3) fun st218 =>
                some (1, csQ st218 (69 + j210) (va_up (st218.2.2.1 (69 + j210)) 0 (some nx)))
              else
                if x2 = 16 then
                  bd1 (some (csP st206 (1000 + nx) (.inr (20, [.null])))) fun st215 =>
                  bd1 (S_init 1 cA (nx + 1) nx st215 x3) fun st216 =>
                  some (1, csQ st216 (69 + j210) (va_up (st216.2.2.1 (69 + j210)) 0 (some nx)))
                else
                  bd1 (some (csP st206 (1000 + nx) (.inr (21, [.null])))) fun st213 =>
                  bd1 (S_init 2 cA (nx + 1) nx st213 x3) fun st214 =>
                  some (1, csQ st214 (69 + j210) (va_up (st214.2.2.1 (69 + j210)) 0 (some nx)))
            else
              bd2 (L_need st200 1 1) fun o221 st220 =>
              onx o221 (
                bd2 (L_finds st220) fun v222 st223 =>
                some (v222, st223)
              ) fun _ =>
              bd1 (rdi 4 x1) fun j224 =>
              if x2 = 8 then
                bd1 (some (csP st220 (1000 + nx) (.inr (19, [.null])))) fun st231 =>
                bd1 (S_init 0 cA (nx + 1) nx st231 x3) fun st232 =>
                some (1, csQ st232 (69 + j224) (va_up (st232.2.2.1 (69 + j224)) 0 (some nx)))
              else
                if x2 = 16 then
                  bd1 (some (csP st220 (1000 + nx) (.inr (20, [.null])))) fun st229 =>
                  bd1 (S_init 1 cA (nx + 1) nx st229 x3) fun st230 =>
                  some (1, csQ st230 (69 + j224) (va_up (st230.2.2.1 (69 + j224)) 0 (some nx)))
                else
                  bd1 (some (csP st220 (1000 + nx) (.inr (21, [.null])))) fun st227 =>
                  bd1 (S_init 2 cA (nx + 1) nx st227 x3) fun st228 =>
                  some (1, csQ st228 (69 + j224) (va_up (st228.2.2.1 (69 + j224)) 0 (some nx)))
      else
        bd2 (L_need st 1 1) fun o236 st235 =>
        onx o236 (
          bd2 (L_finds st235) fun v237 st238 =>
          some (v237, st238)
        ) fun _ =>
        if x2 = 0 then
          bd1 (rdi 4 x1) fun j309 =>
          some (1, csQ st235 (69 + j309) (va_up (st235.2.2.1 (69 + j309)) 0 none))
        else
          if x3 < 0 then
            bd2 (L_need st235 0 3) fun o243 st242 =>
            onx o243 (
              bd2 (L_finds st242) fun v244 st245 =>
              some (v244, st245)
            ) fun _ =>
            if 40 < x3 then
              bd2 (L_need st242 0 1) fun o249 st248 =>
              onx o249 (
                bd2 (L_finds st248) fun v250 st251 =>
                some (v250, st251)
              ) fun _ =>
              bd1 (rdi 4 x1) fun j252 =>
              if x2 = 8 then
                bd1 (some (csP st248 (1000 + nx) (.inr (19, [.null])))) fun st259 =>
                bd1 (S_init 0 cA (nx + 1) nx st259 x3) fun st260 =>
                some (1, csQ st260 (69 + j252) (va_up (st260.2.2.1 (69 + j252)) 0 (some nx)))
              else
                if x2 = 16 then
                  bd1 (some (csP st248 (1000 + nx) (.inr (20, [.null])))) fun st257 =>
                  bd1 (S_init 1 cA (nx + 1) nx st257 x3) fun st258 =>
                  some (1, csQ st258 (69 + j252) (va_up (st258.2.2.1 (69 + j252)) 0 (some nx)))
                else
                  bd1 (some (csP st248 (1000 + nx) (.inr (21, [.null])))) fun st255 =>
                  bd1 (S_init 2 cA (nx + 1) nx st255 x3) fun st256 =>
                  some (1, csQ st256 (69 + j252) (va_up (st256.2.2.1 (69 + j252)) 0 (some nx)))
            else
              bd2 (L_need st242 1 1) fun o263 st262 =>
              onx o263 (
                bd2 (L_finds st262) fun v264 st265 =>
                some (v264, st265)
              ) fun _ =>
              bd1 (rdi 4 x1) fun j266 =>
              if x2 = 8 then
                bd1 (some (csP st262 (1000 + nx) (.inr (19, [.null])))) fun st273 =>
                bd1 (S_init 0 cA (nx + 1) nx st273 x3) fun st274 =>
                some (1, csQ st274 (69 + j266) (va_up (st274.2.2.1 (69 + j266)) 0 (some nx)))
              else
                if x2 = 16 then
                  bd1 (some (csP st262 (1000 + nx) (.inr (20, [.null])))) fun st271 =>
                  bd1 (S_init 1 cA (nx + 1) nx st271 x3) fun st272 =>
                  some (1, csQ st272 (69 + j266) (va_up (st272.2.2.1 (69 + j266)) 0 (some nx)))
                else
                  bd1 (some (csP st262 (1000 + nx) (.inr (21, [.null])))) fun st269 =>
                  bd1 (S_init 2 cA (nx + 1) nx st269 x3) fun st270 =>
                  some (1, csQ st270 (69 + j266) (va_up (st270.2.2.1 (69 + j266)) 0 (some nx)))
          else
            bd2 (L_need st235 1 3) fun o277 st276 =>
            onx o277 (
              bd2 (L_finds st276) fun v278 st279 =>
              some (v278, st279)
            ) fun _ =>
            if 40 < x3 then
              bd2 (L_need st276 0 1) fun o283 st282 =>
              onx o283 (
                bd2 (L_finds st282) fun v284 st285 =>
                some (v284, st285)
              ) fun _ =>
              bd1 (rdi 4 x1) fun j286 =>
              if x2 = 8 then
                bd1 (some (csP st282 (1000 + nx) (.inr (19, [.null])))) fun st293 =>
                bd1 (S_init 0 cA (nx + 1) nx st293 x3) fun st294 =>
                some (1, csQ st294 (69 + j286) (va_up (st294.2.2.1 (69 + j286)) 0 (some nx)))
              else
                if x2 = 16 then
                  bd1 (some (csP st282 (1000 + nx) (.inr (20, [.null])))) fun st291 =>
                  bd1 (S_init 1 cA (nx + 1) nx st291 x3) fun st292 =>
                  some (1, csQ st292 (69 + j286) (va_up (st292.2.2.1 (69 + j286)) 0 (some nx)))
                else
                  bd1 (some (csP st282 (1000 + nx) (.inr (21, [.null])))) fun st289 =>
                  bd1 (S_init 2 cA (nx + 1) nx st289 x3) fun st290 =>
                  some (1, csQ st290 (69 + j286) (va_up (st290.2.2.1 (69 + j286)) 0 (some nx)))
            else
              bd2 (L_need st276 1 1) fun o297 st296 =>
              onx o297 (
                bd2 (L_finds st296) fun v298 st299 =>
                some (v298, st299)
              ) fun _ =>
              bd1 (rdi 4 x1) fun j300 =>
              if x2 = 8 then
                bd1 (some (csP st296 (1000 + nx) (.inr (19, [.null])))) fun st307 =>
                bd1 (S_init 0 cA (nx + 1) nx st307 x3) fun st308 =>
                some (1, csQ st308 (69 + j300) (va_up (st308.2.2.1 (69 + j300)) 0 (some nx)))
              else
                if x2 = 16 then
                  bd1 (some (csP st296 (1000 + nx) (.inr (20, [.null])))) fun st305 =>
                  bd1 (S_init 1 cA (nx + 1) nx st305 x3) fun st306 =>
                  some (1, csQ st306 (69 + j300) (va_up (st306.2.2.1 (69 + j300)) 0 (some nx)))
                else
                  bd1 (some (csP st296 (1000 + nx) (.inr (21, [.null])))) fun st303 =>
                  bd1 (S_init 2 cA (nx + 1) nx st303 x3) fun st304 =>
                  some (1, csQ st304 (69 + j300) (va_up (st304.2.2.1 (69 + j300)) 0 (some nx)))
