/-! move: plain functions -/
set_option maxRecDepth 100000
def L_move_L120 (N : Nat) (nx : Nat) (cA : Nat → ClassId) (x2 : Int32) (x4 : Int32) (x5 : Int32) (x7 : Nat) : Nat → CS → Int32 → Option (CS)
  | 0, _, _ => none
  | n + 1, st, x9 =>
    if x5 ≤ x9 then
      some st
    else
      bd2 (arOf cA (st.2.2.2 (1000 + nx))) fun n38 f39 =>
      bd1 (rd f39 n38 (x2 + x9)) fun v40 =>
      bd1 (S_put cA st x7 (x4 + x9) v40) fun st41 =>
      L_move_L120 N nx cA x2 x4 x5 x7 n st41 (x9 + 1)
def L_move (nx : Nat) (N : Nat) (cA : Nat → ClassId) (st : CS) (x1 x2 x3 x4 x5 : Int32) : Option (Int32 × CS) :=
  bd1 (L_isSheet x1) fun v1 =>
  if v1 = 0 then
    bd2 (L_need st 0 1) fun o5 st4 =>
    onx o5 (
      bd2 (L_finds st4) fun v6 st7 =>
      some (v6, st7)
    ) fun _ =>
    bd2 (L_sheetAt cA st4 x1) fun o10 st9 =>
    onx o10 (
      bd2 (L_finds st9) fun v11 st12 =>
      some (v11, st12)
    ) fun v8 =>
    bd2 (L_sheetAt cA st9 x3) fun o15 st14 =>
    onx o15 (
      bd2 (L_finds st14) fun v16 st17 =>
      some (v16, st17)
    ) fun v13 =>
    bd1 (S_width cA st14 v8) fun v18 =>
    bd1 (S_width cA st14 v13) fun v19 =>
    if v18 = v19 then
      bd2 (L_need st14 1 5) fun o112 st111 =>
      onx o112 (
        bd2 (L_finds st111) fun v113 st114 =>
        some (v113, st114)
      ) fun _ =>
      if x5 < 0 then
        bd2 (L_need st111 0 1) fun o118 st117 =>
        onx o118 (
          bd2 (L_finds st117) fun v119 st120 =>
          some (v119, st120)
        ) fun _ =>
        bd4 (shOf cA st117.2.2.2 v8) fun w122 b123 n124 f125 =>
        bd1 (S_row nx N cA st117 v8) fun st121 =>
        bd1 (L_move_L120 N nx cA x2 x4 x5 v13 N st121 0) fun st126 =>
        some (x5, st126)
      else
        if x2 < 0 then
          bd2 (L_need st111 0 1) fun o131 st130 =>
          onx o131 (
            bd2 (L_finds st130) fun v132 st133 =>
            some (v132, st133)
          ) fun _ =>
          bd4 (shOf cA st130.2.2.2 v8) fun w135 b136 n137 f138 =>
          bd1 (S_row nx N cA st130 v8) fun st134 =>
          bd1 (L_move_L120 N nx cA x2 x4 x5 v13 N st134 0) fun st139 =>
          some (x5, st139)
        else
          if x4 < 0 then
            bd2 (L_need st111 0 1) fun o144 st143 =>
            onx o144 (
              bd2 (L_finds st143) fun v145 st146 =>
              some (v145, st146)
            ) fun _ =>
            bd4 (shOf cA st143.2.2.2 v8) fun w148 b149 n150 f151 =>
            bd1 (S_row nx N cA st143 v8) fun st147 =>
            bd1 (L_move_L120 N nx cA x2 x4 x5 v13 N st147 0) fun st152 =>
            some (x5, st152)
          else
            bd1 (S_size cA st111 v8) fun v154 =>
            if (v154 - x5) < x2 then
              bd2 (L_need st111 0 1) fun o158 st157 =>
              onx o158 (
                bd2 (L_finds st157) fun v159 st160 =>
                some (v159, st160)
              ) fun _ =>
              bd4 (shOf cA st157.2.2.2 v8) fun w162 b163 n164 f165 =>
              bd1 (S_row nx N cA st157 v8) fun st161 =>
              bd1 (L_move_L120 N nx cA x2 x4 x5 v13 N st161 0) fun st166 =>
              some (x5, st166)
            else
              bd1 (S_size cA st111 v13) fun v168 =>
              if (v168 - x5) < x4 then
                bd2 (L_need st111 0 1) fun o172 st171 =>
                onx o172 (
                  bd2 (L_finds st171) fun v173 st174 =>
                  some (v173, st174)
                ) fun _ =>
                bd4 (shOf cA st171.2.2.2 v8) fun w176 b177 n178 f179 =>
                bd1 (S_row nx N cA st171 v8) fun st175 =>
                bd1 (L_move_L120 N nx cA x2 x4 x5 v13 N st175 0) fun st180 =>
                some (x5, st180)
              else
                bd2 (L_need st111 1 1) fun o184 st183 =>
                onx o184 (
                  bd2 (L_finds st183) fun v185 st186 =>
                  some (v185, st186)
                ) fun _ =>
                bd4 (shOf cA st183.2.2.2 v8) fun w188 b189 n190 f191 =>
                bd1 (S_row nx N cA st183 v8) fun st187 =>
                bd1 (L_move_L120 N nx cA x2 x4 x5 v13 N st187 0) fun st192 =>
                some (x5, st192)
    else
      bd2 (L_need st14 0 5) fun o23 st22 =>
      onx o23 (
        bd2 (L_finds st22) fun v24 st25 =>
        some (v24, st25)
      ) fun _ =>
      if x5 < 0 then
        bd2 (L_need st22 0 1) fun o29 st28 =>
        onx o29 (
          bd2 (L_finds st28) fun v30 st31 =>
          some (v30, st31)
        ) fun _ =>
        bd4 (shOf cA st28.2.2.2 v8) fun w33 b34 n35 f36 =>
        bd1 (S_row nx N cA st28 v8) fun st32 =>
        bd1 (L_move_L120 N nx cA x2 x4 x5 v13 N st32 0) fun st42 =>
        some (x5, st42)
      else
        if x2 < 0 then
          bd2 (L_need st22 0 1) fun o47 st46 =>
          onx o47 (
            bd2 (L_finds st46) fun v48 st49 =>
            some (v48, st49)
          ) fun _ =>
          bd4 (shOf cA st46.2.2.2 v8) fun w51 b52 n53 f54 =>
          bd1 (S_row nx N cA st46 v8) fun st50 =>
          bd1 (L_move_L120 N nx cA x2 x4 x5 v13 N st50 0) fun st55 =>
          some (x5, st55)
        else
          if x4 < 0 then
            bd2 (L_need st22 0 1) fun o60 st59 =>
            onx o60 (
              bd2 (L_finds st59) fun v61 st62 =>
              some (v61, st62)
            ) fun _ =>
            bd4 (shOf cA st59.2.2.2 v8) fun w64 b65 n66 f67 =>
            bd1 (S_row nx N cA st59 v8) fun st63 =>
            bd1 (L_move_L120 N nx cA x2 x4 x5 v13 N st63 0) fun st68 =>
            some (x5, st68)
          else
            bd1 (S_size cA st22 v8) fun v70 =>
            if (v70 - x5) < x2 then
              bd2 (L_need st22 0 1) fun o74 st73 =>
              onx o74 (
                bd2 (L_finds st73) fun v75 st76 =>
                some (v75, st76)
              ) fun _ =>
              bd4 (shOf cA st73.2.2.2 v8) fun w78 b79 n80 f81 =>
              bd1 (S_row nx N cA st73 v8) fun st77 =>
              bd1 (L_move_L120 N nx cA x2 x4 x5 v13 N st77 0) fun st82 =>
              some (x5, st82)
            else
              bd1 (S_size cA st22 v13) fun v84 =>
              if (v84 - x5) < x4 then
                bd2 (L_need st22 0 1) fun o88 st87 =>
                onx o88 (
                  bd2 (L_finds st87) fun v89 st90 =>
                  some (v89, st90)
                ) fun _ =>
                bd4 (shOf cA st87.2.2.2 v8) fun w92 b93 n94 f95 =>
                bd1 (S_row nx N cA st87 v8) fun st91 =>
                bd1 (L_move_L120 N nx cA x2 x4 x5 v13 N st91 0) fun st96 =>
                some (x5, st96)
              else
                bd2 (L_need st22 1 1) fun o100 st99 =>
                onx o100 (
                  bd2 (L_finds st99) fun v101 st102 =>
                  some (v101, st102)
                ) fun _ =>
                bd4 (shOf cA st99.2.2.2 v8) fun w104 b105 n106 f107 =>
                bd1 (S_row nx N cA st99 v8) fun st103 =>
                bd1 (L_move_L120 N nx cA x2 x4 x5 v13 N st103 0) fun st108 =>
                some (x5, st108)
  else
    bd1 (L_isSheet x3) fun v194 =>
    if v194 = 0 then
      bd2 (L_need st 0 1) fun o198 st197 =>
      onx o198 (
        bd2 (L_finds st197) fun v199 st200 =>
        some (v199, st200)
      ) fun _ =>
      bd2 (L_sheetAt cA st197 x1) fun o203 st202 =>
      onx o203 (
        bd2 (L_finds st202) fun v204 st205 =>
        some (v204, st205)
      ) fun v201 =>
      bd2 (L_sheetAt cA st202 x3) fun o208 st207 =>
      onx o208 (
        bd2 (L_finds st207) fun v209 st210 =>
        some (v209, st210)
      ) fun v206 =>
      bd1 (S_width cA st207 v201) fun v211 =>
      bd1 (S_width cA st207 v206) fun v212 =>
      if v211 = v212 then
        bd2 (L_need st207 1 5) fun o300 st299 =>
        onx o300 (
          bd2 (L_finds st299) fun v301 st302 =>
          some (v301, st302)
        ) fun _ =>
        if x5 < 0 then
          bd2 (L_need st299 0 1) fun o306 st305 =>
          onx o306 (
            bd2 (L_finds st305) fun v307 st308 =>
            some (v307, st308)
          ) fun _ =>
          bd4 (shOf cA st305.2.2.2 v201) fun w310 b311 n312 f313 =>
          bd1 (S_row nx N cA st305 v201) fun st309 =>
          bd1 (L_move_L120 N nx cA x2 x4 x5 v206 N st309 0) fun st314 =>
          some (x5, st314)
        else
          if x2 < 0 then
            bd2 (L_need st299 0 1) fun o319 st318 =>
            onx o319 (
              bd2 (L_finds st318) fun v320 st321 =>
              some (v320, st321)
            ) fun _ =>
            bd4 (shOf cA st318.2.2.2 v201) fun w323 b324 n325 f326 =>
            bd1 (S_row nx N cA st318 v201) fun st322 =>
            bd1 (L_move_L120 N nx cA x2 x4 x5 v206 N st322 0) fun st327 =>
            some (x5, st327)
          else
            if x4 < 0 then
              bd2 (L_need st299 0 1) fun o332 st331 =>
              onx o332 (
                bd2 (L_finds st331) fun v333 st334 =>
                some (v333, st334)
              ) fun _ =>
              bd4 (shOf cA st331.2.2.2 v201) fun w336 b337 n338 f339 =>
              bd1 (S_row nx N cA st331 v201) fun st335 =>
              bd1 (L_move_L120 N nx cA x2 x4 x5 v206 N st335 0) fun st340 =>
              some (x5, st340)
            else
              bd1 (S_size cA st299 v201) fun v342 =>
              if (v342 - x5) < x2 then
                bd2 (L_need st299 0 1) fun o346 st345 =>
                onx o346 (
                  bd2 (L_finds st345) fun v347 st348 =>
                  some (v347, st348)
                ) fun _ =>
                bd4 (shOf cA st345.2.2.2 v201) fun w350 b351 n352 f353 =>
                bd1 (S_row nx N cA st345 v201) fun st349 =>
                bd1 (L_move_L120 N nx cA x2 x4 x5 v206 N st349 0) fun st354 =>
                some (x5, st354)
              else
                bd1 (S_size cA st299 v206) fun v356 =>
                if (v356 - x5) < x4 then
                  bd2 (L_need st299 0 1) fun o360 st359 =>
                  onx o360 (
                    bd2 (L_finds st359) fun v361 st362 =>
                    some (v361, st362)
                  ) fun _ =>
                  bd4 (shOf cA st359.2.2.2 v201) fun w364 b365 n366 f367 =>
                  bd1 (S_row nx N cA st359 v201) fun st363 =>
                  bd1 (L_move_L120 N nx cA x2 x4 x5 v206 N st363 0) fun st368 =>
                  some (x5, st368)
                else
                  bd2 (L_need st299 1 1) fun o372 st371 =>
                  onx o372 (
                    bd2 (L_finds st371) fun v373 st374 =>
                    some (v373, st374)
                  ) fun _ =>
                  bd4 (shOf cA st371.2.2.2 v201) fun w376 b377 n378 f379 =>
                  bd1 (S_row nx N cA st371 v201) fun st375 =>
                  bd1 (L_move_L120 N nx cA x2 x4 x5 v206 N st375 0) fun st380 =>
                  some (x5, st380)
      else
        bd2 (L_need st207 0 5) fun o216 st215 =>
        onx o216 (
          bd2 (L_finds st215) fun v217 st218 =>
          some (v217, st218)
        ) fun _ =>
        if x5 < 0 then
          bd2 (L_need st215 0 1) fun o222 st221 =>
          onx o222 (
            bd2 (L_finds st221) fun v223 st224 =>
            some (v223, st224)
          ) fun _ =>
          bd4 (shOf cA st221.2.2.2 v201) fun w226 b227 n228 f229 =>
          bd1 (S_row nx N cA st221 v201) fun st225 =>
          bd1 (L_move_L120 N nx cA x2 x4 x5 v206 N st225 0) fun st230 =>
          some (x5, st230)
        else
          if x2 < 0 then
            bd2 (L_need st215 0 1) fun o235 st234 =>
            onx o235 (
              bd2 (L_finds st234) fun v236 st237 =>
              some (v236, st237)
            ) fun _ =>
            bd4 (shOf cA st234.2.2.2 v201) fun w239 b240 n241 f242 =>
            bd1 (S_row nx N cA st234 v201) fun st238 =>
            bd1 (L_move_L120 N nx cA x2 x4 x5 v206 N st238 0) fun st243 =>
            some (x5, st243)
          else
            if x4 < 0 then
              bd2 (L_need st215 0 1) fun o248 st247 =>
              onx o248 (
                bd2 (L_finds st247) fun v249 st250 =>
                some (v249, st250)
              ) fun _ =>
              bd4 (shOf cA st247.2.2.2 v201) fun w252 b253 n254 f255 =>
              bd1 (S_row nx N cA st247 v201) fun st251 =>
              bd1 (L_move_L120 N nx cA x2 x4 x5 v206 N st251 0) fun st256 =>
              some (x5, st256)
            else
              bd1 (S_size cA st215 v201) fun v258 =>
              if (v258 - x5) < x2 then
                bd2 (L_need st215 0 1) fun o262 st261 =>
                onx o262 (
                  bd2 (L_finds st261) fun v263 st264 =>
                  some (v263, st264)
                ) fun _ =>
                bd4 (shOf cA st261.2.2.2 v201) fun w266 b267 n268 f269 =>
                bd1 (S_row nx N cA st261 v201) fun st265 =>
                bd1 (L_move_L120 N nx cA x2 x4 x5 v206 N st265 0) fun st270 =>
                some (x5, st270)
              else
                bd1 (S_size cA st215 v206) fun v272 =>
                if (v272 - x5) < x4 then
                  bd2 (L_need st215 0 1) fun o276 st275 =>
                  onx o276 (
                    bd2 (L_finds st275) fun v277 st278 =>
                    some (v277, st278)
                  ) fun _ =>
                  bd4 (shOf cA st275.2.2.2 v201) fun w280 b281 n282 f283 =>
                  bd1 (S_row nx N cA st275 v201) fun st279 =>
                  bd1 (L_move_L120 N nx cA x2 x4 x5 v206 N st279 0) fun st284 =>
                  some (x5, st284)
                else
                  bd2 (L_need st215 1 1) fun o288 st287 =>
                  onx o288 (
                    bd2 (L_finds st287) fun v289 st290 =>
                    some (v289, st290)
                  ) fun _ =>
                  bd4 (shOf cA st287.2.2.2 v201) fun w292 b293 n294 f295 =>
                  bd1 (S_row nx N cA st287 v201) fun st291 =>
                  bd1 (L_move_L120 N nx cA x2 x4 x5 v206 N st291 0) fun st296 =>
                  some (x5, st296)
    else
      bd2 (L_need st 1 1) fun o384 st383 =>
      onx o384 (
        bd2 (L_finds st383) fun v385 st386 =>
        some (v385, st386)
      ) fun _ =>
      bd2 (L_sheetAt cA st383 x1) fun o389 st388 =>
      onx o389 (
        bd2 (L_finds st388) fun v390 st391 =>
        some (v390, st391)
      ) fun v387 =>
      bd2 (L_sheetAt cA st388 x3) fun o394 st393 =>
      onx o394 (
        bd2 (L_finds st393) fun v395 st396 =>
        some (v395, st396)
      ) fun v392 =>
      bd1 (S_width cA st393 v387) fun v397 =>
      bd1 (S_width cA st393 v392) fun v398 =>
      if v397 = v398 then
        bd2 (L_need st393 1 5) fun o486 st485 =>
        onx o486 (
          bd2 (L_finds st485) fun v487 st488 =>
          some (v487, st488)
        ) fun _ =>
        if x5 < 0 then
          bd2 (L_need st485 0 1) fun o492 st491 =>
          onx o492 (
            bd2 (L_finds st491) fun v493 st494 =>
            some (v493, st494)
          ) fun _ =>
          bd4 (shOf cA st491.2.2.2 v387) fun w496 b497 n498 f499 =>
          bd1 (S_row nx N cA st491 v387) fun st495 =>
          bd1 (L_move_L120 N nx cA x2 x4 x5 v392 N st495 0) fun st500 =>
          some (x5, st500)
        else
          if x2 < 0 then
            bd2 (L_need st485 0 1) fun o505 st504 =>
            onx o505 (
              bd2 (L_finds st504) fun v506 st507 =>
              some (v506, st507)
            ) fun _ =>
            bd4 (shOf cA st504.2.2.2 v387) fun w509 b510 n511 f512 =>
            bd1 (S_row nx N cA st504 v387) fun st508 =>
            bd1 (L_move_L120 N nx cA x2 x4 x5 v392 N st508 0) fun st513 =>
            some (x5, st513)
          else
            if x4 < 0 then
              bd2 (L_need st485 0 1) fun o518 st517 =>
              onx o518 (
                bd2 (L_finds st517) fun v519 st520 =>
                some (v519, st520)
              ) fun _ =>
              bd4 (shOf cA st517.2.2.2 v387) fun w522 b523 n524 f525 =>
              bd1 (S_row nx N cA st517 v387) fun st521 =>
              bd1 (L_move_L120 N nx cA x2 x4 x5 v392 N st521 0) fun st526 =>
              some (x5, st526)
            else
              bd1 (S_size cA st485 v387) fun v528 =>
              if (v528 - x5) < x2 then
                bd2 (L_need st485 0 1) fun o532 st531 =>
                onx o532 (
                  bd2 (L_finds st531) fun v533 st534 =>
                  some (v533, st534)
                ) fun _ =>
                bd4 (shOf cA st531.2.2.2 v387) fun w536 b537 n538 f539 =>
                bd1 (S_row nx N cA st531 v387) fun st535 =>
                bd1 (L_move_L120 N nx cA x2 x4 x5 v392 N st535 0) fun st540 =>
                some (x5, st540)
              else
                bd1 (S_size cA st485 v392) fun v542 =>
                if (v542 - x5) < x4 then
                  bd2 (L_need st485 0 1) fun o546 st545 =>
                  onx o546 (
                    bd2 (L_finds st545) fun v547 st548 =>
                    some (v547, st548)
                  ) fun _ =>
                  bd4 (shOf cA st545.2.2.2 v387) fun w550 b551 n552 f553 =>
                  bd1 (S_row nx N cA st545 v387) fun st549 =>
                  bd1 (L_move_L120 N nx cA x2 x4 x5 v392 N st549 0) fun st554 =>
                  some (x5, st554)
                else
                  bd2 (L_need st485 1 1) fun o558 st557 =>
                  onx o558 (
                    bd2 (L_finds st557) fun v559 st560 =>
                    some (v559, st560)
                  ) fun _ =>
                  bd4 (shOf cA st557.2.2.2 v387) fun w562 b563 n564 f565 =>
                  bd1 (S_row nx N cA st557 v387) fun st561 =>
                  bd1 (L_move_L120 N nx cA x2 x4 x5 v392 N st561 0) fun st566 =>
                  some (x5, st566)
      else
        bd2 (L_need st393 0 5) fun o402 st401 =>
        onx o402 (
          bd2 (L_finds st401) fun v403 st404 =>
          some (v403, st404)
        ) fun _ =>
        if x5 < 0 then
          bd2 (L_need st401 0 1) fun o408 st407 =>
          onx o408 (
            bd2 (L_finds st407) fun v409 st410 =>
            some (v409, st410)
          ) fun _ =>
          bd4 (shOf cA st407.2.2.2 v387) fun w412 b413 n414 f415 =>
          bd1 (S_row nx N cA st407 v387) fun st411 =>
          bd1 (L_move_L120 N nx cA x2 x4 x5 v392 N st411 0) fun st416 =>
          some (x5, st416)
        else
          if x2 < 0 then
            bd2 (L_need st401 0 1) fun o421 st420 =>
            onx o421 (
              bd2 (L_finds st420) fun v422 st423 =>
              some (v422, st423)
            ) fun _ =>
            bd4 (shOf cA st420.2.2.2 v387) fun w425 b426 n427 f428 =>
            bd1 (S_row nx N cA st420 v387) fun st424 =>
            bd1 (L_move_L120 N nx cA x2 x4 x5 v392 N st424 0) fun st429 =>
            some (x5, st429)
          else
            if x4 < 0 then
              bd2 (L_need st401 0 1) fun o434 st433 =>
              onx o434 (
                bd2 (L_finds st433) fun v435 st436 =>
                some (v435, st436)
              ) fun _ =>
              bd4 (shOf cA st433.2.2.2 v387) fun w438 b439 n440 f441 =>
              bd1 (S_row nx N cA st433 v387) fun st437 =>
              bd1 (L_move_L120 N nx cA x2 x4 x5 v392 N st437 0) fun st442 =>
              some (x5, st442)
            else
              bd1 (S_size cA st401 v387) fun v444 =>
              if (v444 - x5) < x2 then
                bd2 (L_need st401 0 1) fun o448 st447 =>
                onx o448 (
                  bd2 (L_finds st447) fun v449 st450 =>
                  some (v449, st450)
                ) fun _ =>
                bd4 (shOf cA st447.2.2.2 v387) fun w452 b453 n454 f455 =>
                bd1 (S_row nx N cA st447 v387) fun st451 =>
                bd1 (L_move_L120 N nx cA x2 x4 x5 v392 N st451 0) fun st456 =>
                some (x5, st456)
              else
                bd1 (S_size cA st401 v392) fun v458 =>
                if (v458 - x5) < x4 then
                  bd2 (L_need st401 0 1) fun o462 st461 =>
                  onx o462 (
                    bd2 (L_finds st461) fun v463 st464 =>
                    some (v463, st464)
                  ) fun _ =>
                  bd4 (shOf cA st461.2.2.2 v387) fun w466 b467 n468 f469 =>
                  bd1 (S_row nx N cA st461 v387) fun st465 =>
                  bd1 (L_move_L120 N nx cA x2 x4 x5 v392 N st465 0) fun st470 =>
                  some (x5, st470)
                else
                  bd2 (L_need st401 1 1) fun o474 st473 =>
                  onx o474 (
                    bd2 (L_finds st473) fun v475 st476 =>
                    some (v475, st476)
                  ) fun _ =>
                  bd4 (shOf cA st473.2.2.2 v387) fun w478 b479 n480 f481 =>
                  bd1 (S_row nx N cA st473 v387) fun st477 =>
                  bd1 (L_move_L120 N nx cA x2 x4 x5 v392 N st477 0) fun st482 =>
                  some (x5, st482)
