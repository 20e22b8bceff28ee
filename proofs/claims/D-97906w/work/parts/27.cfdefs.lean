/-! become: plain functions -/
set_option maxRecDepth 100000
def T_become (t u : Nat) (st : CS) : Option CS :=
  bd1 (some (csA (csF st (20 * t) 0 (st.1 (20 * u) 0)) (20 * t + 1) (va_cpy ((csF st (20 * t) 0 (st.1 (20 * u) 0)).2.1 (20 * u + 1)) ((csF st (20 * t) 0 (st.1 (20 * u) 0)).2.1 (20 * t + 1)) 0 0 8))) fun st1 =>
  bd1 (some (csA st1 (20 * t + 2) (va_cpy (st1.2.1 (20 * u + 2)) (st1.2.1 (20 * t + 2)) 0 0 8))) fun st2 =>
  bd1 (some (csA st2 (20 * t + 3) (va_cpy (st2.2.1 (20 * u + 3)) (st2.2.1 (20 * t + 3)) 0 0 8))) fun st3 =>
  bd1 (some (csA st3 (20 * t + 4) (va_cpy (st3.2.1 (20 * u + 4)) (st3.2.1 (20 * t + 4)) 0 0 8))) fun st4 =>
  bd1 (some (csA st4 (20 * t + 5) (va_cpy (st4.2.1 (20 * u + 5)) (st4.2.1 (20 * t + 5)) 0 0 8))) fun st5 =>
  bd1 (cpq (isDeb (csF st5 (20 * t) 6 (st5.1 (20 * u) 6)).2.2.2) ((csF st5 (20 * t) 6 (st5.1 (20 * u) 6)).2.2.1 (20 * u + 17)) ((csF st5 (20 * t) 6 (st5.1 (20 * u) 6)).2.2.1 (20 * t + 17)) 4) fun b6 =>
  bd1 (some (csA (csQ (csF st5 (20 * t) 6 (st5.1 (20 * u) 6)) (20 * t + 17) b6) (20 * t + 6) (va_cpy ((csQ (csF st5 (20 * t) 6 (st5.1 (20 * u) 6)) (20 * t + 17) b6).2.1 (20 * u + 6)) ((csQ (csF st5 (20 * t) 6 (st5.1 (20 * u) 6)) (20 * t + 17) b6).2.1 (20 * t + 6)) 0 0 4))) fun st7 =>
  bd1 (cpz .boolean (st7.2.1 (20 * u + 7)) (st7.2.1 (20 * t + 7)) 4) fun b8 =>
  bd1 (some (csA (csA st7 (20 * t + 7) b8) (20 * t + 8) (va_cpy ((csA st7 (20 * t + 7) b8).2.1 (20 * u + 8)) ((csA st7 (20 * t + 7) b8).2.1 (20 * t + 8)) 0 0 4))) fun st9 =>
  bd1 (some (csA st9 (20 * t + 9) (va_cpy (st9.2.1 (20 * u + 9)) (st9.2.1 (20 * t + 9)) 0 0 32))) fun st10 =>
  bd1 (some (csA st10 (20 * t + 10) (va_cpy (st10.2.1 (20 * u + 10)) (st10.2.1 (20 * t + 10)) 0 0 32))) fun st11 =>
  bd1 (some (csA (csF (csF st11 (20 * t) 13 (st11.1 (20 * u) 13)) (20 * t) 14 ((csF st11 (20 * t) 13 (st11.1 (20 * u) 13)).1 (20 * u) 14)) (20 * t + 11) (va_cpy ((csF (csF st11 (20 * t) 13 (st11.1 (20 * u) 13)) (20 * t) 14 ((csF st11 (20 * t) 13 (st11.1 (20 * u) 13)).1 (20 * u) 14)).2.1 (20 * u + 11)) ((csF (csF st11 (20 * t) 13 (st11.1 (20 * u) 13)) (20 * t) 14 ((csF st11 (20 * t) 13 (st11.1 (20 * u) 13)).1 (20 * u) 14)).2.1 (20 * t + 11)) 0 0 12))) fun st12 =>
  bd1 (some (csA st12 (20 * t + 12) (va_cpy (st12.2.1 (20 * u + 12)) (st12.2.1 (20 * t + 12)) 0 0 12))) fun st13 =>
  bd1 (some (csA st13 (20 * t + 13) (va_cpy (st13.2.1 (20 * u + 13)) (st13.2.1 (20 * t + 13)) 0 0 12))) fun st14 =>
  bd1 (cpq (isTm st14.2.2.2) (st14.2.2.1 (20 * u + 18)) (st14.2.2.1 (20 * t + 18)) 2) fun b15 =>
  bd1 (cpz .byte ((csF (csQ st14 (20 * t + 18) b15) (20 * t) 19 ((csQ st14 (20 * t + 18) b15).1 (20 * u) 19)).2.1 (20 * u + 14)) ((csF (csQ st14 (20 * t + 18) b15) (20 * t) 19 ((csQ st14 (20 * t + 18) b15).1 (20 * u) 19)).2.1 (20 * t + 14)) 50) fun b16 =>
  bd1 (some (csA (csF (csA (csF (csQ st14 (20 * t + 18) b15) (20 * t) 19 ((csQ st14 (20 * t + 18) b15).1 (20 * u) 19)) (20 * t + 14) b16) (20 * t) 21 ((csA (csF (csQ st14 (20 * t + 18) b15) (20 * t) 19 ((csQ st14 (20 * t + 18) b15).1 (20 * u) 19)) (20 * t + 14) b16).1 (20 * u) 21)) (20 * t + 15) (va_cpy ((csF (csA (csF (csQ st14 (20 * t + 18) b15) (20 * t) 19 ((csQ st14 (20 * t + 18) b15).1 (20 * u) 19)) (20 * t + 14) b16) (20 * t) 21 ((csA (csF (csQ st14 (20 * t + 18) b15) (20 * t) 19 ((csQ st14 (20 * t + 18) b15).1 (20 * u) 19)) (20 * t + 14) b16).1 (20 * u) 21)).2.1 (20 * u + 15)) ((csF (csA (csF (csQ st14 (20 * t + 18) b15) (20 * t) 19 ((csQ st14 (20 * t + 18) b15).1 (20 * u) 19)) (20 * t + 14) b16) (20 * t) 21 ((csA (csF (csQ st14 (20 * t + 18) b15) (20 * t) 19 ((csQ st14 (20 * t + 18) b15).1 (20 * u) 19)) (20 * t + 14) b16).1 (20 * u) 21)).2.1 (20 * t + 15)) 0 0 20))) fun st17 =>
  some (csF (csF st17 (20 * t) 23 (st17.1 (20 * u) 23)) (20 * t) 25 (-1))
