/-! text: plain functions -/
set_option maxRecDepth 100000
def fltOf (e : va_E) : Option Int32 := match e with
  | .inr (6, [.null, .null, .null, .null, .null, .int 0, .int a]) => some a
  | _ => none
def tI (x : Int32) : Nat := if x = 0 then 0 else 1
/-- a text is read and put -/
def L_text (adK ad : Nat → Nat) (nx N : Nat) (st : CS) (x1 : Int32) : Option (Int32 × CS) :=
  bd1 (L_in x1 0 1) fun v1 =>
  bd2 (L_need st v1 1) fun o st1 =>
  onx o (bd2 (L_finds st1) fun v st2 => some (v, st2)) fun _ =>
  bd2 (R_read N (nx + 60) (tI x1) (st1.1 (20 * 0) 21) (csF st1 (20 * 0) 21 0, nx + 1, 0, 0)) fun o z =>
  onx o (bd1 (fltOf ((wS adK ad (tI x1) nx (st1.1 (20 * 0) 21) z).2.2.2 (1000 + (z.2.1 - 1)))) fun a => some ((-10) - a, wS adK ad (tI x1) nx (st1.1 (20 * 0) 21) z)) fun a =>
  if isTm (wS adK ad (tI x1) nx (st1.1 (20 * 0) 21) z).2.2.2 a = true then
    bd1 (wrq (z.1.2.2.1 18) 2 x1 (some a)) fun b => some (1, csQ (wS adK ad (tI x1) nx (st1.1 (20 * 0) 21) z) 18 b)
  else none
