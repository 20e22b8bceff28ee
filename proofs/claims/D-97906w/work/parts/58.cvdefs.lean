/-! Sheet.row: plain functions -/
set_option maxRecDepth 100000
/-- a new row of numbers -/
def newI (cA : Nat → ClassId) (nx : Nat) (st : CS) (x : Int32) : Option CS := if ¬ x < 0 ∧ x.toNatClampNeg ≤ 40 then some (csP st (1000 + nx) (.inl (cA 0, x.toNatClampNeg, .inl (fun _ => 0)))) else none
/-- a row of numbers of the pool -/
def arOf (cA : Nat → ClassId) (e : va_E) : Option (Nat × (Nat → Int32)) := match e with
  | .inl (x, n, .inl f) => if x = cA 0 then some (n, f) else none
  | _ => none
def S_row_L9 (N : Nat) (nx a : Nat) (cA : Nat → ClassId) : Nat → CS → Int32 → Option (CS)
  | 0, _, _ => none
  | n + 1, st, x2 =>
    bd2 (arOf cA (st.2.2.2 (1000 + nx))) fun n4 f5 =>
    if (Int32.ofNat n4) ≤ x2 then
      some st
    else
      bd1 (S_get cA st a x2) fun v7 =>
      bd2 (arOf cA (st.2.2.2 (1000 + nx))) fun n8 f9 =>
      bd1 (wr f9 n8 x2 v7) fun g10 =>
      S_row_L9 N nx a cA n (csP st (1000 + nx) (.inl (cA 0, n8, .inl g10))) (x2 + 1)
def S_row (nx : Nat) (N : Nat) (cA : Nat → ClassId) (st : CS) (a : Nat) : Option CS :=
  bd1 (S_size cA st a) fun v1 =>
  bd1 (newI cA nx st v1) fun st2 =>
  bd1 (S_row_L9 N nx a cA N st2 0) fun st11 =>
  some (st11)
