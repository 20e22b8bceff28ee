/-! sheets: plain functions -/
set_option maxRecDepth 100000
/-- what a sheet is: its width's number, its row, the row's length and numbers -/
def shOf (cA : Nat → ClassId) (P : Nat → va_E) (a : Nat) : Option (Nat × Nat × Nat × (Nat → Int32)) := match P (1000 + a) with
  | .inr (ci, [.ref b]) => match P (1000 + b) with
    | .inl (x, n, .inl f) => if ci = 19 ∧ x = cA 2 then some (0, b, n, f) else if ci = 20 ∧ x = cA 3 then some (1, b, n, f) else if ci = 21 ∧ x = cA 0 then some (2, b, n, f) else none
    | _ => none
  | _ => none
def shN (w : Nat) (x : Int32) : Int32 := if w = 0 then vp_nar .byte x.toInt8.toInt32 else if w = 1 then vp_nar .short x.toInt16.toInt32 else x
def shT (w : Nat) : Nat := if w = 0 then 2 else if w = 1 then 3 else 0
def S_size (cA : Nat → ClassId) (st : CS) (a : Nat) : Option Int32 := bd4 (shOf cA st.2.2.2 a) fun _ _ n _ => some (Int32.ofNat n)
def S_get (cA : Nat → ClassId) (st : CS) (a : Nat) (i : Int32) : Option Int32 := bd4 (shOf cA st.2.2.2 a) fun _ _ n f => rd f n i
def S_put (cA : Nat → ClassId) (st : CS) (a : Nat) (i x : Int32) : Option CS := bd4 (shOf cA st.2.2.2 a) fun w b n f => bd1 (wr f n i (shN w x)) fun g => some (csP st (1000 + b) (.inl (cA (shT w), n, .inl g)))
def S_width (cA : Nat → ClassId) (st : CS) (a : Nat) : Option Int32 := bd4 (shOf cA st.2.2.2 a) fun w _ _ _ => some (if w = 0 then 8 else if w = 1 then 16 else 32)
/-- a place in the row of shelves -/
def rdi (n : Nat) (i : Int32) : Option Nat := if i < 0 ∨ n ≤ i.toNatClampNeg then none else some i.toNatClampNeg
