/-! the reader: plain functions -/
set_option maxRecDepth 100000
/-- what a reading has: the component's state (but for the reader itself), the heap's size, the place, how many are open -/
abbrev PS : Type := CS × Nat × Int32 × Int32
def zAt (z : PS) (k : Int32) : PS := (z.1, z.2.1, z.2.2.1 + k, z.2.2.2)
def zOp (z : PS) (k : Int32) : PS := (z.1, z.2.1, z.2.2.1, k)
/-- a new cell -/
def zNew (z : PS) (e : va_E) : PS := (csP z.1 (1000 + z.2.1) e, z.2.1 + 1, z.2.2.1, z.2.2.2)
/-- a cell that stands is written -/
def zPut (z : PS) (a : Nat) (e : va_E) : PS := (csP z.1 (1000 + a) e, z.2)
def R_look (sz : Int32) (z : PS) : Option Int32 := if sz ≤ z.2.2.1 then some (-1) else bd1 (rd (z.1.2.1 14) 50 z.2.2.1) fun v => some (v &&& 255)
def R_isOne (j : Nat) (sz : Int32) (z : PS) : Option Int32 := bd1 (R_look sz z) fun v1 => if v1 < 0 then some 0 else bd1 (R_look sz z) fun v2 => if sIx j v2 < 0 then some 0 else some 1
def fltC (a : Int32) : va_E := .inr (6, [.null, .null, .null, .null, .null, .int 0, .int a])
/-- a fault is thrown if v is 0 -/
def R_fault (M : Nat) (z : PS) (v : Int32) : Option (Option Unit × PS) := if v = 0 then (if z.2.1 < M then some (none, zNew z (fltC z.2.2.1)) else none) else some (some (), z)
def isTwo (e : va_E) : Bool := match e with
  | .inr (17, [.int 0, .null, .null]) => true
  | _ => false
/-- both sides of a sign: a cell is made, the right side is read, the cell is written -/
def R_two (M : Nat) (f : PS → Option (Option Nat × PS)) (z : PS) (sg : Int32) (t : Nat) : Option (Option Nat × PS) :=
  if z.2.1 < M then
    bd2 (f (zNew z (.inr (17, [.int 0, .null, .null])))) fun o z1 =>
    onx o (some (none, z1)) fun b =>
    if isTwo (z1.1.2.2.2 (1000 + z.2.1)) = true then some (some z.2.1, zPut z1 z.2.1 (.inr (17, [.int sg, .ref t, .ref b]))) else none
  else none
def R_loopA (M j : Nat) (sz sg : Int32) (f : PS → Option (Option Nat × PS)) : Nat → PS → Nat → Option (Option Nat × PS)
  | 0, _, _ => none
  | n + 1, z, t =>
    bd1 (R_isOne j sz z) fun v =>
    if v = 0 then some (some t, z)
    else bd2 (R_two M f (zAt z 1) sg t) fun o z1 => onx o (some (none, z1)) fun t1 => R_loopA M j sz sg f n z1 t1
def R_loopB (M j : Nat) (sz : Int32) (f : PS → Option (Option Nat × PS)) : Nat → PS → Nat → Option (Option Nat × PS)
  | 0, _, _ => none
  | n + 1, z, t =>
    bd1 (R_isOne j sz z) fun v =>
    if v = 0 then some (some t, z)
    else bd1 (R_look sz z) fun sg => bd2 (R_two M f (zAt z 1) sg t) fun o z1 => onx o (some (none, z1)) fun t1 => R_loopB M j sz f n z1 t1
def R_chainA (N M j : Nat) (sz sg : Int32) (f : PS → Option (Option Nat × PS)) (z : PS) : Option (Option Nat × PS) := bd2 (f z) fun o z1 => onx o (some (none, z1)) fun t => R_loopA M j sz sg f N z1 t
def R_chainB (N M j : Nat) (sz : Int32) (f : PS → Option (Option Nat × PS)) (z : PS) : Option (Option Nat × PS) := bd2 (f z) fun o z1 => onx o (some (none, z1)) fun t => R_loopB M j sz f N z1 t
def R_relation (M : Nat) (sz : Int32) (f : PS → Option (Option Nat × PS)) (z : PS) : Option (Option Nat × PS) :=
  bd2 (f z) fun o z1 => onx o (some (none, z1)) fun t =>
  bd1 (R_isOne 4 sz z1) fun v =>
  if v = 0 then some (some t, z1) else bd1 (R_look sz z1) fun sg => R_two M f (zAt z1 1) sg t
def R_opens (M : Nat) (z : PS) : Option (Option Unit × PS) :=
  bd2 (R_fault M z (if 5 ≤ z.2.2.2 then 0 else 1)) fun o z1 => onx o (some (none, z1)) fun _ => some (some (), zAt (zOp z1 (z1.2.2.2 + 1)) 1)
def R_digits (sz : Int32) : Nat → PS → Int32 → Int32 → Option (PS × Int32)
  | 0, _, _, _ => none
  | n + 1, z, v, k =>
    if 4 ≤ k then some (z, v)
    else bd1 (R_look sz z) fun c => bd1 (L_in c 48 57) fun b => if b = 0 then some (z, v) else bd1 (R_look sz z) fun c2 => R_digits sz n (zAt z 1) (((10 * v) + c2) - 48) (k + 1)
def R_single (N M i : Nat) (sz : Int32) (fe fs : PS → Option (Option Nat × PS)) (z : PS) : Option (Option Nat × PS) :=
  bd1 (R_isOne i sz z) fun v1 =>
  if v1 = 0 then
    bd1 (R_isOne 7 sz z) fun v2 =>
    if v2 = 0 then
      bd1 (R_isOne 8 sz z) fun v3 =>
      if v3 = 0 then
        bd1 (R_look sz z) fun c => bd1 (L_in c 48 57) fun b =>
        bd2 (R_fault M z b) fun o z1 => onx o (some (none, z1)) fun _ =>
        bd2 (R_digits sz N z1 0 0) fun z2 v =>
        if z2.2.1 < M then some (some z2.2.1, zNew z2 (.inr (14, [.int v]))) else none
      else
        bd2 (R_opens M z) fun o z1 => onx o (some (none, z1)) fun _ =>
        bd2 (fe z1) fun o z2 => onx o (some (none, z2)) fun t =>
        bd1 (R_look sz z2) fun c =>
        bd2 (R_fault M z2 (if c = 41 then 1 else 0)) fun o z3 => onx o (some (none, z3)) fun _ =>
        some (some t, zOp (zAt z3 1) (z3.2.2.2 - 1))
    else
      bd2 (R_opens M z) fun o z1 => onx o (some (none, z1)) fun _ =>
      bd2 (fs z1) fun o z2 => onx o (some (none, z2)) fun t =>
      if z2.2.1 < M then some (some z2.2.1, zNew (zOp z2 (z2.2.2.2 - 1)) (.inr (16, [.ref t]))) else none
  else
    if z.2.1 < M then
      bd1 (rd (z.1.2.1 14) 50 ((z.2.2.1 + 1) - 1)) fun v =>
      some (some z.2.1, zNew (zAt z 1) (.inr (15, [.int v])))
    else none
/-- the readers by depth: 0 either, 1 both, 2 relation, 3 sum, 4 product, 5 single -/
def R_ex (N M i : Nat) (sz : Int32) : Nat → Nat → PS → Option (Option Nat × PS)
  | 0, _, _ => none
  | d + 1, 0, z => R_chainA N M 2 sz 124 (R_ex N M i sz d 1) z
  | d + 1, 1, z => R_chainA N M 3 sz 38 (R_ex N M i sz d 2) z
  | d + 1, 2, z => R_relation M sz (R_ex N M i sz d 3) z
  | d + 1, 3, z => R_chainB N M 5 sz (R_ex N M i sz d 4) z
  | d + 1, 4, z => R_chainB N M 6 sz (R_ex N M i sz d 5) z
  | d + 1, _, z => R_single N M i sz (R_ex N M i sz d 0) (R_ex N M i sz d 5) z
def R_read (N M i : Nat) (sz : Int32) (z : PS) : Option (Option Nat × PS) :=
  bd2 (R_ex N M i sz 50 0 z) fun o z1 => onx o (some (none, z1)) fun t =>
  bd2 (R_fault M z1 (if z1.2.2.1 = sz then 1 else 0)) fun o z2 => onx o (some (none, z2)) fun _ => some (some t, z2)
