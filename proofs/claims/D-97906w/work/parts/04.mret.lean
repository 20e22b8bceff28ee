/-! binds of several answers; the ends of the model's walks -/
def bd1 {α β : Type} (x : Option α) (f : α → Option β) : Option β := x.bind f
def bd2 {α α2 β : Type} (x : Option (α × α2)) (f : α → α2 → Option β) : Option β := x.bind fun q => f q.1 q.2
def bd3 {α α2 α3 β : Type} (x : Option (α × α2 × α3)) (f : α → α2 → α3 → Option β) : Option β := x.bind fun q => f q.1 q.2.1 q.2.2
def bd4 {α α2 α3 α4 β : Type} (x : Option (α × α2 × α3 × α4)) (f : α → α2 → α3 → α4 → Option β) : Option β := x.bind fun q => f q.1 q.2.1 q.2.2.1 q.2.2.2
theorem bd1_some {α β : Type} {x : Option α} {f : α → Option β} {r : β} (h : bd1 x f = some r) : ∃ v, x = some v ∧ f v = some r := bnd_some h
theorem bd2_some {α α2 β : Type} {x : Option (α × α2)} {f : α → α2 → Option β} {r : β} (h : bd2 x f = some r) : ∃ a b, x = some (a, b) ∧ f a b = some r := by
  obtain ⟨⟨a, b⟩, h1, h2⟩ := bnd_some h
  exact ⟨a, b, h1, h2⟩
theorem bd3_some {α α2 α3 β : Type} {x : Option (α × α2 × α3)} {f : α → α2 → α3 → Option β} {r : β} (h : bd3 x f = some r) : ∃ a b c, x = some (a, b, c) ∧ f a b c = some r := by
  obtain ⟨⟨a, b, c⟩, h1, h2⟩ := bnd_some h
  exact ⟨a, b, c, h1, h2⟩
theorem bd4_some {α α2 α3 α4 β : Type} {x : Option (α × α2 × α3 × α4)} {f : α → α2 → α3 → α4 → Option β} {r : β} (h : bd4 x f = some r) : ∃ a b c d, x = some (a, b, c, d) ∧ f a b c d = some r := by
  obtain ⟨⟨a, b, c, d⟩, h1, h2⟩ := bnd_some h
  exact ⟨a, b, c, d, h1, h2⟩
abbrev mWR (p : Program) (l : Launch) (e : Env) (R : Room) (s : State) (m : MethodId) (args : Array Value) (below : List Frame) (meth : Method) (c : Code) (r : Int32) (g : JFrame) : Prop := W p l e R s m args below meth c s.heap [] 0 0 (MQ below (QcRead r) args s 0 0 (fun _ => False)) g
abbrev mWV (p : Program) (l : Launch) (e : Env) (R : Room) (s : State) (m : MethodId) (args : Array Value) (below : List Frame) (meth : Method) (c : Code) (D : va_G) (cI : ClassId) (ad : Nat → Nat) (r : Option Value) (st' : MSt) (H : Heap) (locs : List Loc) (g : JFrame) : Prop := W p l e R s m args below meth c H locs 0 0 (MQ below (mQ r D cI ad st') args s 0 0 (kF 15 ad)) g
section MRET
variable {p : Program} {l : Launch} {e : Env} {R : Room} {s : State} {m : MethodId} {args : Array Value} {below : List Frame} {meth : Method} {c : Code} {H : Heap} {locs : List Loc} {cells slots d : Nat} {Q : State → Prop}
variable {cc : ByteArray} {pc nL : Nat} {ls : Array Slot} {rest : List Value} {D : va_G} {cI : ClassId} {ad : Nat → Nat} {st st' : MSt} {H0 : Heap}
theorem mm_dv {x y v : Int32} (hx : p.tables.exec = Jvm.exec) (hb : c.code = cc) (hv : dv x y = some v) (hdg : decode cc pc = .ok (.idiv, 1)) (kk : W p l e R s m args below meth c H locs cells slots Q (F0 m (pc + 1) ls (.int v :: rest))) : W p l e R s m args below meth c H locs cells slots Q (F0 m pc ls (.int y :: .int x :: rest)) := by
  obtain ⟨h1, rfl⟩ := dv_some hv
  exact lv_idiv hx hb hdg h1 kk
theorem mm_rmd {x y v : Int32} (hx : p.tables.exec = Jvm.exec) (hb : c.code = cc) (hv : rmd x y = some v) (hdg : decode cc pc = .ok (.irem, 1)) (kk : W p l e R s m args below meth c H locs cells slots Q (F0 m (pc + 1) ls (.int v :: rest))) : W p l e R s m args below meth c H locs cells slots Q (F0 m pc ls (.int y :: .int x :: rest)) := by
  obtain ⟨h1, rfl⟩ := rmd_some hv
  exact lv_irem hx hb hdg h1 kk
theorem mm_iret {v r : Int32} (hx : p.tables.exec = Jvm.exec) (hb : c.code = cc) (hr : meth.sig.returnType = some .int) (hlk : meth.locks = false) (h : some v = some r) (hdg : decode cc pc = .ok (.ireturn, 1)) : mWR p l e R s m args below meth c r (F0 m pc ls [.int v]) := by
  cases h
  exact W.iret hx hb hr (fun t ht _ => ⟨rfl, ht⟩) (fun _ z => absurd z List.not_mem_nil) hdg
theorem mm_zret {v r : Int32} (hx : p.tables.exec = Jvm.exec) (hb : c.code = cc) (hr : meth.sig.returnType = some .boolean) (hlk : meth.locks = false) (hz : narrow .boolean (.int v) = .int v) (h : some v = some r) (hdg : decode cc pc = .ok (.ireturn, 1)) : mWR p l e R s m args below meth c r (F0 m pc ls [.int v]) := by
  cases h
  exact W.zret hx hb hr hz (fun t ht _ => ⟨rfl, ht⟩) (fun _ z => absurd z List.not_mem_nil) hdg
theorem mm_zretV {v r : Int32} (hx : p.tables.exec = Jvm.exec) (hb : c.code = cc) (hr : meth.sig.returnType = some .boolean) (hlk : meth.locks = false) (h : zr v = some r) (hdg : decode cc pc = .ok (.ireturn, 1)) : mWR p l e R s m args below meth c r (F0 m pc ls [.int v]) := by
  obtain ⟨⟨h1, -⟩, h2⟩ := zr_some h
  exact mm_zret hx hb hr hlk h1 (congrArg some h2) hdg
theorem mm_viret {v r : Int32} (hx : p.tables.exec = Jvm.exec) (hb : c.code = cc) (hr : meth.sig.returnType = some .int) (hlk : meth.locks = false) (h : some (v, st) = some (r, st')) (hP : mW D cI ad st H) (hS : va_S (kF 15 ad) s.heap H locs) (hdg : decode cc pc = .ok (.ireturn, 1)) : mWV p l e R s m args below meth c D cI ad (some (.int r)) st' H locs (F0 m pc ls [.int v]) := by
  cases h
  exact W.iret hx hb hr (fun t ht _ => ⟨rfl, by rw [ht]; exact hP, hS.F ht⟩) hS.2.2 hdg
theorem mm_vzret {v r : Int32} (hx : p.tables.exec = Jvm.exec) (hb : c.code = cc) (hr : meth.sig.returnType = some .boolean) (hlk : meth.locks = false) (hz : narrow .boolean (.int v) = .int v) (h : some (v, st) = some (r, st')) (hP : mW D cI ad st H) (hS : va_S (kF 15 ad) s.heap H locs) (hdg : decode cc pc = .ok (.ireturn, 1)) : mWV p l e R s m args below meth c D cI ad (some (.int r)) st' H locs (F0 m pc ls [.int v]) := by
  cases h
  exact W.zret hx hb hr hz (fun t ht _ => ⟨rfl, by rw [ht]; exact hP, hS.F ht⟩) hS.2.2 hdg
theorem mm_vzretV {v z r : Int32} (hx : p.tables.exec = Jvm.exec) (hb : c.code = cc) (hr : meth.sig.returnType = some .boolean) (hlk : meth.locks = false) (hz : zr v = some z) (h : some (z, st) = some (r, st')) (hP : mW D cI ad st H) (hS : va_S (kF 15 ad) s.heap H locs) (hdg : decode cc pc = .ok (.ireturn, 1)) : mWV p l e R s m args below meth c D cI ad (some (.int r)) st' H locs (F0 m pc ls [.int v]) := by
  obtain ⟨⟨h1, -⟩, h2⟩ := zr_some hz
  subst h2
  exact mm_vzret hx hb hr hlk h1 h hP hS hdg
theorem mm_vret (hx : p.tables.exec = Jvm.exec) (hb : c.code = cc) (hr : meth.sig.returnType = none) (hlk : meth.locks = false) (h : some st = some st') (hP : mW D cI ad st H) (hS : va_S (kF 15 ad) s.heap H locs) (hdg : decode cc pc = .ok (.return_, 1)) : mWV p l e R s m args below meth c D cI ad none st' H locs (F0 m pc ls []) := by
  cases h
  exact W.vret hx hb hr (fun t ht _ => ⟨rfl, by rw [ht]; exact hP, hS.F ht⟩) hS.2.2 hdg
end MRET
