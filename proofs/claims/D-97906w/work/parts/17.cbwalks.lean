/-! the component: a town: walks -/
set_option maxRecDepth 100000
section
variable {p : Program} {l : Launch} {e : Env} {R : Room} {s : State} {m : MethodId} {args : Array Value} {below : List Frame} {meth : Method} {c : Code} {H : Heap} {locs : List Loc} {cells slots d : Nat} {Q : State → Prop} {cc : ByteArray} {pc nL : Nat} {ls : Array Slot} {rest : List Value} {D : va_G} {cA : Nat → ClassId} {ks : List Nat} {ad : Nat → Nat} {A : Nat → Prop} {st : CS} {H0 : Heap} {own : String} {index : Nat} {t : Nat}
section TROWS
variable {p : Program} {l : Launch} {e : Env} {R : Room} {s : State} {m : MethodId} {args : Array Value} {below : List Frame} {meth : Method} {c : Code} {H : Heap} {locs : List Loc} {cells slots d : Nat} {Q : State → Prop} {cc : ByteArray} {pc nL : Nat} {ls : Array Slot} {rest : List Value} {D : va_G} {cA : Nat → ClassId} {ks : List Nat} {ad : Nat → Nat} {A : Nat → Prop} {st : CS} {H0 : Heap} {own : String} {index : Nat}
variable {t : Nat}
theorem q224 : (Jvm.Cond.fieldLink "ChapterLoan$Town" (9 : Nat) "ChapterLoan$Town" "needs" "[I") ∈ lw_all := lw_g (lw_at lw_m1 140 rfl) rfl
theorem tg_needs (C : cC p R d s m args c cc nL RX2 D cA A) (hO : klOk A ks ad) (ht : t < 3) (hP : cW D cA ks ad st H) (hdg : decode cc pc = .ok (.getfield 9, 3)) (kk : W p l e R s m args below meth c H locs cells slots Q (F0 m (pc + 3) ls (.ref (ad (20 * t + 1)) :: rest))) : W p l e R s m args below meth c H locs cells slots Q (F0 m pc ls (.ref (ad (20 * t)) :: rest)) :=
  cc_get (Cn := RX2) (ref := RX2) (T := TX2) (N := 27) C hP (hO.2.2.2 _ (tk0 ht)) (cg_t0 ht) rfl in_X2 1 (by decide) q224 (fun _ h => h) rfl hdg kk
theorem q226 : (Jvm.Cond.fieldLink "ChapterLoan$Town" (15 : Nat) "ChapterLoan$Town" "clashes" "[I") ∈ lw_all := lw_g (lw_at lw_m1 142 rfl) rfl
theorem tg_clashes (C : cC p R d s m args c cc nL RX2 D cA A) (hO : klOk A ks ad) (ht : t < 3) (hP : cW D cA ks ad st H) (hdg : decode cc pc = .ok (.getfield 15, 3)) (kk : W p l e R s m args below meth c H locs cells slots Q (F0 m (pc + 3) ls (.ref (ad (20 * t + 2)) :: rest))) : W p l e R s m args below meth c H locs cells slots Q (F0 m pc ls (.ref (ad (20 * t)) :: rest)) :=
  cc_get (Cn := RX2) (ref := RX2) (T := TX2) (N := 27) C hP (hO.2.2.2 _ (tk0 ht)) (cg_t0 ht) rfl in_X2 2 (by decide) q226 (fun _ h => h) rfl hdg kk
theorem q228 : (Jvm.Cond.fieldLink "ChapterLoan$Town" (18 : Nat) "ChapterLoan$Town" "within" "[I") ∈ lw_all := lw_g (lw_at lw_m1 144 rfl) rfl
theorem tg_within (C : cC p R d s m args c cc nL RX2 D cA A) (hO : klOk A ks ad) (ht : t < 3) (hP : cW D cA ks ad st H) (hdg : decode cc pc = .ok (.getfield 18, 3)) (kk : W p l e R s m args below meth c H locs cells slots Q (F0 m (pc + 3) ls (.ref (ad (20 * t + 3)) :: rest))) : W p l e R s m args below meth c H locs cells slots Q (F0 m pc ls (.ref (ad (20 * t)) :: rest)) :=
  cc_get (Cn := RX2) (ref := RX2) (T := TX2) (N := 27) C hP (hO.2.2.2 _ (tk0 ht)) (cg_t0 ht) rfl in_X2 3 (by decide) q228 (fun _ h => h) rfl hdg kk
theorem q230 : (Jvm.Cond.fieldLink "ChapterLoan$Town" (21 : Nat) "ChapterLoan$Town" "by" "[I") ∈ lw_all := lw_g (lw_at lw_m1 146 rfl) rfl
theorem tg_by (C : cC p R d s m args c cc nL RX2 D cA A) (hO : klOk A ks ad) (ht : t < 3) (hP : cW D cA ks ad st H) (hdg : decode cc pc = .ok (.getfield 21, 3)) (kk : W p l e R s m args below meth c H locs cells slots Q (F0 m (pc + 3) ls (.ref (ad (20 * t + 4)) :: rest))) : W p l e R s m args below meth c H locs cells slots Q (F0 m pc ls (.ref (ad (20 * t)) :: rest)) :=
  cc_get (Cn := RX2) (ref := RX2) (T := TX2) (N := 27) C hP (hO.2.2.2 _ (tk0 ht)) (cg_t0 ht) rfl in_X2 4 (by decide) q230 (fun _ h => h) rfl hdg kk
theorem q232 : (Jvm.Cond.fieldLink "ChapterLoan$Town" (24 : Nat) "ChapterLoan$Town" "witnesses" "[I") ∈ lw_all := lw_g (lw_at lw_m1 148 rfl) rfl
theorem tg_witnesses (C : cC p R d s m args c cc nL RX2 D cA A) (hO : klOk A ks ad) (ht : t < 3) (hP : cW D cA ks ad st H) (hdg : decode cc pc = .ok (.getfield 24, 3)) (kk : W p l e R s m args below meth c H locs cells slots Q (F0 m (pc + 3) ls (.ref (ad (20 * t + 5)) :: rest))) : W p l e R s m args below meth c H locs cells slots Q (F0 m pc ls (.ref (ad (20 * t)) :: rest)) :=
  cc_get (Cn := RX2) (ref := RX2) (T := TX2) (N := 27) C hP (hO.2.2.2 _ (tk0 ht)) (cg_t0 ht) rfl in_X2 5 (by decide) q232 (fun _ h => h) rfl hdg kk
theorem q236 : (Jvm.Cond.fieldLink "ChapterLoan$Town" (29 : Nat) "ChapterLoan$Town" "debtor" "[LChapterLoan$Debtor;") ∈ lw_all := lw_g (lw_at lw_m1 152 rfl) rfl
theorem tg_debtor (C : cC p R d s m args c cc nL RX2 D cA A) (hO : klOk A ks ad) (ht : t < 3) (hP : cW D cA ks ad st H) (hdg : decode cc pc = .ok (.getfield 29, 3)) (kk : W p l e R s m args below meth c H locs cells slots Q (F0 m (pc + 3) ls (.ref (ad (20 * t + 17)) :: rest))) : W p l e R s m args below meth c H locs cells slots Q (F0 m pc ls (.ref (ad (20 * t)) :: rest)) :=
  cc_get (Cn := RX2) (ref := RX2) (T := TX2) (N := 27) C hP (hO.2.2.2 _ (tk0 ht)) (cg_t0 ht) rfl in_X2 7 (by decide) q236 (fun _ h => h) rfl hdg kk
theorem q238 : (Jvm.Cond.fieldLink "ChapterLoan$Town" (33 : Nat) "ChapterLoan$Town" "debt" "[I") ∈ lw_all := lw_g (lw_at lw_m1 154 rfl) rfl
theorem tg_debt (C : cC p R d s m args c cc nL RX2 D cA A) (hO : klOk A ks ad) (ht : t < 3) (hP : cW D cA ks ad st H) (hdg : decode cc pc = .ok (.getfield 33, 3)) (kk : W p l e R s m args below meth c H locs cells slots Q (F0 m (pc + 3) ls (.ref (ad (20 * t + 6)) :: rest))) : W p l e R s m args below meth c H locs cells slots Q (F0 m pc ls (.ref (ad (20 * t)) :: rest)) :=
  cc_get (Cn := RX2) (ref := RX2) (T := TX2) (N := 27) C hP (hO.2.2.2 _ (tk0 ht)) (cg_t0 ht) rfl in_X2 8 (by decide) q238 (fun _ h => h) rfl hdg kk
theorem q240 : (Jvm.Cond.fieldLink "ChapterLoan$Town" (36 : Nat) "ChapterLoan$Town" "isBroken" "[Z") ∈ lw_all := lw_g (lw_at lw_m1 156 rfl) rfl
theorem tg_isBroken (C : cC p R d s m args c cc nL RX2 D cA A) (hO : klOk A ks ad) (ht : t < 3) (hP : cW D cA ks ad st H) (hdg : decode cc pc = .ok (.getfield 36, 3)) (kk : W p l e R s m args below meth c H locs cells slots Q (F0 m (pc + 3) ls (.ref (ad (20 * t + 7)) :: rest))) : W p l e R s m args below meth c H locs cells slots Q (F0 m pc ls (.ref (ad (20 * t)) :: rest)) :=
  cc_get (Cn := RX2) (ref := RX2) (T := TX2) (N := 27) C hP (hO.2.2.2 _ (tk0 ht)) (cg_t0 ht) rfl in_X2 9 (by decide) q240 (fun _ h => h) rfl hdg kk
theorem q242 : (Jvm.Cond.fieldLink "ChapterLoan$Town" (40 : Nat) "ChapterLoan$Town" "many" "[I") ∈ lw_all := lw_g (lw_at lw_m1 158 rfl) rfl
theorem tg_many (C : cC p R d s m args c cc nL RX2 D cA A) (hO : klOk A ks ad) (ht : t < 3) (hP : cW D cA ks ad st H) (hdg : decode cc pc = .ok (.getfield 40, 3)) (kk : W p l e R s m args below meth c H locs cells slots Q (F0 m (pc + 3) ls (.ref (ad (20 * t + 8)) :: rest))) : W p l e R s m args below meth c H locs cells slots Q (F0 m pc ls (.ref (ad (20 * t)) :: rest)) :=
  cc_get (Cn := RX2) (ref := RX2) (T := TX2) (N := 27) C hP (hO.2.2.2 _ (tk0 ht)) (cg_t0 ht) rfl in_X2 10 (by decide) q242 (fun _ h => h) rfl hdg kk
theorem q244 : (Jvm.Cond.fieldLink "ChapterLoan$Town" (43 : Nat) "ChapterLoan$Town" "bookFact" "[I") ∈ lw_all := lw_g (lw_at lw_m1 160 rfl) rfl
theorem tg_bookFact (C : cC p R d s m args c cc nL RX2 D cA A) (hO : klOk A ks ad) (ht : t < 3) (hP : cW D cA ks ad st H) (hdg : decode cc pc = .ok (.getfield 43, 3)) (kk : W p l e R s m args below meth c H locs cells slots Q (F0 m (pc + 3) ls (.ref (ad (20 * t + 9)) :: rest))) : W p l e R s m args below meth c H locs cells slots Q (F0 m pc ls (.ref (ad (20 * t)) :: rest)) :=
  cc_get (Cn := RX2) (ref := RX2) (T := TX2) (N := 27) C hP (hO.2.2.2 _ (tk0 ht)) (cg_t0 ht) rfl in_X2 11 (by decide) q244 (fun _ h => h) rfl hdg kk
theorem q245 : (Jvm.Cond.fieldLink "ChapterLoan$Town" (46 : Nat) "ChapterLoan$Town" "bookWeek" "[I") ∈ lw_all := lw_g (lw_at lw_m1 161 rfl) rfl
theorem tg_bookWeek (C : cC p R d s m args c cc nL RX2 D cA A) (hO : klOk A ks ad) (ht : t < 3) (hP : cW D cA ks ad st H) (hdg : decode cc pc = .ok (.getfield 46, 3)) (kk : W p l e R s m args below meth c H locs cells slots Q (F0 m (pc + 3) ls (.ref (ad (20 * t + 10)) :: rest))) : W p l e R s m args below meth c H locs cells slots Q (F0 m pc ls (.ref (ad (20 * t)) :: rest)) :=
  cc_get (Cn := RX2) (ref := RX2) (T := TX2) (N := 27) C hP (hO.2.2.2 _ (tk0 ht)) (cg_t0 ht) rfl in_X2 12 (by decide) q245 (fun _ h => h) rfl hdg kk
theorem q251 : (Jvm.Cond.fieldLink "ChapterLoan$Town" (49 : Nat) "ChapterLoan$Town" "meetWeek" "[I") ∈ lw_all := lw_g (lw_at lw_m1 167 rfl) rfl
theorem tg_meetWeek (C : cC p R d s m args c cc nL RX2 D cA A) (hO : klOk A ks ad) (ht : t < 3) (hP : cW D cA ks ad st H) (hdg : decode cc pc = .ok (.getfield 49, 3)) (kk : W p l e R s m args below meth c H locs cells slots Q (F0 m (pc + 3) ls (.ref (ad (20 * t + 11)) :: rest))) : W p l e R s m args below meth c H locs cells slots Q (F0 m pc ls (.ref (ad (20 * t)) :: rest)) :=
  cc_get (Cn := RX2) (ref := RX2) (T := TX2) (N := 27) C hP (hO.2.2.2 _ (tk0 ht)) (cg_t0 ht) rfl in_X2 15 (by decide) q251 (fun _ h => h) rfl hdg kk
theorem q253 : (Jvm.Cond.fieldLink "ChapterLoan$Town" (52 : Nat) "ChapterLoan$Town" "meetOne" "[I") ∈ lw_all := lw_g (lw_at lw_m1 169 rfl) rfl
theorem tg_meetOne (C : cC p R d s m args c cc nL RX2 D cA A) (hO : klOk A ks ad) (ht : t < 3) (hP : cW D cA ks ad st H) (hdg : decode cc pc = .ok (.getfield 52, 3)) (kk : W p l e R s m args below meth c H locs cells slots Q (F0 m (pc + 3) ls (.ref (ad (20 * t + 12)) :: rest))) : W p l e R s m args below meth c H locs cells slots Q (F0 m pc ls (.ref (ad (20 * t)) :: rest)) :=
  cc_get (Cn := RX2) (ref := RX2) (T := TX2) (N := 27) C hP (hO.2.2.2 _ (tk0 ht)) (cg_t0 ht) rfl in_X2 16 (by decide) q253 (fun _ h => h) rfl hdg kk
theorem q255 : (Jvm.Cond.fieldLink "ChapterLoan$Town" (55 : Nat) "ChapterLoan$Town" "meetOther" "[I") ∈ lw_all := lw_g (lw_at lw_m1 171 rfl) rfl
theorem tg_meetOther (C : cC p R d s m args c cc nL RX2 D cA A) (hO : klOk A ks ad) (ht : t < 3) (hP : cW D cA ks ad st H) (hdg : decode cc pc = .ok (.getfield 55, 3)) (kk : W p l e R s m args below meth c H locs cells slots Q (F0 m (pc + 3) ls (.ref (ad (20 * t + 13)) :: rest))) : W p l e R s m args below meth c H locs cells slots Q (F0 m pc ls (.ref (ad (20 * t)) :: rest)) :=
  cc_get (Cn := RX2) (ref := RX2) (T := TX2) (N := 27) C hP (hO.2.2.2 _ (tk0 ht)) (cg_t0 ht) rfl in_X2 17 (by decide) q255 (fun _ h => h) rfl hdg kk
theorem q257 : (Jvm.Cond.fieldLink "ChapterLoan$Town" (60 : Nat) "ChapterLoan$Town" "text" "[LChapterLoan$Term;") ∈ lw_all := lw_g (lw_at lw_m1 173 rfl) rfl
theorem tg_text (C : cC p R d s m args c cc nL RX2 D cA A) (hO : klOk A ks ad) (ht : t < 3) (hP : cW D cA ks ad st H) (hdg : decode cc pc = .ok (.getfield 60, 3)) (kk : W p l e R s m args below meth c H locs cells slots Q (F0 m (pc + 3) ls (.ref (ad (20 * t + 18)) :: rest))) : W p l e R s m args below meth c H locs cells slots Q (F0 m pc ls (.ref (ad (20 * t)) :: rest)) :=
  cc_get (Cn := RX2) (ref := RX2) (T := TX2) (N := 27) C hP (hO.2.2.2 _ (tk0 ht)) (cg_t0 ht) rfl in_X2 18 (by decide) q257 (fun _ h => h) rfl hdg kk
theorem q259 : (Jvm.Cond.fieldLink "ChapterLoan$Town" (64 : Nat) "ChapterLoan$Town" "z" "I") ∈ lw_all := lw_g (lw_at lw_m1 175 rfl) rfl
theorem tg_z (C : cC p R d s m args c cc nL RX2 D cA A) (hO : klOk A ks ad) (ht : t < 3) (hP : cW D cA ks ad st H) (hdg : decode cc pc = .ok (.getfield 64, 3)) (kk : W p l e R s m args below meth c H locs cells slots Q (F0 m (pc + 3) ls (.int (st.1 (20 * t) 19) :: rest))) : W p l e R s m args below meth c H locs cells slots Q (F0 m pc ls (.ref (ad (20 * t)) :: rest)) :=
  cc_get (Cn := RX2) (ref := RX2) (T := TX2) (N := 27) C hP (hO.2.2.2 _ (tk0 ht)) (cg_t0 ht) rfl in_X2 19 (by decide) q259 (fun _ h => h) rfl hdg kk
theorem tp_z {x : Int32} (C : cC p R d s m args c cc nL RX2 D cA A) (hO : klOk A ks ad) (ht : t < 3) (hP : cW D cA ks ad st H) (hS : va_S A H0 H locs) (hdg : decode cc pc = .ok (.putfield 64, 3)) (kk : ∀ (H1 : Heap) (locs1 : List Loc), cW D cA ks ad (csF st (20 * t) 19 x) H1 → va_S A H0 H1 locs1 → W p l e R s m args below meth c H1 locs1 cells slots Q (F0 m (pc + 3) ls rest)) : W p l e R s m args below meth c H locs cells slots Q (F0 m pc ls (.int x :: .ref (ad (20 * t)) :: rest)) :=
  cc_put (Cn := RX2) (ref := RX2) (T := TX2) (N := 27) (ty0 := tyX2) C hO hP hS (hO.2.2.2 _ (tk0 ht)) (cg_t0 ht) rfl in_X2 tyX2_ok nmX2 19 (by decide) q259 (fun _ h => h) rfl rfl rfl (Nat.le_of_ble_eq_true rfl) (cg_Ft ht rfl) hP.2 hdg kk
theorem q261 : (Jvm.Cond.fieldLink "ChapterLoan$Town" (68 : Nat) "ChapterLoan$Town" "tape" "[B") ∈ lw_all := lw_g (lw_at lw_m1 177 rfl) rfl
theorem tg_tape (C : cC p R d s m args c cc nL RX2 D cA A) (hO : klOk A ks ad) (ht : t < 3) (hP : cW D cA ks ad st H) (hdg : decode cc pc = .ok (.getfield 68, 3)) (kk : W p l e R s m args below meth c H locs cells slots Q (F0 m (pc + 3) ls (.ref (ad (20 * t + 14)) :: rest))) : W p l e R s m args below meth c H locs cells slots Q (F0 m pc ls (.ref (ad (20 * t)) :: rest)) :=
  cc_get (Cn := RX2) (ref := RX2) (T := TX2) (N := 27) C hP (hO.2.2.2 _ (tk0 ht)) (cg_t0 ht) rfl in_X2 20 (by decide) q261 (fun _ h => h) rfl hdg kk
theorem q265 : (Jvm.Cond.fieldLink "ChapterLoan$Town" (72 : Nat) "ChapterLoan$Town" "waiting" "[I") ∈ lw_all := lw_g (lw_at lw_m1 181 rfl) rfl
theorem tg_waiting (C : cC p R d s m args c cc nL RX2 D cA A) (hO : klOk A ks ad) (ht : t < 3) (hP : cW D cA ks ad st H) (hdg : decode cc pc = .ok (.getfield 72, 3)) (kk : W p l e R s m args below meth c H locs cells slots Q (F0 m (pc + 3) ls (.ref (ad (20 * t + 15)) :: rest))) : W p l e R s m args below meth c H locs cells slots Q (F0 m pc ls (.ref (ad (20 * t)) :: rest)) :=
  cc_get (Cn := RX2) (ref := RX2) (T := TX2) (N := 27) C hP (hO.2.2.2 _ (tk0 ht)) (cg_t0 ht) rfl in_X2 22 (by decide) q265 (fun _ h => h) rfl hdg kk
theorem q269 : (Jvm.Cond.fieldLink "ChapterLoan$Town" (78 : Nat) "ChapterLoan$Town" "names" "LChapterLoan$Facts;") ∈ lw_all := lw_g (lw_at lw_m1 185 rfl) rfl
theorem tg_names (C : cC p R d s m args c cc nL RX2 D cA A) (hO : klOk A ks ad) (ht : t < 3) (hP : cW D cA ks ad st H) (hdg : decode cc pc = .ok (.getfield 78, 3)) (kk : W p l e R s m args below meth c H locs cells slots Q (F0 m (pc + 3) ls (.ref (ad (20 * t + 19)) :: rest))) : W p l e R s m args below meth c H locs cells slots Q (F0 m pc ls (.ref (ad (20 * t)) :: rest)) :=
  cc_get (Cn := RX2) (ref := RX2) (T := TX2) (N := 27) C hP (hO.2.2.2 _ (tk0 ht)) (cg_t0 ht) rfl in_X2 24 (by decide) q269 (fun _ h => h) rfl hdg kk
theorem q270 : (Jvm.Cond.fieldLink "ChapterLoan$Town" (82 : Nat) "ChapterLoan$Town" "ratedOne" "I") ∈ lw_all := lw_g (lw_at lw_m1 186 rfl) rfl
theorem tg_ratedOne (C : cC p R d s m args c cc nL RX2 D cA A) (hO : klOk A ks ad) (ht : t < 3) (hP : cW D cA ks ad st H) (hdg : decode cc pc = .ok (.getfield 82, 3)) (kk : W p l e R s m args below meth c H locs cells slots Q (F0 m (pc + 3) ls (.int (st.1 (20 * t) 25) :: rest))) : W p l e R s m args below meth c H locs cells slots Q (F0 m pc ls (.ref (ad (20 * t)) :: rest)) :=
  cc_get (Cn := RX2) (ref := RX2) (T := TX2) (N := 27) C hP (hO.2.2.2 _ (tk0 ht)) (cg_t0 ht) rfl in_X2 25 (by decide) q270 (fun _ h => h) rfl hdg kk
theorem tp_ratedOne {x : Int32} (C : cC p R d s m args c cc nL RX2 D cA A) (hO : klOk A ks ad) (ht : t < 3) (hP : cW D cA ks ad st H) (hS : va_S A H0 H locs) (hdg : decode cc pc = .ok (.putfield 82, 3)) (kk : ∀ (H1 : Heap) (locs1 : List Loc), cW D cA ks ad (csF st (20 * t) 25 x) H1 → va_S A H0 H1 locs1 → W p l e R s m args below meth c H1 locs1 cells slots Q (F0 m (pc + 3) ls rest)) : W p l e R s m args below meth c H locs cells slots Q (F0 m pc ls (.int x :: .ref (ad (20 * t)) :: rest)) :=
  cc_put (Cn := RX2) (ref := RX2) (T := TX2) (N := 27) (ty0 := tyX2) C hO hP hS (hO.2.2.2 _ (tk0 ht)) (cg_t0 ht) rfl in_X2 tyX2_ok nmX2 25 (by decide) q270 (fun _ h => h) rfl rfl rfl (Nat.le_of_ble_eq_true rfl) (cg_Ft ht rfl) hP.2 hdg kk
theorem q222 : (Jvm.Cond.fieldLink "ChapterLoan$Town" (85 : Nat) "ChapterLoan$Town" "facts" "I") ∈ lw_all := lw_g (lw_at lw_m1 138 rfl) rfl
theorem tg_facts (C : cC p R d s m args c cc nL RX2 D cA A) (hO : klOk A ks ad) (ht : t < 3) (hP : cW D cA ks ad st H) (hdg : decode cc pc = .ok (.getfield 85, 3)) (kk : W p l e R s m args below meth c H locs cells slots Q (F0 m (pc + 3) ls (.int (st.1 (20 * t) 0) :: rest))) : W p l e R s m args below meth c H locs cells slots Q (F0 m pc ls (.ref (ad (20 * t)) :: rest)) :=
  cc_get (Cn := RX2) (ref := RX2) (T := TX2) (N := 27) C hP (hO.2.2.2 _ (tk0 ht)) (cg_t0 ht) rfl in_X2 0 (by decide) q222 (fun _ h => h) rfl hdg kk
theorem tp_facts {x : Int32} (C : cC p R d s m args c cc nL RX2 D cA A) (hO : klOk A ks ad) (ht : t < 3) (hP : cW D cA ks ad st H) (hS : va_S A H0 H locs) (hdg : decode cc pc = .ok (.putfield 85, 3)) (kk : ∀ (H1 : Heap) (locs1 : List Loc), cW D cA ks ad (csF st (20 * t) 0 x) H1 → va_S A H0 H1 locs1 → W p l e R s m args below meth c H1 locs1 cells slots Q (F0 m (pc + 3) ls rest)) : W p l e R s m args below meth c H locs cells slots Q (F0 m pc ls (.int x :: .ref (ad (20 * t)) :: rest)) :=
  cc_put (Cn := RX2) (ref := RX2) (T := TX2) (N := 27) (ty0 := tyX2) C hO hP hS (hO.2.2.2 _ (tk0 ht)) (cg_t0 ht) rfl in_X2 tyX2_ok nmX2 0 (by decide) q222 (fun _ h => h) rfl rfl rfl (Nat.le_of_ble_eq_true rfl) (cg_Ft ht rfl) hP.2 hdg kk
theorem q234 : (Jvm.Cond.fieldLink "ChapterLoan$Town" (94 : Nat) "ChapterLoan$Town" "debtors" "I") ∈ lw_all := lw_g (lw_at lw_m1 150 rfl) rfl
theorem tg_debtors (C : cC p R d s m args c cc nL RX2 D cA A) (hO : klOk A ks ad) (ht : t < 3) (hP : cW D cA ks ad st H) (hdg : decode cc pc = .ok (.getfield 94, 3)) (kk : W p l e R s m args below meth c H locs cells slots Q (F0 m (pc + 3) ls (.int (st.1 (20 * t) 6) :: rest))) : W p l e R s m args below meth c H locs cells slots Q (F0 m pc ls (.ref (ad (20 * t)) :: rest)) :=
  cc_get (Cn := RX2) (ref := RX2) (T := TX2) (N := 27) C hP (hO.2.2.2 _ (tk0 ht)) (cg_t0 ht) rfl in_X2 6 (by decide) q234 (fun _ h => h) rfl hdg kk
theorem tp_debtors {x : Int32} (C : cC p R d s m args c cc nL RX2 D cA A) (hO : klOk A ks ad) (ht : t < 3) (hP : cW D cA ks ad st H) (hS : va_S A H0 H locs) (hdg : decode cc pc = .ok (.putfield 94, 3)) (kk : ∀ (H1 : Heap) (locs1 : List Loc), cW D cA ks ad (csF st (20 * t) 6 x) H1 → va_S A H0 H1 locs1 → W p l e R s m args below meth c H1 locs1 cells slots Q (F0 m (pc + 3) ls rest)) : W p l e R s m args below meth c H locs cells slots Q (F0 m pc ls (.int x :: .ref (ad (20 * t)) :: rest)) :=
  cc_put (Cn := RX2) (ref := RX2) (T := TX2) (N := 27) (ty0 := tyX2) C hO hP hS (hO.2.2.2 _ (tk0 ht)) (cg_t0 ht) rfl in_X2 tyX2_ok nmX2 6 (by decide) q234 (fun _ h => h) rfl rfl rfl (Nat.le_of_ble_eq_true rfl) (cg_Ft ht rfl) hP.2 hdg kk
theorem q247 : (Jvm.Cond.fieldLink "ChapterLoan$Town" (97 : Nat) "ChapterLoan$Town" "week" "I") ∈ lw_all := lw_g (lw_at lw_m1 163 rfl) rfl
theorem tg_week (C : cC p R d s m args c cc nL RX2 D cA A) (hO : klOk A ks ad) (ht : t < 3) (hP : cW D cA ks ad st H) (hdg : decode cc pc = .ok (.getfield 97, 3)) (kk : W p l e R s m args below meth c H locs cells slots Q (F0 m (pc + 3) ls (.int (st.1 (20 * t) 13) :: rest))) : W p l e R s m args below meth c H locs cells slots Q (F0 m pc ls (.ref (ad (20 * t)) :: rest)) :=
  cc_get (Cn := RX2) (ref := RX2) (T := TX2) (N := 27) C hP (hO.2.2.2 _ (tk0 ht)) (cg_t0 ht) rfl in_X2 13 (by decide) q247 (fun _ h => h) rfl hdg kk
theorem tp_week {x : Int32} (C : cC p R d s m args c cc nL RX2 D cA A) (hO : klOk A ks ad) (ht : t < 3) (hP : cW D cA ks ad st H) (hS : va_S A H0 H locs) (hdg : decode cc pc = .ok (.putfield 97, 3)) (kk : ∀ (H1 : Heap) (locs1 : List Loc), cW D cA ks ad (csF st (20 * t) 13 x) H1 → va_S A H0 H1 locs1 → W p l e R s m args below meth c H1 locs1 cells slots Q (F0 m (pc + 3) ls rest)) : W p l e R s m args below meth c H locs cells slots Q (F0 m pc ls (.int x :: .ref (ad (20 * t)) :: rest)) :=
  cc_put (Cn := RX2) (ref := RX2) (T := TX2) (N := 27) (ty0 := tyX2) C hO hP hS (hO.2.2.2 _ (tk0 ht)) (cg_t0 ht) rfl in_X2 tyX2_ok nmX2 13 (by decide) q247 (fun _ h => h) rfl rfl rfl (Nat.le_of_ble_eq_true rfl) (cg_Ft ht rfl) hP.2 hdg kk
theorem q249 : (Jvm.Cond.fieldLink "ChapterLoan$Town" (100 : Nat) "ChapterLoan$Town" "meetings" "I") ∈ lw_all := lw_g (lw_at lw_m1 165 rfl) rfl
theorem tg_meetings (C : cC p R d s m args c cc nL RX2 D cA A) (hO : klOk A ks ad) (ht : t < 3) (hP : cW D cA ks ad st H) (hdg : decode cc pc = .ok (.getfield 100, 3)) (kk : W p l e R s m args below meth c H locs cells slots Q (F0 m (pc + 3) ls (.int (st.1 (20 * t) 14) :: rest))) : W p l e R s m args below meth c H locs cells slots Q (F0 m pc ls (.ref (ad (20 * t)) :: rest)) :=
  cc_get (Cn := RX2) (ref := RX2) (T := TX2) (N := 27) C hP (hO.2.2.2 _ (tk0 ht)) (cg_t0 ht) rfl in_X2 14 (by decide) q249 (fun _ h => h) rfl hdg kk
theorem tp_meetings {x : Int32} (C : cC p R d s m args c cc nL RX2 D cA A) (hO : klOk A ks ad) (ht : t < 3) (hP : cW D cA ks ad st H) (hS : va_S A H0 H locs) (hdg : decode cc pc = .ok (.putfield 100, 3)) (kk : ∀ (H1 : Heap) (locs1 : List Loc), cW D cA ks ad (csF st (20 * t) 14 x) H1 → va_S A H0 H1 locs1 → W p l e R s m args below meth c H1 locs1 cells slots Q (F0 m (pc + 3) ls rest)) : W p l e R s m args below meth c H locs cells slots Q (F0 m pc ls (.int x :: .ref (ad (20 * t)) :: rest)) :=
  cc_put (Cn := RX2) (ref := RX2) (T := TX2) (N := 27) (ty0 := tyX2) C hO hP hS (hO.2.2.2 _ (tk0 ht)) (cg_t0 ht) rfl in_X2 tyX2_ok nmX2 14 (by decide) q249 (fun _ h => h) rfl rfl rfl (Nat.le_of_ble_eq_true rfl) (cg_Ft ht rfl) hP.2 hdg kk
theorem q263 : (Jvm.Cond.fieldLink "ChapterLoan$Town" (103 : Nat) "ChapterLoan$Town" "taped" "I") ∈ lw_all := lw_g (lw_at lw_m1 179 rfl) rfl
theorem tg_taped (C : cC p R d s m args c cc nL RX2 D cA A) (hO : klOk A ks ad) (ht : t < 3) (hP : cW D cA ks ad st H) (hdg : decode cc pc = .ok (.getfield 103, 3)) (kk : W p l e R s m args below meth c H locs cells slots Q (F0 m (pc + 3) ls (.int (st.1 (20 * t) 21) :: rest))) : W p l e R s m args below meth c H locs cells slots Q (F0 m pc ls (.ref (ad (20 * t)) :: rest)) :=
  cc_get (Cn := RX2) (ref := RX2) (T := TX2) (N := 27) C hP (hO.2.2.2 _ (tk0 ht)) (cg_t0 ht) rfl in_X2 21 (by decide) q263 (fun _ h => h) rfl hdg kk
theorem tp_taped {x : Int32} (C : cC p R d s m args c cc nL RX2 D cA A) (hO : klOk A ks ad) (ht : t < 3) (hP : cW D cA ks ad st H) (hS : va_S A H0 H locs) (hdg : decode cc pc = .ok (.putfield 103, 3)) (kk : ∀ (H1 : Heap) (locs1 : List Loc), cW D cA ks ad (csF st (20 * t) 21 x) H1 → va_S A H0 H1 locs1 → W p l e R s m args below meth c H1 locs1 cells slots Q (F0 m (pc + 3) ls rest)) : W p l e R s m args below meth c H locs cells slots Q (F0 m pc ls (.int x :: .ref (ad (20 * t)) :: rest)) :=
  cc_put (Cn := RX2) (ref := RX2) (T := TX2) (N := 27) (ty0 := tyX2) C hO hP hS (hO.2.2.2 _ (tk0 ht)) (cg_t0 ht) rfl in_X2 tyX2_ok nmX2 21 (by decide) q263 (fun _ h => h) rfl rfl rfl (Nat.le_of_ble_eq_true rfl) (cg_Ft ht rfl) hP.2 hdg kk
theorem q267 : (Jvm.Cond.fieldLink "ChapterLoan$Town" (106 : Nat) "ChapterLoan$Town" "waits" "I") ∈ lw_all := lw_g (lw_at lw_m1 183 rfl) rfl
theorem tg_waits (C : cC p R d s m args c cc nL RX2 D cA A) (hO : klOk A ks ad) (ht : t < 3) (hP : cW D cA ks ad st H) (hdg : decode cc pc = .ok (.getfield 106, 3)) (kk : W p l e R s m args below meth c H locs cells slots Q (F0 m (pc + 3) ls (.int (st.1 (20 * t) 23) :: rest))) : W p l e R s m args below meth c H locs cells slots Q (F0 m pc ls (.ref (ad (20 * t)) :: rest)) :=
  cc_get (Cn := RX2) (ref := RX2) (T := TX2) (N := 27) C hP (hO.2.2.2 _ (tk0 ht)) (cg_t0 ht) rfl in_X2 23 (by decide) q267 (fun _ h => h) rfl hdg kk
theorem tp_waits {x : Int32} (C : cC p R d s m args c cc nL RX2 D cA A) (hO : klOk A ks ad) (ht : t < 3) (hP : cW D cA ks ad st H) (hS : va_S A H0 H locs) (hdg : decode cc pc = .ok (.putfield 106, 3)) (kk : ∀ (H1 : Heap) (locs1 : List Loc), cW D cA ks ad (csF st (20 * t) 23 x) H1 → va_S A H0 H1 locs1 → W p l e R s m args below meth c H1 locs1 cells slots Q (F0 m (pc + 3) ls rest)) : W p l e R s m args below meth c H locs cells slots Q (F0 m pc ls (.int x :: .ref (ad (20 * t)) :: rest)) :=
  cc_put (Cn := RX2) (ref := RX2) (T := TX2) (N := 27) (ty0 := tyX2) C hO hP hS (hO.2.2.2 _ (tk0 ht)) (cg_t0 ht) rfl in_X2 tyX2_ok nmX2 23 (by decide) q267 (fun _ h => h) rfl rfl rfl (Nat.le_of_ble_eq_true rfl) (cg_Ft ht rfl) hP.2 hdg kk
theorem q272 : (Jvm.Cond.fieldLink "ChapterLoan$Town" (174 : Nat) "ChapterLoan$Town" "rate" "I") ∈ lw_all := lw_g (lw_at lw_m1 188 rfl) rfl
theorem tg_rate (C : cC p R d s m args c cc nL RX2 D cA A) (hO : klOk A ks ad) (ht : t < 3) (hP : cW D cA ks ad st H) (hdg : decode cc pc = .ok (.getfield 174, 3)) (kk : W p l e R s m args below meth c H locs cells slots Q (F0 m (pc + 3) ls (.int (st.1 (20 * t) 26) :: rest))) : W p l e R s m args below meth c H locs cells slots Q (F0 m pc ls (.ref (ad (20 * t)) :: rest)) :=
  cc_get (Cn := RX2) (ref := RX2) (T := TX2) (N := 27) C hP (hO.2.2.2 _ (tk0 ht)) (cg_t0 ht) rfl in_X2 26 (by decide) q272 (fun _ h => h) rfl hdg kk
theorem tp_rate {x : Int32} (C : cC p R d s m args c cc nL RX2 D cA A) (hO : klOk A ks ad) (ht : t < 3) (hP : cW D cA ks ad st H) (hS : va_S A H0 H locs) (hdg : decode cc pc = .ok (.putfield 174, 3)) (kk : ∀ (H1 : Heap) (locs1 : List Loc), cW D cA ks ad (csF st (20 * t) 26 x) H1 → va_S A H0 H1 locs1 → W p l e R s m args below meth c H1 locs1 cells slots Q (F0 m (pc + 3) ls rest)) : W p l e R s m args below meth c H locs cells slots Q (F0 m pc ls (.int x :: .ref (ad (20 * t)) :: rest)) :=
  cc_put (Cn := RX2) (ref := RX2) (T := TX2) (N := 27) (ty0 := tyX2) C hO hP hS (hO.2.2.2 _ (tk0 ht)) (cg_t0 ht) rfl in_X2 tyX2_ok nmX2 26 (by decide) q272 (fun _ h => h) rfl rfl rfl (Nat.le_of_ble_eq_true rfl) (cg_Ft ht rfl) hP.2 hdg kk
theorem tgN_facts (C : cC p R d s m args c cc nL RX0 D cA A) (hO : klOk A ks ad) (ht : t < 3) (hP : cW D cA ks ad st H) (hdg : decode cc pc = .ok (.getfield 88, 3)) (kk : W p l e R s m args below meth c H locs cells slots Q (F0 m (pc + 3) ls (.int (st.1 (20 * t) 0) :: rest))) : W p l e R s m args below meth c H locs cells slots Q (F0 m pc ls (.ref (ad (20 * t)) :: rest)) :=
  cc_getN (Cn := RX2) (ref := RX2) (T := TX2) (N := 27) C hP (hO.2.2.2 _ (tk0 ht)) (cg_t0 ht) rfl in_X2 0 (by decide) (List.mem_of_getElem? (i := 11) rfl) (fun _ h => h) rfl hdg kk
theorem tpN_facts {x : Int32} (C : cC p R d s m args c cc nL RX0 D cA A) (hO : klOk A ks ad) (ht : t < 3) (hP : cW D cA ks ad st H) (hS : va_S A H0 H locs) (hdg : decode cc pc = .ok (.putfield 88, 3)) (kk : ∀ (H1 : Heap) (locs1 : List Loc), cW D cA ks ad (csF st (20 * t) 0 x) H1 → va_S A H0 H1 locs1 → W p l e R s m args below meth c H1 locs1 cells slots Q (F0 m (pc + 3) ls rest)) : W p l e R s m args below meth c H locs cells slots Q (F0 m pc ls (.int x :: .ref (ad (20 * t)) :: rest)) :=
  cc_putN (Cn := RX2) (ref := RX2) (T := TX2) (N := 27) (ty0 := tyX2) C hO hP hS (hO.2.2.2 _ (tk0 ht)) (cg_t0 ht) rfl in_X2 tyX2_ok nmX2 0 (by decide) (List.mem_of_getElem? (i := 11) rfl) (fun _ h => h) rfl rfl rfl (Nat.le_of_ble_eq_true rfl) (cg_Ft ht rfl) hP.2 hdg kk
theorem tgN_debtors (C : cC p R d s m args c cc nL RX0 D cA A) (hO : klOk A ks ad) (ht : t < 3) (hP : cW D cA ks ad st H) (hdg : decode cc pc = .ok (.getfield 95, 3)) (kk : W p l e R s m args below meth c H locs cells slots Q (F0 m (pc + 3) ls (.int (st.1 (20 * t) 6) :: rest))) : W p l e R s m args below meth c H locs cells slots Q (F0 m pc ls (.ref (ad (20 * t)) :: rest)) :=
  cc_getN (Cn := RX2) (ref := RX2) (T := TX2) (N := 27) C hP (hO.2.2.2 _ (tk0 ht)) (cg_t0 ht) rfl in_X2 6 (by decide) (List.mem_of_getElem? (i := 17) rfl) (fun _ h => h) rfl hdg kk
theorem tpN_debtors {x : Int32} (C : cC p R d s m args c cc nL RX0 D cA A) (hO : klOk A ks ad) (ht : t < 3) (hP : cW D cA ks ad st H) (hS : va_S A H0 H locs) (hdg : decode cc pc = .ok (.putfield 95, 3)) (kk : ∀ (H1 : Heap) (locs1 : List Loc), cW D cA ks ad (csF st (20 * t) 6 x) H1 → va_S A H0 H1 locs1 → W p l e R s m args below meth c H1 locs1 cells slots Q (F0 m (pc + 3) ls rest)) : W p l e R s m args below meth c H locs cells slots Q (F0 m pc ls (.int x :: .ref (ad (20 * t)) :: rest)) :=
  cc_putN (Cn := RX2) (ref := RX2) (T := TX2) (N := 27) (ty0 := tyX2) C hO hP hS (hO.2.2.2 _ (tk0 ht)) (cg_t0 ht) rfl in_X2 tyX2_ok nmX2 6 (by decide) (List.mem_of_getElem? (i := 17) rfl) (fun _ h => h) rfl rfl rfl (Nat.le_of_ble_eq_true rfl) (cg_Ft ht rfl) hP.2 hdg kk
theorem tgN_needs (C : cC p R d s m args c cc nL RX0 D cA A) (hO : klOk A ks ad) (ht : t < 3) (hP : cW D cA ks ad st H) (hdg : decode cc pc = .ok (.getfield 108, 3)) (kk : W p l e R s m args below meth c H locs cells slots Q (F0 m (pc + 3) ls (.ref (ad (20 * t + 1)) :: rest))) : W p l e R s m args below meth c H locs cells slots Q (F0 m pc ls (.ref (ad (20 * t)) :: rest)) :=
  cc_getN (Cn := RX2) (ref := RX2) (T := TX2) (N := 27) C hP (hO.2.2.2 _ (tk0 ht)) (cg_t0 ht) rfl in_X2 1 (by decide) (List.mem_of_getElem? (i := 12) rfl) (fun _ h => h) rfl hdg kk
theorem tgN_clashes (C : cC p R d s m args c cc nL RX0 D cA A) (hO : klOk A ks ad) (ht : t < 3) (hP : cW D cA ks ad st H) (hdg : decode cc pc = .ok (.getfield 111, 3)) (kk : W p l e R s m args below meth c H locs cells slots Q (F0 m (pc + 3) ls (.ref (ad (20 * t + 2)) :: rest))) : W p l e R s m args below meth c H locs cells slots Q (F0 m pc ls (.ref (ad (20 * t)) :: rest)) :=
  cc_getN (Cn := RX2) (ref := RX2) (T := TX2) (N := 27) C hP (hO.2.2.2 _ (tk0 ht)) (cg_t0 ht) rfl in_X2 2 (by decide) (List.mem_of_getElem? (i := 13) rfl) (fun _ h => h) rfl hdg kk
theorem tgN_within (C : cC p R d s m args c cc nL RX0 D cA A) (hO : klOk A ks ad) (ht : t < 3) (hP : cW D cA ks ad st H) (hdg : decode cc pc = .ok (.getfield 114, 3)) (kk : W p l e R s m args below meth c H locs cells slots Q (F0 m (pc + 3) ls (.ref (ad (20 * t + 3)) :: rest))) : W p l e R s m args below meth c H locs cells slots Q (F0 m pc ls (.ref (ad (20 * t)) :: rest)) :=
  cc_getN (Cn := RX2) (ref := RX2) (T := TX2) (N := 27) C hP (hO.2.2.2 _ (tk0 ht)) (cg_t0 ht) rfl in_X2 3 (by decide) (List.mem_of_getElem? (i := 14) rfl) (fun _ h => h) rfl hdg kk
theorem tgN_by (C : cC p R d s m args c cc nL RX0 D cA A) (hO : klOk A ks ad) (ht : t < 3) (hP : cW D cA ks ad st H) (hdg : decode cc pc = .ok (.getfield 117, 3)) (kk : W p l e R s m args below meth c H locs cells slots Q (F0 m (pc + 3) ls (.ref (ad (20 * t + 4)) :: rest))) : W p l e R s m args below meth c H locs cells slots Q (F0 m pc ls (.ref (ad (20 * t)) :: rest)) :=
  cc_getN (Cn := RX2) (ref := RX2) (T := TX2) (N := 27) C hP (hO.2.2.2 _ (tk0 ht)) (cg_t0 ht) rfl in_X2 4 (by decide) (List.mem_of_getElem? (i := 15) rfl) (fun _ h => h) rfl hdg kk
theorem tgN_witnesses (C : cC p R d s m args c cc nL RX0 D cA A) (hO : klOk A ks ad) (ht : t < 3) (hP : cW D cA ks ad st H) (hdg : decode cc pc = .ok (.getfield 120, 3)) (kk : W p l e R s m args below meth c H locs cells slots Q (F0 m (pc + 3) ls (.ref (ad (20 * t + 5)) :: rest))) : W p l e R s m args below meth c H locs cells slots Q (F0 m pc ls (.ref (ad (20 * t)) :: rest)) :=
  cc_getN (Cn := RX2) (ref := RX2) (T := TX2) (N := 27) C hP (hO.2.2.2 _ (tk0 ht)) (cg_t0 ht) rfl in_X2 5 (by decide) (List.mem_of_getElem? (i := 16) rfl) (fun _ h => h) rfl hdg kk
theorem tgN_debtor (C : cC p R d s m args c cc nL RX0 D cA A) (hO : klOk A ks ad) (ht : t < 3) (hP : cW D cA ks ad st H) (hdg : decode cc pc = .ok (.getfield 142, 3)) (kk : W p l e R s m args below meth c H locs cells slots Q (F0 m (pc + 3) ls (.ref (ad (20 * t + 17)) :: rest))) : W p l e R s m args below meth c H locs cells slots Q (F0 m pc ls (.ref (ad (20 * t)) :: rest)) :=
  cc_getN (Cn := RX2) (ref := RX2) (T := TX2) (N := 27) C hP (hO.2.2.2 _ (tk0 ht)) (cg_t0 ht) rfl in_X2 7 (by decide) (List.mem_of_getElem? (i := 18) rfl) (fun _ h => h) rfl hdg kk
theorem tgN_debt (C : cC p R d s m args c cc nL RX0 D cA A) (hO : klOk A ks ad) (ht : t < 3) (hP : cW D cA ks ad st H) (hdg : decode cc pc = .ok (.getfield 150, 3)) (kk : W p l e R s m args below meth c H locs cells slots Q (F0 m (pc + 3) ls (.ref (ad (20 * t + 6)) :: rest))) : W p l e R s m args below meth c H locs cells slots Q (F0 m pc ls (.ref (ad (20 * t)) :: rest)) :=
  cc_getN (Cn := RX2) (ref := RX2) (T := TX2) (N := 27) C hP (hO.2.2.2 _ (tk0 ht)) (cg_t0 ht) rfl in_X2 8 (by decide) (List.mem_of_getElem? (i := 19) rfl) (fun _ h => h) rfl hdg kk
theorem tgN_isBroken (C : cC p R d s m args c cc nL RX0 D cA A) (hO : klOk A ks ad) (ht : t < 3) (hP : cW D cA ks ad st H) (hdg : decode cc pc = .ok (.getfield 153, 3)) (kk : W p l e R s m args below meth c H locs cells slots Q (F0 m (pc + 3) ls (.ref (ad (20 * t + 7)) :: rest))) : W p l e R s m args below meth c H locs cells slots Q (F0 m pc ls (.ref (ad (20 * t)) :: rest)) :=
  cc_getN (Cn := RX2) (ref := RX2) (T := TX2) (N := 27) C hP (hO.2.2.2 _ (tk0 ht)) (cg_t0 ht) rfl in_X2 9 (by decide) (List.mem_of_getElem? (i := 20) rfl) (fun _ h => h) rfl hdg kk
theorem tgN_many (C : cC p R d s m args c cc nL RX0 D cA A) (hO : klOk A ks ad) (ht : t < 3) (hP : cW D cA ks ad st H) (hdg : decode cc pc = .ok (.getfield 157, 3)) (kk : W p l e R s m args below meth c H locs cells slots Q (F0 m (pc + 3) ls (.ref (ad (20 * t + 8)) :: rest))) : W p l e R s m args below meth c H locs cells slots Q (F0 m pc ls (.ref (ad (20 * t)) :: rest)) :=
  cc_getN (Cn := RX2) (ref := RX2) (T := TX2) (N := 27) C hP (hO.2.2.2 _ (tk0 ht)) (cg_t0 ht) rfl in_X2 10 (by decide) (List.mem_of_getElem? (i := 21) rfl) (fun _ h => h) rfl hdg kk
theorem tgN_bookWeek (C : cC p R d s m args c cc nL RX0 D cA A) (hO : klOk A ks ad) (ht : t < 3) (hP : cW D cA ks ad st H) (hdg : decode cc pc = .ok (.getfield 194, 3)) (kk : W p l e R s m args below meth c H locs cells slots Q (F0 m (pc + 3) ls (.ref (ad (20 * t + 10)) :: rest))) : W p l e R s m args below meth c H locs cells slots Q (F0 m pc ls (.ref (ad (20 * t)) :: rest)) :=
  cc_getN (Cn := RX2) (ref := RX2) (T := TX2) (N := 27) C hP (hO.2.2.2 _ (tk0 ht)) (cg_t0 ht) rfl in_X2 12 (by decide) (List.mem_of_getElem? (i := 22) rfl) (fun _ h => h) rfl hdg kk
theorem tgN_week (C : cC p R d s m args c cc nL RX0 D cA A) (hO : klOk A ks ad) (ht : t < 3) (hP : cW D cA ks ad st H) (hdg : decode cc pc = .ok (.getfield 213, 3)) (kk : W p l e R s m args below meth c H locs cells slots Q (F0 m (pc + 3) ls (.int (st.1 (20 * t) 13) :: rest))) : W p l e R s m args below meth c H locs cells slots Q (F0 m pc ls (.ref (ad (20 * t)) :: rest)) :=
  cc_getN (Cn := RX2) (ref := RX2) (T := TX2) (N := 27) C hP (hO.2.2.2 _ (tk0 ht)) (cg_t0 ht) rfl in_X2 13 (by decide) (List.mem_of_getElem? (i := 23) rfl) (fun _ h => h) rfl hdg kk
theorem tpN_week {x : Int32} (C : cC p R d s m args c cc nL RX0 D cA A) (hO : klOk A ks ad) (ht : t < 3) (hP : cW D cA ks ad st H) (hS : va_S A H0 H locs) (hdg : decode cc pc = .ok (.putfield 213, 3)) (kk : ∀ (H1 : Heap) (locs1 : List Loc), cW D cA ks ad (csF st (20 * t) 13 x) H1 → va_S A H0 H1 locs1 → W p l e R s m args below meth c H1 locs1 cells slots Q (F0 m (pc + 3) ls rest)) : W p l e R s m args below meth c H locs cells slots Q (F0 m pc ls (.int x :: .ref (ad (20 * t)) :: rest)) :=
  cc_putN (Cn := RX2) (ref := RX2) (T := TX2) (N := 27) (ty0 := tyX2) C hO hP hS (hO.2.2.2 _ (tk0 ht)) (cg_t0 ht) rfl in_X2 tyX2_ok nmX2 13 (by decide) (List.mem_of_getElem? (i := 23) rfl) (fun _ h => h) rfl rfl rfl (Nat.le_of_ble_eq_true rfl) (cg_Ft ht rfl) hP.2 hdg kk
theorem tgN_taped (C : cC p R d s m args c cc nL RX0 D cA A) (hO : klOk A ks ad) (ht : t < 3) (hP : cW D cA ks ad st H) (hdg : decode cc pc = .ok (.getfield 233, 3)) (kk : W p l e R s m args below meth c H locs cells slots Q (F0 m (pc + 3) ls (.int (st.1 (20 * t) 21) :: rest))) : W p l e R s m args below meth c H locs cells slots Q (F0 m pc ls (.ref (ad (20 * t)) :: rest)) :=
  cc_getN (Cn := RX2) (ref := RX2) (T := TX2) (N := 27) C hP (hO.2.2.2 _ (tk0 ht)) (cg_t0 ht) rfl in_X2 21 (by decide) (List.mem_of_getElem? (i := 31) rfl) (fun _ h => h) rfl hdg kk
theorem tpN_taped {x : Int32} (C : cC p R d s m args c cc nL RX0 D cA A) (hO : klOk A ks ad) (ht : t < 3) (hP : cW D cA ks ad st H) (hS : va_S A H0 H locs) (hdg : decode cc pc = .ok (.putfield 233, 3)) (kk : ∀ (H1 : Heap) (locs1 : List Loc), cW D cA ks ad (csF st (20 * t) 21 x) H1 → va_S A H0 H1 locs1 → W p l e R s m args below meth c H1 locs1 cells slots Q (F0 m (pc + 3) ls rest)) : W p l e R s m args below meth c H locs cells slots Q (F0 m pc ls (.int x :: .ref (ad (20 * t)) :: rest)) :=
  cc_putN (Cn := RX2) (ref := RX2) (T := TX2) (N := 27) (ty0 := tyX2) C hO hP hS (hO.2.2.2 _ (tk0 ht)) (cg_t0 ht) rfl in_X2 tyX2_ok nmX2 21 (by decide) (List.mem_of_getElem? (i := 31) rfl) (fun _ h => h) rfl rfl rfl (Nat.le_of_ble_eq_true rfl) (cg_Ft ht rfl) hP.2 hdg kk
theorem tgN_tape (C : cC p R d s m args c cc nL RX0 D cA A) (hO : klOk A ks ad) (ht : t < 3) (hP : cW D cA ks ad st H) (hdg : decode cc pc = .ok (.getfield 236, 3)) (kk : W p l e R s m args below meth c H locs cells slots Q (F0 m (pc + 3) ls (.ref (ad (20 * t + 14)) :: rest))) : W p l e R s m args below meth c H locs cells slots Q (F0 m pc ls (.ref (ad (20 * t)) :: rest)) :=
  cc_getN (Cn := RX2) (ref := RX2) (T := TX2) (N := 27) C hP (hO.2.2.2 _ (tk0 ht)) (cg_t0 ht) rfl in_X2 20 (by decide) (List.mem_of_getElem? (i := 30) rfl) (fun _ h => h) rfl hdg kk
theorem tgN_text (C : cC p R d s m args c cc nL RX0 D cA A) (hO : klOk A ks ad) (ht : t < 3) (hP : cW D cA ks ad st H) (hdg : decode cc pc = .ok (.getfield 240, 3)) (kk : W p l e R s m args below meth c H locs cells slots Q (F0 m (pc + 3) ls (.ref (ad (20 * t + 18)) :: rest))) : W p l e R s m args below meth c H locs cells slots Q (F0 m pc ls (.ref (ad (20 * t)) :: rest)) :=
  cc_getN (Cn := RX2) (ref := RX2) (T := TX2) (N := 27) C hP (hO.2.2.2 _ (tk0 ht)) (cg_t0 ht) rfl in_X2 18 (by decide) (List.mem_of_getElem? (i := 28) rfl) (fun _ h => h) rfl hdg kk
theorem tgN_ratedOne (C : cC p R d s m args c cc nL RX0 D cA A) (hO : klOk A ks ad) (ht : t < 3) (hP : cW D cA ks ad st H) (hdg : decode cc pc = .ok (.getfield 298, 3)) (kk : W p l e R s m args below meth c H locs cells slots Q (F0 m (pc + 3) ls (.int (st.1 (20 * t) 25) :: rest))) : W p l e R s m args below meth c H locs cells slots Q (F0 m pc ls (.ref (ad (20 * t)) :: rest)) :=
  cc_getN (Cn := RX2) (ref := RX2) (T := TX2) (N := 27) C hP (hO.2.2.2 _ (tk0 ht)) (cg_t0 ht) rfl in_X2 25 (by decide) (List.mem_of_getElem? (i := 34) rfl) (fun _ h => h) rfl hdg kk
theorem tpN_ratedOne {x : Int32} (C : cC p R d s m args c cc nL RX0 D cA A) (hO : klOk A ks ad) (ht : t < 3) (hP : cW D cA ks ad st H) (hS : va_S A H0 H locs) (hdg : decode cc pc = .ok (.putfield 298, 3)) (kk : ∀ (H1 : Heap) (locs1 : List Loc), cW D cA ks ad (csF st (20 * t) 25 x) H1 → va_S A H0 H1 locs1 → W p l e R s m args below meth c H1 locs1 cells slots Q (F0 m (pc + 3) ls rest)) : W p l e R s m args below meth c H locs cells slots Q (F0 m pc ls (.int x :: .ref (ad (20 * t)) :: rest)) :=
  cc_putN (Cn := RX2) (ref := RX2) (T := TX2) (N := 27) (ty0 := tyX2) C hO hP hS (hO.2.2.2 _ (tk0 ht)) (cg_t0 ht) rfl in_X2 tyX2_ok nmX2 25 (by decide) (List.mem_of_getElem? (i := 34) rfl) (fun _ h => h) rfl rfl rfl (Nat.le_of_ble_eq_true rfl) (cg_Ft ht rfl) hP.2 hdg kk
theorem tgN_rate (C : cC p R d s m args c cc nL RX0 D cA A) (hO : klOk A ks ad) (ht : t < 3) (hP : cW D cA ks ad st H) (hdg : decode cc pc = .ok (.getfield 301, 3)) (kk : W p l e R s m args below meth c H locs cells slots Q (F0 m (pc + 3) ls (.int (st.1 (20 * t) 26) :: rest))) : W p l e R s m args below meth c H locs cells slots Q (F0 m pc ls (.ref (ad (20 * t)) :: rest)) :=
  cc_getN (Cn := RX2) (ref := RX2) (T := TX2) (N := 27) C hP (hO.2.2.2 _ (tk0 ht)) (cg_t0 ht) rfl in_X2 26 (by decide) (List.mem_of_getElem? (i := 35) rfl) (fun _ h => h) rfl hdg kk
theorem tpN_rate {x : Int32} (C : cC p R d s m args c cc nL RX0 D cA A) (hO : klOk A ks ad) (ht : t < 3) (hP : cW D cA ks ad st H) (hS : va_S A H0 H locs) (hdg : decode cc pc = .ok (.putfield 301, 3)) (kk : ∀ (H1 : Heap) (locs1 : List Loc), cW D cA ks ad (csF st (20 * t) 26 x) H1 → va_S A H0 H1 locs1 → W p l e R s m args below meth c H1 locs1 cells slots Q (F0 m (pc + 3) ls rest)) : W p l e R s m args below meth c H locs cells slots Q (F0 m pc ls (.int x :: .ref (ad (20 * t)) :: rest)) :=
  cc_putN (Cn := RX2) (ref := RX2) (T := TX2) (N := 27) (ty0 := tyX2) C hO hP hS (hO.2.2.2 _ (tk0 ht)) (cg_t0 ht) rfl in_X2 tyX2_ok nmX2 26 (by decide) (List.mem_of_getElem? (i := 35) rfl) (fun _ h => h) rfl rfl rfl (Nat.le_of_ble_eq_true rfl) (cg_Ft ht rfl) hP.2 hdg kk
theorem tgN_meetings (C : cC p R d s m args c cc nL RX0 D cA A) (hO : klOk A ks ad) (ht : t < 3) (hP : cW D cA ks ad st H) (hdg : decode cc pc = .ok (.getfield 330, 3)) (kk : W p l e R s m args below meth c H locs cells slots Q (F0 m (pc + 3) ls (.int (st.1 (20 * t) 14) :: rest))) : W p l e R s m args below meth c H locs cells slots Q (F0 m pc ls (.ref (ad (20 * t)) :: rest)) :=
  cc_getN (Cn := RX2) (ref := RX2) (T := TX2) (N := 27) C hP (hO.2.2.2 _ (tk0 ht)) (cg_t0 ht) rfl in_X2 14 (by decide) (List.mem_of_getElem? (i := 24) rfl) (fun _ h => h) rfl hdg kk
theorem tpN_meetings {x : Int32} (C : cC p R d s m args c cc nL RX0 D cA A) (hO : klOk A ks ad) (ht : t < 3) (hP : cW D cA ks ad st H) (hS : va_S A H0 H locs) (hdg : decode cc pc = .ok (.putfield 330, 3)) (kk : ∀ (H1 : Heap) (locs1 : List Loc), cW D cA ks ad (csF st (20 * t) 14 x) H1 → va_S A H0 H1 locs1 → W p l e R s m args below meth c H1 locs1 cells slots Q (F0 m (pc + 3) ls rest)) : W p l e R s m args below meth c H locs cells slots Q (F0 m pc ls (.int x :: .ref (ad (20 * t)) :: rest)) :=
  cc_putN (Cn := RX2) (ref := RX2) (T := TX2) (N := 27) (ty0 := tyX2) C hO hP hS (hO.2.2.2 _ (tk0 ht)) (cg_t0 ht) rfl in_X2 tyX2_ok nmX2 14 (by decide) (List.mem_of_getElem? (i := 24) rfl) (fun _ h => h) rfl rfl rfl (Nat.le_of_ble_eq_true rfl) (cg_Ft ht rfl) hP.2 hdg kk
theorem tgN_meetWeek (C : cC p R d s m args c cc nL RX0 D cA A) (hO : klOk A ks ad) (ht : t < 3) (hP : cW D cA ks ad st H) (hdg : decode cc pc = .ok (.getfield 333, 3)) (kk : W p l e R s m args below meth c H locs cells slots Q (F0 m (pc + 3) ls (.ref (ad (20 * t + 11)) :: rest))) : W p l e R s m args below meth c H locs cells slots Q (F0 m pc ls (.ref (ad (20 * t)) :: rest)) :=
  cc_getN (Cn := RX2) (ref := RX2) (T := TX2) (N := 27) C hP (hO.2.2.2 _ (tk0 ht)) (cg_t0 ht) rfl in_X2 15 (by decide) (List.mem_of_getElem? (i := 25) rfl) (fun _ h => h) rfl hdg kk
theorem tgN_meetOne (C : cC p R d s m args c cc nL RX0 D cA A) (hO : klOk A ks ad) (ht : t < 3) (hP : cW D cA ks ad st H) (hdg : decode cc pc = .ok (.getfield 336, 3)) (kk : W p l e R s m args below meth c H locs cells slots Q (F0 m (pc + 3) ls (.ref (ad (20 * t + 12)) :: rest))) : W p l e R s m args below meth c H locs cells slots Q (F0 m pc ls (.ref (ad (20 * t)) :: rest)) :=
  cc_getN (Cn := RX2) (ref := RX2) (T := TX2) (N := 27) C hP (hO.2.2.2 _ (tk0 ht)) (cg_t0 ht) rfl in_X2 16 (by decide) (List.mem_of_getElem? (i := 26) rfl) (fun _ h => h) rfl hdg kk
theorem tgN_meetOther (C : cC p R d s m args c cc nL RX0 D cA A) (hO : klOk A ks ad) (ht : t < 3) (hP : cW D cA ks ad st H) (hdg : decode cc pc = .ok (.getfield 339, 3)) (kk : W p l e R s m args below meth c H locs cells slots Q (F0 m (pc + 3) ls (.ref (ad (20 * t + 13)) :: rest))) : W p l e R s m args below meth c H locs cells slots Q (F0 m pc ls (.ref (ad (20 * t)) :: rest)) :=
  cc_getN (Cn := RX2) (ref := RX2) (T := TX2) (N := 27) C hP (hO.2.2.2 _ (tk0 ht)) (cg_t0 ht) rfl in_X2 17 (by decide) (List.mem_of_getElem? (i := 27) rfl) (fun _ h => h) rfl hdg kk
theorem tgN_z (C : cC p R d s m args c cc nL RX0 D cA A) (hO : klOk A ks ad) (ht : t < 3) (hP : cW D cA ks ad st H) (hdg : decode cc pc = .ok (.getfield 351, 3)) (kk : W p l e R s m args below meth c H locs cells slots Q (F0 m (pc + 3) ls (.int (st.1 (20 * t) 19) :: rest))) : W p l e R s m args below meth c H locs cells slots Q (F0 m pc ls (.ref (ad (20 * t)) :: rest)) :=
  cc_getN (Cn := RX2) (ref := RX2) (T := TX2) (N := 27) C hP (hO.2.2.2 _ (tk0 ht)) (cg_t0 ht) rfl in_X2 19 (by decide) (List.mem_of_getElem? (i := 29) rfl) (fun _ h => h) rfl hdg kk
theorem tpN_z {x : Int32} (C : cC p R d s m args c cc nL RX0 D cA A) (hO : klOk A ks ad) (ht : t < 3) (hP : cW D cA ks ad st H) (hS : va_S A H0 H locs) (hdg : decode cc pc = .ok (.putfield 351, 3)) (kk : ∀ (H1 : Heap) (locs1 : List Loc), cW D cA ks ad (csF st (20 * t) 19 x) H1 → va_S A H0 H1 locs1 → W p l e R s m args below meth c H1 locs1 cells slots Q (F0 m (pc + 3) ls rest)) : W p l e R s m args below meth c H locs cells slots Q (F0 m pc ls (.int x :: .ref (ad (20 * t)) :: rest)) :=
  cc_putN (Cn := RX2) (ref := RX2) (T := TX2) (N := 27) (ty0 := tyX2) C hO hP hS (hO.2.2.2 _ (tk0 ht)) (cg_t0 ht) rfl in_X2 tyX2_ok nmX2 19 (by decide) (List.mem_of_getElem? (i := 29) rfl) (fun _ h => h) rfl rfl rfl (Nat.le_of_ble_eq_true rfl) (cg_Ft ht rfl) hP.2 hdg kk
theorem tgN_waits (C : cC p R d s m args c cc nL RX0 D cA A) (hO : klOk A ks ad) (ht : t < 3) (hP : cW D cA ks ad st H) (hdg : decode cc pc = .ok (.getfield 402, 3)) (kk : W p l e R s m args below meth c H locs cells slots Q (F0 m (pc + 3) ls (.int (st.1 (20 * t) 23) :: rest))) : W p l e R s m args below meth c H locs cells slots Q (F0 m pc ls (.ref (ad (20 * t)) :: rest)) :=
  cc_getN (Cn := RX2) (ref := RX2) (T := TX2) (N := 27) C hP (hO.2.2.2 _ (tk0 ht)) (cg_t0 ht) rfl in_X2 23 (by decide) (List.mem_of_getElem? (i := 33) rfl) (fun _ h => h) rfl hdg kk
theorem tpN_waits {x : Int32} (C : cC p R d s m args c cc nL RX0 D cA A) (hO : klOk A ks ad) (ht : t < 3) (hP : cW D cA ks ad st H) (hS : va_S A H0 H locs) (hdg : decode cc pc = .ok (.putfield 402, 3)) (kk : ∀ (H1 : Heap) (locs1 : List Loc), cW D cA ks ad (csF st (20 * t) 23 x) H1 → va_S A H0 H1 locs1 → W p l e R s m args below meth c H1 locs1 cells slots Q (F0 m (pc + 3) ls rest)) : W p l e R s m args below meth c H locs cells slots Q (F0 m pc ls (.int x :: .ref (ad (20 * t)) :: rest)) :=
  cc_putN (Cn := RX2) (ref := RX2) (T := TX2) (N := 27) (ty0 := tyX2) C hO hP hS (hO.2.2.2 _ (tk0 ht)) (cg_t0 ht) rfl in_X2 tyX2_ok nmX2 23 (by decide) (List.mem_of_getElem? (i := 33) rfl) (fun _ h => h) rfl rfl rfl (Nat.le_of_ble_eq_true rfl) (cg_Ft ht rfl) hP.2 hdg kk
theorem tgN_waiting (C : cC p R d s m args c cc nL RX0 D cA A) (hO : klOk A ks ad) (ht : t < 3) (hP : cW D cA ks ad st H) (hdg : decode cc pc = .ok (.getfield 405, 3)) (kk : W p l e R s m args below meth c H locs cells slots Q (F0 m (pc + 3) ls (.ref (ad (20 * t + 15)) :: rest))) : W p l e R s m args below meth c H locs cells slots Q (F0 m pc ls (.ref (ad (20 * t)) :: rest)) :=
  cc_getN (Cn := RX2) (ref := RX2) (T := TX2) (N := 27) C hP (hO.2.2.2 _ (tk0 ht)) (cg_t0 ht) rfl in_X2 22 (by decide) (List.mem_of_getElem? (i := 32) rfl) (fun _ h => h) rfl hdg kk
end TROWS
abbrev cX2_factAt : ByteArray := prog_23_method_6_code
def yX2_factAt : MethodName := ⟨RX2, "factAt", "(II)I"⟩
theorem dX2_factAt_0 : decode cX2_factAt 0 = .ok (.aload_n 0, 1) := by decide +kernel
theorem dX2_factAt_1 : decode cX2_factAt 1 = .ok (.getfield 43, 3) := by decide +kernel
theorem dX2_factAt_4 : decode cX2_factAt 4 = .ok (.bipush 8, 2) := by decide +kernel
theorem dX2_factAt_6 : decode cX2_factAt 6 = .ok (.iload_n 1, 1) := by decide +kernel
theorem dX2_factAt_7 : decode cX2_factAt 7 = .ok (.imul, 1) := by decide +kernel
theorem dX2_factAt_8 : decode cX2_factAt 8 = .ok (.iload_n 2, 1) := by decide +kernel
theorem dX2_factAt_9 : decode cX2_factAt 9 = .ok (.iadd, 1) := by decide +kernel
theorem dX2_factAt_10 : decode cX2_factAt 10 = .ok (.iaload, 1) := by decide +kernel
theorem dX2_factAt_11 : decode cX2_factAt 11 = .ok (.ireturn, 1) := by decide +kernel
theorem w_T_factAt {l : Launch} {D : va_G} {cA : Nat → ClassId} {ks : List Nat} {ad : Nat → Nat} {A : Nat → Prop} (hO : klOk A ks ad) {t : Nat} (ht : t < 3) {st : CS} {x1 : Int32} {x2 : Int32} {r : Int32} (h : T_factAt t st x1 x2 = some r) : cR l yX2_factAt cX2_factAt 3 (some .int) 0 D cA ks ad A st [.ref (ad (20 * t)), .int x1, .int x2] r := by
  refine cc_ofR (own := RX2) (by decide) rfl (Nat.le_of_ble_eq_true rfl) (fun p e s m below meth c R args ls C hr hlk hP hl hcs => ?_)
  have hx := C.1
  have hb := C.2.1
  have hown := C.2.2.2.1
  have hNst := C.2.2.2.2.2.2.2.1
  have hl : lv_has ls 3 [(0, .ref (ad (20 * t))), (1, .int x1), (2, .int x2)] := hl
  rw [T_factAt] at h
  refine lv_aload_n hx hb dX2_factAt_0 rfl (lv_at hl 0 rfl) ?_
  refine tg_bookFact (t := t) C hO ht hP dX2_factAt_1 ?_
  refine lv_bipush (v := 8) hx hb dX2_factAt_4 (by decide) ?_
  refine lv_iload_n hx hb dX2_factAt_6 rfl (lv_at hl 1 rfl) ?_
  refine lv_imul hx hb dX2_factAt_7 ?_
  refine lv_iload_n hx hb dX2_factAt_8 rfl (lv_at hl 2 rfl) ?_
  refine lv_iadd hx hb dX2_factAt_9 ?_
  obtain ⟨v1, hv1, h⟩ := bd1_some h
  refine cc_ild C hP (hO.2.2.2 _ (tk_ 9 ht (by decide))) (cg_t 9 ht (by decide)) hv1 dX2_factAt_10 ?_
  exact mm_iret hx hb hr hlk h dX2_factAt_11
theorem q438 : (Jvm.Cond.code ({ cls := "ChapterLoan$Town", name := "factAt", desc := "(II)I" } : Jvm.MethodName) prog_23_method_6_code (3 : Nat) (Option.some Jvm.ClassFile.FieldType.int)) ∈ lw_all := lw_g (lw_at lw_m2 114 rfl) rfl
theorem q436 : (Jvm.Cond.instanceMethod ({ cls := "ChapterLoan$Town", name := "factAt", desc := "(II)I" } : Jvm.MethodName)) ∈ lw_all := lw_g (lw_at lw_m2 112 rfl) rfl
theorem q437 : (Jvm.Cond.selects "ChapterLoan$Town" ({ cls := "ChapterLoan$Town", name := "factAt", desc := "(II)I" } : Jvm.MethodName) ({ cls := "ChapterLoan$Town", name := "factAt", desc := "(II)I" } : Jvm.MethodName)) ∈ lw_all := lw_g (lw_at lw_m2 113 rfl) rfl
theorem k_T_factAt {a0 : Int32} {a1 : Int32} {v : Int32} (C : cC p R d s m args c cc nL own D cA A) (hO : klOk A ks ad) (ht : t < 3) (hP : cW D cA ks ad st H) (h : T_factAt t st a0 a1 = some v) (hl : Cond.methodLink own index yX2_factAt ∈ lw_all) (hd : 0 + 1 ≤ d) (hz : s.heap.size ≤ H.size) (hsz : ls.size = nL) (hW : (rest.map fun v => v.category).sum ≤ 8) (hcs : cells ≤ R.cells ∧ slots ≤ R.slots) (hdg : decode cc pc = .ok (.invokevirtual index, 3)) (kk : W p l e R s m args below meth c H locs cells slots Q (F0 m (pc + 3) ls (.int v :: rest))) : W p l e R s m args below meth c H locs cells slots Q (F0 m pc ls (.int a1 :: .int a0 :: .ref (ad (20 * t)) :: rest)) :=
  cc_cR (As := [.int a0, .int a1]) C hP hz (w_T_factAt hO ht h) (cwV 2 C.2.2.2.2.1 (lw_V hl q436 q437 q90 q438) rfl rfl rfl (by decide +kernel) (mr_ C.2.2.2.2.2.1 hd (by decide))) (cc_recv C hP (hO.2.2.2 _ (tk0 ht)) (cg_t0 ht) (q := (RX2, TX2, 27)) rfl) rfl hsz rfl hW hdg hcs kk
abbrev cX2_told : ByteArray := prog_23_method_7_code
def yX2_told : MethodName := ⟨RX2, "told", "(I)I"⟩
theorem dX2_told_0 : decode cX2_told 0 = .ok (.iconst 0, 1) := by decide +kernel
theorem dX2_told_1 : decode cX2_told 1 = .ok (.istore_n 2, 1) := by decide +kernel
theorem dX2_told_2 : decode cX2_told 2 = .ok (.iconst 0, 1) := by decide +kernel
theorem dX2_told_3 : decode cX2_told 3 = .ok (.istore_n 3, 1) := by decide +kernel
theorem dX2_told_4 : decode cX2_told 4 = .ok (.iload_n 3, 1) := by decide +kernel
theorem dX2_told_5 : decode cX2_told 5 = .ok (.aload_n 0, 1) := by decide +kernel
theorem dX2_told_6 : decode cX2_told 6 = .ok (.getfield 40, 3) := by decide +kernel
theorem dX2_told_9 : decode cX2_told 9 = .ok (.iload_n 1, 1) := by decide +kernel
theorem dX2_told_10 : decode cX2_told 10 = .ok (.iaload, 1) := by decide +kernel
theorem dX2_told_11 : decode cX2_told 11 = .ok (.if_icmp .ge 20, 3) := by decide +kernel
theorem dX2_told_14 : decode cX2_told 14 = .ok (.iload_n 2, 1) := by decide +kernel
theorem dX2_told_15 : decode cX2_told 15 = .ok (.iconst 1, 1) := by decide +kernel
theorem dX2_told_16 : decode cX2_told 16 = .ok (.aload_n 0, 1) := by decide +kernel
theorem dX2_told_17 : decode cX2_told 17 = .ok (.iload_n 1, 1) := by decide +kernel
theorem dX2_told_18 : decode cX2_told 18 = .ok (.iload_n 3, 1) := by decide +kernel
theorem dX2_told_19 : decode cX2_told 19 = .ok (.invokevirtual 130, 3) := by decide +kernel
theorem dX2_told_22 : decode cX2_told 22 = .ok (.ishl, 1) := by decide +kernel
theorem dX2_told_23 : decode cX2_told 23 = .ok (.ior, 1) := by decide +kernel
theorem dX2_told_24 : decode cX2_told 24 = .ok (.istore_n 2, 1) := by decide +kernel
theorem dX2_told_25 : decode cX2_told 25 = .ok (.iinc 3 1, 3) := by decide +kernel
theorem dX2_told_28 : decode cX2_told 28 = .ok (.goto (-24), 3) := by decide +kernel
theorem dX2_told_31 : decode cX2_told 31 = .ok (.iload_n 2, 1) := by decide +kernel
theorem dX2_told_32 : decode cX2_told 32 = .ok (.ireturn, 1) := by decide +kernel
theorem q435 : (Jvm.Cond.methodLink "ChapterLoan$Town" (130 : Nat) ({ cls := "ChapterLoan$Town", name := "factAt", desc := "(II)I" } : Jvm.MethodName)) ∈ lw_all := lw_g (lw_at lw_m2 111 rfl) rfl
theorem w_T_told {l : Launch} {D : va_G} {cA : Nat → ClassId} {ks : List Nat} {ad : Nat → Nat} {A : Nat → Prop} (hO : klOk A ks ad) {t : Nat} (ht : t < 3) {st : CS} {N : Nat} {x1 : Int32} {r : Int32} (h : T_told t N st x1 = some r) : cR l yX2_told cX2_told 4 (some .int) 1 D cA ks ad A st [.ref (ad (20 * t)), .int x1] r := by
  refine cc_ofR (own := RX2) (by decide) rfl (Nat.le_of_ble_eq_true rfl) (fun p e s m below meth c R args ls C hr hlk hP hl hcs => ?_)
  have hx := C.1
  have hb := C.2.1
  have hown := C.2.2.2.1
  have hNst := C.2.2.2.2.2.2.2.1
  have hl : lv_has ls 4 [(0, .ref (ad (20 * t))), (1, .int x1)] := hl
  have L4 : ∀ (x1 : Int32), ∀ (n : Nat) (x2 : Int32) (x3 : Int32) (z2 : Int32), T_told_L4 N t st x1 n x2 x3 = some z2 → ∀ ls : Array Slot, lv_has ls 4 [(0, .ref (ad (20 * t))), (1, .int x1), (2, .int x2), (3, .int x3)] → (∀ ls : Array Slot, lv_has ls 4 [(2, .int z2)] → mWR p l e R s m args below meth c r (F0 m 31 ls [])) → mWR p l e R s m args below meth c r (F0 m 4 ls []) := by
    intro x1 n
    induction n with
    | zero =>
      intro x2 x3 z2 h
      exact non_some h
    | succ n ih =>
      intro x2 x3 z2 h ls hl kx
      rw [T_told_L4] at h
      refine lv_iload_n hx hb dX2_told_4 rfl (lv_at hl 3 rfl) ?_
      refine lv_aload_n hx hb dX2_told_5 rfl (lv_at hl 0 rfl) ?_
      refine tg_many (t := t) C hO ht hP dX2_told_6 ?_
      refine lv_iload_n hx hb dX2_told_9 rfl (lv_at hl 1 rfl) ?_
      obtain ⟨v1, hv1, h⟩ := bd1_some h
      refine cc_ild C hP (hO.2.2.2 _ (tk_ 8 ht (by decide))) (cg_t 8 ht (by decide)) hv1 dX2_told_10 ?_
      refine lv_icmp_ge (tgt := 31) hx hb dX2_told_11 rfl (fun c2 => ?_) (fun c2 => ?_)
      · have h := if_some_t h c2
        cases h
        exact kx ls (lv_sub hl [2] rfl)
      · have h := if_some_f h c2
        refine lv_iload_n hx hb dX2_told_14 rfl (lv_at hl 2 rfl) ?_
        refine lv_iconst (v := 1) hx hb dX2_told_15 (by decide) ?_
        refine lv_aload_n hx hb dX2_told_16 rfl (lv_at hl 0 rfl) ?_
        refine lv_iload_n hx hb dX2_told_17 rfl (lv_at hl 1 rfl) ?_
        refine lv_iload_n hx hb dX2_told_18 rfl (lv_at hl 3 rfl) ?_
        obtain ⟨v3, hv3, h⟩ := bd1_some h
        refine k_T_factAt (t := t) C hO ht hP hv3 q435 (Nat.le_of_ble_eq_true rfl) (Nat.le_refl _) hl.1 (Nat.le_of_ble_eq_true rfl) hcs dX2_told_19 ?_
        refine lv_ishl hx hb dX2_told_22 ?_
        refine lv_ior hx hb dX2_told_23 ?_
        refine lv_istore_n (lv' := [(2, .int (x2 ||| (1 <<< (v3 &&& 31)))), (0, .ref (ad (20 * t))), (1, .int x1), (3, .int x3)]) hx hb dX2_told_24 rfl hl (by decide) rfl (fun ls hl => ?_)
        refine lv_iinc (v := x3 + 1) (lv' := [(3, .int (x3 + 1)), (2, .int (x2 ||| (1 <<< (v3 &&& 31)))), (0, .ref (ad (20 * t))), (1, .int x1)]) hx hb dX2_told_25 hl (k := 3) rfl rfl (by decide) rfl (fun ls hl => ?_)
        refine lv_goto (tgt := 4) hx hb dX2_told_28 rfl ?_
        exact ih (x2 ||| (1 <<< (v3 &&& 31))) (x3 + 1) _ h ls (lv_sub hl [2, 3, 1, 0] rfl) kx
  rw [T_told] at h
  refine lv_iconst (v := 0) hx hb dX2_told_0 (by decide) ?_
  refine lv_istore_n (lv' := [(2, .int 0), (0, .ref (ad (20 * t))), (1, .int x1)]) hx hb dX2_told_1 rfl hl (by decide) rfl (fun ls hl => ?_)
  refine lv_iconst (v := 0) hx hb dX2_told_2 (by decide) ?_
  refine lv_istore_n (lv' := [(3, .int 0), (2, .int 0), (0, .ref (ad (20 * t))), (1, .int x1)]) hx hb dX2_told_3 rfl hl (by decide) rfl (fun ls hl => ?_)
  obtain ⟨z4, hz5, h⟩ := bd1_some h
  refine L4 x1 N 0 0 _ hz5 ls (lv_sub hl [2, 3, 1, 0] rfl) (fun ls hl => ?_)
  refine lv_iload_n hx hb dX2_told_31 rfl (lv_at hl 0 rfl) ?_
  exact mm_iret hx hb hr hlk h dX2_told_32
theorem q434 : (Jvm.Cond.code ({ cls := "ChapterLoan$Town", name := "told", desc := "(I)I" } : Jvm.MethodName) prog_23_method_7_code (4 : Nat) (Option.some Jvm.ClassFile.FieldType.int)) ∈ lw_all := lw_g (lw_at lw_m2 110 rfl) rfl
theorem q432 : (Jvm.Cond.instanceMethod ({ cls := "ChapterLoan$Town", name := "told", desc := "(I)I" } : Jvm.MethodName)) ∈ lw_all := lw_g (lw_at lw_m2 108 rfl) rfl
theorem q433 : (Jvm.Cond.selects "ChapterLoan$Town" ({ cls := "ChapterLoan$Town", name := "told", desc := "(I)I" } : Jvm.MethodName) ({ cls := "ChapterLoan$Town", name := "told", desc := "(I)I" } : Jvm.MethodName)) ∈ lw_all := lw_g (lw_at lw_m2 109 rfl) rfl
theorem k_T_told {N : Nat} {a0 : Int32} {v : Int32} (C : cC p R d s m args c cc nL own D cA A) (hO : klOk A ks ad) (ht : t < 3) (hP : cW D cA ks ad st H) (h : T_told t N st a0 = some v) (hl : Cond.methodLink own index yX2_told ∈ lw_all) (hd : 1 + 1 ≤ d) (hz : s.heap.size ≤ H.size) (hsz : ls.size = nL) (hW : (rest.map fun v => v.category).sum ≤ 8) (hcs : cells ≤ R.cells ∧ slots ≤ R.slots) (hdg : decode cc pc = .ok (.invokevirtual index, 3)) (kk : W p l e R s m args below meth c H locs cells slots Q (F0 m (pc + 3) ls (.int v :: rest))) : W p l e R s m args below meth c H locs cells slots Q (F0 m pc ls (.int a0 :: .ref (ad (20 * t)) :: rest)) :=
  cc_cR (As := [.int a0]) C hP hz (w_T_told hO ht h) (cwV 1 C.2.2.2.2.1 (lw_V hl q432 q433 q90 q434) rfl rfl rfl (by decide +kernel) (mr_ C.2.2.2.2.2.1 hd (by decide))) (cc_recv C hP (hO.2.2.2 _ (tk0 ht)) (cg_t0 ht) (q := (RX2, TX2, 27)) rfl) rfl hsz rfl hW hdg hcs kk
abbrev cX2_isElsewhere : ByteArray := prog_23_method_8_code
def yX2_isElsewhere : MethodName := ⟨RX2, "isElsewhere", "(II)Z"⟩
theorem dX2_isElsewhere_0 : decode cX2_isElsewhere 0 = .ok (.iconst 0, 1) := by decide +kernel
theorem dX2_isElsewhere_1 : decode cX2_isElsewhere 1 = .ok (.istore_n 3, 1) := by decide +kernel
theorem dX2_isElsewhere_2 : decode cX2_isElsewhere 2 = .ok (.iconst 0, 1) := by decide +kernel
theorem dX2_isElsewhere_3 : decode cX2_isElsewhere 3 = .ok (.istore 4, 2) := by decide +kernel
theorem dX2_isElsewhere_5 : decode cX2_isElsewhere 5 = .ok (.iload 4, 2) := by decide +kernel
theorem dX2_isElsewhere_7 : decode cX2_isElsewhere 7 = .ok (.aload_n 0, 1) := by decide +kernel
theorem dX2_isElsewhere_8 : decode cX2_isElsewhere 8 = .ok (.getfield 94, 3) := by decide +kernel
theorem dX2_isElsewhere_11 : decode cX2_isElsewhere 11 = .ok (.if_icmp .ge 36, 3) := by decide +kernel
theorem dX2_isElsewhere_14 : decode cX2_isElsewhere 14 = .ok (.iload_n 3, 1) := by decide +kernel
theorem dX2_isElsewhere_15 : decode cX2_isElsewhere 15 = .ok (.iload 4, 2) := by decide +kernel
theorem dX2_isElsewhere_17 : decode cX2_isElsewhere 17 = .ok (.iload_n 1, 1) := by decide +kernel
theorem dX2_isElsewhere_18 : decode cX2_isElsewhere 18 = .ok (.if_icmp .eq 20, 3) := by decide +kernel
theorem dX2_isElsewhere_21 : decode cX2_isElsewhere 21 = .ok (.aload_n 0, 1) := by decide +kernel
theorem dX2_isElsewhere_22 : decode cX2_isElsewhere 22 = .ok (.iload 4, 2) := by decide +kernel
theorem dX2_isElsewhere_24 : decode cX2_isElsewhere 24 = .ok (.invokevirtual 133, 3) := by decide +kernel
theorem dX2_isElsewhere_27 : decode cX2_isElsewhere 27 = .ok (.iload_n 2, 1) := by decide +kernel
theorem dX2_isElsewhere_28 : decode cX2_isElsewhere 28 = .ok (.invokestatic 137, 3) := by decide +kernel
theorem dX2_isElsewhere_31 : decode cX2_isElsewhere 31 = .ok (.ifCond .eq 7, 3) := by decide +kernel
theorem dX2_isElsewhere_34 : decode cX2_isElsewhere 34 = .ok (.iconst 1, 1) := by decide +kernel
theorem dX2_isElsewhere_35 : decode cX2_isElsewhere 35 = .ok (.goto 4, 3) := by decide +kernel
theorem dX2_isElsewhere_38 : decode cX2_isElsewhere 38 = .ok (.iconst 0, 1) := by decide +kernel
theorem dX2_isElsewhere_39 : decode cX2_isElsewhere 39 = .ok (.ior, 1) := by decide +kernel
theorem dX2_isElsewhere_40 : decode cX2_isElsewhere 40 = .ok (.istore_n 3, 1) := by decide +kernel
theorem dX2_isElsewhere_41 : decode cX2_isElsewhere 41 = .ok (.iinc 4 1, 3) := by decide +kernel
theorem dX2_isElsewhere_44 : decode cX2_isElsewhere 44 = .ok (.goto (-39), 3) := by decide +kernel
theorem dX2_isElsewhere_47 : decode cX2_isElsewhere 47 = .ok (.iload_n 3, 1) := by decide +kernel
theorem dX2_isElsewhere_48 : decode cX2_isElsewhere 48 = .ok (.ireturn, 1) := by decide +kernel
theorem q615 : (Jvm.Cond.methodLink "ChapterLoan$Town" (133 : Nat) ({ cls := "ChapterLoan$Town", name := "told", desc := "(I)I" } : Jvm.MethodName)) ∈ lw_all := lw_g (lw_at lw_m3 51 rfl) rfl
theorem w_T_isElsewhere {l : Launch} {D : va_G} {cA : Nat → ClassId} {ks : List Nat} {ad : Nat → Nat} {A : Nat → Prop} (hO : klOk A ks ad) {t : Nat} (ht : t < 3) {st : CS} {N : Nat} {x1 : Int32} {x2 : Int32} {r : Int32} (h : T_isElsewhere t N st x1 x2 = some r) : cR l yX2_isElsewhere cX2_isElsewhere 5 (some .boolean) 2 D cA ks ad A st [.ref (ad (20 * t)), .int x1, .int x2] r := by
  refine cc_ofR (own := RX2) (by decide) rfl (Nat.le_of_ble_eq_true rfl) (fun p e s m below meth c R args ls C hr hlk hP hl hcs => ?_)
  have hx := C.1
  have hb := C.2.1
  have hown := C.2.2.2.1
  have hNst := C.2.2.2.2.2.2.2.1
  have hl : lv_has ls 5 [(0, .ref (ad (20 * t))), (1, .int x1), (2, .int x2)] := hl
  have L5 : ∀ (x1 : Int32), ∀ (x2 : Int32), ∀ (n : Nat) (x3 : Int32) (x4 : Int32) (z3 : Int32), T_isElsewhere_L5 N t st x1 x2 n x3 x4 = some z3 → ∀ ls : Array Slot, lv_has ls 5 [(0, .ref (ad (20 * t))), (1, .int x1), (2, .int x2), (3, .int x3), (4, .int x4)] → (∀ ls : Array Slot, lv_has ls 5 [(3, .int z3)] → mWR p l e R s m args below meth c r (F0 m 47 ls [])) → mWR p l e R s m args below meth c r (F0 m 5 ls []) := by
    intro x1 x2 n
    induction n with
    | zero =>
      intro x3 x4 z3 h
      exact non_some h
    | succ n ih =>
      intro x3 x4 z3 h ls hl kx
      rw [T_isElsewhere_L5] at h
      refine lv_iload hx hb dX2_isElsewhere_5 (lv_at hl 4 rfl) ?_
      refine lv_aload_n hx hb dX2_isElsewhere_7 rfl (lv_at hl 0 rfl) ?_
      refine tg_debtors (t := t) C hO ht hP dX2_isElsewhere_8 ?_
      refine lv_icmp_ge (tgt := 47) hx hb dX2_isElsewhere_11 rfl (fun c1 => ?_) (fun c1 => ?_)
      · have h := if_some_t h c1
        cases h
        exact kx ls (lv_sub hl [3] rfl)
      · have h := if_some_f h c1
        refine lv_iload_n hx hb dX2_isElsewhere_14 rfl (lv_at hl 3 rfl) ?_
        refine lv_iload hx hb dX2_isElsewhere_15 (lv_at hl 4 rfl) ?_
        refine lv_iload_n hx hb dX2_isElsewhere_17 rfl (lv_at hl 1 rfl) ?_
        refine lv_icmp_eq (tgt := 38) hx hb dX2_isElsewhere_18 rfl (fun c2 => ?_) (fun c2 => ?_)
        · have h := if_some_t h c2
          refine lv_iconst (v := 0) hx hb dX2_isElsewhere_38 (by decide) ?_
          refine lv_ior hx hb dX2_isElsewhere_39 ?_
          refine lv_istore_n (lv' := [(3, .int (x3 ||| 0)), (0, .ref (ad (20 * t))), (1, .int x1), (2, .int x2), (4, .int x4)]) hx hb dX2_isElsewhere_40 rfl hl (by decide) rfl (fun ls hl => ?_)
          refine lv_iinc (v := x4 + 1) (lv' := [(4, .int (x4 + 1)), (3, .int (x3 ||| 0)), (0, .ref (ad (20 * t))), (1, .int x1), (2, .int x2)]) hx hb dX2_isElsewhere_41 hl (k := 4) rfl rfl (by decide) rfl (fun ls hl => ?_)
          refine lv_goto (tgt := 5) hx hb dX2_isElsewhere_44 rfl ?_
          exact ih (x3 ||| 0) (x4 + 1) _ h ls (lv_sub hl [2, 3, 4, 1, 0] rfl) kx
        · have h := if_some_f h c2
          refine lv_aload_n hx hb dX2_isElsewhere_21 rfl (lv_at hl 0 rfl) ?_
          refine lv_iload hx hb dX2_isElsewhere_22 (lv_at hl 4 rfl) ?_
          obtain ⟨v3, hv3, h⟩ := bd1_some h
          refine k_T_told (t := t) C hO ht hP hv3 q615 (Nat.le_of_ble_eq_true rfl) (Nat.le_refl _) hl.1 (Nat.le_of_ble_eq_true rfl) hcs dX2_isElsewhere_24 ?_
          refine lv_iload_n hx hb dX2_isElsewhere_27 rfl (lv_at hl 2 rfl) ?_
          obtain ⟨v4, hv4, h⟩ := bd1_some h
          refine k_L_isInN hx hb C.2.2.1 hown C.2.2.2.2.1 C.2.2.2.2.2.1 hNst (List.mem_of_getElem? (i := 42) rfl) hv4 (Nat.le_of_ble_eq_true rfl) hl.1 (Nat.le_of_ble_eq_true rfl) hcs dX2_isElsewhere_28 ?_
          refine lv_if_eq (tgt := 38) hx hb dX2_isElsewhere_31 rfl (fun c5 => ?_) (fun c5 => ?_)
          · have h := if_some_t h c5
            refine lv_iconst (v := 0) hx hb dX2_isElsewhere_38 (by decide) ?_
            refine lv_ior hx hb dX2_isElsewhere_39 ?_
            refine lv_istore_n (lv' := [(3, .int (x3 ||| 0)), (0, .ref (ad (20 * t))), (1, .int x1), (2, .int x2), (4, .int x4)]) hx hb dX2_isElsewhere_40 rfl hl (by decide) rfl (fun ls hl => ?_)
            refine lv_iinc (v := x4 + 1) (lv' := [(4, .int (x4 + 1)), (3, .int (x3 ||| 0)), (0, .ref (ad (20 * t))), (1, .int x1), (2, .int x2)]) hx hb dX2_isElsewhere_41 hl (k := 4) rfl rfl (by decide) rfl (fun ls hl => ?_)
            refine lv_goto (tgt := 5) hx hb dX2_isElsewhere_44 rfl ?_
            exact ih (x3 ||| 0) (x4 + 1) _ h ls (lv_sub hl [2, 3, 4, 1, 0] rfl) kx
          · have h := if_some_f h c5
            refine lv_iconst (v := 1) hx hb dX2_isElsewhere_34 (by decide) ?_
            refine lv_goto (tgt := 39) hx hb dX2_isElsewhere_35 rfl ?_
            refine lv_ior hx hb dX2_isElsewhere_39 ?_
            refine lv_istore_n (lv' := [(3, .int (x3 ||| 1)), (0, .ref (ad (20 * t))), (1, .int x1), (2, .int x2), (4, .int x4)]) hx hb dX2_isElsewhere_40 rfl hl (by decide) rfl (fun ls hl => ?_)
            refine lv_iinc (v := x4 + 1) (lv' := [(4, .int (x4 + 1)), (3, .int (x3 ||| 1)), (0, .ref (ad (20 * t))), (1, .int x1), (2, .int x2)]) hx hb dX2_isElsewhere_41 hl (k := 4) rfl rfl (by decide) rfl (fun ls hl => ?_)
            refine lv_goto (tgt := 5) hx hb dX2_isElsewhere_44 rfl ?_
            exact ih (x3 ||| 1) (x4 + 1) _ h ls (lv_sub hl [2, 3, 4, 1, 0] rfl) kx
  rw [T_isElsewhere] at h
  refine lv_iconst (v := 0) hx hb dX2_isElsewhere_0 (by decide) ?_
  refine lv_istore_n (lv' := [(3, .int 0), (0, .ref (ad (20 * t))), (1, .int x1), (2, .int x2)]) hx hb dX2_isElsewhere_1 rfl hl (by decide) rfl (fun ls hl => ?_)
  refine lv_iconst (v := 0) hx hb dX2_isElsewhere_2 (by decide) ?_
  refine lv_istore (lv' := [(4, .int 0), (3, .int 0), (0, .ref (ad (20 * t))), (1, .int x1), (2, .int x2)]) hx hb dX2_isElsewhere_3 hl (by decide) rfl (fun ls hl => ?_)
  obtain ⟨z6, hz7, h⟩ := bd1_some h
  refine L5 x1 x2 N 0 0 _ hz7 ls (lv_sub hl [2, 3, 4, 1, 0] rfl) (fun ls hl => ?_)
  refine lv_iload_n hx hb dX2_isElsewhere_47 rfl (lv_at hl 0 rfl) ?_
  exact mm_zretV hx hb hr hlk h dX2_isElsewhere_48
theorem q626 : (Jvm.Cond.code ({ cls := "ChapterLoan$Town", name := "isElsewhere", desc := "(II)Z" } : Jvm.MethodName) prog_23_method_8_code (5 : Nat) (Option.some Jvm.ClassFile.FieldType.boolean)) ∈ lw_all := lw_g (lw_at lw_m3 62 rfl) rfl
theorem q625 : (Jvm.Cond.instanceMethod ({ cls := "ChapterLoan$Town", name := "isElsewhere", desc := "(II)Z" } : Jvm.MethodName)) ∈ lw_all := lw_g (lw_at lw_m3 61 rfl) rfl
theorem k_T_isElsewhere {N : Nat} {a0 : Int32} {a1 : Int32} {v : Int32} (C : cC p R d s m args c cc nL own D cA A) (hO : klOk A ks ad) (ht : t < 3) (hP : cW D cA ks ad st H) (h : T_isElsewhere t N st a0 a1 = some v) (hl : Cond.methodLink own index yX2_isElsewhere ∈ lw_all) (hd : 2 + 1 ≤ d) (hz : s.heap.size ≤ H.size) (hsz : ls.size = nL) (hW : (rest.map fun v => v.category).sum ≤ 8) (hcs : cells ≤ R.cells ∧ slots ≤ R.slots) (hdg : decode cc pc = .ok (.invokevirtual index, 3)) (kk : W p l e R s m args below meth c H locs cells slots Q (F0 m (pc + 3) ls (.int v :: rest))) : W p l e R s m args below meth c H locs cells slots Q (F0 m pc ls (.int a1 :: .int a0 :: .ref (ad (20 * t)) :: rest)) :=
  cc_cR (As := [.int a0, .int a1]) C hP hz (w_T_isElsewhere hO ht h) (cwV 2 C.2.2.2.2.1 (lw_V hl q625 qs6 q90 q626) rfl rfl rfl (by decide +kernel) (mr_ C.2.2.2.2.2.1 hd (by decide))) (cc_recv C hP (hO.2.2.2 _ (tk0 ht)) (cg_t0 ht) (q := (RX2, TX2, 27)) rfl) rfl hsz rfl hW hdg hcs kk
abbrev cX2_isOpen : ByteArray := prog_23_method_11_code
def yX2_isOpen : MethodName := ⟨RX2, "isOpen", "(II)Z"⟩
theorem dX2_isOpen_0 : decode cX2_isOpen 0 = .ok (.aload_n 0, 1) := by decide +kernel
theorem dX2_isOpen_1 : decode cX2_isOpen 1 = .ok (.getfield 18, 3) := by decide +kernel
theorem dX2_isOpen_4 : decode cX2_isOpen 4 = .ok (.iload_n 2, 1) := by decide +kernel
theorem dX2_isOpen_5 : decode cX2_isOpen 5 = .ok (.iaload, 1) := by decide +kernel
theorem dX2_isOpen_6 : decode cX2_isOpen 6 = .ok (.ifCond .le 20, 3) := by decide +kernel
theorem dX2_isOpen_9 : decode cX2_isOpen 9 = .ok (.iload_n 1, 1) := by decide +kernel
theorem dX2_isOpen_10 : decode cX2_isOpen 10 = .ok (.aload_n 0, 1) := by decide +kernel
theorem dX2_isOpen_11 : decode cX2_isOpen 11 = .ok (.getfield 21, 3) := by decide +kernel
theorem dX2_isOpen_14 : decode cX2_isOpen 14 = .ok (.iload_n 2, 1) := by decide +kernel
theorem dX2_isOpen_15 : decode cX2_isOpen 15 = .ok (.iaload, 1) := by decide +kernel
theorem dX2_isOpen_16 : decode cX2_isOpen 16 = .ok (.invokestatic 137, 3) := by decide +kernel
theorem dX2_isOpen_19 : decode cX2_isOpen 19 = .ok (.ifCond .ne 7, 3) := by decide +kernel
theorem dX2_isOpen_22 : decode cX2_isOpen 22 = .ok (.iconst 1, 1) := by decide +kernel
theorem dX2_isOpen_23 : decode cX2_isOpen 23 = .ok (.goto 4, 3) := by decide +kernel
theorem dX2_isOpen_26 : decode cX2_isOpen 26 = .ok (.iconst 0, 1) := by decide +kernel
theorem dX2_isOpen_27 : decode cX2_isOpen 27 = .ok (.ireturn, 1) := by decide +kernel
theorem w_T_isOpen {l : Launch} {D : va_G} {cA : Nat → ClassId} {ks : List Nat} {ad : Nat → Nat} {A : Nat → Prop} (hO : klOk A ks ad) {t : Nat} (ht : t < 3) {st : CS} {x1 : Int32} {x2 : Int32} {r : Int32} (h : T_isOpen t st x1 x2 = some r) : cR l yX2_isOpen cX2_isOpen 3 (some .boolean) 1 D cA ks ad A st [.ref (ad (20 * t)), .int x1, .int x2] r := by
  refine cc_ofR (own := RX2) (by decide) rfl (Nat.le_of_ble_eq_true rfl) (fun p e s m below meth c R args ls C hr hlk hP hl hcs => ?_)
  have hx := C.1
  have hb := C.2.1
  have hown := C.2.2.2.1
  have hNst := C.2.2.2.2.2.2.2.1
  have hl : lv_has ls 3 [(0, .ref (ad (20 * t))), (1, .int x1), (2, .int x2)] := hl
  rw [T_isOpen] at h
  refine lv_aload_n hx hb dX2_isOpen_0 rfl (lv_at hl 0 rfl) ?_
  refine tg_within (t := t) C hO ht hP dX2_isOpen_1 ?_
  refine lv_iload_n hx hb dX2_isOpen_4 rfl (lv_at hl 2 rfl) ?_
  obtain ⟨v1, hv1, h⟩ := bd1_some h
  refine cc_ild C hP (hO.2.2.2 _ (tk_ 3 ht (by decide))) (cg_t 3 ht (by decide)) hv1 dX2_isOpen_5 ?_
  refine lv_if_le (tgt := 26) hx hb dX2_isOpen_6 rfl (fun c2 => ?_) (fun c2 => ?_)
  · have h := if_some_t h c2
    refine lv_iconst (v := 0) hx hb dX2_isOpen_26 (by decide) ?_
    exact mm_zret hx hb hr hlk rfl h dX2_isOpen_27
  · have h := if_some_f h c2
    refine lv_iload_n hx hb dX2_isOpen_9 rfl (lv_at hl 1 rfl) ?_
    refine lv_aload_n hx hb dX2_isOpen_10 rfl (lv_at hl 0 rfl) ?_
    refine tg_by (t := t) C hO ht hP dX2_isOpen_11 ?_
    refine lv_iload_n hx hb dX2_isOpen_14 rfl (lv_at hl 2 rfl) ?_
    obtain ⟨v3, hv3, h⟩ := bd1_some h
    refine cc_ild C hP (hO.2.2.2 _ (tk_ 4 ht (by decide))) (cg_t 4 ht (by decide)) hv3 dX2_isOpen_15 ?_
    obtain ⟨v4, hv4, h⟩ := bd1_some h
    refine k_L_isInN hx hb C.2.2.1 hown C.2.2.2.2.1 C.2.2.2.2.2.1 hNst (List.mem_of_getElem? (i := 42) rfl) hv4 (Nat.le_of_ble_eq_true rfl) hl.1 (Nat.le_of_ble_eq_true rfl) hcs dX2_isOpen_16 ?_
    refine lv_if_ne (tgt := 26) hx hb dX2_isOpen_19 rfl (fun c5 => ?_) (fun c5 => ?_)
    · have h := if_some_f h c5
      refine lv_iconst (v := 0) hx hb dX2_isOpen_26 (by decide) ?_
      exact mm_zret hx hb hr hlk rfl h dX2_isOpen_27
    · have h := if_some_t h c5
      refine lv_iconst (v := 1) hx hb dX2_isOpen_22 (by decide) ?_
      refine lv_goto (tgt := 27) hx hb dX2_isOpen_23 rfl ?_
      exact mm_zret hx hb hr hlk rfl h dX2_isOpen_27
theorem q662 : (Jvm.Cond.code ({ cls := "ChapterLoan$Town", name := "isOpen", desc := "(II)Z" } : Jvm.MethodName) prog_23_method_11_code (3 : Nat) (Option.some Jvm.ClassFile.FieldType.boolean)) ∈ lw_all := lw_g (lw_at lw_m3 98 rfl) rfl
theorem q661 : (Jvm.Cond.instanceMethod ({ cls := "ChapterLoan$Town", name := "isOpen", desc := "(II)Z" } : Jvm.MethodName)) ∈ lw_all := lw_g (lw_at lw_m3 97 rfl) rfl
theorem k_T_isOpen {a0 : Int32} {a1 : Int32} {v : Int32} (C : cC p R d s m args c cc nL own D cA A) (hO : klOk A ks ad) (ht : t < 3) (hP : cW D cA ks ad st H) (h : T_isOpen t st a0 a1 = some v) (hl : Cond.methodLink own index yX2_isOpen ∈ lw_all) (hd : 1 + 1 ≤ d) (hz : s.heap.size ≤ H.size) (hsz : ls.size = nL) (hW : (rest.map fun v => v.category).sum ≤ 8) (hcs : cells ≤ R.cells ∧ slots ≤ R.slots) (hdg : decode cc pc = .ok (.invokevirtual index, 3)) (kk : W p l e R s m args below meth c H locs cells slots Q (F0 m (pc + 3) ls (.int v :: rest))) : W p l e R s m args below meth c H locs cells slots Q (F0 m pc ls (.int a1 :: .int a0 :: .ref (ad (20 * t)) :: rest)) :=
  cc_cR (As := [.int a0, .int a1]) C hP hz (w_T_isOpen hO ht h) (cwV 2 C.2.2.2.2.1 (lw_V hl q661 qs7 q90 q662) rfl rfl rfl (by decide +kernel) (mr_ C.2.2.2.2.2.1 hd (by decide))) (cc_recv C hP (hO.2.2.2 _ (tk0 ht)) (cg_t0 ht) (q := (RX2, TX2, 27)) rfl) rfl hsz rfl hW hdg hcs kk
abbrev cX2_open : ByteArray := prog_23_method_12_code
def yX2_open : MethodName := ⟨RX2, "open", "(I)I"⟩
theorem dX2_open_0 : decode cX2_open 0 = .ok (.aload_n 0, 1) := by decide +kernel
theorem dX2_open_1 : decode cX2_open 1 = .ok (.iload_n 1, 1) := by decide +kernel
theorem dX2_open_2 : decode cX2_open 2 = .ok (.invokevirtual 133, 3) := by decide +kernel
theorem dX2_open_5 : decode cX2_open 5 = .ok (.istore_n 2, 1) := by decide +kernel
theorem dX2_open_6 : decode cX2_open 6 = .ok (.iconst 0, 1) := by decide +kernel
theorem dX2_open_7 : decode cX2_open 7 = .ok (.istore_n 3, 1) := by decide +kernel
theorem dX2_open_8 : decode cX2_open 8 = .ok (.iconst 0, 1) := by decide +kernel
theorem dX2_open_9 : decode cX2_open 9 = .ok (.istore 4, 2) := by decide +kernel
theorem dX2_open_11 : decode cX2_open 11 = .ok (.iload 4, 2) := by decide +kernel
theorem dX2_open_13 : decode cX2_open 13 = .ok (.aload_n 0, 1) := by decide +kernel
theorem dX2_open_14 : decode cX2_open 14 = .ok (.getfield 85, 3) := by decide +kernel
theorem dX2_open_17 : decode cX2_open 17 = .ok (.if_icmp .ge 36, 3) := by decide +kernel
theorem dX2_open_20 : decode cX2_open 20 = .ok (.iload_n 3, 1) := by decide +kernel
theorem dX2_open_21 : decode cX2_open 21 = .ok (.iload_n 2, 1) := by decide +kernel
theorem dX2_open_22 : decode cX2_open 22 = .ok (.iload 4, 2) := by decide +kernel
theorem dX2_open_24 : decode cX2_open 24 = .ok (.invokestatic 137, 3) := by decide +kernel
theorem dX2_open_27 : decode cX2_open 27 = .ok (.ifCond .eq 17, 3) := by decide +kernel
theorem dX2_open_30 : decode cX2_open 30 = .ok (.aload_n 0, 1) := by decide +kernel
theorem dX2_open_31 : decode cX2_open 31 = .ok (.iload_n 2, 1) := by decide +kernel
theorem dX2_open_32 : decode cX2_open 32 = .ok (.iload 4, 2) := by decide +kernel
theorem dX2_open_34 : decode cX2_open 34 = .ok (.invokevirtual 155, 3) := by decide +kernel
theorem dX2_open_37 : decode cX2_open 37 = .ok (.ifCond .eq 7, 3) := by decide +kernel
theorem dX2_open_40 : decode cX2_open 40 = .ok (.iconst 1, 1) := by decide +kernel
theorem dX2_open_41 : decode cX2_open 41 = .ok (.goto 4, 3) := by decide +kernel
theorem dX2_open_44 : decode cX2_open 44 = .ok (.iconst 0, 1) := by decide +kernel
theorem dX2_open_45 : decode cX2_open 45 = .ok (.iadd, 1) := by decide +kernel
theorem dX2_open_46 : decode cX2_open 46 = .ok (.istore_n 3, 1) := by decide +kernel
theorem dX2_open_47 : decode cX2_open 47 = .ok (.iinc 4 1, 3) := by decide +kernel
theorem dX2_open_50 : decode cX2_open 50 = .ok (.goto (-39), 3) := by decide +kernel
theorem dX2_open_53 : decode cX2_open 53 = .ok (.iload_n 3, 1) := by decide +kernel
theorem dX2_open_54 : decode cX2_open 54 = .ok (.ireturn, 1) := by decide +kernel
theorem q659 : (Jvm.Cond.methodLink "ChapterLoan$Town" (155 : Nat) ({ cls := "ChapterLoan$Town", name := "isOpen", desc := "(II)Z" } : Jvm.MethodName)) ∈ lw_all := lw_g (lw_at lw_m3 95 rfl) rfl
theorem w_T_open {l : Launch} {D : va_G} {cA : Nat → ClassId} {ks : List Nat} {ad : Nat → Nat} {A : Nat → Prop} (hO : klOk A ks ad) {t : Nat} (ht : t < 3) {st : CS} {N : Nat} {x1 : Int32} {r : Int32} (h : T_open t N st x1 = some r) : cR l yX2_open cX2_open 5 (some .int) 2 D cA ks ad A st [.ref (ad (20 * t)), .int x1] r := by
  refine cc_ofR (own := RX2) (by decide) rfl (Nat.le_of_ble_eq_true rfl) (fun p e s m below meth c R args ls C hr hlk hP hl hcs => ?_)
  have hx := C.1
  have hb := C.2.1
  have hown := C.2.2.2.1
  have hNst := C.2.2.2.2.2.2.2.1
  have hl : lv_has ls 5 [(0, .ref (ad (20 * t))), (1, .int x1)] := hl
  have L11 : ∀ (x2 : Int32), ∀ (n : Nat) (x3 : Int32) (x4 : Int32) (z3 : Int32), T_open_L11 N t st x2 n x3 x4 = some z3 → ∀ ls : Array Slot, lv_has ls 5 [(0, .ref (ad (20 * t))), (2, .int x2), (3, .int x3), (4, .int x4)] → (∀ ls : Array Slot, lv_has ls 5 [(3, .int z3)] → mWR p l e R s m args below meth c r (F0 m 53 ls [])) → mWR p l e R s m args below meth c r (F0 m 11 ls []) := by
    intro x2 n
    induction n with
    | zero =>
      intro x3 x4 z3 h
      exact non_some h
    | succ n ih =>
      intro x3 x4 z3 h ls hl kx
      rw [T_open_L11] at h
      refine lv_iload hx hb dX2_open_11 (lv_at hl 3 rfl) ?_
      refine lv_aload_n hx hb dX2_open_13 rfl (lv_at hl 0 rfl) ?_
      refine tg_facts (t := t) C hO ht hP dX2_open_14 ?_
      refine lv_icmp_ge (tgt := 53) hx hb dX2_open_17 rfl (fun c2 => ?_) (fun c2 => ?_)
      · have h := if_some_t h c2
        cases h
        exact kx ls (lv_sub hl [2] rfl)
      · have h := if_some_f h c2
        refine lv_iload_n hx hb dX2_open_20 rfl (lv_at hl 2 rfl) ?_
        refine lv_iload_n hx hb dX2_open_21 rfl (lv_at hl 1 rfl) ?_
        refine lv_iload hx hb dX2_open_22 (lv_at hl 3 rfl) ?_
        obtain ⟨v3, hv3, h⟩ := bd1_some h
        refine k_L_isInN hx hb C.2.2.1 hown C.2.2.2.2.1 C.2.2.2.2.2.1 hNst (List.mem_of_getElem? (i := 42) rfl) hv3 (Nat.le_of_ble_eq_true rfl) hl.1 (Nat.le_of_ble_eq_true rfl) hcs dX2_open_24 ?_
        refine lv_if_eq (tgt := 44) hx hb dX2_open_27 rfl (fun c4 => ?_) (fun c4 => ?_)
        · have h := if_some_t h c4
          refine lv_iconst (v := 0) hx hb dX2_open_44 (by decide) ?_
          refine lv_iadd hx hb dX2_open_45 ?_
          refine lv_istore_n (lv' := [(3, .int (x3 + 0)), (0, .ref (ad (20 * t))), (2, .int x2), (4, .int x4)]) hx hb dX2_open_46 rfl hl (by decide) rfl (fun ls hl => ?_)
          refine lv_iinc (v := x4 + 1) (lv' := [(4, .int (x4 + 1)), (3, .int (x3 + 0)), (0, .ref (ad (20 * t))), (2, .int x2)]) hx hb dX2_open_47 hl (k := 3) rfl rfl (by decide) rfl (fun ls hl => ?_)
          refine lv_goto (tgt := 11) hx hb dX2_open_50 rfl ?_
          exact ih (x3 + 0) (x4 + 1) _ h ls (lv_sub hl [2, 3, 1, 0] rfl) kx
        · have h := if_some_f h c4
          refine lv_aload_n hx hb dX2_open_30 rfl (lv_at hl 0 rfl) ?_
          refine lv_iload_n hx hb dX2_open_31 rfl (lv_at hl 1 rfl) ?_
          refine lv_iload hx hb dX2_open_32 (lv_at hl 3 rfl) ?_
          obtain ⟨v5, hv5, h⟩ := bd1_some h
          refine k_T_isOpen (t := t) C hO ht hP hv5 q659 (Nat.le_of_ble_eq_true rfl) (Nat.le_refl _) hl.1 (Nat.le_of_ble_eq_true rfl) hcs dX2_open_34 ?_
          refine lv_if_eq (tgt := 44) hx hb dX2_open_37 rfl (fun c6 => ?_) (fun c6 => ?_)
          · have h := if_some_t h c6
            refine lv_iconst (v := 0) hx hb dX2_open_44 (by decide) ?_
            refine lv_iadd hx hb dX2_open_45 ?_
            refine lv_istore_n (lv' := [(3, .int (x3 + 0)), (0, .ref (ad (20 * t))), (2, .int x2), (4, .int x4)]) hx hb dX2_open_46 rfl hl (by decide) rfl (fun ls hl => ?_)
            refine lv_iinc (v := x4 + 1) (lv' := [(4, .int (x4 + 1)), (3, .int (x3 + 0)), (0, .ref (ad (20 * t))), (2, .int x2)]) hx hb dX2_open_47 hl (k := 3) rfl rfl (by decide) rfl (fun ls hl => ?_)
            refine lv_goto (tgt := 11) hx hb dX2_open_50 rfl ?_
            exact ih (x3 + 0) (x4 + 1) _ h ls (lv_sub hl [2, 3, 1, 0] rfl) kx
          · have h := if_some_f h c6
            refine lv_iconst (v := 1) hx hb dX2_open_40 (by decide) ?_
            refine lv_goto (tgt := 45) hx hb dX2_open_41 rfl ?_
            refine lv_iadd hx hb dX2_open_45 ?_
            refine lv_istore_n (lv' := [(3, .int (x3 + 1)), (0, .ref (ad (20 * t))), (2, .int x2), (4, .int x4)]) hx hb dX2_open_46 rfl hl (by decide) rfl (fun ls hl => ?_)
            refine lv_iinc (v := x4 + 1) (lv' := [(4, .int (x4 + 1)), (3, .int (x3 + 1)), (0, .ref (ad (20 * t))), (2, .int x2)]) hx hb dX2_open_47 hl (k := 3) rfl rfl (by decide) rfl (fun ls hl => ?_)
            refine lv_goto (tgt := 11) hx hb dX2_open_50 rfl ?_
            exact ih (x3 + 1) (x4 + 1) _ h ls (lv_sub hl [2, 3, 1, 0] rfl) kx
  rw [T_open] at h
  refine lv_aload_n hx hb dX2_open_0 rfl (lv_at hl 0 rfl) ?_
  refine lv_iload_n hx hb dX2_open_1 rfl (lv_at hl 1 rfl) ?_
  obtain ⟨v1, hv1, h⟩ := bd1_some h
  refine k_T_told (t := t) C hO ht hP hv1 q615 (Nat.le_of_ble_eq_true rfl) (Nat.le_refl _) hl.1 (Nat.le_of_ble_eq_true rfl) hcs dX2_open_2 ?_
  refine lv_istore_n (lv' := [(2, .int v1), (0, .ref (ad (20 * t))), (1, .int x1)]) hx hb dX2_open_5 rfl hl (by decide) rfl (fun ls hl => ?_)
  refine lv_iconst (v := 0) hx hb dX2_open_6 (by decide) ?_
  refine lv_istore_n (lv' := [(3, .int 0), (2, .int v1), (0, .ref (ad (20 * t))), (1, .int x1)]) hx hb dX2_open_7 rfl hl (by decide) rfl (fun ls hl => ?_)
  refine lv_iconst (v := 0) hx hb dX2_open_8 (by decide) ?_
  refine lv_istore (lv' := [(4, .int 0), (3, .int 0), (2, .int v1), (0, .ref (ad (20 * t))), (1, .int x1)]) hx hb dX2_open_9 hl (by decide) rfl (fun ls hl => ?_)
  obtain ⟨z7, hz8, h⟩ := bd1_some h
  refine L11 v1 N 0 0 _ hz8 ls (lv_sub hl [3, 2, 1, 0] rfl) (fun ls hl => ?_)
  refine lv_iload_n hx hb dX2_open_53 rfl (lv_at hl 0 rfl) ?_
  exact mm_iret hx hb hr hlk h dX2_open_54
theorem q658 : (Jvm.Cond.code ({ cls := "ChapterLoan$Town", name := "open", desc := "(I)I" } : Jvm.MethodName) prog_23_method_12_code (5 : Nat) (Option.some Jvm.ClassFile.FieldType.int)) ∈ lw_all := lw_g (lw_at lw_m3 94 rfl) rfl
theorem q656 : (Jvm.Cond.instanceMethod ({ cls := "ChapterLoan$Town", name := "open", desc := "(I)I" } : Jvm.MethodName)) ∈ lw_all := lw_g (lw_at lw_m3 92 rfl) rfl
theorem q657 : (Jvm.Cond.selects "ChapterLoan$Town" ({ cls := "ChapterLoan$Town", name := "open", desc := "(I)I" } : Jvm.MethodName) ({ cls := "ChapterLoan$Town", name := "open", desc := "(I)I" } : Jvm.MethodName)) ∈ lw_all := lw_g (lw_at lw_m3 93 rfl) rfl
theorem k_T_open {N : Nat} {a0 : Int32} {v : Int32} (C : cC p R d s m args c cc nL own D cA A) (hO : klOk A ks ad) (ht : t < 3) (hP : cW D cA ks ad st H) (h : T_open t N st a0 = some v) (hl : Cond.methodLink own index yX2_open ∈ lw_all) (hd : 2 + 1 ≤ d) (hz : s.heap.size ≤ H.size) (hsz : ls.size = nL) (hW : (rest.map fun v => v.category).sum ≤ 8) (hcs : cells ≤ R.cells ∧ slots ≤ R.slots) (hdg : decode cc pc = .ok (.invokevirtual index, 3)) (kk : W p l e R s m args below meth c H locs cells slots Q (F0 m (pc + 3) ls (.int v :: rest))) : W p l e R s m args below meth c H locs cells slots Q (F0 m pc ls (.int a0 :: .ref (ad (20 * t)) :: rest)) :=
  cc_cR (As := [.int a0]) C hP hz (w_T_open hO ht h) (cwV 1 C.2.2.2.2.1 (lw_V hl q656 q657 q90 q658) rfl rfl rfl (by decide +kernel) (mr_ C.2.2.2.2.2.1 hd (by decide))) (cc_recv C hP (hO.2.2.2 _ (tk0 ht)) (cg_t0 ht) (q := (RX2, TX2, 27)) rfl) rfl hsz rfl hW hdg hcs kk
abbrev cX2_isOverdue : ByteArray := prog_23_method_13_code
def yX2_isOverdue : MethodName := ⟨RX2, "isOverdue", "(I)Z"⟩
theorem dX2_isOverdue_0 : decode cX2_isOverdue 0 = .ok (.aload_n 0, 1) := by decide +kernel
theorem dX2_isOverdue_1 : decode cX2_isOverdue 1 = .ok (.iload_n 1, 1) := by decide +kernel
theorem dX2_isOverdue_2 : decode cX2_isOverdue 2 = .ok (.invokevirtual 133, 3) := by decide +kernel
theorem dX2_isOverdue_5 : decode cX2_isOverdue 5 = .ok (.istore_n 2, 1) := by decide +kernel
theorem dX2_isOverdue_6 : decode cX2_isOverdue 6 = .ok (.iconst 0, 1) := by decide +kernel
theorem dX2_isOverdue_7 : decode cX2_isOverdue 7 = .ok (.istore_n 3, 1) := by decide +kernel
theorem dX2_isOverdue_8 : decode cX2_isOverdue 8 = .ok (.iconst 0, 1) := by decide +kernel
theorem dX2_isOverdue_9 : decode cX2_isOverdue 9 = .ok (.istore 4, 2) := by decide +kernel
theorem dX2_isOverdue_11 : decode cX2_isOverdue 11 = .ok (.iload 4, 2) := by decide +kernel
theorem dX2_isOverdue_13 : decode cX2_isOverdue 13 = .ok (.aload_n 0, 1) := by decide +kernel
theorem dX2_isOverdue_14 : decode cX2_isOverdue 14 = .ok (.getfield 40, 3) := by decide +kernel
theorem dX2_isOverdue_17 : decode cX2_isOverdue 17 = .ok (.iload_n 1, 1) := by decide +kernel
theorem dX2_isOverdue_18 : decode cX2_isOverdue 18 = .ok (.iaload, 1) := by decide +kernel
theorem dX2_isOverdue_19 : decode cX2_isOverdue 19 = .ok (.if_icmp .ge 63, 3) := by decide +kernel
theorem dX2_isOverdue_22 : decode cX2_isOverdue 22 = .ok (.aload_n 0, 1) := by decide +kernel
theorem dX2_isOverdue_23 : decode cX2_isOverdue 23 = .ok (.iload_n 1, 1) := by decide +kernel
theorem dX2_isOverdue_24 : decode cX2_isOverdue 24 = .ok (.iload 4, 2) := by decide +kernel
theorem dX2_isOverdue_26 : decode cX2_isOverdue 26 = .ok (.invokevirtual 130, 3) := by decide +kernel
theorem dX2_isOverdue_29 : decode cX2_isOverdue 29 = .ok (.istore 5, 2) := by decide +kernel
theorem dX2_isOverdue_31 : decode cX2_isOverdue 31 = .ok (.iload_n 3, 1) := by decide +kernel
theorem dX2_isOverdue_32 : decode cX2_isOverdue 32 = .ok (.aload_n 0, 1) := by decide +kernel
theorem dX2_isOverdue_33 : decode cX2_isOverdue 33 = .ok (.iload_n 2, 1) := by decide +kernel
theorem dX2_isOverdue_34 : decode cX2_isOverdue 34 = .ok (.iload 5, 2) := by decide +kernel
theorem dX2_isOverdue_36 : decode cX2_isOverdue 36 = .ok (.invokevirtual 155, 3) := by decide +kernel
theorem dX2_isOverdue_39 : decode cX2_isOverdue 39 = .ok (.ifCond .eq 34, 3) := by decide +kernel
theorem dX2_isOverdue_42 : decode cX2_isOverdue 42 = .ok (.aload_n 0, 1) := by decide +kernel
theorem dX2_isOverdue_43 : decode cX2_isOverdue 43 = .ok (.getfield 97, 3) := by decide +kernel
theorem dX2_isOverdue_46 : decode cX2_isOverdue 46 = .ok (.aload_n 0, 1) := by decide +kernel
theorem dX2_isOverdue_47 : decode cX2_isOverdue 47 = .ok (.getfield 46, 3) := by decide +kernel
theorem dX2_isOverdue_50 : decode cX2_isOverdue 50 = .ok (.bipush 8, 2) := by decide +kernel
theorem dX2_isOverdue_52 : decode cX2_isOverdue 52 = .ok (.iload_n 1, 1) := by decide +kernel
theorem dX2_isOverdue_53 : decode cX2_isOverdue 53 = .ok (.imul, 1) := by decide +kernel
theorem dX2_isOverdue_54 : decode cX2_isOverdue 54 = .ok (.iload 4, 2) := by decide +kernel
theorem dX2_isOverdue_56 : decode cX2_isOverdue 56 = .ok (.iadd, 1) := by decide +kernel
theorem dX2_isOverdue_57 : decode cX2_isOverdue 57 = .ok (.iaload, 1) := by decide +kernel
theorem dX2_isOverdue_58 : decode cX2_isOverdue 58 = .ok (.aload_n 0, 1) := by decide +kernel
theorem dX2_isOverdue_59 : decode cX2_isOverdue 59 = .ok (.getfield 18, 3) := by decide +kernel
theorem dX2_isOverdue_62 : decode cX2_isOverdue 62 = .ok (.iload 5, 2) := by decide +kernel
theorem dX2_isOverdue_64 : decode cX2_isOverdue 64 = .ok (.iaload, 1) := by decide +kernel
theorem dX2_isOverdue_65 : decode cX2_isOverdue 65 = .ok (.iadd, 1) := by decide +kernel
theorem dX2_isOverdue_66 : decode cX2_isOverdue 66 = .ok (.if_icmp .lt 7, 3) := by decide +kernel
theorem dX2_isOverdue_69 : decode cX2_isOverdue 69 = .ok (.iconst 1, 1) := by decide +kernel
theorem dX2_isOverdue_70 : decode cX2_isOverdue 70 = .ok (.goto 4, 3) := by decide +kernel
theorem dX2_isOverdue_73 : decode cX2_isOverdue 73 = .ok (.iconst 0, 1) := by decide +kernel
theorem dX2_isOverdue_74 : decode cX2_isOverdue 74 = .ok (.ior, 1) := by decide +kernel
theorem dX2_isOverdue_75 : decode cX2_isOverdue 75 = .ok (.istore_n 3, 1) := by decide +kernel
theorem dX2_isOverdue_76 : decode cX2_isOverdue 76 = .ok (.iinc 4 1, 3) := by decide +kernel
theorem dX2_isOverdue_79 : decode cX2_isOverdue 79 = .ok (.goto (-68), 3) := by decide +kernel
theorem dX2_isOverdue_82 : decode cX2_isOverdue 82 = .ok (.iload_n 3, 1) := by decide +kernel
theorem dX2_isOverdue_83 : decode cX2_isOverdue 83 = .ok (.ireturn, 1) := by decide +kernel
theorem w_T_isOverdue {l : Launch} {D : va_G} {cA : Nat → ClassId} {ks : List Nat} {ad : Nat → Nat} {A : Nat → Prop} (hO : klOk A ks ad) {t : Nat} (ht : t < 3) {st : CS} {N : Nat} {x1 : Int32} {r : Int32} (h : T_isOverdue t N st x1 = some r) : cR l yX2_isOverdue cX2_isOverdue 6 (some .boolean) 2 D cA ks ad A st [.ref (ad (20 * t)), .int x1] r := by
  refine cc_ofR (own := RX2) (by decide) rfl (Nat.le_of_ble_eq_true rfl) (fun p e s m below meth c R args ls C hr hlk hP hl hcs => ?_)
  have hx := C.1
  have hb := C.2.1
  have hown := C.2.2.2.1
  have hNst := C.2.2.2.2.2.2.2.1
  have hl : lv_has ls 6 [(0, .ref (ad (20 * t))), (1, .int x1)] := hl
  have L11 : ∀ (x1 : Int32), ∀ (x2 : Int32), ∀ (n : Nat) (x3 : Int32) (x4 : Int32) (z3 : Int32), T_isOverdue_L11 N t st x1 x2 n x3 x4 = some z3 → ∀ ls : Array Slot, lv_has ls 6 [(0, .ref (ad (20 * t))), (1, .int x1), (2, .int x2), (3, .int x3), (4, .int x4)] → (∀ ls : Array Slot, lv_has ls 6 [(3, .int z3)] → mWR p l e R s m args below meth c r (F0 m 82 ls [])) → mWR p l e R s m args below meth c r (F0 m 11 ls []) := by
    intro x1 x2 n
    induction n with
    | zero =>
      intro x3 x4 z3 h
      exact non_some h
    | succ n ih =>
      intro x3 x4 z3 h ls hl kx
      rw [T_isOverdue_L11] at h
      refine lv_iload hx hb dX2_isOverdue_11 (lv_at hl 4 rfl) ?_
      refine lv_aload_n hx hb dX2_isOverdue_13 rfl (lv_at hl 0 rfl) ?_
      refine tg_many (t := t) C hO ht hP dX2_isOverdue_14 ?_
      refine lv_iload_n hx hb dX2_isOverdue_17 rfl (lv_at hl 1 rfl) ?_
      obtain ⟨v2, hv2, h⟩ := bd1_some h
      refine cc_ild C hP (hO.2.2.2 _ (tk_ 8 ht (by decide))) (cg_t 8 ht (by decide)) hv2 dX2_isOverdue_18 ?_
      refine lv_icmp_ge (tgt := 82) hx hb dX2_isOverdue_19 rfl (fun c3 => ?_) (fun c3 => ?_)
      · have h := if_some_t h c3
        cases h
        exact kx ls (lv_sub hl [3] rfl)
      · have h := if_some_f h c3
        refine lv_aload_n hx hb dX2_isOverdue_22 rfl (lv_at hl 0 rfl) ?_
        refine lv_iload_n hx hb dX2_isOverdue_23 rfl (lv_at hl 1 rfl) ?_
        refine lv_iload hx hb dX2_isOverdue_24 (lv_at hl 4 rfl) ?_
        obtain ⟨v4, hv4, h⟩ := bd1_some h
        refine k_T_factAt (t := t) C hO ht hP hv4 q435 (Nat.le_of_ble_eq_true rfl) (Nat.le_refl _) hl.1 (Nat.le_of_ble_eq_true rfl) hcs dX2_isOverdue_26 ?_
        refine lv_istore (lv' := [(5, .int v4), (0, .ref (ad (20 * t))), (1, .int x1), (2, .int x2), (3, .int x3), (4, .int x4)]) hx hb dX2_isOverdue_29 hl (by decide) rfl (fun ls hl => ?_)
        refine lv_iload_n hx hb dX2_isOverdue_31 rfl (lv_at hl 4 rfl) ?_
        refine lv_aload_n hx hb dX2_isOverdue_32 rfl (lv_at hl 1 rfl) ?_
        refine lv_iload_n hx hb dX2_isOverdue_33 rfl (lv_at hl 3 rfl) ?_
        refine lv_iload hx hb dX2_isOverdue_34 (lv_at hl 0 rfl) ?_
        obtain ⟨v5, hv5, h⟩ := bd1_some h
        refine k_T_isOpen (t := t) C hO ht hP hv5 q659 (Nat.le_of_ble_eq_true rfl) (Nat.le_refl _) hl.1 (Nat.le_of_ble_eq_true rfl) hcs dX2_isOverdue_36 ?_
        refine lv_if_eq (tgt := 73) hx hb dX2_isOverdue_39 rfl (fun c6 => ?_) (fun c6 => ?_)
        · have h := if_some_t h c6
          refine lv_iconst (v := 0) hx hb dX2_isOverdue_73 (by decide) ?_
          refine lv_ior hx hb dX2_isOverdue_74 ?_
          refine lv_istore_n (lv' := [(3, .int (x3 ||| 0)), (5, .int v4), (0, .ref (ad (20 * t))), (1, .int x1), (2, .int x2), (4, .int x4)]) hx hb dX2_isOverdue_75 rfl hl (by decide) rfl (fun ls hl => ?_)
          refine lv_iinc (v := x4 + 1) (lv' := [(4, .int (x4 + 1)), (3, .int (x3 ||| 0)), (5, .int v4), (0, .ref (ad (20 * t))), (1, .int x1), (2, .int x2)]) hx hb dX2_isOverdue_76 hl (k := 5) rfl rfl (by decide) rfl (fun ls hl => ?_)
          refine lv_goto (tgt := 11) hx hb dX2_isOverdue_79 rfl ?_
          exact ih (x3 ||| 0) (x4 + 1) _ h ls (lv_sub hl [3, 4, 5, 1, 0] rfl) kx
        · have h := if_some_f h c6
          refine lv_aload_n hx hb dX2_isOverdue_42 rfl (lv_at hl 1 rfl) ?_
          refine tg_week (t := t) C hO ht hP dX2_isOverdue_43 ?_
          refine lv_aload_n hx hb dX2_isOverdue_46 rfl (lv_at hl 1 rfl) ?_
          refine tg_bookWeek (t := t) C hO ht hP dX2_isOverdue_47 ?_
          refine lv_bipush (v := 8) hx hb dX2_isOverdue_50 (by decide) ?_
          refine lv_iload_n hx hb dX2_isOverdue_52 rfl (lv_at hl 2 rfl) ?_
          refine lv_imul hx hb dX2_isOverdue_53 ?_
          refine lv_iload hx hb dX2_isOverdue_54 (lv_at hl 5 rfl) ?_
          refine lv_iadd hx hb dX2_isOverdue_56 ?_
          obtain ⟨v7, hv7, h⟩ := bd1_some h
          refine cc_ild C hP (hO.2.2.2 _ (tk_ 10 ht (by decide))) (cg_t 10 ht (by decide)) hv7 dX2_isOverdue_57 ?_
          refine lv_aload_n hx hb dX2_isOverdue_58 rfl (lv_at hl 1 rfl) ?_
          refine tg_within (t := t) C hO ht hP dX2_isOverdue_59 ?_
          refine lv_iload hx hb dX2_isOverdue_62 (lv_at hl 0 rfl) ?_
          obtain ⟨v8, hv8, h⟩ := bd1_some h
          refine cc_ild C hP (hO.2.2.2 _ (tk_ 3 ht (by decide))) (cg_t 3 ht (by decide)) hv8 dX2_isOverdue_64 ?_
          refine lv_iadd hx hb dX2_isOverdue_65 ?_
          refine lv_icmp_lt (tgt := 73) hx hb dX2_isOverdue_66 rfl (fun c9 => ?_) (fun c9 => ?_)
          · have h := if_some_t h c9
            refine lv_iconst (v := 0) hx hb dX2_isOverdue_73 (by decide) ?_
            refine lv_ior hx hb dX2_isOverdue_74 ?_
            refine lv_istore_n (lv' := [(3, .int (x3 ||| 0)), (5, .int v4), (0, .ref (ad (20 * t))), (1, .int x1), (2, .int x2), (4, .int x4)]) hx hb dX2_isOverdue_75 rfl hl (by decide) rfl (fun ls hl => ?_)
            refine lv_iinc (v := x4 + 1) (lv' := [(4, .int (x4 + 1)), (3, .int (x3 ||| 0)), (5, .int v4), (0, .ref (ad (20 * t))), (1, .int x1), (2, .int x2)]) hx hb dX2_isOverdue_76 hl (k := 5) rfl rfl (by decide) rfl (fun ls hl => ?_)
            refine lv_goto (tgt := 11) hx hb dX2_isOverdue_79 rfl ?_
            exact ih (x3 ||| 0) (x4 + 1) _ h ls (lv_sub hl [3, 4, 5, 1, 0] rfl) kx
          · have h := if_some_f h c9
            refine lv_iconst (v := 1) hx hb dX2_isOverdue_69 (by decide) ?_
            refine lv_goto (tgt := 74) hx hb dX2_isOverdue_70 rfl ?_
            refine lv_ior hx hb dX2_isOverdue_74 ?_
            refine lv_istore_n (lv' := [(3, .int (x3 ||| 1)), (5, .int v4), (0, .ref (ad (20 * t))), (1, .int x1), (2, .int x2), (4, .int x4)]) hx hb dX2_isOverdue_75 rfl hl (by decide) rfl (fun ls hl => ?_)
            refine lv_iinc (v := x4 + 1) (lv' := [(4, .int (x4 + 1)), (3, .int (x3 ||| 1)), (5, .int v4), (0, .ref (ad (20 * t))), (1, .int x1), (2, .int x2)]) hx hb dX2_isOverdue_76 hl (k := 5) rfl rfl (by decide) rfl (fun ls hl => ?_)
            refine lv_goto (tgt := 11) hx hb dX2_isOverdue_79 rfl ?_
            exact ih (x3 ||| 1) (x4 + 1) _ h ls (lv_sub hl [3, 4, 5, 1, 0] rfl) kx
  rw [T_isOverdue] at h
  refine lv_aload_n hx hb dX2_isOverdue_0 rfl (lv_at hl 0 rfl) ?_
  refine lv_iload_n hx hb dX2_isOverdue_1 rfl (lv_at hl 1 rfl) ?_
  obtain ⟨v1, hv1, h⟩ := bd1_some h
  refine k_T_told (t := t) C hO ht hP hv1 q615 (Nat.le_of_ble_eq_true rfl) (Nat.le_refl _) hl.1 (Nat.le_of_ble_eq_true rfl) hcs dX2_isOverdue_2 ?_
  refine lv_istore_n (lv' := [(2, .int v1), (0, .ref (ad (20 * t))), (1, .int x1)]) hx hb dX2_isOverdue_5 rfl hl (by decide) rfl (fun ls hl => ?_)
  refine lv_iconst (v := 0) hx hb dX2_isOverdue_6 (by decide) ?_
  refine lv_istore_n (lv' := [(3, .int 0), (2, .int v1), (0, .ref (ad (20 * t))), (1, .int x1)]) hx hb dX2_isOverdue_7 rfl hl (by decide) rfl (fun ls hl => ?_)
  refine lv_iconst (v := 0) hx hb dX2_isOverdue_8 (by decide) ?_
  refine lv_istore (lv' := [(4, .int 0), (3, .int 0), (2, .int v1), (0, .ref (ad (20 * t))), (1, .int x1)]) hx hb dX2_isOverdue_9 hl (by decide) rfl (fun ls hl => ?_)
  obtain ⟨z10, hz11, h⟩ := bd1_some h
  refine L11 x1 v1 N 0 0 _ hz11 ls (lv_sub hl [3, 4, 2, 1, 0] rfl) (fun ls hl => ?_)
  refine lv_iload_n hx hb dX2_isOverdue_82 rfl (lv_at hl 0 rfl) ?_
  exact mm_zretV hx hb hr hlk h dX2_isOverdue_83
theorem q828 : (Jvm.Cond.code ({ cls := "ChapterLoan$Town", name := "isOverdue", desc := "(I)Z" } : Jvm.MethodName) prog_23_method_13_code (6 : Nat) (Option.some Jvm.ClassFile.FieldType.boolean)) ∈ lw_all := lw_g (lw_at lw_m4 24 rfl) rfl
theorem q826 : (Jvm.Cond.instanceMethod ({ cls := "ChapterLoan$Town", name := "isOverdue", desc := "(I)Z" } : Jvm.MethodName)) ∈ lw_all := lw_g (lw_at lw_m4 22 rfl) rfl
theorem q827 : (Jvm.Cond.selects "ChapterLoan$Town" ({ cls := "ChapterLoan$Town", name := "isOverdue", desc := "(I)Z" } : Jvm.MethodName) ({ cls := "ChapterLoan$Town", name := "isOverdue", desc := "(I)Z" } : Jvm.MethodName)) ∈ lw_all := lw_g (lw_at lw_m4 23 rfl) rfl
theorem k_T_isOverdue {N : Nat} {a0 : Int32} {v : Int32} (C : cC p R d s m args c cc nL own D cA A) (hO : klOk A ks ad) (ht : t < 3) (hP : cW D cA ks ad st H) (h : T_isOverdue t N st a0 = some v) (hl : Cond.methodLink own index yX2_isOverdue ∈ lw_all) (hd : 2 + 1 ≤ d) (hz : s.heap.size ≤ H.size) (hsz : ls.size = nL) (hW : (rest.map fun v => v.category).sum ≤ 8) (hcs : cells ≤ R.cells ∧ slots ≤ R.slots) (hdg : decode cc pc = .ok (.invokevirtual index, 3)) (kk : W p l e R s m args below meth c H locs cells slots Q (F0 m (pc + 3) ls (.int v :: rest))) : W p l e R s m args below meth c H locs cells slots Q (F0 m pc ls (.int a0 :: .ref (ad (20 * t)) :: rest)) :=
  cc_cR (As := [.int a0]) C hP hz (w_T_isOverdue hO ht h) (cwV 1 C.2.2.2.2.1 (lw_V hl q826 q827 q90 q828) rfl rfl rfl (by decide +kernel) (mr_ C.2.2.2.2.2.1 hd (by decide))) (cc_recv C hP (hO.2.2.2 _ (tk0 ht)) (cg_t0 ht) (q := (RX2, TX2, 27)) rfl) rfl hsz rfl hW hdg hcs kk
abbrev cX2_writes : ByteArray := prog_23_method_14_code
def yX2_writes : MethodName := ⟨RX2, "writes", "(II)V"⟩
theorem dX2_writes_0 : decode cX2_writes 0 = .ok (.aload_n 0, 1) := by decide +kernel
theorem dX2_writes_1 : decode cX2_writes 1 = .ok (.getfield 43, 3) := by decide +kernel
theorem dX2_writes_4 : decode cX2_writes 4 = .ok (.bipush 8, 2) := by decide +kernel
theorem dX2_writes_6 : decode cX2_writes 6 = .ok (.iload_n 1, 1) := by decide +kernel
theorem dX2_writes_7 : decode cX2_writes 7 = .ok (.imul, 1) := by decide +kernel
theorem dX2_writes_8 : decode cX2_writes 8 = .ok (.aload_n 0, 1) := by decide +kernel
theorem dX2_writes_9 : decode cX2_writes 9 = .ok (.getfield 40, 3) := by decide +kernel
theorem dX2_writes_12 : decode cX2_writes 12 = .ok (.iload_n 1, 1) := by decide +kernel
theorem dX2_writes_13 : decode cX2_writes 13 = .ok (.iaload, 1) := by decide +kernel
theorem dX2_writes_14 : decode cX2_writes 14 = .ok (.iadd, 1) := by decide +kernel
theorem dX2_writes_15 : decode cX2_writes 15 = .ok (.iload_n 2, 1) := by decide +kernel
theorem dX2_writes_16 : decode cX2_writes 16 = .ok (.iastore, 1) := by decide +kernel
theorem dX2_writes_17 : decode cX2_writes 17 = .ok (.aload_n 0, 1) := by decide +kernel
theorem dX2_writes_18 : decode cX2_writes 18 = .ok (.getfield 46, 3) := by decide +kernel
theorem dX2_writes_21 : decode cX2_writes 21 = .ok (.bipush 8, 2) := by decide +kernel
theorem dX2_writes_23 : decode cX2_writes 23 = .ok (.iload_n 1, 1) := by decide +kernel
theorem dX2_writes_24 : decode cX2_writes 24 = .ok (.imul, 1) := by decide +kernel
theorem dX2_writes_25 : decode cX2_writes 25 = .ok (.aload_n 0, 1) := by decide +kernel
theorem dX2_writes_26 : decode cX2_writes 26 = .ok (.getfield 40, 3) := by decide +kernel
theorem dX2_writes_29 : decode cX2_writes 29 = .ok (.iload_n 1, 1) := by decide +kernel
theorem dX2_writes_30 : decode cX2_writes 30 = .ok (.iaload, 1) := by decide +kernel
theorem dX2_writes_31 : decode cX2_writes 31 = .ok (.iadd, 1) := by decide +kernel
theorem dX2_writes_32 : decode cX2_writes 32 = .ok (.aload_n 0, 1) := by decide +kernel
theorem dX2_writes_33 : decode cX2_writes 33 = .ok (.getfield 97, 3) := by decide +kernel
theorem dX2_writes_36 : decode cX2_writes 36 = .ok (.iastore, 1) := by decide +kernel
theorem dX2_writes_37 : decode cX2_writes 37 = .ok (.aload_n 0, 1) := by decide +kernel
theorem dX2_writes_38 : decode cX2_writes 38 = .ok (.getfield 40, 3) := by decide +kernel
theorem dX2_writes_41 : decode cX2_writes 41 = .ok (.iload_n 1, 1) := by decide +kernel
theorem dX2_writes_42 : decode cX2_writes 42 = .ok (.dup2, 1) := by decide +kernel
theorem dX2_writes_43 : decode cX2_writes 43 = .ok (.iaload, 1) := by decide +kernel
theorem dX2_writes_44 : decode cX2_writes 44 = .ok (.iconst 1, 1) := by decide +kernel
theorem dX2_writes_45 : decode cX2_writes 45 = .ok (.iadd, 1) := by decide +kernel
theorem dX2_writes_46 : decode cX2_writes 46 = .ok (.iastore, 1) := by decide +kernel
theorem dX2_writes_47 : decode cX2_writes 47 = .ok (.return_, 1) := by decide +kernel
theorem w_T_writes {l : Launch} {D : va_G} {cA : Nat → ClassId} {ks : List Nat} {ad : Nat → Nat} {A : Nat → Prop} (hO : klOk A ks ad) {t : Nat} (ht : t < 3) {st st' : CS} {x1 : Int32} {x2 : Int32} (h : T_writes t st x1 x2 = some st') : cV l yX2_writes cX2_writes 3 none 0 D cA ks ad A st [.ref (ad (20 * t)), .int x1, .int x2] none st' := by
  refine cc_ofV (own := RX2) (by decide) rfl (Nat.le_of_ble_eq_true rfl) (fun p e s m below meth c R args ls C hr hlk hP hS hl hcs => ?_)
  have hx := C.1
  have hb := C.2.1
  have hown := C.2.2.2.1
  have hNst := C.2.2.2.2.2.2.2.1
  have hl : lv_has ls 3 [(0, .ref (ad (20 * t))), (1, .int x1), (2, .int x2)] := hl
  rw [T_writes] at h
  refine lv_aload_n hx hb dX2_writes_0 rfl (lv_at hl 0 rfl) ?_
  refine tg_bookFact (t := t) C hO ht hP dX2_writes_1 ?_
  refine lv_bipush (v := 8) hx hb dX2_writes_4 (by decide) ?_
  refine lv_iload_n hx hb dX2_writes_6 rfl (lv_at hl 1 rfl) ?_
  refine lv_imul hx hb dX2_writes_7 ?_
  refine lv_aload_n hx hb dX2_writes_8 rfl (lv_at hl 0 rfl) ?_
  refine tg_many (t := t) C hO ht hP dX2_writes_9 ?_
  refine lv_iload_n hx hb dX2_writes_12 rfl (lv_at hl 1 rfl) ?_
  obtain ⟨v1, hv1, h⟩ := bd1_some h
  refine cc_ild C hP (hO.2.2.2 _ (tk_ 8 ht (by decide))) (cg_t 8 ht (by decide)) hv1 dX2_writes_13 ?_
  refine lv_iadd hx hb dX2_writes_14 ?_
  refine lv_iload_n hx hb dX2_writes_15 rfl (lv_at hl 2 rfl) ?_
  obtain ⟨b2, hb2, h⟩ := bd1_some h
  refine cc_ist C hO hP hS (hO.2.2.2 _ (tk_ 9 ht (by decide))) (cg_t 9 ht (by decide)) hb2 (cg_At 9 ht (by decide)) hP.2 dX2_writes_16 (fun H locs hP hS => ?_)
  refine lv_aload_n hx hb dX2_writes_17 rfl (lv_at hl 0 rfl) ?_
  refine tg_bookWeek (t := t) C hO ht hP dX2_writes_18 ?_
  refine lv_bipush (v := 8) hx hb dX2_writes_21 (by decide) ?_
  refine lv_iload_n hx hb dX2_writes_23 rfl (lv_at hl 1 rfl) ?_
  refine lv_imul hx hb dX2_writes_24 ?_
  refine lv_aload_n hx hb dX2_writes_25 rfl (lv_at hl 0 rfl) ?_
  refine tg_many (t := t) C hO ht hP dX2_writes_26 ?_
  refine lv_iload_n hx hb dX2_writes_29 rfl (lv_at hl 1 rfl) ?_
  obtain ⟨v3, hv3, h⟩ := bd1_some h
  refine cc_ild C hP (hO.2.2.2 _ (tk_ 8 ht (by decide))) (cg_t 8 ht (by decide)) hv3 dX2_writes_30 ?_
  refine lv_iadd hx hb dX2_writes_31 ?_
  refine lv_aload_n hx hb dX2_writes_32 rfl (lv_at hl 0 rfl) ?_
  refine tg_week (t := t) C hO ht hP dX2_writes_33 ?_
  obtain ⟨b4, hb4, h⟩ := bd1_some h
  refine cc_ist C hO hP hS (hO.2.2.2 _ (tk_ 10 ht (by decide))) (cg_t 10 ht (by decide)) hb4 (cg_At 10 ht (by decide)) hP.2 dX2_writes_36 (fun H locs hP hS => ?_)
  refine lv_aload_n hx hb dX2_writes_37 rfl (lv_at hl 0 rfl) ?_
  refine tg_many (t := t) C hO ht hP dX2_writes_38 ?_
  refine lv_iload_n hx hb dX2_writes_41 rfl (lv_at hl 1 rfl) ?_
  refine lv_dup2_11 hx hb dX2_writes_42 rfl rfl ?_
  obtain ⟨v5, hv5, h⟩ := bd1_some h
  refine cc_ild C hP (hO.2.2.2 _ (tk_ 8 ht (by decide))) (cg_t 8 ht (by decide)) hv5 dX2_writes_43 ?_
  refine lv_iconst (v := 1) hx hb dX2_writes_44 (by decide) ?_
  refine lv_iadd hx hb dX2_writes_45 ?_
  obtain ⟨b6, hb6, h⟩ := bd1_some h
  refine cc_ist C hO hP hS (hO.2.2.2 _ (tk_ 8 ht (by decide))) (cg_t 8 ht (by decide)) hb6 (cg_At 8 ht (by decide)) hP.2 dX2_writes_46 (fun H locs hP hS => ?_)
  exact cc_vret hx hb hr hlk h hP hS dX2_writes_47
theorem q793 : (Jvm.Cond.code ({ cls := "ChapterLoan$Town", name := "writes", desc := "(II)V" } : Jvm.MethodName) prog_23_method_14_code (3 : Nat) (Option.none : Option Jvm.ClassFile.FieldType)) ∈ lw_all := lw_g (lw_at lw_m3 229 rfl) rfl
theorem q791 : (Jvm.Cond.instanceMethod ({ cls := "ChapterLoan$Town", name := "writes", desc := "(II)V" } : Jvm.MethodName)) ∈ lw_all := lw_g (lw_at lw_m3 227 rfl) rfl
theorem q792 : (Jvm.Cond.selects "ChapterLoan$Town" ({ cls := "ChapterLoan$Town", name := "writes", desc := "(II)V" } : Jvm.MethodName) ({ cls := "ChapterLoan$Town", name := "writes", desc := "(II)V" } : Jvm.MethodName)) ∈ lw_all := lw_g (lw_at lw_m3 228 rfl) rfl
theorem k_T_writes {a0 : Int32} {a1 : Int32} {st' : CS} (C : cC p R d s m args c cc nL own D cA A) (hO : klOk A ks ad) (ht : t < 3) (hP : cW D cA ks ad st H) (hS : va_S A s.heap H locs) (h : T_writes t st a0 a1 = some st') (hl : Cond.methodLink own index yX2_writes ∈ lw_all) (hd : 0 + 1 ≤ d) (hsz : ls.size = nL) (hW : (rest.map fun v => v.category).sum ≤ 8) (hcs : cells ≤ R.cells ∧ slots ≤ R.slots) (hdg : decode cc pc = .ok (.invokevirtual index, 3)) (kk : ∀ (H1 : Heap) (locs1 : List Loc), cW D cA ks ad st' H1 → va_S A s.heap H1 locs1 → W p l e R s m args below meth c H1 locs1 cells slots Q (F0 m (pc + 3) ls (rest))) : W p l e R s m args below meth c H locs cells slots Q (F0 m pc ls (.int a1 :: .int a0 :: .ref (ad (20 * t)) :: rest)) :=
  cc_cV (As := [.int a0, .int a1]) C hP hS (w_T_writes hO ht h) (cwV 2 C.2.2.2.2.1 (lw_V hl q791 q792 q90 q793) rfl rfl rfl (by decide +kernel) (mr_ C.2.2.2.2.2.1 hd (by decide))) (cc_recv C hP (hO.2.2.2 _ (tk0 ht)) (cg_t0 ht) (q := (RX2, TX2, 27)) rfl) rfl hsz rfl hW hdg hcs kk
abbrev cX2_draw : ByteArray := prog_23_method_20_code
def yX2_draw : MethodName := ⟨RX2, "draw", "()I"⟩
theorem dX2_draw_0 : decode cX2_draw 0 = .ok (.aload_n 0, 1) := by decide +kernel
theorem dX2_draw_1 : decode cX2_draw 1 = .ok (.aload_n 0, 1) := by decide +kernel
theorem dX2_draw_2 : decode cX2_draw 2 = .ok (.getfield 64, 3) := by decide +kernel
theorem dX2_draw_5 : decode cX2_draw 5 = .ok (.ldc 200, 2) := by decide +kernel
theorem dX2_draw_7 : decode cX2_draw 7 = .ok (.imul, 1) := by decide +kernel
theorem dX2_draw_8 : decode cX2_draw 8 = .ok (.sipush 12345, 3) := by decide +kernel
theorem dX2_draw_11 : decode cX2_draw 11 = .ok (.iadd, 1) := by decide +kernel
theorem dX2_draw_12 : decode cX2_draw 12 = .ok (.putfield 64, 3) := by decide +kernel
theorem dX2_draw_15 : decode cX2_draw 15 = .ok (.aload_n 0, 1) := by decide +kernel
theorem dX2_draw_16 : decode cX2_draw 16 = .ok (.getfield 64, 3) := by decide +kernel
theorem dX2_draw_19 : decode cX2_draw 19 = .ok (.bipush 8, 2) := by decide +kernel
theorem dX2_draw_21 : decode cX2_draw 21 = .ok (.iushr, 1) := by decide +kernel
theorem dX2_draw_22 : decode cX2_draw 22 = .ok (.ireturn, 1) := by decide +kernel
theorem q845 : (Jvm.Cond.constant "ChapterLoan$Town" (200 : Nat) (1103515245 : Int32)) ∈ lw_all := lw_g (lw_at lw_m4 41 rfl) rfl
theorem w_T_draw {l : Launch} {D : va_G} {cA : Nat → ClassId} {ks : List Nat} {ad : Nat → Nat} {A : Nat → Prop} (hO : klOk A ks ad) {t : Nat} (ht : t < 3) {st st' : CS} {r0 : Int32} (h : T_draw t st = some (r0, st')) : cV l yX2_draw cX2_draw 1 (some .int) 0 D cA ks ad A st [.ref (ad (20 * t))] (some (.int r0)) st' := by
  refine cc_ofV (own := RX2) (by decide) rfl (Nat.le_of_ble_eq_true rfl) (fun p e s m below meth c R args ls C hr hlk hP hS hl hcs => ?_)
  have hx := C.1
  have hb := C.2.1
  have hown := C.2.2.2.1
  have hNst := C.2.2.2.2.2.2.2.1
  have hl : lv_has ls 1 [(0, .ref (ad (20 * t)))] := hl
  rw [T_draw] at h
  refine lv_aload_n hx hb dX2_draw_0 rfl (lv_at hl 0 rfl) ?_
  refine lv_aload_n hx hb dX2_draw_1 rfl (lv_at hl 0 rfl) ?_
  refine tg_z (t := t) C hO ht hP dX2_draw_2 ?_
  refine lv_ldc hx hb hown (C.2.2.2.2.1 _ q845) dX2_draw_5 ?_
  refine lv_imul hx hb dX2_draw_7 ?_
  refine lv_sipush (v := 12345) hx hb dX2_draw_8 (by decide) ?_
  refine lv_iadd hx hb dX2_draw_11 ?_
  refine tp_z (t := t) C hO ht hP hS dX2_draw_12 (fun H locs hP hS => ?_)
  refine lv_aload_n hx hb dX2_draw_15 rfl (lv_at hl 0 rfl) ?_
  refine tg_z (t := t) C hO ht hP dX2_draw_16 ?_
  refine lv_bipush (v := 8) hx hb dX2_draw_19 (by decide) ?_
  refine lv_iushr (v := (((csF st (20 * t) 19 (((st.1 (20 * t) 19) * 1103515245) + 12345)).1 (20 * t) 19).toUInt32 >>> ((8 : Int32).toUInt32 &&& Int32.toUInt32 31)).toInt32) hx hb dX2_draw_21 rfl ?_
  exact cc_viret hx hb hr hlk h hP hS dX2_draw_22
theorem q844 : (Jvm.Cond.code ({ cls := "ChapterLoan$Town", name := "draw", desc := "()I" } : Jvm.MethodName) prog_23_method_20_code (1 : Nat) (Option.some Jvm.ClassFile.FieldType.int)) ∈ lw_all := lw_g (lw_at lw_m4 40 rfl) rfl
theorem q842 : (Jvm.Cond.instanceMethod ({ cls := "ChapterLoan$Town", name := "draw", desc := "()I" } : Jvm.MethodName)) ∈ lw_all := lw_g (lw_at lw_m4 38 rfl) rfl
theorem q843 : (Jvm.Cond.selects "ChapterLoan$Town" ({ cls := "ChapterLoan$Town", name := "draw", desc := "()I" } : Jvm.MethodName) ({ cls := "ChapterLoan$Town", name := "draw", desc := "()I" } : Jvm.MethodName)) ∈ lw_all := lw_g (lw_at lw_m4 39 rfl) rfl
theorem k_T_draw {v : Int32} {st' : CS} (C : cC p R d s m args c cc nL own D cA A) (hO : klOk A ks ad) (ht : t < 3) (hP : cW D cA ks ad st H) (hS : va_S A s.heap H locs) (h : T_draw t st = some (v, st')) (hl : Cond.methodLink own index yX2_draw ∈ lw_all) (hd : 0 + 1 ≤ d) (hsz : ls.size = nL) (hW : (rest.map fun v => v.category).sum ≤ 8) (hcs : cells ≤ R.cells ∧ slots ≤ R.slots) (hdg : decode cc pc = .ok (.invokevirtual index, 3)) (kk : ∀ (H1 : Heap) (locs1 : List Loc), cW D cA ks ad st' H1 → va_S A s.heap H1 locs1 → W p l e R s m args below meth c H1 locs1 cells slots Q (F0 m (pc + 3) ls (.int v :: rest))) : W p l e R s m args below meth c H locs cells slots Q (F0 m pc ls (.ref (ad (20 * t)) :: rest)) :=
  cc_cV (As := []) C hP hS (w_T_draw hO ht h) (cwV 0 C.2.2.2.2.1 (lw_V hl q842 q843 q90 q844) rfl rfl rfl (by decide +kernel) (mr_ C.2.2.2.2.2.1 hd (by decide))) (cc_recv C hP (hO.2.2.2 _ (tk0 ht)) (cg_t0 ht) (q := (RX2, TX2, 27)) rfl) rfl hsz rfl hW hdg hcs kk
abbrev cX2_lends : ByteArray := prog_23_method_21_code
def yX2_lends : MethodName := ⟨RX2, "lends", "(II)V"⟩
theorem dX2_lends_0 : decode cX2_lends 0 = .ok (.aload_n 0, 1) := by decide +kernel
theorem dX2_lends_1 : decode cX2_lends 1 = .ok (.getfield 33, 3) := by decide +kernel
theorem dX2_lends_4 : decode cX2_lends 4 = .ok (.iload_n 1, 1) := by decide +kernel
theorem dX2_lends_5 : decode cX2_lends 5 = .ok (.sipush 9999, 3) := by decide +kernel
theorem dX2_lends_8 : decode cX2_lends 8 = .ok (.aload_n 0, 1) := by decide +kernel
theorem dX2_lends_9 : decode cX2_lends 9 = .ok (.getfield 33, 3) := by decide +kernel
theorem dX2_lends_12 : decode cX2_lends 12 = .ok (.iload_n 1, 1) := by decide +kernel
theorem dX2_lends_13 : decode cX2_lends 13 = .ok (.iaload, 1) := by decide +kernel
theorem dX2_lends_14 : decode cX2_lends 14 = .ok (.iload_n 2, 1) := by decide +kernel
theorem dX2_lends_15 : decode cX2_lends 15 = .ok (.iadd, 1) := by decide +kernel
theorem dX2_lends_16 : decode cX2_lends 16 = .ok (.invokestatic 109, 3) := by decide +kernel
theorem dX2_lends_19 : decode cX2_lends 19 = .ok (.iastore, 1) := by decide +kernel
theorem dX2_lends_20 : decode cX2_lends 20 = .ok (.return_, 1) := by decide +kernel
theorem w_T_lends {l : Launch} {D : va_G} {cA : Nat → ClassId} {ks : List Nat} {ad : Nat → Nat} {A : Nat → Prop} (hO : klOk A ks ad) {t : Nat} (ht : t < 3) {st st' : CS} {x1 : Int32} {x2 : Int32} (h : T_lends t st x1 x2 = some st') : cV l yX2_lends cX2_lends 3 none 1 D cA ks ad A st [.ref (ad (20 * t)), .int x1, .int x2] none st' := by
  refine cc_ofV (own := RX2) (by decide) rfl (Nat.le_of_ble_eq_true rfl) (fun p e s m below meth c R args ls C hr hlk hP hS hl hcs => ?_)
  have hx := C.1
  have hb := C.2.1
  have hown := C.2.2.2.1
  have hNst := C.2.2.2.2.2.2.2.1
  have hl : lv_has ls 3 [(0, .ref (ad (20 * t))), (1, .int x1), (2, .int x2)] := hl
  rw [T_lends] at h
  refine lv_aload_n hx hb dX2_lends_0 rfl (lv_at hl 0 rfl) ?_
  refine tg_debt (t := t) C hO ht hP dX2_lends_1 ?_
  refine lv_iload_n hx hb dX2_lends_4 rfl (lv_at hl 1 rfl) ?_
  refine lv_sipush (v := 9999) hx hb dX2_lends_5 (by decide) ?_
  refine lv_aload_n hx hb dX2_lends_8 rfl (lv_at hl 0 rfl) ?_
  refine tg_debt (t := t) C hO ht hP dX2_lends_9 ?_
  refine lv_iload_n hx hb dX2_lends_12 rfl (lv_at hl 1 rfl) ?_
  obtain ⟨v1, hv1, h⟩ := bd1_some h
  refine cc_ild C hP (hO.2.2.2 _ (tk_ 6 ht (by decide))) (cg_t 6 ht (by decide)) hv1 dX2_lends_13 ?_
  refine lv_iload_n hx hb dX2_lends_14 rfl (lv_at hl 2 rfl) ?_
  refine lv_iadd hx hb dX2_lends_15 ?_
  obtain ⟨v2, hv2, h⟩ := bd1_some h
  refine k_J_min hx hb C.2.2.1 hown C.2.2.2.2.1 C.2.2.2.2.2.1 q694 hv2 (Nat.le_of_ble_eq_true rfl) hl.1 (Nat.le_of_ble_eq_true rfl) hcs dX2_lends_16 ?_
  obtain ⟨b3, hb3, h⟩ := bd1_some h
  refine cc_ist C hO hP hS (hO.2.2.2 _ (tk_ 6 ht (by decide))) (cg_t 6 ht (by decide)) hb3 (cg_At 6 ht (by decide)) hP.2 dX2_lends_19 (fun H locs hP hS => ?_)
  exact cc_vret hx hb hr hlk h hP hS dX2_lends_20
theorem q753 : (Jvm.Cond.code ({ cls := "ChapterLoan$Town", name := "lends", desc := "(II)V" } : Jvm.MethodName) prog_23_method_21_code (3 : Nat) (Option.none : Option Jvm.ClassFile.FieldType)) ∈ lw_all := lw_g (lw_at lw_m3 189 rfl) rfl
theorem q751 : (Jvm.Cond.instanceMethod ({ cls := "ChapterLoan$Town", name := "lends", desc := "(II)V" } : Jvm.MethodName)) ∈ lw_all := lw_g (lw_at lw_m3 187 rfl) rfl
theorem q752 : (Jvm.Cond.selects "ChapterLoan$Town" ({ cls := "ChapterLoan$Town", name := "lends", desc := "(II)V" } : Jvm.MethodName) ({ cls := "ChapterLoan$Town", name := "lends", desc := "(II)V" } : Jvm.MethodName)) ∈ lw_all := lw_g (lw_at lw_m3 188 rfl) rfl
theorem k_T_lends {a0 : Int32} {a1 : Int32} {st' : CS} (C : cC p R d s m args c cc nL own D cA A) (hO : klOk A ks ad) (ht : t < 3) (hP : cW D cA ks ad st H) (hS : va_S A s.heap H locs) (h : T_lends t st a0 a1 = some st') (hl : Cond.methodLink own index yX2_lends ∈ lw_all) (hd : 1 + 1 ≤ d) (hsz : ls.size = nL) (hW : (rest.map fun v => v.category).sum ≤ 8) (hcs : cells ≤ R.cells ∧ slots ≤ R.slots) (hdg : decode cc pc = .ok (.invokevirtual index, 3)) (kk : ∀ (H1 : Heap) (locs1 : List Loc), cW D cA ks ad st' H1 → va_S A s.heap H1 locs1 → W p l e R s m args below meth c H1 locs1 cells slots Q (F0 m (pc + 3) ls (rest))) : W p l e R s m args below meth c H locs cells slots Q (F0 m pc ls (.int a1 :: .int a0 :: .ref (ad (20 * t)) :: rest)) :=
  cc_cV (As := [.int a0, .int a1]) C hP hS (w_T_lends hO ht h) (cwV 2 C.2.2.2.2.1 (lw_V hl q751 q752 q90 q753) rfl rfl rfl (by decide +kernel) (mr_ C.2.2.2.2.2.1 hd (by decide))) (cc_recv C hP (hO.2.2.2 _ (tk0 ht)) (cg_t0 ht) (q := (RX2, TX2, 27)) rfl) rfl hsz rfl hW hdg hcs kk
abbrev cX2_broken : ByteArray := prog_23_method_23_code
def yX2_broken : MethodName := ⟨RX2, "broken", "()I"⟩
theorem dX2_broken_0 : decode cX2_broken 0 = .ok (.iconst 0, 1) := by decide +kernel
theorem dX2_broken_1 : decode cX2_broken 1 = .ok (.istore_n 1, 1) := by decide +kernel
theorem dX2_broken_2 : decode cX2_broken 2 = .ok (.iconst 0, 1) := by decide +kernel
theorem dX2_broken_3 : decode cX2_broken 3 = .ok (.istore_n 2, 1) := by decide +kernel
theorem dX2_broken_4 : decode cX2_broken 4 = .ok (.iload_n 2, 1) := by decide +kernel
theorem dX2_broken_5 : decode cX2_broken 5 = .ok (.aload_n 0, 1) := by decide +kernel
theorem dX2_broken_6 : decode cX2_broken 6 = .ok (.getfield 94, 3) := by decide +kernel
theorem dX2_broken_9 : decode cX2_broken 9 = .ok (.if_icmp .ge 26, 3) := by decide +kernel
theorem dX2_broken_12 : decode cX2_broken 12 = .ok (.iload_n 1, 1) := by decide +kernel
theorem dX2_broken_13 : decode cX2_broken 13 = .ok (.aload_n 0, 1) := by decide +kernel
theorem dX2_broken_14 : decode cX2_broken 14 = .ok (.getfield 36, 3) := by decide +kernel
theorem dX2_broken_17 : decode cX2_broken 17 = .ok (.iload_n 2, 1) := by decide +kernel
theorem dX2_broken_18 : decode cX2_broken 18 = .ok (.baload, 1) := by decide +kernel
theorem dX2_broken_19 : decode cX2_broken 19 = .ok (.ifCond .eq 7, 3) := by decide +kernel
theorem dX2_broken_22 : decode cX2_broken 22 = .ok (.iconst 1, 1) := by decide +kernel
theorem dX2_broken_23 : decode cX2_broken 23 = .ok (.goto 4, 3) := by decide +kernel
theorem dX2_broken_26 : decode cX2_broken 26 = .ok (.iconst 0, 1) := by decide +kernel
theorem dX2_broken_27 : decode cX2_broken 27 = .ok (.iadd, 1) := by decide +kernel
theorem dX2_broken_28 : decode cX2_broken 28 = .ok (.istore_n 1, 1) := by decide +kernel
theorem dX2_broken_29 : decode cX2_broken 29 = .ok (.iinc 2 1, 3) := by decide +kernel
theorem dX2_broken_32 : decode cX2_broken 32 = .ok (.goto (-28), 3) := by decide +kernel
theorem dX2_broken_35 : decode cX2_broken 35 = .ok (.iload_n 1, 1) := by decide +kernel
theorem dX2_broken_36 : decode cX2_broken 36 = .ok (.ireturn, 1) := by decide +kernel
theorem w_T_broken {l : Launch} {D : va_G} {cA : Nat → ClassId} {ks : List Nat} {ad : Nat → Nat} {A : Nat → Prop} (hO : klOk A ks ad) {t : Nat} (ht : t < 3) {st : CS} {N : Nat} {r : Int32} (h : T_broken t N st = some r) : cR l yX2_broken cX2_broken 3 (some .int) 0 D cA ks ad A st [.ref (ad (20 * t))] r := by
  refine cc_ofR (own := RX2) (by decide) rfl (Nat.le_of_ble_eq_true rfl) (fun p e s m below meth c R args ls C hr hlk hP hl hcs => ?_)
  have hx := C.1
  have hb := C.2.1
  have hown := C.2.2.2.1
  have hNst := C.2.2.2.2.2.2.2.1
  have hl : lv_has ls 3 [(0, .ref (ad (20 * t)))] := hl
  have L4 : ∀ (n : Nat) (x1 : Int32) (x2 : Int32) (z1 : Int32), T_broken_L4 N t st n x1 x2 = some z1 → ∀ ls : Array Slot, lv_has ls 3 [(0, .ref (ad (20 * t))), (1, .int x1), (2, .int x2)] → (∀ ls : Array Slot, lv_has ls 3 [(1, .int z1)] → mWR p l e R s m args below meth c r (F0 m 35 ls [])) → mWR p l e R s m args below meth c r (F0 m 4 ls []) := by
    intro n
    induction n with
    | zero =>
      intro x1 x2 z1 h
      exact non_some h
    | succ n ih =>
      intro x1 x2 z1 h ls hl kx
      rw [T_broken_L4] at h
      refine lv_iload_n hx hb dX2_broken_4 rfl (lv_at hl 2 rfl) ?_
      refine lv_aload_n hx hb dX2_broken_5 rfl (lv_at hl 0 rfl) ?_
      refine tg_debtors (t := t) C hO ht hP dX2_broken_6 ?_
      refine lv_icmp_ge (tgt := 35) hx hb dX2_broken_9 rfl (fun c1 => ?_) (fun c1 => ?_)
      · have h := if_some_t h c1
        cases h
        exact kx ls (lv_sub hl [1] rfl)
      · have h := if_some_f h c1
        refine lv_iload_n hx hb dX2_broken_12 rfl (lv_at hl 1 rfl) ?_
        refine lv_aload_n hx hb dX2_broken_13 rfl (lv_at hl 0 rfl) ?_
        refine tg_isBroken (t := t) C hO ht hP dX2_broken_14 ?_
        refine lv_iload_n hx hb dX2_broken_17 rfl (lv_at hl 2 rfl) ?_
        obtain ⟨v2, hv2, h⟩ := bd1_some h
        refine cc_zld C hP (hO.2.2.2 _ (tk_ 7 ht (by decide))) (cg_t 7 ht (by decide)) hv2 dX2_broken_18 ?_
        refine lv_if_eq (tgt := 26) hx hb dX2_broken_19 rfl (fun c3 => ?_) (fun c3 => ?_)
        · have h := if_some_t h c3
          refine lv_iconst (v := 0) hx hb dX2_broken_26 (by decide) ?_
          refine lv_iadd hx hb dX2_broken_27 ?_
          refine lv_istore_n (lv' := [(1, .int (x1 + 0)), (0, .ref (ad (20 * t))), (2, .int x2)]) hx hb dX2_broken_28 rfl hl (by decide) rfl (fun ls hl => ?_)
          refine lv_iinc (v := x2 + 1) (lv' := [(2, .int (x2 + 1)), (1, .int (x1 + 0)), (0, .ref (ad (20 * t)))]) hx hb dX2_broken_29 hl (k := 2) rfl rfl (by decide) rfl (fun ls hl => ?_)
          refine lv_goto (tgt := 4) hx hb dX2_broken_32 rfl ?_
          exact ih (x1 + 0) (x2 + 1) _ h ls (lv_sub hl [2, 1, 0] rfl) kx
        · have h := if_some_f h c3
          refine lv_iconst (v := 1) hx hb dX2_broken_22 (by decide) ?_
          refine lv_goto (tgt := 27) hx hb dX2_broken_23 rfl ?_
          refine lv_iadd hx hb dX2_broken_27 ?_
          refine lv_istore_n (lv' := [(1, .int (x1 + 1)), (0, .ref (ad (20 * t))), (2, .int x2)]) hx hb dX2_broken_28 rfl hl (by decide) rfl (fun ls hl => ?_)
          refine lv_iinc (v := x2 + 1) (lv' := [(2, .int (x2 + 1)), (1, .int (x1 + 1)), (0, .ref (ad (20 * t)))]) hx hb dX2_broken_29 hl (k := 2) rfl rfl (by decide) rfl (fun ls hl => ?_)
          refine lv_goto (tgt := 4) hx hb dX2_broken_32 rfl ?_
          exact ih (x1 + 1) (x2 + 1) _ h ls (lv_sub hl [2, 1, 0] rfl) kx
  rw [T_broken] at h
  refine lv_iconst (v := 0) hx hb dX2_broken_0 (by decide) ?_
  refine lv_istore_n (lv' := [(1, .int 0), (0, .ref (ad (20 * t)))]) hx hb dX2_broken_1 rfl hl (by decide) rfl (fun ls hl => ?_)
  refine lv_iconst (v := 0) hx hb dX2_broken_2 (by decide) ?_
  refine lv_istore_n (lv' := [(2, .int 0), (1, .int 0), (0, .ref (ad (20 * t)))]) hx hb dX2_broken_3 rfl hl (by decide) rfl (fun ls hl => ?_)
  obtain ⟨z4, hz5, h⟩ := bd1_some h
  refine L4  N 0 0 _ hz5 ls (lv_sub hl [2, 1, 0] rfl) (fun ls hl => ?_)
  refine lv_iload_n hx hb dX2_broken_35 rfl (lv_at hl 0 rfl) ?_
  exact mm_iret hx hb hr hlk h dX2_broken_36
theorem q832 : (Jvm.Cond.code ({ cls := "ChapterLoan$Town", name := "broken", desc := "()I" } : Jvm.MethodName) prog_23_method_23_code (3 : Nat) (Option.some Jvm.ClassFile.FieldType.int)) ∈ lw_all := lw_g (lw_at lw_m4 28 rfl) rfl
theorem q830 : (Jvm.Cond.instanceMethod ({ cls := "ChapterLoan$Town", name := "broken", desc := "()I" } : Jvm.MethodName)) ∈ lw_all := lw_g (lw_at lw_m4 26 rfl) rfl
theorem q831 : (Jvm.Cond.selects "ChapterLoan$Town" ({ cls := "ChapterLoan$Town", name := "broken", desc := "()I" } : Jvm.MethodName) ({ cls := "ChapterLoan$Town", name := "broken", desc := "()I" } : Jvm.MethodName)) ∈ lw_all := lw_g (lw_at lw_m4 27 rfl) rfl
theorem k_T_broken {N : Nat} {v : Int32} (C : cC p R d s m args c cc nL own D cA A) (hO : klOk A ks ad) (ht : t < 3) (hP : cW D cA ks ad st H) (h : T_broken t N st = some v) (hl : Cond.methodLink own index yX2_broken ∈ lw_all) (hd : 0 + 1 ≤ d) (hz : s.heap.size ≤ H.size) (hsz : ls.size = nL) (hW : (rest.map fun v => v.category).sum ≤ 8) (hcs : cells ≤ R.cells ∧ slots ≤ R.slots) (hdg : decode cc pc = .ok (.invokevirtual index, 3)) (kk : W p l e R s m args below meth c H locs cells slots Q (F0 m (pc + 3) ls (.int v :: rest))) : W p l e R s m args below meth c H locs cells slots Q (F0 m pc ls (.ref (ad (20 * t)) :: rest)) :=
  cc_cR (As := []) C hP hz (w_T_broken hO ht h) (cwV 0 C.2.2.2.2.1 (lw_V hl q830 q831 q90 q832) rfl rfl rfl (by decide +kernel) (mr_ C.2.2.2.2.2.1 hd (by decide))) (cc_recv C hP (hO.2.2.2 _ (tk0 ht)) (cg_t0 ht) (q := (RX2, TX2, 27)) rfl) rfl hsz rfl hW hdg hcs kk
abbrev cX2_debts : ByteArray := prog_23_method_24_code
def yX2_debts : MethodName := ⟨RX2, "debts", "()I"⟩
theorem dX2_debts_0 : decode cX2_debts 0 = .ok (.iconst 0, 1) := by decide +kernel
theorem dX2_debts_1 : decode cX2_debts 1 = .ok (.istore_n 1, 1) := by decide +kernel
theorem dX2_debts_2 : decode cX2_debts 2 = .ok (.iconst 0, 1) := by decide +kernel
theorem dX2_debts_3 : decode cX2_debts 3 = .ok (.istore_n 2, 1) := by decide +kernel
theorem dX2_debts_4 : decode cX2_debts 4 = .ok (.iload_n 2, 1) := by decide +kernel
theorem dX2_debts_5 : decode cX2_debts 5 = .ok (.aload_n 0, 1) := by decide +kernel
theorem dX2_debts_6 : decode cX2_debts 6 = .ok (.getfield 94, 3) := by decide +kernel
theorem dX2_debts_9 : decode cX2_debts 9 = .ok (.if_icmp .ge 18, 3) := by decide +kernel
theorem dX2_debts_12 : decode cX2_debts 12 = .ok (.iload_n 1, 1) := by decide +kernel
theorem dX2_debts_13 : decode cX2_debts 13 = .ok (.aload_n 0, 1) := by decide +kernel
theorem dX2_debts_14 : decode cX2_debts 14 = .ok (.getfield 33, 3) := by decide +kernel
theorem dX2_debts_17 : decode cX2_debts 17 = .ok (.iload_n 2, 1) := by decide +kernel
theorem dX2_debts_18 : decode cX2_debts 18 = .ok (.iaload, 1) := by decide +kernel
theorem dX2_debts_19 : decode cX2_debts 19 = .ok (.iadd, 1) := by decide +kernel
theorem dX2_debts_20 : decode cX2_debts 20 = .ok (.istore_n 1, 1) := by decide +kernel
theorem dX2_debts_21 : decode cX2_debts 21 = .ok (.iinc 2 1, 3) := by decide +kernel
theorem dX2_debts_24 : decode cX2_debts 24 = .ok (.goto (-20), 3) := by decide +kernel
theorem dX2_debts_27 : decode cX2_debts 27 = .ok (.iload_n 1, 1) := by decide +kernel
theorem dX2_debts_28 : decode cX2_debts 28 = .ok (.ireturn, 1) := by decide +kernel
theorem w_T_debts {l : Launch} {D : va_G} {cA : Nat → ClassId} {ks : List Nat} {ad : Nat → Nat} {A : Nat → Prop} (hO : klOk A ks ad) {t : Nat} (ht : t < 3) {st : CS} {N : Nat} {r : Int32} (h : T_debts t N st = some r) : cR l yX2_debts cX2_debts 3 (some .int) 0 D cA ks ad A st [.ref (ad (20 * t))] r := by
  refine cc_ofR (own := RX2) (by decide) rfl (Nat.le_of_ble_eq_true rfl) (fun p e s m below meth c R args ls C hr hlk hP hl hcs => ?_)
  have hx := C.1
  have hb := C.2.1
  have hown := C.2.2.2.1
  have hNst := C.2.2.2.2.2.2.2.1
  have hl : lv_has ls 3 [(0, .ref (ad (20 * t)))] := hl
  have L4 : ∀ (n : Nat) (x1 : Int32) (x2 : Int32) (z1 : Int32), T_debts_L4 N t st n x1 x2 = some z1 → ∀ ls : Array Slot, lv_has ls 3 [(0, .ref (ad (20 * t))), (1, .int x1), (2, .int x2)] → (∀ ls : Array Slot, lv_has ls 3 [(1, .int z1)] → mWR p l e R s m args below meth c r (F0 m 27 ls [])) → mWR p l e R s m args below meth c r (F0 m 4 ls []) := by
    intro n
    induction n with
    | zero =>
      intro x1 x2 z1 h
      exact non_some h
    | succ n ih =>
      intro x1 x2 z1 h ls hl kx
      rw [T_debts_L4] at h
      refine lv_iload_n hx hb dX2_debts_4 rfl (lv_at hl 2 rfl) ?_
      refine lv_aload_n hx hb dX2_debts_5 rfl (lv_at hl 0 rfl) ?_
      refine tg_debtors (t := t) C hO ht hP dX2_debts_6 ?_
      refine lv_icmp_ge (tgt := 27) hx hb dX2_debts_9 rfl (fun c1 => ?_) (fun c1 => ?_)
      · have h := if_some_t h c1
        cases h
        exact kx ls (lv_sub hl [1] rfl)
      · have h := if_some_f h c1
        refine lv_iload_n hx hb dX2_debts_12 rfl (lv_at hl 1 rfl) ?_
        refine lv_aload_n hx hb dX2_debts_13 rfl (lv_at hl 0 rfl) ?_
        refine tg_debt (t := t) C hO ht hP dX2_debts_14 ?_
        refine lv_iload_n hx hb dX2_debts_17 rfl (lv_at hl 2 rfl) ?_
        obtain ⟨v2, hv2, h⟩ := bd1_some h
        refine cc_ild C hP (hO.2.2.2 _ (tk_ 6 ht (by decide))) (cg_t 6 ht (by decide)) hv2 dX2_debts_18 ?_
        refine lv_iadd hx hb dX2_debts_19 ?_
        refine lv_istore_n (lv' := [(1, .int (x1 + v2)), (0, .ref (ad (20 * t))), (2, .int x2)]) hx hb dX2_debts_20 rfl hl (by decide) rfl (fun ls hl => ?_)
        refine lv_iinc (v := x2 + 1) (lv' := [(2, .int (x2 + 1)), (1, .int (x1 + v2)), (0, .ref (ad (20 * t)))]) hx hb dX2_debts_21 hl (k := 2) rfl rfl (by decide) rfl (fun ls hl => ?_)
        refine lv_goto (tgt := 4) hx hb dX2_debts_24 rfl ?_
        exact ih (x1 + v2) (x2 + 1) _ h ls (lv_sub hl [2, 1, 0] rfl) kx
  rw [T_debts] at h
  refine lv_iconst (v := 0) hx hb dX2_debts_0 (by decide) ?_
  refine lv_istore_n (lv' := [(1, .int 0), (0, .ref (ad (20 * t)))]) hx hb dX2_debts_1 rfl hl (by decide) rfl (fun ls hl => ?_)
  refine lv_iconst (v := 0) hx hb dX2_debts_2 (by decide) ?_
  refine lv_istore_n (lv' := [(2, .int 0), (1, .int 0), (0, .ref (ad (20 * t)))]) hx hb dX2_debts_3 rfl hl (by decide) rfl (fun ls hl => ?_)
  obtain ⟨z3, hz4, h⟩ := bd1_some h
  refine L4  N 0 0 _ hz4 ls (lv_sub hl [2, 1, 0] rfl) (fun ls hl => ?_)
  refine lv_iload_n hx hb dX2_debts_27 rfl (lv_at hl 0 rfl) ?_
  exact mm_iret hx hb hr hlk h dX2_debts_28
theorem q1503 : (Jvm.Cond.code ({ cls := "ChapterLoan$Town", name := "debts", desc := "()I" } : Jvm.MethodName) prog_23_method_24_code (3 : Nat) (Option.some Jvm.ClassFile.FieldType.int)) ∈ lw_all := lw_g (lw_at lw_m6 219 rfl) rfl
theorem q1501 : (Jvm.Cond.instanceMethod ({ cls := "ChapterLoan$Town", name := "debts", desc := "()I" } : Jvm.MethodName)) ∈ lw_all := lw_g (lw_at lw_m6 217 rfl) rfl
theorem q1502 : (Jvm.Cond.selects "ChapterLoan$Town" ({ cls := "ChapterLoan$Town", name := "debts", desc := "()I" } : Jvm.MethodName) ({ cls := "ChapterLoan$Town", name := "debts", desc := "()I" } : Jvm.MethodName)) ∈ lw_all := lw_g (lw_at lw_m6 218 rfl) rfl
theorem k_T_debts {N : Nat} {v : Int32} (C : cC p R d s m args c cc nL own D cA A) (hO : klOk A ks ad) (ht : t < 3) (hP : cW D cA ks ad st H) (h : T_debts t N st = some v) (hl : Cond.methodLink own index yX2_debts ∈ lw_all) (hd : 0 + 1 ≤ d) (hz : s.heap.size ≤ H.size) (hsz : ls.size = nL) (hW : (rest.map fun v => v.category).sum ≤ 8) (hcs : cells ≤ R.cells ∧ slots ≤ R.slots) (hdg : decode cc pc = .ok (.invokevirtual index, 3)) (kk : W p l e R s m args below meth c H locs cells slots Q (F0 m (pc + 3) ls (.int v :: rest))) : W p l e R s m args below meth c H locs cells slots Q (F0 m pc ls (.ref (ad (20 * t)) :: rest)) :=
  cc_cR (As := []) C hP hz (w_T_debts hO ht h) (cwV 0 C.2.2.2.2.1 (lw_V hl q1501 q1502 q90 q1503) rfl rfl rfl (by decide +kernel) (mr_ C.2.2.2.2.2.1 hd (by decide))) (cc_recv C hP (hO.2.2.2 _ (tk0 ht)) (cg_t0 ht) (q := (RX2, TX2, 27)) rfl) rfl hsz rfl hW hdg hcs kk
abbrev cX2_sees : ByteArray := prog_23_method_25_code
def yX2_sees : MethodName := ⟨RX2, "sees", "(II)I"⟩
theorem dX2_sees_0 : decode cX2_sees 0 = .ok (.iconst 0, 1) := by decide +kernel
theorem dX2_sees_1 : decode cX2_sees 1 = .ok (.istore_n 3, 1) := by decide +kernel
theorem dX2_sees_2 : decode cX2_sees 2 = .ok (.iconst 0, 1) := by decide +kernel
theorem dX2_sees_3 : decode cX2_sees 3 = .ok (.istore 4, 2) := by decide +kernel
theorem dX2_sees_5 : decode cX2_sees 5 = .ok (.iload 4, 2) := by decide +kernel
theorem dX2_sees_7 : decode cX2_sees 7 = .ok (.aload_n 0, 1) := by decide +kernel
theorem dX2_sees_8 : decode cX2_sees 8 = .ok (.getfield 94, 3) := by decide +kernel
theorem dX2_sees_11 : decode cX2_sees 11 = .ok (.if_icmp .ge 82, 3) := by decide +kernel
theorem dX2_sees_14 : decode cX2_sees 14 = .ok (.iconst 0, 1) := by decide +kernel
theorem dX2_sees_15 : decode cX2_sees 15 = .ok (.istore 5, 2) := by decide +kernel
theorem dX2_sees_17 : decode cX2_sees 17 = .ok (.iload 5, 2) := by decide +kernel
theorem dX2_sees_19 : decode cX2_sees 19 = .ok (.aload_n 0, 1) := by decide +kernel
theorem dX2_sees_20 : decode cX2_sees 20 = .ok (.getfield 40, 3) := by decide +kernel
theorem dX2_sees_23 : decode cX2_sees 23 = .ok (.iload 4, 2) := by decide +kernel
theorem dX2_sees_25 : decode cX2_sees 25 = .ok (.iaload, 1) := by decide +kernel
theorem dX2_sees_26 : decode cX2_sees 26 = .ok (.if_icmp .ge 61, 3) := by decide +kernel
theorem dX2_sees_29 : decode cX2_sees 29 = .ok (.aload_n 0, 1) := by decide +kernel
theorem dX2_sees_30 : decode cX2_sees 30 = .ok (.iload 4, 2) := by decide +kernel
theorem dX2_sees_32 : decode cX2_sees 32 = .ok (.iload 5, 2) := by decide +kernel
theorem dX2_sees_34 : decode cX2_sees 34 = .ok (.invokevirtual 130, 3) := by decide +kernel
theorem dX2_sees_37 : decode cX2_sees 37 = .ok (.istore 6, 2) := by decide +kernel
theorem dX2_sees_39 : decode cX2_sees 39 = .ok (.iload_n 3, 1) := by decide +kernel
theorem dX2_sees_40 : decode cX2_sees 40 = .ok (.aload_n 0, 1) := by decide +kernel
theorem dX2_sees_41 : decode cX2_sees 41 = .ok (.getfield 46, 3) := by decide +kernel
theorem dX2_sees_44 : decode cX2_sees 44 = .ok (.bipush 8, 2) := by decide +kernel
theorem dX2_sees_46 : decode cX2_sees 46 = .ok (.iload 4, 2) := by decide +kernel
theorem dX2_sees_48 : decode cX2_sees 48 = .ok (.imul, 1) := by decide +kernel
theorem dX2_sees_49 : decode cX2_sees 49 = .ok (.iload 5, 2) := by decide +kernel
theorem dX2_sees_51 : decode cX2_sees 51 = .ok (.iadd, 1) := by decide +kernel
theorem dX2_sees_52 : decode cX2_sees 52 = .ok (.iaload, 1) := by decide +kernel
theorem dX2_sees_53 : decode cX2_sees 53 = .ok (.iload_n 2, 1) := by decide +kernel
theorem dX2_sees_54 : decode cX2_sees 54 = .ok (.if_icmp .gt 24, 3) := by decide +kernel
theorem dX2_sees_57 : decode cX2_sees 57 = .ok (.aload_n 0, 1) := by decide +kernel
theorem dX2_sees_58 : decode cX2_sees 58 = .ok (.getfield 24, 3) := by decide +kernel
theorem dX2_sees_61 : decode cX2_sees 61 = .ok (.iload 6, 2) := by decide +kernel
theorem dX2_sees_63 : decode cX2_sees 63 = .ok (.iaload, 1) := by decide +kernel
theorem dX2_sees_64 : decode cX2_sees 64 = .ok (.iload_n 1, 1) := by decide +kernel
theorem dX2_sees_65 : decode cX2_sees 65 = .ok (.invokestatic 137, 3) := by decide +kernel
theorem dX2_sees_68 : decode cX2_sees 68 = .ok (.ifCond .eq 10, 3) := by decide +kernel
theorem dX2_sees_71 : decode cX2_sees 71 = .ok (.iconst 1, 1) := by decide +kernel
theorem dX2_sees_72 : decode cX2_sees 72 = .ok (.iload 6, 2) := by decide +kernel
theorem dX2_sees_74 : decode cX2_sees 74 = .ok (.ishl, 1) := by decide +kernel
theorem dX2_sees_75 : decode cX2_sees 75 = .ok (.goto 4, 3) := by decide +kernel
theorem dX2_sees_78 : decode cX2_sees 78 = .ok (.iconst 0, 1) := by decide +kernel
theorem dX2_sees_79 : decode cX2_sees 79 = .ok (.ior, 1) := by decide +kernel
theorem dX2_sees_80 : decode cX2_sees 80 = .ok (.istore_n 3, 1) := by decide +kernel
theorem dX2_sees_81 : decode cX2_sees 81 = .ok (.iinc 5 1, 3) := by decide +kernel
theorem dX2_sees_84 : decode cX2_sees 84 = .ok (.goto (-67), 3) := by decide +kernel
theorem dX2_sees_87 : decode cX2_sees 87 = .ok (.iinc 4 1, 3) := by decide +kernel
theorem dX2_sees_90 : decode cX2_sees 90 = .ok (.goto (-85), 3) := by decide +kernel
theorem dX2_sees_93 : decode cX2_sees 93 = .ok (.iload_n 3, 1) := by decide +kernel
theorem dX2_sees_94 : decode cX2_sees 94 = .ok (.ireturn, 1) := by decide +kernel
theorem w_T_sees {l : Launch} {D : va_G} {cA : Nat → ClassId} {ks : List Nat} {ad : Nat → Nat} {A : Nat → Prop} (hO : klOk A ks ad) {t : Nat} (ht : t < 3) {st : CS} {N : Nat} {x1 : Int32} {x2 : Int32} {r : Int32} (h : T_sees t N st x1 x2 = some r) : cR l yX2_sees cX2_sees 7 (some .int) 1 D cA ks ad A st [.ref (ad (20 * t)), .int x1, .int x2] r := by
  refine cc_ofR (own := RX2) (by decide) rfl (Nat.le_of_ble_eq_true rfl) (fun p e s m below meth c R args ls C hr hlk hP hl hcs => ?_)
  have hx := C.1
  have hb := C.2.1
  have hown := C.2.2.2.1
  have hNst := C.2.2.2.2.2.2.2.1
  have hl : lv_has ls 7 [(0, .ref (ad (20 * t))), (1, .int x1), (2, .int x2)] := hl
  have L17 : ∀ (x1 : Int32), ∀ (x2 : Int32), ∀ (x4 : Int32), ∀ (n : Nat) (x3 : Int32) (x5 : Int32) (z3 : Int32), T_sees_L17 N t st x1 x2 x4 n x3 x5 = some z3 → ∀ ls : Array Slot, lv_has ls 7 [(0, .ref (ad (20 * t))), (1, .int x1), (2, .int x2), (3, .int x3), (4, .int x4), (5, .int x5)] → (∀ ls : Array Slot, lv_has ls 7 [(0, .ref (ad (20 * t))), (1, .int x1), (2, .int x2), (3, .int z3), (4, .int x4)] → mWR p l e R s m args below meth c r (F0 m 87 ls [])) → mWR p l e R s m args below meth c r (F0 m 17 ls []) := by
    intro x1 x2 x4 n
    induction n with
    | zero =>
      intro x3 x5 z3 h
      exact non_some h
    | succ n ih =>
      intro x3 x5 z3 h ls hl kx
      rw [T_sees_L17] at h
      refine lv_iload hx hb dX2_sees_17 (lv_at hl 5 rfl) ?_
      refine lv_aload_n hx hb dX2_sees_19 rfl (lv_at hl 0 rfl) ?_
      refine tg_many (t := t) C hO ht hP dX2_sees_20 ?_
      refine lv_iload hx hb dX2_sees_23 (lv_at hl 4 rfl) ?_
      obtain ⟨v2, hv2, h⟩ := bd1_some h
      refine cc_ild C hP (hO.2.2.2 _ (tk_ 8 ht (by decide))) (cg_t 8 ht (by decide)) hv2 dX2_sees_25 ?_
      refine lv_icmp_ge (tgt := 87) hx hb dX2_sees_26 rfl (fun c3 => ?_) (fun c3 => ?_)
      · have h := if_some_t h c3
        cases h
        exact kx ls (lv_sub hl [0, 1, 2, 3, 4] rfl)
      · have h := if_some_f h c3
        refine lv_aload_n hx hb dX2_sees_29 rfl (lv_at hl 0 rfl) ?_
        refine lv_iload hx hb dX2_sees_30 (lv_at hl 4 rfl) ?_
        refine lv_iload hx hb dX2_sees_32 (lv_at hl 5 rfl) ?_
        obtain ⟨v4, hv4, h⟩ := bd1_some h
        refine k_T_factAt (t := t) C hO ht hP hv4 q435 (Nat.le_of_ble_eq_true rfl) (Nat.le_refl _) hl.1 (Nat.le_of_ble_eq_true rfl) hcs dX2_sees_34 ?_
        refine lv_istore (lv' := [(6, .int v4), (0, .ref (ad (20 * t))), (1, .int x1), (2, .int x2), (3, .int x3), (4, .int x4), (5, .int x5)]) hx hb dX2_sees_37 hl (by decide) rfl (fun ls hl => ?_)
        refine lv_iload_n hx hb dX2_sees_39 rfl (lv_at hl 4 rfl) ?_
        refine lv_aload_n hx hb dX2_sees_40 rfl (lv_at hl 1 rfl) ?_
        refine tg_bookWeek (t := t) C hO ht hP dX2_sees_41 ?_
        refine lv_bipush (v := 8) hx hb dX2_sees_44 (by decide) ?_
        refine lv_iload hx hb dX2_sees_46 (lv_at hl 5 rfl) ?_
        refine lv_imul hx hb dX2_sees_48 ?_
        refine lv_iload hx hb dX2_sees_49 (lv_at hl 6 rfl) ?_
        refine lv_iadd hx hb dX2_sees_51 ?_
        obtain ⟨v5, hv5, h⟩ := bd1_some h
        refine cc_ild C hP (hO.2.2.2 _ (tk_ 10 ht (by decide))) (cg_t 10 ht (by decide)) hv5 dX2_sees_52 ?_
        refine lv_iload_n hx hb dX2_sees_53 rfl (lv_at hl 3 rfl) ?_
        refine lv_icmp_gt (tgt := 78) hx hb dX2_sees_54 rfl (fun c6 => ?_) (fun c6 => ?_)
        · have h := if_some_t h c6
          refine lv_iconst (v := 0) hx hb dX2_sees_78 (by decide) ?_
          refine lv_ior hx hb dX2_sees_79 ?_
          refine lv_istore_n (lv' := [(3, .int (x3 ||| 0)), (6, .int v4), (0, .ref (ad (20 * t))), (1, .int x1), (2, .int x2), (4, .int x4), (5, .int x5)]) hx hb dX2_sees_80 rfl hl (by decide) rfl (fun ls hl => ?_)
          refine lv_iinc (v := x5 + 1) (lv' := [(5, .int (x5 + 1)), (3, .int (x3 ||| 0)), (6, .int v4), (0, .ref (ad (20 * t))), (1, .int x1), (2, .int x2), (4, .int x4)]) hx hb dX2_sees_81 hl (k := 6) rfl rfl (by decide) rfl (fun ls hl => ?_)
          refine lv_goto (tgt := 17) hx hb dX2_sees_84 rfl ?_
          exact ih (x3 ||| 0) (x5 + 1) _ h ls (lv_sub hl [3, 4, 5, 1, 6, 0] rfl) kx
        · have h := if_some_f h c6
          refine lv_aload_n hx hb dX2_sees_57 rfl (lv_at hl 1 rfl) ?_
          refine tg_witnesses (t := t) C hO ht hP dX2_sees_58 ?_
          refine lv_iload hx hb dX2_sees_61 (lv_at hl 0 rfl) ?_
          obtain ⟨v7, hv7, h⟩ := bd1_some h
          refine cc_ild C hP (hO.2.2.2 _ (tk_ 5 ht (by decide))) (cg_t 5 ht (by decide)) hv7 dX2_sees_63 ?_
          refine lv_iload_n hx hb dX2_sees_64 rfl (lv_at hl 2 rfl) ?_
          obtain ⟨v8, hv8, h⟩ := bd1_some h
          refine k_L_isInN hx hb C.2.2.1 hown C.2.2.2.2.1 C.2.2.2.2.2.1 hNst (List.mem_of_getElem? (i := 42) rfl) hv8 (Nat.le_of_ble_eq_true rfl) hl.1 (Nat.le_of_ble_eq_true rfl) hcs dX2_sees_65 ?_
          refine lv_if_eq (tgt := 78) hx hb dX2_sees_68 rfl (fun c9 => ?_) (fun c9 => ?_)
          · have h := if_some_t h c9
            refine lv_iconst (v := 0) hx hb dX2_sees_78 (by decide) ?_
            refine lv_ior hx hb dX2_sees_79 ?_
            refine lv_istore_n (lv' := [(3, .int (x3 ||| 0)), (6, .int v4), (0, .ref (ad (20 * t))), (1, .int x1), (2, .int x2), (4, .int x4), (5, .int x5)]) hx hb dX2_sees_80 rfl hl (by decide) rfl (fun ls hl => ?_)
            refine lv_iinc (v := x5 + 1) (lv' := [(5, .int (x5 + 1)), (3, .int (x3 ||| 0)), (6, .int v4), (0, .ref (ad (20 * t))), (1, .int x1), (2, .int x2), (4, .int x4)]) hx hb dX2_sees_81 hl (k := 6) rfl rfl (by decide) rfl (fun ls hl => ?_)
            refine lv_goto (tgt := 17) hx hb dX2_sees_84 rfl ?_
            exact ih (x3 ||| 0) (x5 + 1) _ h ls (lv_sub hl [3, 4, 5, 1, 6, 0] rfl) kx
          · have h := if_some_f h c9
            refine lv_iconst (v := 1) hx hb dX2_sees_71 (by decide) ?_
            refine lv_iload hx hb dX2_sees_72 (lv_at hl 0 rfl) ?_
            refine lv_ishl hx hb dX2_sees_74 ?_
            refine lv_goto (tgt := 79) hx hb dX2_sees_75 rfl ?_
            refine lv_ior hx hb dX2_sees_79 ?_
            refine lv_istore_n (lv' := [(3, .int (x3 ||| (1 <<< (v4 &&& 31)))), (6, .int v4), (0, .ref (ad (20 * t))), (1, .int x1), (2, .int x2), (4, .int x4), (5, .int x5)]) hx hb dX2_sees_80 rfl hl (by decide) rfl (fun ls hl => ?_)
            refine lv_iinc (v := x5 + 1) (lv' := [(5, .int (x5 + 1)), (3, .int (x3 ||| (1 <<< (v4 &&& 31)))), (6, .int v4), (0, .ref (ad (20 * t))), (1, .int x1), (2, .int x2), (4, .int x4)]) hx hb dX2_sees_81 hl (k := 6) rfl rfl (by decide) rfl (fun ls hl => ?_)
            refine lv_goto (tgt := 17) hx hb dX2_sees_84 rfl ?_
            exact ih (x3 ||| (1 <<< (v4 &&& 31))) (x5 + 1) _ h ls (lv_sub hl [3, 4, 5, 1, 6, 0] rfl) kx
  have L5 : ∀ (x1 : Int32), ∀ (x2 : Int32), ∀ (n : Nat) (x3 : Int32) (x4 : Int32) (z3 : Int32), T_sees_L5 N t st x1 x2 n x3 x4 = some z3 → ∀ ls : Array Slot, lv_has ls 7 [(0, .ref (ad (20 * t))), (1, .int x1), (2, .int x2), (3, .int x3), (4, .int x4)] → (∀ ls : Array Slot, lv_has ls 7 [(3, .int z3)] → mWR p l e R s m args below meth c r (F0 m 93 ls [])) → mWR p l e R s m args below meth c r (F0 m 5 ls []) := by
    intro x1 x2 n
    induction n with
    | zero =>
      intro x3 x4 z3 h
      exact non_some h
    | succ n ih =>
      intro x3 x4 z3 h ls hl kx
      rw [T_sees_L5] at h
      refine lv_iload hx hb dX2_sees_5 (lv_at hl 4 rfl) ?_
      refine lv_aload_n hx hb dX2_sees_7 rfl (lv_at hl 0 rfl) ?_
      refine tg_debtors (t := t) C hO ht hP dX2_sees_8 ?_
      refine lv_icmp_ge (tgt := 93) hx hb dX2_sees_11 rfl (fun c1 => ?_) (fun c1 => ?_)
      · have h := if_some_t h c1
        cases h
        exact kx ls (lv_sub hl [3] rfl)
      · have h := if_some_f h c1
        refine lv_iconst (v := 0) hx hb dX2_sees_14 (by decide) ?_
        refine lv_istore (lv' := [(5, .int 0), (0, .ref (ad (20 * t))), (1, .int x1), (2, .int x2), (3, .int x3), (4, .int x4)]) hx hb dX2_sees_15 hl (by decide) rfl (fun ls hl => ?_)
        obtain ⟨z10, hz11, h⟩ := bd1_some h
        refine L17 x1 x2 x4 N x3 0 _ hz11 ls (lv_sub hl [1, 2, 3, 4, 5, 0] rfl) (fun ls hl => ?_)
        refine lv_iinc (v := x4 + 1) (lv' := [(4, .int (x4 + 1)), (0, .ref (ad (20 * t))), (1, .int x1), (2, .int x2), (3, .int z10)]) hx hb dX2_sees_87 hl (k := 4) rfl rfl (by decide) rfl (fun ls hl => ?_)
        refine lv_goto (tgt := 5) hx hb dX2_sees_90 rfl ?_
        exact ih z10 (x4 + 1) _ h ls (lv_sub hl [1, 2, 3, 4, 0] rfl) kx
  rw [T_sees] at h
  refine lv_iconst (v := 0) hx hb dX2_sees_0 (by decide) ?_
  refine lv_istore_n (lv' := [(3, .int 0), (0, .ref (ad (20 * t))), (1, .int x1), (2, .int x2)]) hx hb dX2_sees_1 rfl hl (by decide) rfl (fun ls hl => ?_)
  refine lv_iconst (v := 0) hx hb dX2_sees_2 (by decide) ?_
  refine lv_istore (lv' := [(4, .int 0), (3, .int 0), (0, .ref (ad (20 * t))), (1, .int x1), (2, .int x2)]) hx hb dX2_sees_3 hl (by decide) rfl (fun ls hl => ?_)
  obtain ⟨z12, hz13, h⟩ := bd1_some h
  refine L5 x1 x2 N 0 0 _ hz13 ls (lv_sub hl [2, 3, 4, 1, 0] rfl) (fun ls hl => ?_)
  refine lv_iload_n hx hb dX2_sees_93 rfl (lv_at hl 0 rfl) ?_
  exact mm_iret hx hb hr hlk h dX2_sees_94
theorem q1204 : (Jvm.Cond.code ({ cls := "ChapterLoan$Town", name := "sees", desc := "(II)I" } : Jvm.MethodName) prog_23_method_25_code (7 : Nat) (Option.some Jvm.ClassFile.FieldType.int)) ∈ lw_all := lw_g (lw_at lw_m5 160 rfl) rfl
theorem q1202 : (Jvm.Cond.instanceMethod ({ cls := "ChapterLoan$Town", name := "sees", desc := "(II)I" } : Jvm.MethodName)) ∈ lw_all := lw_g (lw_at lw_m5 158 rfl) rfl
theorem q1203 : (Jvm.Cond.selects "ChapterLoan$Town" ({ cls := "ChapterLoan$Town", name := "sees", desc := "(II)I" } : Jvm.MethodName) ({ cls := "ChapterLoan$Town", name := "sees", desc := "(II)I" } : Jvm.MethodName)) ∈ lw_all := lw_g (lw_at lw_m5 159 rfl) rfl
theorem k_T_sees {N : Nat} {a0 : Int32} {a1 : Int32} {v : Int32} (C : cC p R d s m args c cc nL own D cA A) (hO : klOk A ks ad) (ht : t < 3) (hP : cW D cA ks ad st H) (h : T_sees t N st a0 a1 = some v) (hl : Cond.methodLink own index yX2_sees ∈ lw_all) (hd : 1 + 1 ≤ d) (hz : s.heap.size ≤ H.size) (hsz : ls.size = nL) (hW : (rest.map fun v => v.category).sum ≤ 8) (hcs : cells ≤ R.cells ∧ slots ≤ R.slots) (hdg : decode cc pc = .ok (.invokevirtual index, 3)) (kk : W p l e R s m args below meth c H locs cells slots Q (F0 m (pc + 3) ls (.int v :: rest))) : W p l e R s m args below meth c H locs cells slots Q (F0 m pc ls (.int a1 :: .int a0 :: .ref (ad (20 * t)) :: rest)) :=
  cc_cR (As := [.int a0, .int a1]) C hP hz (w_T_sees hO ht h) (cwV 2 C.2.2.2.2.1 (lw_V hl q1202 q1203 q90 q1204) rfl rfl rfl (by decide +kernel) (mr_ C.2.2.2.2.2.1 hd (by decide))) (cc_recv C hP (hO.2.2.2 _ (tk0 ht)) (cg_t0 ht) (q := (RX2, TX2, 27)) rfl) rfl hsz rfl hW hdg hcs kk
end
