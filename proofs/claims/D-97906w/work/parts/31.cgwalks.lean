/-! ChapterLoan's own: walks -/
set_option maxRecDepth 100000
section
variable {p : Program} {l : Launch} {e : Env} {R : Room} {s : State} {m : MethodId} {args : Array Value} {below : List Frame} {meth : Method} {c : Code} {H : Heap} {locs : List Loc} {cells slots d : Nat} {Q : State → Prop} {cc : ByteArray} {pc nL : Nat} {ls : Array Slot} {rest : List Value} {D : va_G} {cA : Nat → ClassId} {ks : List Nat} {ad : Nat → Nat} {A : Nat → Prop} {st : CS} {H0 : Heap} {own : String} {index : Nat} {t : Nat}
section LROWS
variable {p : Program} {l : Launch} {e : Env} {R : Room} {s : State} {m : MethodId} {args : Array Value} {below : List Frame} {meth : Method} {c : Code} {H : Heap} {locs : List Loc} {cells slots d : Nat} {Q : State → Prop} {cc : ByteArray} {pc nL : Nat} {ls : Array Slot} {rest : List Value} {D : va_G} {cA : Nat → ClassId} {ks : List Nat} {ad : Nat → Nat} {A : Nat → Prop} {st : CS} {H0 : Heap} {own : String} {index : Nat}
theorem q355 : (Jvm.Cond.fieldLink "ChapterLoan" (1 : Nat) "ChapterLoan" "finding" "LChapterLoan$Finding;") ∈ lw_all := lw_g (lw_at lw_m2 31 rfl) rfl
theorem lg_finding (C : cC p R d s m args c cc nL RX0 D cA A) (hO : klOk A ks ad) (hP : cW D cA ks ad st H) (hdg : decode cc pc = .ok (.getfield 1, 3)) (kk : W p l e R s m args below meth c H locs cells slots Q (F0 m (pc + 3) ls (.ref (ad 61) :: rest))) : W p l e R s m args below meth c H locs cells slots Q (F0 m pc ls (.ref (ad 60) :: rest)) :=
  cc_get (Cn := RX0) (ref := RX0) (T := TX0) (N := 13) (fs := lfs ad (st.1 60)) C hP (hO.2.2.2 60 (by decide)) rfl rfl in_X0 0 (by decide) q355 (fun _ h => h) rfl hdg kk
theorem q356 : (Jvm.Cond.fieldLink "ChapterLoan" (46 : Nat) "ChapterLoan" "town" "LChapterLoan$Town;") ∈ lw_all := lw_g (lw_at lw_m2 32 rfl) rfl
theorem lg_town (C : cC p R d s m args c cc nL RX0 D cA A) (hO : klOk A ks ad) (hP : cW D cA ks ad st H) (hdg : decode cc pc = .ok (.getfield 46, 3)) (kk : W p l e R s m args below meth c H locs cells slots Q (F0 m (pc + 3) ls (.ref (ad (20 * 0)) :: rest))) : W p l e R s m args below meth c H locs cells slots Q (F0 m pc ls (.ref (ad 60) :: rest)) :=
  cc_get (Cn := RX0) (ref := RX0) (T := TX0) (N := 13) (fs := lfs ad (st.1 60)) C hP (hO.2.2.2 60 (by decide)) rfl rfl in_X0 1 (by decide) q356 (fun _ h => h) rfl hdg kk
theorem q357 : (Jvm.Cond.fieldLink "ChapterLoan" (50 : Nat) "ChapterLoan" "image" "LChapterLoan$Town;") ∈ lw_all := lw_g (lw_at lw_m2 33 rfl) rfl
theorem lg_image (C : cC p R d s m args c cc nL RX0 D cA A) (hO : klOk A ks ad) (hP : cW D cA ks ad st H) (hdg : decode cc pc = .ok (.getfield 50, 3)) (kk : W p l e R s m args below meth c H locs cells slots Q (F0 m (pc + 3) ls (.ref (ad (20 * 1)) :: rest))) : W p l e R s m args below meth c H locs cells slots Q (F0 m pc ls (.ref (ad 60) :: rest)) :=
  cc_get (Cn := RX0) (ref := RX0) (T := TX0) (N := 13) (fs := lfs ad (st.1 60)) C hP (hO.2.2.2 60 (by decide)) rfl rfl in_X0 2 (by decide) q357 (fun _ h => h) rfl hdg kk
theorem q358 : (Jvm.Cond.fieldLink "ChapterLoan" (53 : Nat) "ChapterLoan" "tried" "LChapterLoan$Town;") ∈ lw_all := lw_g (lw_at lw_m2 34 rfl) rfl
theorem lg_tried (C : cC p R d s m args c cc nL RX0 D cA A) (hO : klOk A ks ad) (hP : cW D cA ks ad st H) (hdg : decode cc pc = .ok (.getfield 53, 3)) (kk : W p l e R s m args below meth c H locs cells slots Q (F0 m (pc + 3) ls (.ref (ad (20 * 2)) :: rest))) : W p l e R s m args below meth c H locs cells slots Q (F0 m pc ls (.ref (ad 60) :: rest)) :=
  cc_get (Cn := RX0) (ref := RX0) (T := TX0) (N := 13) (fs := lfs ad (st.1 60)) C hP (hO.2.2.2 60 (by decide)) rfl rfl in_X0 3 (by decide) q358 (fun _ h => h) rfl hdg kk
theorem q360 : (Jvm.Cond.fieldLink "ChapterLoan" (59 : Nat) "ChapterLoan" "trace" "LChapterLoan$Trace;") ∈ lw_all := lw_g (lw_at lw_m2 36 rfl) rfl
theorem lg_trace (C : cC p R d s m args c cc nL RX0 D cA A) (hO : klOk A ks ad) (hP : cW D cA ks ad st H) (hdg : decode cc pc = .ok (.getfield 59, 3)) (kk : W p l e R s m args below meth c H locs cells slots Q (F0 m (pc + 3) ls (.ref (ad 62) :: rest))) : W p l e R s m args below meth c H locs cells slots Q (F0 m pc ls (.ref (ad 60) :: rest)) :=
  cc_get (Cn := RX0) (ref := RX0) (T := TX0) (N := 13) (fs := lfs ad (st.1 60)) C hP (hO.2.2.2 60 (by decide)) rfl rfl in_X0 5 (by decide) q360 (fun _ h => h) rfl hdg kk
theorem q361 : (Jvm.Cond.fieldLink "ChapterLoan" (63 : Nat) "ChapterLoan" "errors" "[I") ∈ lw_all := lw_g (lw_at lw_m2 37 rfl) rfl
theorem lg_errors (C : cC p R d s m args c cc nL RX0 D cA A) (hO : klOk A ks ad) (hP : cW D cA ks ad st H) (hdg : decode cc pc = .ok (.getfield 63, 3)) (kk : W p l e R s m args below meth c H locs cells slots Q (F0 m (pc + 3) ls (.ref (ad 64) :: rest))) : W p l e R s m args below meth c H locs cells slots Q (F0 m pc ls (.ref (ad 60) :: rest)) :=
  cc_get (Cn := RX0) (ref := RX0) (T := TX0) (N := 13) (fs := lfs ad (st.1 60)) C hP (hO.2.2.2 60 (by decide)) rfl rfl in_X0 6 (by decide) q361 (fun _ h => h) rfl hdg kk
theorem q362 : (Jvm.Cond.fieldLink "ChapterLoan" (69 : Nat) "ChapterLoan" "sheets" "[LChapterLoan$Shelf;") ∈ lw_all := lw_g (lw_at lw_m2 38 rfl) rfl
theorem lg_sheets (C : cC p R d s m args c cc nL RX0 D cA A) (hO : klOk A ks ad) (hP : cW D cA ks ad st H) (hdg : decode cc pc = .ok (.getfield 69, 3)) (kk : W p l e R s m args below meth c H locs cells slots Q (F0 m (pc + 3) ls (.ref (ad 68) :: rest))) : W p l e R s m args below meth c H locs cells slots Q (F0 m pc ls (.ref (ad 60) :: rest)) :=
  cc_get (Cn := RX0) (ref := RX0) (T := TX0) (N := 13) (fs := lfs ad (st.1 60)) C hP (hO.2.2.2 60 (by decide)) rfl rfl in_X0 7 (by decide) q362 (fun _ h => h) rfl hdg kk
theorem q363 : (Jvm.Cond.fieldLink "ChapterLoan" (73 : Nat) "ChapterLoan" "row" "[I") ∈ lw_all := lw_g (lw_at lw_m2 39 rfl) rfl
theorem lg_row (C : cC p R d s m args c cc nL RX0 D cA A) (hO : klOk A ks ad) (hP : cW D cA ks ad st H) (hdg : decode cc pc = .ok (.getfield 73, 3)) (kk : W p l e R s m args below meth c H locs cells slots Q (F0 m (pc + 3) ls (.ref (ad 65) :: rest))) : W p l e R s m args below meth c H locs cells slots Q (F0 m pc ls (.ref (ad 60) :: rest)) :=
  cc_get (Cn := RX0) (ref := RX0) (T := TX0) (N := 13) (fs := lfs ad (st.1 60)) C hP (hO.2.2.2 60 (by decide)) rfl rfl in_X0 8 (by decide) q363 (fun _ h => h) rfl hdg kk
theorem q364 : (Jvm.Cond.fieldLink "ChapterLoan" (76 : Nat) "ChapterLoan" "bestRow" "[I") ∈ lw_all := lw_g (lw_at lw_m2 40 rfl) rfl
theorem lg_bestRow (C : cC p R d s m args c cc nL RX0 D cA A) (hO : klOk A ks ad) (hP : cW D cA ks ad st H) (hdg : decode cc pc = .ok (.getfield 76, 3)) (kk : W p l e R s m args below meth c H locs cells slots Q (F0 m (pc + 3) ls (.ref (ad 66) :: rest))) : W p l e R s m args below meth c H locs cells slots Q (F0 m pc ls (.ref (ad 60) :: rest)) :=
  cc_get (Cn := RX0) (ref := RX0) (T := TX0) (N := 13) (fs := lfs ad (st.1 60)) C hP (hO.2.2.2 60 (by decide)) rfl rfl in_X0 9 (by decide) q364 (fun _ h => h) rfl hdg kk
theorem q367 : (Jvm.Cond.fieldLink "ChapterLoan" (79 : Nat) "ChapterLoan" "heard" "[I") ∈ lw_all := lw_g (lw_at lw_m2 43 rfl) rfl
theorem lg_heard (C : cC p R d s m args c cc nL RX0 D cA A) (hO : klOk A ks ad) (hP : cW D cA ks ad st H) (hdg : decode cc pc = .ok (.getfield 79, 3)) (kk : W p l e R s m args below meth c H locs cells slots Q (F0 m (pc + 3) ls (.ref (ad 67) :: rest))) : W p l e R s m args below meth c H locs cells slots Q (F0 m pc ls (.ref (ad 60) :: rest)) :=
  cc_get (Cn := RX0) (ref := RX0) (T := TX0) (N := 13) (fs := lfs ad (st.1 60)) C hP (hO.2.2.2 60 (by decide)) rfl rfl in_X0 12 (by decide) q367 (fun _ h => h) rfl hdg kk
theorem fcg (C : cC p R d s m args c cc nL RX0 D cA A) (hO : klOk A ks ad) (hP : cW D cA ks ad st H) (hdg : decode cc pc = .ok (.getfield 83, 3)) (kk : W p l e R s m args below meth c H locs cells slots Q (F0 m (pc + 3) ls (.int (st.1 61 6) :: rest))) : W p l e R s m args below meth c H locs cells slots Q (F0 m pc ls (.ref (ad 61) :: rest)) :=
  cc_getN (Cn := RX1) (ref := RX1) (T := TX1) (N := 7) C hP (hO.2.2.2 61 (by decide)) rfl rfl in_X1 6 (by decide) (List.mem_of_getElem? (i := 7) rfl) (fun _ h => h) rfl hdg kk
theorem q366 : (Jvm.Cond.fieldLink "ChapterLoan" (269 : Nat) "ChapterLoan" "isShortest" "Z") ∈ lw_all := lw_g (lw_at lw_m2 42 rfl) rfl
theorem lg_isShortest (C : cC p R d s m args c cc nL RX0 D cA A) (hO : klOk A ks ad) (hP : cW D cA ks ad st H) (hdg : decode cc pc = .ok (.getfield 269, 3)) (kk : W p l e R s m args below meth c H locs cells slots Q (F0 m (pc + 3) ls (.int (st.1 60 11) :: rest))) : W p l e R s m args below meth c H locs cells slots Q (F0 m pc ls (.ref (ad 60) :: rest)) :=
  cc_get (Cn := RX0) (ref := RX0) (T := TX0) (N := 13) (fs := lfs ad (st.1 60)) C hP (hO.2.2.2 60 (by decide)) rfl rfl in_X0 11 (by decide) q366 (fun _ h => h) rfl hdg kk
theorem lp_isShortest {x : Int32} (C : cC p R d s m args c cc nL RX0 D cA A) (hO : klOk A ks ad) (hP : cW D cA ks ad st H) (hS : va_S A H0 H locs) (hz : narrow .boolean (.int x) = .int x ∧ fits .boolean (.int x) = true) (hdg : decode cc pc = .ok (.putfield 269, 3)) (kk : ∀ (H1 : Heap) (locs1 : List Loc), cW D cA ks ad (csF st 60 11 x) H1 → va_S A H0 H1 locs1 → W p l e R s m args below meth c H1 locs1 cells slots Q (F0 m (pc + 3) ls rest)) : W p l e R s m args below meth c H locs cells slots Q (F0 m pc ls (.int x :: .ref (ad 60) :: rest)) :=
  cc_put (Cn := RX0) (ref := RX0) (T := TX0) (N := 13) (ty0 := tyX0) (fs := lfs ad (st.1 60)) C hO hP hS (hO.2.2.2 60 (by decide)) rfl rfl in_X0 tyX0_ok nmX0 11 (by decide) q366 (fun _ h => h) rfl hz.1 hz.2 (Nat.le_of_ble_eq_true rfl) (cg_F rfl) hP.2 hdg kk
theorem q365 : (Jvm.Cond.fieldLink "ChapterLoan" (273 : Nat) "ChapterLoan" "bestMany" "I") ∈ lw_all := lw_g (lw_at lw_m2 41 rfl) rfl
theorem lg_bestMany (C : cC p R d s m args c cc nL RX0 D cA A) (hO : klOk A ks ad) (hP : cW D cA ks ad st H) (hdg : decode cc pc = .ok (.getfield 273, 3)) (kk : W p l e R s m args below meth c H locs cells slots Q (F0 m (pc + 3) ls (.int (st.1 60 10) :: rest))) : W p l e R s m args below meth c H locs cells slots Q (F0 m pc ls (.ref (ad 60) :: rest)) :=
  cc_get (Cn := RX0) (ref := RX0) (T := TX0) (N := 13) (fs := lfs ad (st.1 60)) C hP (hO.2.2.2 60 (by decide)) rfl rfl in_X0 10 (by decide) q365 (fun _ h => h) rfl hdg kk
theorem lp_bestMany {x : Int32} (C : cC p R d s m args c cc nL RX0 D cA A) (hO : klOk A ks ad) (hP : cW D cA ks ad st H) (hS : va_S A H0 H locs) (hdg : decode cc pc = .ok (.putfield 273, 3)) (kk : ∀ (H1 : Heap) (locs1 : List Loc), cW D cA ks ad (csF st 60 10 x) H1 → va_S A H0 H1 locs1 → W p l e R s m args below meth c H1 locs1 cells slots Q (F0 m (pc + 3) ls rest)) : W p l e R s m args below meth c H locs cells slots Q (F0 m pc ls (.int x :: .ref (ad 60) :: rest)) :=
  cc_put (Cn := RX0) (ref := RX0) (T := TX0) (N := 13) (ty0 := tyX0) (fs := lfs ad (st.1 60)) C hO hP hS (hO.2.2.2 60 (by decide)) rfl rfl in_X0 tyX0_ok nmX0 10 (by decide) q365 (fun _ h => h) rfl rfl rfl (Nat.le_of_ble_eq_true rfl) (cg_F rfl) hP.2 hdg kk
theorem trg_many (C : cC p R d s m args c cc nL RX0 D cA A) (hO : klOk A ks ad) (hP : cW D cA ks ad st H) (hdg : decode cc pc = .ok (.getfield 354, 3)) (kk : W p l e R s m args below meth c H locs cells slots Q (F0 m (pc + 3) ls (.int (st.1 62 1) :: rest))) : W p l e R s m args below meth c H locs cells slots Q (F0 m pc ls (.ref (ad 62) :: rest)) :=
  cc_getN (Cn := RX4) (ref := RX4) (T := TX4) (N := 2) C hP (hO.2.2.2 62 (by decide)) rfl rfl in_X4 1 (by decide) (List.mem_of_getElem? (i := 38) rfl) (fun _ h => h) rfl hdg kk
theorem trp_many {x : Int32} (C : cC p R d s m args c cc nL RX0 D cA A) (hO : klOk A ks ad) (hP : cW D cA ks ad st H) (hS : va_S A H0 H locs) (hdg : decode cc pc = .ok (.putfield 354, 3)) (kk : ∀ (H1 : Heap) (locs1 : List Loc), cW D cA ks ad (csF st 62 1 x) H1 → va_S A H0 H1 locs1 → W p l e R s m args below meth c H1 locs1 cells slots Q (F0 m (pc + 3) ls rest)) : W p l e R s m args below meth c H locs cells slots Q (F0 m pc ls (.int x :: .ref (ad 62) :: rest)) :=
  cc_putN (Cn := RX4) (ref := RX4) (T := TX4) (N := 2) (ty0 := tyX4) (fs := [.ref (ad 63), .int (st.1 62 1)]) C hO hP hS (hO.2.2.2 62 (by decide)) rfl rfl in_X4 tyX4_ok nmX4 1 (by decide) (List.mem_of_getElem? (i := 38) rfl) (fun _ h => h) rfl rfl rfl (Nat.le_of_ble_eq_true rfl) (cg_F rfl) hP.2 hdg kk
theorem trg_ran (C : cC p R d s m args c cc nL RX0 D cA A) (hO : klOk A ks ad) (hP : cW D cA ks ad st H) (hdg : decode cc pc = .ok (.getfield 374, 3)) (kk : W p l e R s m args below meth c H locs cells slots Q (F0 m (pc + 3) ls (.ref (ad 63) :: rest))) : W p l e R s m args below meth c H locs cells slots Q (F0 m pc ls (.ref (ad 62) :: rest)) :=
  cc_getN (Cn := RX4) (ref := RX4) (T := TX4) (N := 2) C hP (hO.2.2.2 62 (by decide)) rfl rfl in_X4 0 (by decide) (List.mem_of_getElem? (i := 37) rfl) (fun _ h => h) rfl hdg kk
theorem q359 : (Jvm.Cond.fieldLink "ChapterLoan" (399 : Nat) "ChapterLoan" "images" "I") ∈ lw_all := lw_g (lw_at lw_m2 35 rfl) rfl
theorem lg_images (C : cC p R d s m args c cc nL RX0 D cA A) (hO : klOk A ks ad) (hP : cW D cA ks ad st H) (hdg : decode cc pc = .ok (.getfield 399, 3)) (kk : W p l e R s m args below meth c H locs cells slots Q (F0 m (pc + 3) ls (.int (st.1 60 4) :: rest))) : W p l e R s m args below meth c H locs cells slots Q (F0 m pc ls (.ref (ad 60) :: rest)) :=
  cc_get (Cn := RX0) (ref := RX0) (T := TX0) (N := 13) (fs := lfs ad (st.1 60)) C hP (hO.2.2.2 60 (by decide)) rfl rfl in_X0 4 (by decide) q359 (fun _ h => h) rfl hdg kk
theorem lp_images {x : Int32} (C : cC p R d s m args c cc nL RX0 D cA A) (hO : klOk A ks ad) (hP : cW D cA ks ad st H) (hS : va_S A H0 H locs) (hdg : decode cc pc = .ok (.putfield 399, 3)) (kk : ∀ (H1 : Heap) (locs1 : List Loc), cW D cA ks ad (csF st 60 4 x) H1 → va_S A H0 H1 locs1 → W p l e R s m args below meth c H1 locs1 cells slots Q (F0 m (pc + 3) ls rest)) : W p l e R s m args below meth c H locs cells slots Q (F0 m pc ls (.int x :: .ref (ad 60) :: rest)) :=
  cc_put (Cn := RX0) (ref := RX0) (T := TX0) (N := 13) (ty0 := tyX0) (fs := lfs ad (st.1 60)) C hO hP hS (hO.2.2.2 60 (by decide)) rfl rfl in_X0 tyX0_ok nmX0 4 (by decide) q359 (fun _ h => h) rfl rfl rfl (Nat.le_of_ble_eq_true rfl) (cg_F rfl) hP.2 hdg kk
abbrev cX1_of : ByteArray := prog_8_method_2_code
def yX1_of : MethodName := ⟨RX1, "of", "(I)LChapterLoan$Finding;"⟩
theorem dX1_of_0 : decode cX1_of 0 = .ok (.aload_n 0, 1) := by decide +kernel
theorem dX1_of_1 : decode cX1_of 1 = .ok (.iload_n 1, 1) := by decide +kernel
theorem dX1_of_2 : decode cX1_of 2 = .ok (.putfield 7, 3) := by decide +kernel
theorem dX1_of_5 : decode cX1_of 5 = .ok (.aload_n 0, 1) := by decide +kernel
theorem dX1_of_6 : decode cX1_of 6 = .ok (.areturn, 1) := by decide +kernel
theorem q409 : (Jvm.Cond.code ({ cls := "ChapterLoan$Finding", name := "of", desc := "(I)LChapterLoan$Finding;" } : Jvm.MethodName) prog_8_method_2_code (2 : Nat) (Option.some (Jvm.ClassFile.FieldType.object "ChapterLoan$Finding"))) ∈ lw_all := lw_g (lw_at lw_m2 85 rfl) rfl
theorem q407 : (Jvm.Cond.instanceMethod ({ cls := "ChapterLoan$Finding", name := "of", desc := "(I)LChapterLoan$Finding;" } : Jvm.MethodName)) ∈ lw_all := lw_g (lw_at lw_m2 83 rfl) rfl
theorem q89 : (Jvm.Cond.initialized "ChapterLoan$Finding") ∈ lw_all := lw_g (lw_at lw_m1 5 rfl) rfl
theorem q408 : (Jvm.Cond.selects "ChapterLoan$Finding" ({ cls := "ChapterLoan$Finding", name := "of", desc := "(I)LChapterLoan$Finding;" } : Jvm.MethodName) ({ cls := "ChapterLoan$Finding", name := "of", desc := "(I)LChapterLoan$Finding;" } : Jvm.MethodName)) ∈ lw_all := lw_g (lw_at lw_m2 84 rfl) rfl
theorem q181 : (Jvm.Cond.fieldLink "ChapterLoan$Finding" (7 : Nat) "ChapterLoan$Finding" "code" "I") ∈ lw_all := lw_g (lw_at lw_m1 97 rfl) rfl
theorem onx_none {ρ β : Type} {x : Option β} {f : ρ → Option β} : onx none x f = x := rfl
theorem onx_some {ρ β : Type} {a : ρ} {x : Option β} {f : ρ → Option β} : onx (some a) x f = f a := rfl
theorem w_of_ {l : Launch} {D : va_G} {cA : Nat → ClassId} {ks : List Nat} {ad : Nat → Nat} {A : Nat → Prop} (hO : klOk A ks ad) {st : CS} {x1 : Int32} : cV l yX1_of cX1_of 2 (some (.object "ChapterLoan$Finding")) 0 D cA ks ad A st [.ref (ad 61), .int x1] (some (.ref (ad 61))) (csF st 61 6 x1) := by
  refine cc_ofV (own := RX1) (by decide) rfl (Nat.le_of_ble_eq_true rfl) (fun p e s m below meth c R args ls C hr hlk hP hS hl hcs => ?_)
  have hx := C.1
  have hb := C.2.1
  have hl : lv_has ls 2 [(0, .ref (ad 61)), (1, .int x1)] := hl
  refine lv_aload_n hx hb dX1_of_0 rfl (lv_at hl 0 rfl) ?_
  refine lv_iload_n hx hb dX1_of_1 rfl (lv_at hl 1 rfl) ?_
  refine cc_put (Cn := RX1) (ref := RX1) (T := TX1) (N := 7) (ty0 := tyX1) (fs := [va_rf (st.2.2.1 61 0), va_rf (st.2.2.1 61 1), va_rf (st.2.2.1 61 2), va_rf (st.2.2.1 61 3), va_rf (st.2.2.1 61 4), .int (st.1 61 5), .int (st.1 61 6)]) (st2 := csF st 61 6 x1) C hO hP hS (hO.2.2.2 61 (by decide)) rfl rfl in_X1 tyX1_ok nmX1 6 (by decide) q181 (fun _ h => h) rfl rfl rfl (Nat.le_of_ble_eq_true rfl) (cg_F rfl) hP.2 dX1_of_2 (fun H locs hP hS => ?_)
  refine lv_aload_n hx hb dX1_of_5 rfl (lv_at hl 0 rfl) ?_
  exact W.aret hx hb hr (Or.inl ⟨_, rfl⟩) (Or.inr ⟨_, rfl⟩) (fun t ht _ => ⟨rfl, by rw [ht]; exact hP, hS.F ht⟩) hS.2.2 dX1_of_6
theorem k_fnd_of {x1 : Int32} (C : cC p R d s m args c cc nL own D cA A) (hO : klOk A ks ad) (hP : cW D cA ks ad st H) (hS : va_S A s.heap H locs) (hl : Cond.methodLink own index yX1_of ∈ lw_all) (hd : 0 + 1 ≤ d) (hsz : ls.size = nL) (hW : (rest.map fun v => v.category).sum ≤ 8) (hcs : cells ≤ R.cells ∧ slots ≤ R.slots) (hdg : decode cc pc = .ok (.invokevirtual index, 3)) (kk : ∀ (H1 : Heap) (locs1 : List Loc), cW D cA ks ad (csF st 61 6 x1) H1 → va_S A s.heap H1 locs1 → W p l e R s m args below meth c H1 locs1 cells slots Q (F0 m (pc + 3) ls (.ref (ad 61) :: rest))) : W p l e R s m args below meth c H locs cells slots Q (F0 m pc ls (.int x1 :: .ref (ad 61) :: rest)) :=
  cc_cV (As := [.int x1]) C hP hS (w_of_ hO) (cwV 1 C.2.2.2.2.1 (lw_V hl q407 q408 q89 q409) rfl rfl rfl (by decide +kernel) (mr_ C.2.2.2.2.2.1 hd (by decide))) (cc_recv C hP (hO.2.2.2 61 (by decide)) rfl (q := (RX1, TX1, 7)) rfl) rfl hsz rfl hW hdg hcs kk
end LROWS
abbrev cX0_isFact : ByteArray := prog_1_method_8_code
def yX0_isFact : MethodName := ⟨RX0, "isFact", "(I)Z"⟩
theorem dX0_isFact_0 : decode cX0_isFact 0 = .ok (.iload_n 1, 1) := by decide +kernel
theorem dX0_isFact_1 : decode cX0_isFact 1 = .ok (.iconst 0, 1) := by decide +kernel
theorem dX0_isFact_2 : decode cX0_isFact 2 = .ok (.aload_n 0, 1) := by decide +kernel
theorem dX0_isFact_3 : decode cX0_isFact 3 = .ok (.getfield 46, 3) := by decide +kernel
theorem dX0_isFact_6 : decode cX0_isFact 6 = .ok (.getfield 88, 3) := by decide +kernel
theorem dX0_isFact_9 : decode cX0_isFact 9 = .ok (.iconst 1, 1) := by decide +kernel
theorem dX0_isFact_10 : decode cX0_isFact 10 = .ok (.isub, 1) := by decide +kernel
theorem dX0_isFact_11 : decode cX0_isFact 11 = .ok (.invokestatic 91, 3) := by decide +kernel
theorem dX0_isFact_14 : decode cX0_isFact 14 = .ok (.ireturn, 1) := by decide +kernel
theorem w_L_isFact {l : Launch} {D : va_G} {cA : Nat → ClassId} {ks : List Nat} {ad : Nat → Nat} {A : Nat → Prop} (hO : klOk A ks ad) {st : CS} {x1 : Int32} {r : Int32} (h : L_isFact st x1 = some r) : cR l yX0_isFact cX0_isFact 2 (some .boolean) 1 D cA ks ad A st [.ref (ad 60), .int x1] r := by
  refine cc_ofR (own := RX0) (by decide) rfl (Nat.le_of_ble_eq_true rfl) (fun p e s m below meth c R args ls C hr hlk hP hl hcs => ?_)
  have hx := C.1
  have hb := C.2.1
  have hown := C.2.2.2.1
  have hNst := C.2.2.2.2.2.2.2.1
  have hl : lv_has ls 2 [(0, .ref (ad 60)), (1, .int x1)] := hl
  rw [L_isFact] at h
  refine lv_iload_n hx hb dX0_isFact_0 rfl (lv_at hl 1 rfl) ?_
  refine lv_iconst (v := 0) hx hb dX0_isFact_1 (by decide) ?_
  refine lv_aload_n hx hb dX0_isFact_2 rfl (lv_at hl 0 rfl) ?_
  refine lg_town C hO hP dX0_isFact_3 ?_
  refine tgN_facts (t := 0) C hO (by decide) hP dX0_isFact_6 ?_
  refine lv_iconst (v := 1) hx hb dX0_isFact_9 (by decide) ?_
  refine lv_isub hx hb dX0_isFact_10 ?_
  obtain ⟨v1, hv1, h⟩ := bd1_some h
  refine k_L_in hx hb C.2.2.1 hown C.2.2.2.2.1 C.2.2.2.2.2.1 q399 hv1 (Nat.le_of_ble_eq_true rfl) hl.1 (Nat.le_of_ble_eq_true rfl) hcs dX0_isFact_11 ?_
  exact mm_zretV hx hb hr hlk h dX0_isFact_14
theorem q422 : (Jvm.Cond.code ({ cls := "ChapterLoan", name := "isFact", desc := "(I)Z" } : Jvm.MethodName) prog_1_method_8_code (2 : Nat) (Option.some Jvm.ClassFile.FieldType.boolean)) ∈ lw_all := lw_g (lw_at lw_m2 98 rfl) rfl
theorem q421 : (Jvm.Cond.instanceMethod ({ cls := "ChapterLoan", name := "isFact", desc := "(I)Z" } : Jvm.MethodName)) ∈ lw_all := lw_g (lw_at lw_m2 97 rfl) rfl
theorem k_L_isFact {a0 : Int32} {v : Int32} (C : cC p R d s m args c cc nL RX0 D cA A) (hO : klOk A ks ad) (hP : cW D cA ks ad st H) (h : L_isFact st a0 = some v) (hl : Cond.methodLink RX0 index yX0_isFact ∈ lw_all) (hd : 1 + 1 ≤ d) (hz : s.heap.size ≤ H.size) (hsz : ls.size = nL) (hW : (rest.map fun v => v.category).sum ≤ 8) (hcs : cells ≤ R.cells ∧ slots ≤ R.slots) (hdg : decode cc pc = .ok (.invokevirtual index, 3)) (kk : W p l e R s m args below meth c H locs cells slots Q (F0 m (pc + 3) ls (.int v :: rest))) : W p l e R s m args below meth c H locs cells slots Q (F0 m pc ls (.int a0 :: .ref (ad 60) :: rest)) :=
  cc_cR (As := [.int a0]) C hP hz (w_L_isFact hO h) (cwV 1 C.2.2.2.2.1 (lw_V hl q421 qs3 q85 q422) rfl rfl rfl (by decide +kernel) (mr_ C.2.2.2.2.2.1 hd (by decide))) (cc_recv C hP (hO.2.2.2 60 (by decide)) rfl (q := (RX0, TX0, 13)) rfl) rfl hsz rfl hW hdg hcs kk
abbrev cX0_isDebtor : ByteArray := prog_1_method_9_code
def yX0_isDebtor : MethodName := ⟨RX0, "isDebtor", "(I)Z"⟩
theorem dX0_isDebtor_0 : decode cX0_isDebtor 0 = .ok (.iload_n 1, 1) := by decide +kernel
theorem dX0_isDebtor_1 : decode cX0_isDebtor 1 = .ok (.iconst 0, 1) := by decide +kernel
theorem dX0_isDebtor_2 : decode cX0_isDebtor 2 = .ok (.aload_n 0, 1) := by decide +kernel
theorem dX0_isDebtor_3 : decode cX0_isDebtor 3 = .ok (.getfield 46, 3) := by decide +kernel
theorem dX0_isDebtor_6 : decode cX0_isDebtor 6 = .ok (.getfield 95, 3) := by decide +kernel
theorem dX0_isDebtor_9 : decode cX0_isDebtor 9 = .ok (.iconst 1, 1) := by decide +kernel
theorem dX0_isDebtor_10 : decode cX0_isDebtor 10 = .ok (.isub, 1) := by decide +kernel
theorem dX0_isDebtor_11 : decode cX0_isDebtor 11 = .ok (.invokestatic 91, 3) := by decide +kernel
theorem dX0_isDebtor_14 : decode cX0_isDebtor 14 = .ok (.ireturn, 1) := by decide +kernel
theorem w_L_isDebtor {l : Launch} {D : va_G} {cA : Nat → ClassId} {ks : List Nat} {ad : Nat → Nat} {A : Nat → Prop} (hO : klOk A ks ad) {st : CS} {x1 : Int32} {r : Int32} (h : L_isDebtor st x1 = some r) : cR l yX0_isDebtor cX0_isDebtor 2 (some .boolean) 1 D cA ks ad A st [.ref (ad 60), .int x1] r := by
  refine cc_ofR (own := RX0) (by decide) rfl (Nat.le_of_ble_eq_true rfl) (fun p e s m below meth c R args ls C hr hlk hP hl hcs => ?_)
  have hx := C.1
  have hb := C.2.1
  have hown := C.2.2.2.1
  have hNst := C.2.2.2.2.2.2.2.1
  have hl : lv_has ls 2 [(0, .ref (ad 60)), (1, .int x1)] := hl
  rw [L_isDebtor] at h
  refine lv_iload_n hx hb dX0_isDebtor_0 rfl (lv_at hl 1 rfl) ?_
  refine lv_iconst (v := 0) hx hb dX0_isDebtor_1 (by decide) ?_
  refine lv_aload_n hx hb dX0_isDebtor_2 rfl (lv_at hl 0 rfl) ?_
  refine lg_town C hO hP dX0_isDebtor_3 ?_
  refine tgN_debtors (t := 0) C hO (by decide) hP dX0_isDebtor_6 ?_
  refine lv_iconst (v := 1) hx hb dX0_isDebtor_9 (by decide) ?_
  refine lv_isub hx hb dX0_isDebtor_10 ?_
  obtain ⟨v1, hv1, h⟩ := bd1_some h
  refine k_L_in hx hb C.2.2.1 hown C.2.2.2.2.1 C.2.2.2.2.2.1 q399 hv1 (Nat.le_of_ble_eq_true rfl) hl.1 (Nat.le_of_ble_eq_true rfl) hcs dX0_isDebtor_11 ?_
  exact mm_zretV hx hb hr hlk h dX0_isDebtor_14
theorem q562 : (Jvm.Cond.code ({ cls := "ChapterLoan", name := "isDebtor", desc := "(I)Z" } : Jvm.MethodName) prog_1_method_9_code (2 : Nat) (Option.some Jvm.ClassFile.FieldType.boolean)) ∈ lw_all := lw_g (lw_at lw_m2 238 rfl) rfl
theorem q561 : (Jvm.Cond.instanceMethod ({ cls := "ChapterLoan", name := "isDebtor", desc := "(I)Z" } : Jvm.MethodName)) ∈ lw_all := lw_g (lw_at lw_m2 237 rfl) rfl
theorem k_L_isDebtor {a0 : Int32} {v : Int32} (C : cC p R d s m args c cc nL RX0 D cA A) (hO : klOk A ks ad) (hP : cW D cA ks ad st H) (h : L_isDebtor st a0 = some v) (hl : Cond.methodLink RX0 index yX0_isDebtor ∈ lw_all) (hd : 1 + 1 ≤ d) (hz : s.heap.size ≤ H.size) (hsz : ls.size = nL) (hW : (rest.map fun v => v.category).sum ≤ 8) (hcs : cells ≤ R.cells ∧ slots ≤ R.slots) (hdg : decode cc pc = .ok (.invokevirtual index, 3)) (kk : W p l e R s m args below meth c H locs cells slots Q (F0 m (pc + 3) ls (.int v :: rest))) : W p l e R s m args below meth c H locs cells slots Q (F0 m pc ls (.int a0 :: .ref (ad 60) :: rest)) :=
  cc_cR (As := [.int a0]) C hP hz (w_L_isDebtor hO h) (cwV 1 C.2.2.2.2.1 (lw_V hl q561 qs5 q85 q562) rfl rfl rfl (by decide +kernel) (mr_ C.2.2.2.2.2.1 hd (by decide))) (cc_recv C hP (hO.2.2.2 60 (by decide)) rfl (q := (RX0, TX0, 13)) rfl) rfl hsz rfl hW hdg hcs kk
abbrev cX0_need : ByteArray := prog_1_method_3_code
def yX0_need : MethodName := ⟨RX0, "need", "(ZI)V"⟩
theorem dX0_need_0 : decode cX0_need 0 = .ok (.iload_n 1, 1) := by decide +kernel
theorem dX0_need_1 : decode cX0_need 1 = .ok (.ifCond .ne 12, 3) := by decide +kernel
theorem dX0_need_4 : decode cX0_need 4 = .ok (.aload_n 0, 1) := by decide +kernel
theorem dX0_need_5 : decode cX0_need 5 = .ok (.getfield 1, 3) := by decide +kernel
theorem dX0_need_8 : decode cX0_need 8 = .ok (.iload_n 2, 1) := by decide +kernel
theorem dX0_need_9 : decode cX0_need 9 = .ok (.invokevirtual 7, 3) := by decide +kernel
theorem dX0_need_12 : decode cX0_need 12 = .ok (.athrow, 1) := by decide +kernel
theorem dX0_need_13 : decode cX0_need 13 = .ok (.return_, 1) := by decide +kernel
theorem q406 : (Jvm.Cond.methodLink "ChapterLoan" (7 : Nat) ({ cls := "ChapterLoan$Finding", name := "of", desc := "(I)LChapterLoan$Finding;" } : Jvm.MethodName)) ∈ lw_all := lw_g (lw_at lw_m2 82 rfl) rfl
theorem w_L_need {l : Launch} {D : va_G} {cA : Nat → ClassId} {ks : List Nat} {ad : Nat → Nat} {A : Nat → Prop} (hO : klOk A ks ad) {st st' : CS} {x1 : Int32} {x2 : Int32} {o : Option Unit} (h : L_need st x1 x2 = some (o, st')) : cX l yX0_need cX0_need 3 none 1 D cA ks ad A st [.ref (ad 60), .int x1, .int x2] (o.map fun _ => none) st' := by
  refine cc_ofX (own := RX0) (by decide) rfl (Nat.le_of_ble_eq_true rfl) (fun p e s m below meth c R args ls C hr hlk htab hP hS hl hcs => ?_)
  have hx := C.1
  have hb := C.2.1
  have hown := C.2.2.2.1
  have hNst := C.2.2.2.2.2.2.2.1
  have hl : lv_has ls 3 [(0, .ref (ad 60)), (1, .int x1), (2, .int x2)] := hl
  rw [L_need] at h
  refine lv_iload_n hx hb dX0_need_0 rfl (lv_at hl 1 rfl) ?_
  refine lv_if_ne (tgt := 13) hx hb dX0_need_1 rfl (fun c1 => ?_) (fun c1 => ?_)
  · have h := if_some_f h c1
    cases h
    exact x_ans rfl (W.vret hx hb hr (fun t ht _ => ⟨rfl, by rw [ht]; exact hP, hS.F ht⟩) hS.2.2 dX0_need_13)
  · have h := if_some_t h c1
    refine lv_aload_n hx hb dX0_need_4 rfl (lv_at hl 0 rfl) ?_
    refine lg_finding C hO hP dX0_need_5 ?_
    refine lv_iload_n hx hb dX0_need_8 rfl (lv_at hl 2 rfl) ?_
    refine k_fnd_of C hO hP hS q406 (Nat.le_of_ble_eq_true rfl) hl.1 (Nat.le_of_ble_eq_true rfl) hcs dX0_need_9 (fun H locs hP hS => ?_)
    refine W.athrow hx hb dX0_need_12 ?_
    cases h
    exact x_out htab hlk rfl hP hS
theorem q405 : (Jvm.Cond.code ({ cls := "ChapterLoan", name := "need", desc := "(ZI)V" } : Jvm.MethodName) prog_1_method_3_code (3 : Nat) (Option.none : Option Jvm.ClassFile.FieldType)) ∈ lw_all := lw_g (lw_at lw_m2 81 rfl) rfl
theorem q404 : (Jvm.Cond.instanceMethod ({ cls := "ChapterLoan", name := "need", desc := "(ZI)V" } : Jvm.MethodName)) ∈ lw_all := lw_g (lw_at lw_m2 80 rfl) rfl
theorem k_L_needR {a0 : Int32} {a1 : Int32} {st' : CS} (C : cC p R d s m args c cc nL RX0 D cA A) (hO : klOk A ks ad) (hP : cW D cA ks ad st H) (hS : va_S A s.heap H locs) (h : L_need st a0 a1 = some ((some ()), st')) (hl : Cond.methodLink RX0 index yX0_need ∈ lw_all) (hd : 1 + 1 ≤ d) (hsz : ls.size = nL) (hW : (rest.map fun v => v.category).sum ≤ 8) (hcs : cells ≤ R.cells ∧ slots ≤ R.slots) (hdg : decode cc pc = .ok (.invokevirtual index, 3)) (kk : ∀ (H1 : Heap) (locs1 : List Loc), cW D cA ks ad st' H1 → va_S A s.heap H1 locs1 → W p l e R s m args below meth c H1 locs1 cells slots Q (F0 m (pc + 3) ls (rest))) : W p l e R s m args below meth c H locs cells slots Q (F0 m pc ls (.int a1 :: .int a0 :: .ref (ad 60) :: rest)) :=
  cc_cXR (As := [.int a0, .int a1]) C hP hS (w_L_need hO h) (cwV 2 C.2.2.2.2.1 (lw_V hl q404 qs1 q85 q405) rfl rfl rfl (by decide +kernel) (mr_ C.2.2.2.2.2.1 hd (by decide))) (cc_recv C hP (hO.2.2.2 60 (by decide)) rfl (q := (RX0, TX0, 13)) rfl) rfl (by decide +kernel) hsz rfl hW hdg hcs kk
theorem k_L_needT {a0 : Int32} {a1 : Int32} {st' : CS} (C : cC p R d s m args c cc nL RX0 D cA A) (hO : klOk A ks ad) (hP : cW D cA ks ad st H) (hS : va_S A s.heap H locs) (h : L_need st a0 a1 = some (none, st')) (hl : Cond.methodLink RX0 index yX0_need ∈ lw_all) (hd : 1 + 1 ≤ d) (hsz : ls.size = nL) (hW : (rest.map fun v => v.category).sum ≤ 8) (hcs : cells ≤ R.cells ∧ slots ≤ R.slots) (hdg : decode cc pc = .ok (.invokevirtual index, 3)) (kk : ∀ (H1 : Heap) (locs1 : List Loc), cW D cA ks ad st' H1 → va_S A s.heap H1 locs1 → WT p l e R s m args below meth c H1 locs1 cells slots Q (ad 61) (F0 m pc ls rest)) : W p l e R s m args below meth c H locs cells slots Q (F0 m pc ls (.int a1 :: .int a0 :: .ref (ad 60) :: rest)) :=
  cc_cXT (As := [.int a0, .int a1]) C hP hS (w_L_need hO h) (cwV 2 C.2.2.2.2.1 (lw_V hl q404 qs1 q85 q405) rfl rfl rfl (by decide +kernel) (mr_ C.2.2.2.2.2.1 hd (by decide))) (cc_recv C hP (hO.2.2.2 60 (by decide)) rfl (q := (RX0, TX0, 13)) rfl) rfl (by decide +kernel) hsz rfl hW hdg hcs kk
abbrev cX0_finds : ByteArray := prog_1_method_7_code
def yX0_finds : MethodName := ⟨RX0, "finds", "(LChapterLoan$Finding;)I"⟩
theorem dX0_finds_0 : decode cX0_finds 0 = .ok (.aload_n 0, 1) := by decide +kernel
theorem dX0_finds_1 : decode cX0_finds 1 = .ok (.getfield 63, 3) := by decide +kernel
theorem dX0_finds_4 : decode cX0_finds 4 = .ok (.aload_n 1, 1) := by decide +kernel
theorem dX0_finds_5 : decode cX0_finds 5 = .ok (.getfield 83, 3) := by decide +kernel
theorem dX0_finds_8 : decode cX0_finds 8 = .ok (.dup2, 1) := by decide +kernel
theorem dX0_finds_9 : decode cX0_finds 9 = .ok (.iaload, 1) := by decide +kernel
theorem dX0_finds_10 : decode cX0_finds 10 = .ok (.iconst 1, 1) := by decide +kernel
theorem dX0_finds_11 : decode cX0_finds 11 = .ok (.iadd, 1) := by decide +kernel
theorem dX0_finds_12 : decode cX0_finds 12 = .ok (.iastore, 1) := by decide +kernel
theorem dX0_finds_13 : decode cX0_finds 13 = .ok (.ldc 87, 2) := by decide +kernel
theorem dX0_finds_15 : decode cX0_finds 15 = .ok (.aload_n 1, 1) := by decide +kernel
theorem dX0_finds_16 : decode cX0_finds 16 = .ok (.getfield 83, 3) := by decide +kernel
theorem dX0_finds_19 : decode cX0_finds 19 = .ok (.isub, 1) := by decide +kernel
theorem dX0_finds_20 : decode cX0_finds 20 = .ok (.ireturn, 1) := by decide +kernel
theorem q414 : (Jvm.Cond.constant "ChapterLoan" (87 : Nat) (-1000000000 : Int32)) ∈ lw_all := lw_g (lw_at lw_m2 90 rfl) rfl
theorem w_L_finds {l : Launch} {D : va_G} {cA : Nat → ClassId} {ks : List Nat} {ad : Nat → Nat} {A : Nat → Prop} (hO : klOk A ks ad) {st st' : CS} {r0 : Int32} (h : L_finds st = some (r0, st')) : cV l yX0_finds cX0_finds 2 (some .int) 0 D cA ks ad A st [.ref (ad 60), .ref (ad 61)] (some (.int r0)) st' := by
  refine cc_ofV (own := RX0) (by decide) rfl (Nat.le_of_ble_eq_true rfl) (fun p e s m below meth c R args ls C hr hlk hP hS hl hcs => ?_)
  have hx := C.1
  have hb := C.2.1
  have hown := C.2.2.2.1
  have hNst := C.2.2.2.2.2.2.2.1
  have hl : lv_has ls 2 [(0, .ref (ad 60)), (1, .ref (ad 61))] := hl
  rw [L_finds] at h
  refine lv_aload_n hx hb dX0_finds_0 rfl (lv_at hl 0 rfl) ?_
  refine lg_errors C hO hP dX0_finds_1 ?_
  refine lv_aload_n hx hb dX0_finds_4 rfl (lv_at hl 1 rfl) ?_
  refine fcg C hO hP dX0_finds_5 ?_
  refine lv_dup2_11 hx hb dX0_finds_8 rfl rfl ?_
  obtain ⟨v1, hv1, h⟩ := bd1_some h
  refine cc_ild C hP (hO.2.2.2 _ (by decide)) rfl hv1 dX0_finds_9 ?_
  refine lv_iconst (v := 1) hx hb dX0_finds_10 (by decide) ?_
  refine lv_iadd hx hb dX0_finds_11 ?_
  obtain ⟨b2, hb2, h⟩ := bd1_some h
  refine cc_ist C hO hP hS (hO.2.2.2 _ (by decide)) rfl hb2 (cg_A rfl) hP.2 dX0_finds_12 (fun H locs hP hS => ?_)
  refine lv_ldc hx hb hown (C.2.2.2.2.1 _ q414) dX0_finds_13 ?_
  refine lv_aload_n hx hb dX0_finds_15 rfl (lv_at hl 1 rfl) ?_
  refine fcg C hO hP dX0_finds_16 ?_
  refine lv_isub hx hb dX0_finds_19 ?_
  exact cc_viret hx hb hr hlk h hP hS dX0_finds_20
theorem q413 : (Jvm.Cond.code ({ cls := "ChapterLoan", name := "finds", desc := "(LChapterLoan$Finding;)I" } : Jvm.MethodName) prog_1_method_7_code (2 : Nat) (Option.some Jvm.ClassFile.FieldType.int)) ∈ lw_all := lw_g (lw_at lw_m2 89 rfl) rfl
theorem q412 : (Jvm.Cond.instanceMethod ({ cls := "ChapterLoan", name := "finds", desc := "(LChapterLoan$Finding;)I" } : Jvm.MethodName)) ∈ lw_all := lw_g (lw_at lw_m2 88 rfl) rfl
theorem k_L_finds {v : Int32} {st' : CS} (C : cC p R d s m args c cc nL RX0 D cA A) (hO : klOk A ks ad) (hP : cW D cA ks ad st H) (hS : va_S A s.heap H locs) (h : L_finds st = some (v, st')) (hl : Cond.methodLink RX0 index yX0_finds ∈ lw_all) (hd : 0 + 1 ≤ d) (hsz : ls.size = nL) (hW : (rest.map fun v => v.category).sum ≤ 8) (hcs : cells ≤ R.cells ∧ slots ≤ R.slots) (hdg : decode cc pc = .ok (.invokevirtual index, 3)) (kk : ∀ (H1 : Heap) (locs1 : List Loc), cW D cA ks ad st' H1 → va_S A s.heap H1 locs1 → W p l e R s m args below meth c H1 locs1 cells slots Q (F0 m (pc + 3) ls (.int v :: rest))) : W p l e R s m args below meth c H locs cells slots Q (F0 m pc ls (.ref (ad 61) :: .ref (ad 60) :: rest)) :=
  cc_cV (As := [.ref (ad 61)]) C hP hS (w_L_finds hO h) (cwV 1 C.2.2.2.2.1 (lw_V hl q412 qs2 q85 q413) rfl rfl rfl (by decide +kernel) (mr_ C.2.2.2.2.2.1 hd (by decide))) (cc_recv C hP (hO.2.2.2 60 (by decide)) rfl (q := (RX0, TX0, 13)) rfl) rfl hsz rfl hW hdg hcs kk
abbrev cX0_isOn : ByteArray := prog_1_method_22_code
def yX0_isOn : MethodName := ⟨RX0, "isOn", "(LChapterLoan$Town;II)I"⟩
theorem dX0_isOn_0 : decode cX0_isOn 0 = .ok (.iload_n 2, 1) := by decide +kernel
theorem dX0_isOn_1 : decode cX0_isOn 1 = .ok (.tableswitch 66 2 5 #[31, 38, 45, 51], 31) := by decide +kernel
theorem dX0_isOn_32 : decode cX0_isOn 32 = .ok (.aload_n 0, 1) := by decide +kernel
theorem dX0_isOn_33 : decode cX0_isOn 33 = .ok (.getfield 150, 3) := by decide +kernel
theorem dX0_isOn_36 : decode cX0_isOn 36 = .ok (.iload_n 1, 1) := by decide +kernel
theorem dX0_isOn_37 : decode cX0_isOn 37 = .ok (.iaload, 1) := by decide +kernel
theorem dX0_isOn_38 : decode cX0_isOn 38 = .ok (.ireturn, 1) := by decide +kernel
theorem dX0_isOn_39 : decode cX0_isOn 39 = .ok (.aload_n 0, 1) := by decide +kernel
theorem dX0_isOn_40 : decode cX0_isOn 40 = .ok (.getfield 157, 3) := by decide +kernel
theorem dX0_isOn_43 : decode cX0_isOn 43 = .ok (.iload_n 1, 1) := by decide +kernel
theorem dX0_isOn_44 : decode cX0_isOn 44 = .ok (.iaload, 1) := by decide +kernel
theorem dX0_isOn_45 : decode cX0_isOn 45 = .ok (.ireturn, 1) := by decide +kernel
theorem dX0_isOn_46 : decode cX0_isOn 46 = .ok (.aload_n 0, 1) := by decide +kernel
theorem dX0_isOn_47 : decode cX0_isOn 47 = .ok (.iload_n 1, 1) := by decide +kernel
theorem dX0_isOn_48 : decode cX0_isOn 48 = .ok (.invokevirtual 131, 3) := by decide +kernel
theorem dX0_isOn_51 : decode cX0_isOn 51 = .ok (.ireturn, 1) := by decide +kernel
theorem dX0_isOn_52 : decode cX0_isOn 52 = .ok (.aload_n 0, 1) := by decide +kernel
theorem dX0_isOn_53 : decode cX0_isOn 53 = .ok (.getfield 153, 3) := by decide +kernel
theorem dX0_isOn_56 : decode cX0_isOn 56 = .ok (.iload_n 1, 1) := by decide +kernel
theorem dX0_isOn_57 : decode cX0_isOn 57 = .ok (.baload, 1) := by decide +kernel
theorem dX0_isOn_58 : decode cX0_isOn 58 = .ok (.ifCond .eq 7, 3) := by decide +kernel
theorem dX0_isOn_61 : decode cX0_isOn 61 = .ok (.iconst 1, 1) := by decide +kernel
theorem dX0_isOn_62 : decode cX0_isOn 62 = .ok (.goto 4, 3) := by decide +kernel
theorem dX0_isOn_65 : decode cX0_isOn 65 = .ok (.iconst 0, 1) := by decide +kernel
theorem dX0_isOn_66 : decode cX0_isOn 66 = .ok (.ireturn, 1) := by decide +kernel
theorem dX0_isOn_67 : decode cX0_isOn 67 = .ok (.aload_n 0, 1) := by decide +kernel
theorem dX0_isOn_68 : decode cX0_isOn 68 = .ok (.iload_n 1, 1) := by decide +kernel
theorem dX0_isOn_69 : decode cX0_isOn 69 = .ok (.invokevirtual 163, 3) := by decide +kernel
theorem dX0_isOn_72 : decode cX0_isOn 72 = .ok (.ireturn, 1) := by decide +kernel
theorem q431 : (Jvm.Cond.methodLink "ChapterLoan" (131 : Nat) ({ cls := "ChapterLoan$Town", name := "told", desc := "(I)I" } : Jvm.MethodName)) ∈ lw_all := lw_g (lw_at lw_m2 107 rfl) rfl
theorem q703 : (Jvm.Cond.methodLink "ChapterLoan" (163 : Nat) ({ cls := "ChapterLoan$Town", name := "open", desc := "(I)I" } : Jvm.MethodName)) ∈ lw_all := lw_g (lw_at lw_m3 139 rfl) rfl
theorem w_L_isOn {l : Launch} {D : va_G} {cA : Nat → ClassId} {ks : List Nat} {ad : Nat → Nat} {A : Nat → Prop} (hO : klOk A ks ad) {t : Nat} (ht : t < 3) {st : CS} {N : Nat} {x1 : Int32} {x2 : Int32} {r : Int32} (h : L_isOn t N st x1 x2 = some r) : cR l yX0_isOn cX0_isOn 3 (some .int) 3 D cA ks ad A st [.ref (ad (20 * t)), .int x1, .int x2] r := by
  refine cc_ofR (own := RX0) (by decide) rfl (Nat.le_of_ble_eq_true rfl) (fun p e s m below meth c R args ls C hr hlk hP hl hcs => ?_)
  have hx := C.1
  have hb := C.2.1
  have hown := C.2.2.2.1
  have hNst := C.2.2.2.2.2.2.2.1
  have hl : lv_has ls 3 [(0, .ref (ad (20 * t))), (1, .int x1), (2, .int x2)] := hl
  rw [L_isOn] at h
  refine lv_iload_n hx hb dX0_isOn_0 rfl (lv_at hl 2 rfl) ?_
  by_cases c1 : x2 = 2
  · have h := if_some_t h c1
    refine lv_tableIn (tgt := 32) hx hb dX0_isOn_1 (by rw [c1]; decide) (by rw [c1]; decide) (by rw [c1]; rfl) (by decide) ?_
    refine lv_aload_n hx hb dX0_isOn_32 rfl (lv_at hl 0 rfl) ?_
    refine tgN_debt (t := t) C hO ht hP dX0_isOn_33 ?_
    refine lv_iload_n hx hb dX0_isOn_36 rfl (lv_at hl 1 rfl) ?_
    obtain ⟨v2, hv2, h⟩ := bd1_some h
    refine cc_ild C hP (hO.2.2.2 _ (tk_ 6 ht (by decide))) (cg_t 6 ht (by decide)) hv2 dX0_isOn_37 ?_
    exact mm_iret hx hb hr hlk h dX0_isOn_38
  · have h := if_some_f h c1
    by_cases c3 : x2 = 3
    · have h := if_some_t h c3
      refine lv_tableIn (tgt := 39) hx hb dX0_isOn_1 (by rw [c3]; decide) (by rw [c3]; decide) (by rw [c3]; rfl) (by decide) ?_
      refine lv_aload_n hx hb dX0_isOn_39 rfl (lv_at hl 0 rfl) ?_
      refine tgN_many (t := t) C hO ht hP dX0_isOn_40 ?_
      refine lv_iload_n hx hb dX0_isOn_43 rfl (lv_at hl 1 rfl) ?_
      obtain ⟨v4, hv4, h⟩ := bd1_some h
      refine cc_ild C hP (hO.2.2.2 _ (tk_ 8 ht (by decide))) (cg_t 8 ht (by decide)) hv4 dX0_isOn_44 ?_
      exact mm_iret hx hb hr hlk h dX0_isOn_45
    · have h := if_some_f h c3
      by_cases c5 : x2 = 4
      · have h := if_some_t h c5
        refine lv_tableIn (tgt := 46) hx hb dX0_isOn_1 (by rw [c5]; decide) (by rw [c5]; decide) (by rw [c5]; rfl) (by decide) ?_
        refine lv_aload_n hx hb dX0_isOn_46 rfl (lv_at hl 0 rfl) ?_
        refine lv_iload_n hx hb dX0_isOn_47 rfl (lv_at hl 1 rfl) ?_
        obtain ⟨v6, hv6, h⟩ := bd1_some h
        refine k_T_told (t := t) C hO ht hP hv6 q431 (Nat.le_of_ble_eq_true rfl) (Nat.le_refl _) hl.1 (Nat.le_of_ble_eq_true rfl) hcs dX0_isOn_48 ?_
        exact mm_iret hx hb hr hlk h dX0_isOn_51
      · have h := if_some_f h c5
        by_cases c7 : x2 = 5
        · have h := if_some_t h c7
          refine lv_tableIn (tgt := 52) hx hb dX0_isOn_1 (by rw [c7]; decide) (by rw [c7]; decide) (by rw [c7]; rfl) (by decide) ?_
          refine lv_aload_n hx hb dX0_isOn_52 rfl (lv_at hl 0 rfl) ?_
          refine tgN_isBroken (t := t) C hO ht hP dX0_isOn_53 ?_
          refine lv_iload_n hx hb dX0_isOn_56 rfl (lv_at hl 1 rfl) ?_
          obtain ⟨v8, hv8, h⟩ := bd1_some h
          refine cc_zld C hP (hO.2.2.2 _ (tk_ 7 ht (by decide))) (cg_t 7 ht (by decide)) hv8 dX0_isOn_57 ?_
          refine lv_if_eq (tgt := 65) hx hb dX0_isOn_58 rfl (fun c9 => ?_) (fun c9 => ?_)
          · have h := if_some_t h c9
            refine lv_iconst (v := 0) hx hb dX0_isOn_65 (by decide) ?_
            exact mm_iret hx hb hr hlk h dX0_isOn_66
          · have h := if_some_f h c9
            refine lv_iconst (v := 1) hx hb dX0_isOn_61 (by decide) ?_
            refine lv_goto (tgt := 66) hx hb dX0_isOn_62 rfl ?_
            exact mm_iret hx hb hr hlk h dX0_isOn_66
        · have h := if_some_f h c7
          refine lv_tableOut (tgt := 67) hx hb dX0_isOn_1 ?_ (by decide) ?_
          · have := lv_neT c1 (show (2 : Int32).toInt = 2 by decide)
            have := lv_neT c3 (show (3 : Int32).toInt = 3 by decide)
            have := lv_neT c5 (show (4 : Int32).toInt = 4 by decide)
            have := lv_neT c7 (show (5 : Int32).toInt = 5 by decide)
            omega
          · refine lv_aload_n hx hb dX0_isOn_67 rfl (lv_at hl 0 rfl) ?_
            refine lv_iload_n hx hb dX0_isOn_68 rfl (lv_at hl 1 rfl) ?_
            obtain ⟨v10, hv10, h⟩ := bd1_some h
            refine k_T_open (t := t) C hO ht hP hv10 q703 (Nat.le_of_ble_eq_true rfl) (Nat.le_refl _) hl.1 (Nat.le_of_ble_eq_true rfl) hcs dX0_isOn_69 ?_
            exact mm_iret hx hb hr hlk h dX0_isOn_72
theorem q702 : (Jvm.Cond.code ({ cls := "ChapterLoan", name := "isOn", desc := "(LChapterLoan$Town;II)I" } : Jvm.MethodName) prog_1_method_22_code (3 : Nat) (Option.some Jvm.ClassFile.FieldType.int)) ∈ lw_all := lw_g (lw_at lw_m3 138 rfl) rfl
theorem q701 : (Jvm.Cond.static ({ cls := "ChapterLoan", name := "isOn", desc := "(LChapterLoan$Town;II)I" } : Jvm.MethodName)) ∈ lw_all := lw_g (lw_at lw_m3 137 rfl) rfl
theorem k_L_isOn {N : Nat} {a0 : Int32} {a1 : Int32} {v : Int32} (C : cC p R d s m args c cc nL RX0 D cA A) (hO : klOk A ks ad) (ht : t < 3) (hP : cW D cA ks ad st H) (h : L_isOn t N st a0 a1 = some v) (hl : Cond.methodLink RX0 index yX0_isOn ∈ lw_all) (hd : 3 + 1 ≤ d) (hz : s.heap.size ≤ H.size) (hsz : ls.size = nL) (hW : (rest.map fun v => v.category).sum ≤ 8) (hcs : cells ≤ R.cells ∧ slots ≤ R.slots) (hdg : decode cc pc = .ok (.invokestatic index, 3)) (kk : W p l e R s m args below meth c H locs cells slots Q (F0 m (pc + 3) ls (.int v :: rest))) : W p l e R s m args below meth c H locs cells slots Q (F0 m pc ls (.int a1 :: .int a0 :: .ref (ad (20 * t)) :: rest)) :=
  W.callR (W.runS (As := [.ref (ad (20 * t)), .int a0, .int a1]) (rest := rest) ⟨C.1, C.2.1, C.2.2.1, C.2.2.2.1, C.2.2.2.2.1⟩ (w_L_isOn hO ht h) (va_cwS 3 C.2.2.2.2.1 (lw_S hl q701 q85 q702) rfl rfl rfl (by decide +kernel) (mr_ C.2.2.2.2.2.1 hd (by decide))) ⟨cc_blind, cc_pre C hP hz⟩ rfl rfl hsz rfl (lv_room hW) hdg hcs) kk
abbrev cX0_canTell : ByteArray := prog_1_method_28_code
def yX0_canTell : MethodName := ⟨RX0, "canTell", "(II)Z"⟩
theorem dX0_canTell_0 : decode cX0_canTell 0 = .ok (.aload_n 0, 1) := by decide +kernel
theorem dX0_canTell_1 : decode cX0_canTell 1 = .ok (.getfield 46, 3) := by decide +kernel
theorem dX0_canTell_4 : decode cX0_canTell 4 = .ok (.getfield 153, 3) := by decide +kernel
theorem dX0_canTell_7 : decode cX0_canTell 7 = .ok (.iload_n 1, 1) := by decide +kernel
theorem dX0_canTell_8 : decode cX0_canTell 8 = .ok (.baload, 1) := by decide +kernel
theorem dX0_canTell_9 : decode cX0_canTell 9 = .ok (.ifCond .ne 19, 3) := by decide +kernel
theorem dX0_canTell_12 : decode cX0_canTell 12 = .ok (.aload_n 0, 1) := by decide +kernel
theorem dX0_canTell_13 : decode cX0_canTell 13 = .ok (.getfield 46, 3) := by decide +kernel
theorem dX0_canTell_16 : decode cX0_canTell 16 = .ok (.iload_n 1, 1) := by decide +kernel
theorem dX0_canTell_17 : decode cX0_canTell 17 = .ok (.iload_n 2, 1) := by decide +kernel
theorem dX0_canTell_18 : decode cX0_canTell 18 = .ok (.invokevirtual 204, 3) := by decide +kernel
theorem dX0_canTell_21 : decode cX0_canTell 21 = .ok (.ifCond .eq 7, 3) := by decide +kernel
theorem dX0_canTell_24 : decode cX0_canTell 24 = .ok (.iconst 1, 1) := by decide +kernel
theorem dX0_canTell_25 : decode cX0_canTell 25 = .ok (.goto 4, 3) := by decide +kernel
theorem dX0_canTell_28 : decode cX0_canTell 28 = .ok (.iconst 0, 1) := by decide +kernel
theorem dX0_canTell_29 : decode cX0_canTell 29 = .ok (.ireturn, 1) := by decide +kernel
theorem q762 : (Jvm.Cond.methodLink "ChapterLoan" (204 : Nat) ({ cls := "ChapterLoan$Town", name := "may", desc := "(II)Z" } : Jvm.MethodName)) ∈ lw_all := lw_g (lw_at lw_m3 198 rfl) rfl
theorem w_L_canTell {l : Launch} {D : va_G} {cA : Nat → ClassId} {ks : List Nat} {ad : Nat → Nat} {A : Nat → Prop} (hO : klOk A ks ad) {st : CS} {N : Nat} {x1 : Int32} {x2 : Int32} {r : Int32} (h : L_canTell N st x1 x2 = some r) : cR l yX0_canTell cX0_canTell 3 (some .boolean) 4 D cA ks ad A st [.ref (ad 60), .int x1, .int x2] r := by
  refine cc_ofR (own := RX0) (by decide) rfl (Nat.le_of_ble_eq_true rfl) (fun p e s m below meth c R args ls C hr hlk hP hl hcs => ?_)
  have hx := C.1
  have hb := C.2.1
  have hown := C.2.2.2.1
  have hNst := C.2.2.2.2.2.2.2.1
  have hl : lv_has ls 3 [(0, .ref (ad 60)), (1, .int x1), (2, .int x2)] := hl
  rw [L_canTell] at h
  refine lv_aload_n hx hb dX0_canTell_0 rfl (lv_at hl 0 rfl) ?_
  refine lg_town C hO hP dX0_canTell_1 ?_
  refine tgN_isBroken (t := 0) C hO (by decide) hP dX0_canTell_4 ?_
  refine lv_iload_n hx hb dX0_canTell_7 rfl (lv_at hl 1 rfl) ?_
  obtain ⟨v1, hv1, h⟩ := bd1_some h
  refine cc_zld C hP (hO.2.2.2 _ (tk_ 7 (by decide) (by decide))) (cg_t 7 (by decide) (by decide)) hv1 dX0_canTell_8 ?_
  refine lv_if_ne (tgt := 28) hx hb dX0_canTell_9 rfl (fun c2 => ?_) (fun c2 => ?_)
  · have h := if_some_f h c2
    refine lv_iconst (v := 0) hx hb dX0_canTell_28 (by decide) ?_
    exact mm_zret hx hb hr hlk rfl h dX0_canTell_29
  · have h := if_some_t h c2
    refine lv_aload_n hx hb dX0_canTell_12 rfl (lv_at hl 0 rfl) ?_
    refine lg_town C hO hP dX0_canTell_13 ?_
    refine lv_iload_n hx hb dX0_canTell_16 rfl (lv_at hl 1 rfl) ?_
    refine lv_iload_n hx hb dX0_canTell_17 rfl (lv_at hl 2 rfl) ?_
    obtain ⟨v3, hv3, h⟩ := bd1_some h
    refine k_T_may (t := 0) C hO (by decide) hP hv3 q762 (Nat.le_of_ble_eq_true rfl) (Nat.le_refl _) hl.1 (Nat.le_of_ble_eq_true rfl) hcs dX0_canTell_18 ?_
    refine lv_if_eq (tgt := 28) hx hb dX0_canTell_21 rfl (fun c4 => ?_) (fun c4 => ?_)
    · have h := if_some_t h c4
      refine lv_iconst (v := 0) hx hb dX0_canTell_28 (by decide) ?_
      exact mm_zret hx hb hr hlk rfl h dX0_canTell_29
    · have h := if_some_f h c4
      refine lv_iconst (v := 1) hx hb dX0_canTell_24 (by decide) ?_
      refine lv_goto (tgt := 29) hx hb dX0_canTell_25 rfl ?_
      exact mm_zret hx hb hr hlk rfl h dX0_canTell_29
theorem q761 : (Jvm.Cond.code ({ cls := "ChapterLoan", name := "canTell", desc := "(II)Z" } : Jvm.MethodName) prog_1_method_28_code (3 : Nat) (Option.some Jvm.ClassFile.FieldType.boolean)) ∈ lw_all := lw_g (lw_at lw_m3 197 rfl) rfl
theorem q760 : (Jvm.Cond.instanceMethod ({ cls := "ChapterLoan", name := "canTell", desc := "(II)Z" } : Jvm.MethodName)) ∈ lw_all := lw_g (lw_at lw_m3 196 rfl) rfl
theorem k_L_canTell {N : Nat} {a0 : Int32} {a1 : Int32} {v : Int32} (C : cC p R d s m args c cc nL RX0 D cA A) (hO : klOk A ks ad) (hP : cW D cA ks ad st H) (h : L_canTell N st a0 a1 = some v) (hl : Cond.methodLink RX0 index yX0_canTell ∈ lw_all) (hd : 4 + 1 ≤ d) (hz : s.heap.size ≤ H.size) (hsz : ls.size = nL) (hW : (rest.map fun v => v.category).sum ≤ 8) (hcs : cells ≤ R.cells ∧ slots ≤ R.slots) (hdg : decode cc pc = .ok (.invokevirtual index, 3)) (kk : W p l e R s m args below meth c H locs cells slots Q (F0 m (pc + 3) ls (.int v :: rest))) : W p l e R s m args below meth c H locs cells slots Q (F0 m pc ls (.int a1 :: .int a0 :: .ref (ad 60) :: rest)) :=
  cc_cR (As := [.int a0, .int a1]) C hP hz (w_L_canTell hO h) (cwV 2 C.2.2.2.2.1 (lw_V hl q760 qs8 q85 q761) rfl rfl rfl (by decide +kernel) (mr_ C.2.2.2.2.2.1 hd (by decide))) (cc_recv C hP (hO.2.2.2 60 (by decide)) rfl (q := (RX0, TX0, 13)) rfl) rfl hsz rfl hW hdg hcs kk
abbrev cX0_mustGo : ByteArray := prog_1_method_31_code
def yX0_mustGo : MethodName := ⟨RX0, "mustGo", "(I)V"⟩
theorem dX0_mustGo_0 : decode cX0_mustGo 0 = .ok (.aload_n 0, 1) := by decide +kernel
theorem dX0_mustGo_1 : decode cX0_mustGo 1 = .ok (.iload_n 1, 1) := by decide +kernel
theorem dX0_mustGo_2 : decode cX0_mustGo 2 = .ok (.iconst 1, 1) := by decide +kernel
theorem dX0_mustGo_3 : decode cX0_mustGo 3 = .ok (.bipush 60, 2) := by decide +kernel
theorem dX0_mustGo_5 : decode cX0_mustGo 5 = .ok (.invokestatic 91, 3) := by decide +kernel
theorem dX0_mustGo_8 : decode cX0_mustGo 8 = .ok (.iconst 1, 1) := by decide +kernel
theorem dX0_mustGo_9 : decode cX0_mustGo 9 = .ok (.invokevirtual 102, 3) := by decide +kernel
theorem dX0_mustGo_12 : decode cX0_mustGo 12 = .ok (.aload_n 0, 1) := by decide +kernel
theorem dX0_mustGo_13 : decode cX0_mustGo 13 = .ok (.aload_n 0, 1) := by decide +kernel
theorem dX0_mustGo_14 : decode cX0_mustGo 14 = .ok (.getfield 46, 3) := by decide +kernel
theorem dX0_mustGo_17 : decode cX0_mustGo 17 = .ok (.getfield 213, 3) := by decide +kernel
theorem dX0_mustGo_20 : decode cX0_mustGo 20 = .ok (.iload_n 1, 1) := by decide +kernel
theorem dX0_mustGo_21 : decode cX0_mustGo 21 = .ok (.iadd, 1) := by decide +kernel
theorem dX0_mustGo_22 : decode cX0_mustGo 22 = .ok (.sipush 999, 3) := by decide +kernel
theorem dX0_mustGo_25 : decode cX0_mustGo 25 = .ok (.if_icmp .gt 7, 3) := by decide +kernel
theorem dX0_mustGo_28 : decode cX0_mustGo 28 = .ok (.iconst 1, 1) := by decide +kernel
theorem dX0_mustGo_29 : decode cX0_mustGo 29 = .ok (.goto 4, 3) := by decide +kernel
theorem dX0_mustGo_32 : decode cX0_mustGo 32 = .ok (.iconst 0, 1) := by decide +kernel
theorem dX0_mustGo_33 : decode cX0_mustGo 33 = .ok (.iconst 3, 1) := by decide +kernel
theorem dX0_mustGo_34 : decode cX0_mustGo 34 = .ok (.invokevirtual 102, 3) := by decide +kernel
theorem dX0_mustGo_37 : decode cX0_mustGo 37 = .ok (.return_, 1) := by decide +kernel
theorem q402 : (Jvm.Cond.methodLink "ChapterLoan" (102 : Nat) ({ cls := "ChapterLoan", name := "need", desc := "(ZI)V" } : Jvm.MethodName)) ∈ lw_all := lw_g (lw_at lw_m2 78 rfl) rfl
theorem w_L_mustGo {l : Launch} {D : va_G} {cA : Nat → ClassId} {ks : List Nat} {ad : Nat → Nat} {A : Nat → Prop} (hO : klOk A ks ad) {st st' : CS} {x1 : Int32} {o : Option Unit} (h : L_mustGo st x1 = some (o, st')) : cX l yX0_mustGo cX0_mustGo 2 none 2 D cA ks ad A st [.ref (ad 60), .int x1] (o.map fun _ => none) st' := by
  refine cc_ofX (own := RX0) (by decide) rfl (Nat.le_of_ble_eq_true rfl) (fun p e s m below meth c R args ls C hr hlk htab hP hS hl hcs => ?_)
  have hx := C.1
  have hb := C.2.1
  have hown := C.2.2.2.1
  have hNst := C.2.2.2.2.2.2.2.1
  have hl : lv_has ls 2 [(0, .ref (ad 60)), (1, .int x1)] := hl
  rw [L_mustGo] at h
  refine lv_aload_n hx hb dX0_mustGo_0 rfl (lv_at hl 0 rfl) ?_
  refine lv_iload_n hx hb dX0_mustGo_1 rfl (lv_at hl 1 rfl) ?_
  refine lv_iconst (v := 1) hx hb dX0_mustGo_2 (by decide) ?_
  refine lv_bipush (v := 60) hx hb dX0_mustGo_3 (by decide) ?_
  obtain ⟨v1, hv1, h⟩ := bd1_some h
  refine k_L_in hx hb C.2.2.1 hown C.2.2.2.2.1 C.2.2.2.2.2.1 q399 hv1 (Nat.le_of_ble_eq_true rfl) hl.1 (Nat.le_of_ble_eq_true rfl) hcs dX0_mustGo_5 ?_
  refine lv_iconst (v := 1) hx hb dX0_mustGo_8 (by decide) ?_
  obtain ⟨o4, st3, hv2, h⟩ := bd2_some h
  rcases o4 with _ | v2
  · rw [onx_none] at h
    refine k_L_needT C hO hP hS hv2 q402 (Nat.le_of_ble_eq_true rfl) hl.1 (Nat.le_of_ble_eq_true rfl) hcs dX0_mustGo_9 (fun H locs hP hS => ?_)
    cases h
    exact x_out htab hlk rfl hP hS
  · rw [onx_some] at h
    refine k_L_needR C hO hP hS hv2 q402 (Nat.le_of_ble_eq_true rfl) hl.1 (Nat.le_of_ble_eq_true rfl) hcs dX0_mustGo_9 (fun H locs hP hS => ?_)
    refine lv_aload_n hx hb dX0_mustGo_12 rfl (lv_at hl 0 rfl) ?_
    refine lv_aload_n hx hb dX0_mustGo_13 rfl (lv_at hl 0 rfl) ?_
    refine lg_town C hO hP dX0_mustGo_14 ?_
    refine tgN_week (t := 0) C hO (by decide) hP dX0_mustGo_17 ?_
    refine lv_iload_n hx hb dX0_mustGo_20 rfl (lv_at hl 1 rfl) ?_
    refine lv_iadd hx hb dX0_mustGo_21 ?_
    refine lv_sipush (v := 999) hx hb dX0_mustGo_22 (by decide) ?_
    refine lv_icmp_gt (tgt := 32) hx hb dX0_mustGo_25 rfl (fun c5 => ?_) (fun c5 => ?_)
    · have h := if_some_t h c5
      refine lv_iconst (v := 0) hx hb dX0_mustGo_32 (by decide) ?_
      refine lv_iconst (v := 3) hx hb dX0_mustGo_33 (by decide) ?_
      obtain ⟨o8, st7, hv6, h⟩ := bd2_some h
      rcases o8 with _ | v6
      · rw [onx_none] at h
        refine k_L_needT C hO hP hS hv6 q402 (Nat.le_of_ble_eq_true rfl) hl.1 (Nat.le_of_ble_eq_true rfl) hcs dX0_mustGo_34 (fun H locs hP hS => ?_)
        cases h
        exact x_out htab hlk rfl hP hS
      · rw [onx_some] at h
        refine k_L_needR C hO hP hS hv6 q402 (Nat.le_of_ble_eq_true rfl) hl.1 (Nat.le_of_ble_eq_true rfl) hcs dX0_mustGo_34 (fun H locs hP hS => ?_)
        cases h
        exact x_ans rfl (W.vret hx hb hr (fun t ht _ => ⟨rfl, by rw [ht]; exact hP, hS.F ht⟩) hS.2.2 dX0_mustGo_37)
    · have h := if_some_f h c5
      refine lv_iconst (v := 1) hx hb dX0_mustGo_28 (by decide) ?_
      refine lv_goto (tgt := 33) hx hb dX0_mustGo_29 rfl ?_
      refine lv_iconst (v := 3) hx hb dX0_mustGo_33 (by decide) ?_
      obtain ⟨o11, st10, hv9, h⟩ := bd2_some h
      rcases o11 with _ | v9
      · rw [onx_none] at h
        refine k_L_needT C hO hP hS hv9 q402 (Nat.le_of_ble_eq_true rfl) hl.1 (Nat.le_of_ble_eq_true rfl) hcs dX0_mustGo_34 (fun H locs hP hS => ?_)
        cases h
        exact x_out htab hlk rfl hP hS
      · rw [onx_some] at h
        refine k_L_needR C hO hP hS hv9 q402 (Nat.le_of_ble_eq_true rfl) hl.1 (Nat.le_of_ble_eq_true rfl) hcs dX0_mustGo_34 (fun H locs hP hS => ?_)
        cases h
        exact x_ans rfl (W.vret hx hb hr (fun t ht _ => ⟨rfl, by rw [ht]; exact hP, hS.F ht⟩) hS.2.2 dX0_mustGo_37)
theorem q805 : (Jvm.Cond.code ({ cls := "ChapterLoan", name := "mustGo", desc := "(I)V" } : Jvm.MethodName) prog_1_method_31_code (2 : Nat) (Option.none : Option Jvm.ClassFile.FieldType)) ∈ lw_all := lw_g (lw_at lw_m4 1 rfl) rfl
theorem q804 : (Jvm.Cond.instanceMethod ({ cls := "ChapterLoan", name := "mustGo", desc := "(I)V" } : Jvm.MethodName)) ∈ lw_all := lw_g (lw_at lw_m4 0 rfl) rfl
theorem k_L_mustGoR {a0 : Int32} {st' : CS} (C : cC p R d s m args c cc nL RX0 D cA A) (hO : klOk A ks ad) (hP : cW D cA ks ad st H) (hS : va_S A s.heap H locs) (h : L_mustGo st a0 = some ((some ()), st')) (hl : Cond.methodLink RX0 index yX0_mustGo ∈ lw_all) (hd : 2 + 1 ≤ d) (hsz : ls.size = nL) (hW : (rest.map fun v => v.category).sum ≤ 8) (hcs : cells ≤ R.cells ∧ slots ≤ R.slots) (hdg : decode cc pc = .ok (.invokevirtual index, 3)) (kk : ∀ (H1 : Heap) (locs1 : List Loc), cW D cA ks ad st' H1 → va_S A s.heap H1 locs1 → W p l e R s m args below meth c H1 locs1 cells slots Q (F0 m (pc + 3) ls (rest))) : W p l e R s m args below meth c H locs cells slots Q (F0 m pc ls (.int a0 :: .ref (ad 60) :: rest)) :=
  cc_cXR (As := [.int a0]) C hP hS (w_L_mustGo hO h) (cwV 1 C.2.2.2.2.1 (lw_V hl q804 qs9 q85 q805) rfl rfl rfl (by decide +kernel) (mr_ C.2.2.2.2.2.1 hd (by decide))) (cc_recv C hP (hO.2.2.2 60 (by decide)) rfl (q := (RX0, TX0, 13)) rfl) rfl (by decide +kernel) hsz rfl hW hdg hcs kk
theorem k_L_mustGoT {a0 : Int32} {st' : CS} (C : cC p R d s m args c cc nL RX0 D cA A) (hO : klOk A ks ad) (hP : cW D cA ks ad st H) (hS : va_S A s.heap H locs) (h : L_mustGo st a0 = some (none, st')) (hl : Cond.methodLink RX0 index yX0_mustGo ∈ lw_all) (hd : 2 + 1 ≤ d) (hsz : ls.size = nL) (hW : (rest.map fun v => v.category).sum ≤ 8) (hcs : cells ≤ R.cells ∧ slots ≤ R.slots) (hdg : decode cc pc = .ok (.invokevirtual index, 3)) (kk : ∀ (H1 : Heap) (locs1 : List Loc), cW D cA ks ad st' H1 → va_S A s.heap H1 locs1 → WT p l e R s m args below meth c H1 locs1 cells slots Q (ad 61) (F0 m pc ls rest)) : W p l e R s m args below meth c H locs cells slots Q (F0 m pc ls (.int a0 :: .ref (ad 60) :: rest)) :=
  cc_cXT (As := [.int a0]) C hP hS (w_L_mustGo hO h) (cwV 1 C.2.2.2.2.1 (lw_V hl q804 qs9 q85 q805) rfl rfl rfl (by decide +kernel) (mr_ C.2.2.2.2.2.1 hd (by decide))) (cc_recv C hP (hO.2.2.2 60 (by decide)) rfl (q := (RX0, TX0, 13)) rfl) rfl (by decide +kernel) hsz rfl hW hdg hcs kk
abbrev cX0_fact : ByteArray := prog_1_method_16_code
def yX0_fact : MethodName := ⟨RX0, "fact", "(II)I"⟩
theorem dX0_fact_0 : decode cX0_fact 0 = .ok (.aload_n 0, 1) := by decide +kernel
theorem dX0_fact_1 : decode cX0_fact 1 = .ok (.iload_n 1, 1) := by decide +kernel
theorem dX0_fact_2 : decode cX0_fact 2 = .ok (.iconst 0, 1) := by decide +kernel
theorem dX0_fact_3 : decode cX0_fact 3 = .ok (.sipush 255, 3) := by decide +kernel
theorem dX0_fact_6 : decode cX0_fact 6 = .ok (.invokestatic 91, 3) := by decide +kernel
theorem dX0_fact_9 : decode cX0_fact 9 = .ok (.ifCond .eq 17, 3) := by decide +kernel
theorem dX0_fact_12 : decode cX0_fact 12 = .ok (.iload_n 2, 1) := by decide +kernel
theorem dX0_fact_13 : decode cX0_fact 13 = .ok (.iconst 0, 1) := by decide +kernel
theorem dX0_fact_14 : decode cX0_fact 14 = .ok (.bipush 31, 2) := by decide +kernel
theorem dX0_fact_16 : decode cX0_fact 16 = .ok (.invokestatic 91, 3) := by decide +kernel
theorem dX0_fact_19 : decode cX0_fact 19 = .ok (.ifCond .eq 7, 3) := by decide +kernel
theorem dX0_fact_22 : decode cX0_fact 22 = .ok (.iconst 1, 1) := by decide +kernel
theorem dX0_fact_23 : decode cX0_fact 23 = .ok (.goto 4, 3) := by decide +kernel
theorem dX0_fact_26 : decode cX0_fact 26 = .ok (.iconst 0, 1) := by decide +kernel
theorem dX0_fact_27 : decode cX0_fact 27 = .ok (.iconst 1, 1) := by decide +kernel
theorem dX0_fact_28 : decode cX0_fact 28 = .ok (.invokevirtual 102, 3) := by decide +kernel
theorem dX0_fact_31 : decode cX0_fact 31 = .ok (.aload_n 0, 1) := by decide +kernel
theorem dX0_fact_32 : decode cX0_fact 32 = .ok (.aload_n 0, 1) := by decide +kernel
theorem dX0_fact_33 : decode cX0_fact 33 = .ok (.getfield 46, 3) := by decide +kernel
theorem dX0_fact_36 : decode cX0_fact 36 = .ok (.getfield 88, 3) := by decide +kernel
theorem dX0_fact_39 : decode cX0_fact 39 = .ok (.bipush 8, 2) := by decide +kernel
theorem dX0_fact_41 : decode cX0_fact 41 = .ok (.if_icmp .eq 17, 3) := by decide +kernel
theorem dX0_fact_44 : decode cX0_fact 44 = .ok (.iload_n 1, 1) := by decide +kernel
theorem dX0_fact_45 : decode cX0_fact 45 = .ok (.aload_n 0, 1) := by decide +kernel
theorem dX0_fact_46 : decode cX0_fact 46 = .ok (.getfield 46, 3) := by decide +kernel
theorem dX0_fact_49 : decode cX0_fact 49 = .ok (.getfield 88, 3) := by decide +kernel
theorem dX0_fact_52 : decode cX0_fact 52 = .ok (.ishr, 1) := by decide +kernel
theorem dX0_fact_53 : decode cX0_fact 53 = .ok (.iconst 1, 1) := by decide +kernel
theorem dX0_fact_54 : decode cX0_fact 54 = .ok (.iand, 1) := by decide +kernel
theorem dX0_fact_55 : decode cX0_fact 55 = .ok (.ifCond .ne 7, 3) := by decide +kernel
theorem dX0_fact_58 : decode cX0_fact 58 = .ok (.iconst 1, 1) := by decide +kernel
theorem dX0_fact_59 : decode cX0_fact 59 = .ok (.goto 4, 3) := by decide +kernel
theorem dX0_fact_62 : decode cX0_fact 62 = .ok (.iconst 0, 1) := by decide +kernel
theorem dX0_fact_63 : decode cX0_fact 63 = .ok (.iconst 1, 1) := by decide +kernel
theorem dX0_fact_64 : decode cX0_fact 64 = .ok (.invokevirtual 102, 3) := by decide +kernel
theorem dX0_fact_67 : decode cX0_fact 67 = .ok (.aload_n 0, 1) := by decide +kernel
theorem dX0_fact_68 : decode cX0_fact 68 = .ok (.aload_n 0, 1) := by decide +kernel
theorem dX0_fact_69 : decode cX0_fact 69 = .ok (.getfield 46, 3) := by decide +kernel
theorem dX0_fact_72 : decode cX0_fact 72 = .ok (.getfield 88, 3) := by decide +kernel
theorem dX0_fact_75 : decode cX0_fact 75 = .ok (.bipush 8, 2) := by decide +kernel
theorem dX0_fact_77 : decode cX0_fact 77 = .ok (.if_icmp .ge 7, 3) := by decide +kernel
theorem dX0_fact_80 : decode cX0_fact 80 = .ok (.iconst 1, 1) := by decide +kernel
theorem dX0_fact_81 : decode cX0_fact 81 = .ok (.goto 4, 3) := by decide +kernel
theorem dX0_fact_84 : decode cX0_fact 84 = .ok (.iconst 0, 1) := by decide +kernel
theorem dX0_fact_85 : decode cX0_fact 85 = .ok (.iconst 4, 1) := by decide +kernel
theorem dX0_fact_86 : decode cX0_fact 86 = .ok (.invokevirtual 102, 3) := by decide +kernel
theorem dX0_fact_89 : decode cX0_fact 89 = .ok (.aload_n 0, 1) := by decide +kernel
theorem dX0_fact_90 : decode cX0_fact 90 = .ok (.getfield 46, 3) := by decide +kernel
theorem dX0_fact_93 : decode cX0_fact 93 = .ok (.getfield 88, 3) := by decide +kernel
theorem dX0_fact_96 : decode cX0_fact 96 = .ok (.istore_n 3, 1) := by decide +kernel
theorem dX0_fact_97 : decode cX0_fact 97 = .ok (.aload_n 0, 1) := by decide +kernel
theorem dX0_fact_98 : decode cX0_fact 98 = .ok (.getfield 46, 3) := by decide +kernel
theorem dX0_fact_101 : decode cX0_fact 101 = .ok (.getfield 108, 3) := by decide +kernel
theorem dX0_fact_104 : decode cX0_fact 104 = .ok (.iload_n 3, 1) := by decide +kernel
theorem dX0_fact_105 : decode cX0_fact 105 = .ok (.iload_n 1, 1) := by decide +kernel
theorem dX0_fact_106 : decode cX0_fact 106 = .ok (.iastore, 1) := by decide +kernel
theorem dX0_fact_107 : decode cX0_fact 107 = .ok (.aload_n 0, 1) := by decide +kernel
theorem dX0_fact_108 : decode cX0_fact 108 = .ok (.getfield 46, 3) := by decide +kernel
theorem dX0_fact_111 : decode cX0_fact 111 = .ok (.getfield 111, 3) := by decide +kernel
theorem dX0_fact_114 : decode cX0_fact 114 = .ok (.iload_n 3, 1) := by decide +kernel
theorem dX0_fact_115 : decode cX0_fact 115 = .ok (.iconst 0, 1) := by decide +kernel
theorem dX0_fact_116 : decode cX0_fact 116 = .ok (.iastore, 1) := by decide +kernel
theorem dX0_fact_117 : decode cX0_fact 117 = .ok (.aload_n 0, 1) := by decide +kernel
theorem dX0_fact_118 : decode cX0_fact 118 = .ok (.getfield 46, 3) := by decide +kernel
theorem dX0_fact_121 : decode cX0_fact 121 = .ok (.getfield 114, 3) := by decide +kernel
theorem dX0_fact_124 : decode cX0_fact 124 = .ok (.iload_n 3, 1) := by decide +kernel
theorem dX0_fact_125 : decode cX0_fact 125 = .ok (.iconst 0, 1) := by decide +kernel
theorem dX0_fact_126 : decode cX0_fact 126 = .ok (.iastore, 1) := by decide +kernel
theorem dX0_fact_127 : decode cX0_fact 127 = .ok (.aload_n 0, 1) := by decide +kernel
theorem dX0_fact_128 : decode cX0_fact 128 = .ok (.getfield 46, 3) := by decide +kernel
theorem dX0_fact_131 : decode cX0_fact 131 = .ok (.getfield 117, 3) := by decide +kernel
theorem dX0_fact_134 : decode cX0_fact 134 = .ok (.iload_n 3, 1) := by decide +kernel
theorem dX0_fact_135 : decode cX0_fact 135 = .ok (.iconst 0, 1) := by decide +kernel
theorem dX0_fact_136 : decode cX0_fact 136 = .ok (.iastore, 1) := by decide +kernel
theorem dX0_fact_137 : decode cX0_fact 137 = .ok (.aload_n 0, 1) := by decide +kernel
theorem dX0_fact_138 : decode cX0_fact 138 = .ok (.getfield 46, 3) := by decide +kernel
theorem dX0_fact_141 : decode cX0_fact 141 = .ok (.getfield 120, 3) := by decide +kernel
theorem dX0_fact_144 : decode cX0_fact 144 = .ok (.iload_n 3, 1) := by decide +kernel
theorem dX0_fact_145 : decode cX0_fact 145 = .ok (.iload_n 2, 1) := by decide +kernel
theorem dX0_fact_146 : decode cX0_fact 146 = .ok (.iastore, 1) := by decide +kernel
theorem dX0_fact_147 : decode cX0_fact 147 = .ok (.aload_n 0, 1) := by decide +kernel
theorem dX0_fact_148 : decode cX0_fact 148 = .ok (.getfield 46, 3) := by decide +kernel
theorem dX0_fact_151 : decode cX0_fact 151 = .ok (.dup, 1) := by decide +kernel
theorem dX0_fact_152 : decode cX0_fact 152 = .ok (.getfield 88, 3) := by decide +kernel
theorem dX0_fact_155 : decode cX0_fact 155 = .ok (.iconst 1, 1) := by decide +kernel
theorem dX0_fact_156 : decode cX0_fact 156 = .ok (.iadd, 1) := by decide +kernel
theorem dX0_fact_157 : decode cX0_fact 157 = .ok (.putfield 88, 3) := by decide +kernel
theorem dX0_fact_160 : decode cX0_fact 160 = .ok (.iload_n 3, 1) := by decide +kernel
theorem dX0_fact_161 : decode cX0_fact 161 = .ok (.ireturn, 1) := by decide +kernel
theorem dX0_fact_162 : decode cX0_fact 162 = .ok (.astore_n 3, 1) := by decide +kernel
theorem dX0_fact_163 : decode cX0_fact 163 = .ok (.aload_n 0, 1) := by decide +kernel
theorem dX0_fact_164 : decode cX0_fact 164 = .ok (.aload_n 3, 1) := by decide +kernel
theorem dX0_fact_165 : decode cX0_fact 165 = .ok (.invokevirtual 123, 3) := by decide +kernel
theorem dX0_fact_168 : decode cX0_fact 168 = .ok (.ireturn, 1) := by decide +kernel
theorem q129 : (Jvm.Cond.classLink "ChapterLoan" (8 : Nat) "ChapterLoan$Finding") ∈ lw_all := lw_g (lw_at lw_m1 45 rfl) rfl
theorem q410 : (Jvm.Cond.methodLink "ChapterLoan" (123 : Nat) ({ cls := "ChapterLoan", name := "finds", desc := "(LChapterLoan$Finding;)I" } : Jvm.MethodName)) ∈ lw_all := lw_g (lw_at lw_m2 86 rfl) rfl
theorem w_L_fact {l : Launch} {D : va_G} {cA : Nat → ClassId} {ks : List Nat} {ad : Nat → Nat} {A : Nat → Prop} (hO : klOk A ks ad) {st st' : CS} {x1 : Int32} {x2 : Int32} {r0 : Int32} (h : L_fact st x1 x2 = some (r0, st')) : Met l yX0_fact (wsW_ yX0_fact cX0_fact 4 (some .int) [(0, 161, 162, 8)]) (k2_rm 2 (40 * 2)) (cPre D cA ks ad A st [.ref (ad 60), .int x1, .int x2]) (cQ (some (.int r0)) D cA ks ad A st') 0 0 A := by
  refine cc_ofH (own := RX0) (by decide) rfl (Nat.le_of_ble_eq_true rfl) (fun p e s m below meth c R args ls C hr hlk htab hP hS hl hcs => ?_)
  have hx := C.1
  have hb := C.2.1
  have hown := C.2.2.2.1
  have hNst := C.2.2.2.2.2.2.2.1
  have hl : lv_has ls 4 [(0, .ref (ad 60)), (1, .int x1), (2, .int x2)] := hl
  rw [L_fact] at h
  refine lv_aload_n hx hb dX0_fact_0 rfl (lv_at hl 0 rfl) ?_
  refine lv_iload_n hx hb dX0_fact_1 rfl (lv_at hl 1 rfl) ?_
  refine lv_iconst (v := 0) hx hb dX0_fact_2 (by decide) ?_
  refine lv_sipush (v := 255) hx hb dX0_fact_3 (by decide) ?_
  obtain ⟨v1, hv1, h⟩ := bd1_some h
  refine k_L_in hx hb C.2.2.1 hown C.2.2.2.2.1 C.2.2.2.2.2.1 q399 hv1 (Nat.le_of_ble_eq_true rfl) hl.1 (Nat.le_of_ble_eq_true rfl) hcs dX0_fact_6 ?_
  refine lv_if_eq (tgt := 26) hx hb dX0_fact_9 rfl (fun c2 => ?_) (fun c2 => ?_)
  · have h := if_some_t h c2
    refine lv_iconst (v := 0) hx hb dX0_fact_26 (by decide) ?_
    refine lv_iconst (v := 1) hx hb dX0_fact_27 (by decide) ?_
    obtain ⟨o5, st4, hv3, h⟩ := bd2_some h
    rcases o5 with _ | v3
    · rw [onx_none] at h
      refine k_L_needT C hO hP hS hv3 q402 (Nat.le_of_ble_eq_true rfl) hl.1 (Nat.le_of_ble_eq_true rfl) hcs dX0_fact_28 (fun H locs hP hS => ?_)
      refine cc_catch (pre := []) (a1 := 0) (a2 := 161) (hp := 162) (post := []) C hO hP q129 htab rfl rfl ?_
      refine lv_astore_n (lv' := [(3, .ref (ad 61)), (0, .ref (ad 60)), (1, .int x1), (2, .int x2)]) hx hb dX0_fact_162 rfl hl (by decide) rfl (fun ls hl => ?_)
      refine lv_aload_n hx hb dX0_fact_163 rfl (lv_at hl 1 rfl) ?_
      refine lv_aload_n hx hb dX0_fact_164 rfl (lv_at hl 0 rfl) ?_
      obtain ⟨v6, st7, hv6, h⟩ := bd2_some h
      refine k_L_finds C hO hP hS hv6 q410 (Nat.le_of_ble_eq_true rfl) hl.1 (Nat.le_of_ble_eq_true rfl) hcs dX0_fact_165 (fun H locs hP hS => ?_)
      exact cc_viret hx hb hr hlk h hP hS dX0_fact_168
    · rw [onx_some] at h
      refine k_L_needR C hO hP hS hv3 q402 (Nat.le_of_ble_eq_true rfl) hl.1 (Nat.le_of_ble_eq_true rfl) hcs dX0_fact_28 (fun H locs hP hS => ?_)
      refine lv_aload_n hx hb dX0_fact_31 rfl (lv_at hl 0 rfl) ?_
      refine lv_aload_n hx hb dX0_fact_32 rfl (lv_at hl 0 rfl) ?_
      refine lg_town C hO hP dX0_fact_33 ?_
      refine tgN_facts (t := 0) C hO (by decide) hP dX0_fact_36 ?_
      refine lv_bipush (v := 8) hx hb dX0_fact_39 (by decide) ?_
      refine lv_icmp_eq (tgt := 58) hx hb dX0_fact_41 rfl (fun c8 => ?_) (fun c8 => ?_)
      · have h := if_some_t h c8
        refine lv_iconst (v := 1) hx hb dX0_fact_58 (by decide) ?_
        refine lv_goto (tgt := 63) hx hb dX0_fact_59 rfl ?_
        refine lv_iconst (v := 1) hx hb dX0_fact_63 (by decide) ?_
        obtain ⟨o11, st10, hv9, h⟩ := bd2_some h
        rcases o11 with _ | v9
        · rw [onx_none] at h
          refine k_L_needT C hO hP hS hv9 q402 (Nat.le_of_ble_eq_true rfl) hl.1 (Nat.le_of_ble_eq_true rfl) hcs dX0_fact_64 (fun H locs hP hS => ?_)
          refine cc_catch (pre := []) (a1 := 0) (a2 := 161) (hp := 162) (post := []) C hO hP q129 htab rfl rfl ?_
          refine lv_astore_n (lv' := [(3, .ref (ad 61)), (0, .ref (ad 60)), (1, .int x1), (2, .int x2)]) hx hb dX0_fact_162 rfl hl (by decide) rfl (fun ls hl => ?_)
          refine lv_aload_n hx hb dX0_fact_163 rfl (lv_at hl 1 rfl) ?_
          refine lv_aload_n hx hb dX0_fact_164 rfl (lv_at hl 0 rfl) ?_
          obtain ⟨v12, st13, hv12, h⟩ := bd2_some h
          refine k_L_finds C hO hP hS hv12 q410 (Nat.le_of_ble_eq_true rfl) hl.1 (Nat.le_of_ble_eq_true rfl) hcs dX0_fact_165 (fun H locs hP hS => ?_)
          exact cc_viret hx hb hr hlk h hP hS dX0_fact_168
        · rw [onx_some] at h
          refine k_L_needR C hO hP hS hv9 q402 (Nat.le_of_ble_eq_true rfl) hl.1 (Nat.le_of_ble_eq_true rfl) hcs dX0_fact_64 (fun H locs hP hS => ?_)
          refine lv_aload_n hx hb dX0_fact_67 rfl (lv_at hl 0 rfl) ?_
          refine lv_aload_n hx hb dX0_fact_68 rfl (lv_at hl 0 rfl) ?_
          refine lg_town C hO hP dX0_fact_69 ?_
          refine tgN_facts (t := 0) C hO (by decide) hP dX0_fact_72 ?_
          refine lv_bipush (v := 8) hx hb dX0_fact_75 (by decide) ?_
          refine lv_icmp_ge (tgt := 84) hx hb dX0_fact_77 rfl (fun c14 => ?_) (fun c14 => ?_)
          · have h := if_some_t h c14
            refine lv_iconst (v := 0) hx hb dX0_fact_84 (by decide) ?_
            refine lv_iconst (v := 4) hx hb dX0_fact_85 (by decide) ?_
            obtain ⟨o17, st16, hv15, h⟩ := bd2_some h
            rcases o17 with _ | v15
            · rw [onx_none] at h
              refine k_L_needT C hO hP hS hv15 q402 (Nat.le_of_ble_eq_true rfl) hl.1 (Nat.le_of_ble_eq_true rfl) hcs dX0_fact_86 (fun H locs hP hS => ?_)
              refine cc_catch (pre := []) (a1 := 0) (a2 := 161) (hp := 162) (post := []) C hO hP q129 htab rfl rfl ?_
              refine lv_astore_n (lv' := [(3, .ref (ad 61)), (0, .ref (ad 60)), (1, .int x1), (2, .int x2)]) hx hb dX0_fact_162 rfl hl (by decide) rfl (fun ls hl => ?_)
              refine lv_aload_n hx hb dX0_fact_163 rfl (lv_at hl 1 rfl) ?_
              refine lv_aload_n hx hb dX0_fact_164 rfl (lv_at hl 0 rfl) ?_
              obtain ⟨v18, st19, hv18, h⟩ := bd2_some h
              refine k_L_finds C hO hP hS hv18 q410 (Nat.le_of_ble_eq_true rfl) hl.1 (Nat.le_of_ble_eq_true rfl) hcs dX0_fact_165 (fun H locs hP hS => ?_)
              exact cc_viret hx hb hr hlk h hP hS dX0_fact_168
            · rw [onx_some] at h
              refine k_L_needR C hO hP hS hv15 q402 (Nat.le_of_ble_eq_true rfl) hl.1 (Nat.le_of_ble_eq_true rfl) hcs dX0_fact_86 (fun H locs hP hS => ?_)
              refine lv_aload_n hx hb dX0_fact_89 rfl (lv_at hl 0 rfl) ?_
              refine lg_town C hO hP dX0_fact_90 ?_
              refine tgN_facts (t := 0) C hO (by decide) hP dX0_fact_93 ?_
              refine lv_istore_n (lv' := [(3, .int (st16.1 (20 * 0) 0)), (0, .ref (ad 60)), (1, .int x1), (2, .int x2)]) hx hb dX0_fact_96 rfl hl (by decide) rfl (fun ls hl => ?_)
              refine lv_aload_n hx hb dX0_fact_97 rfl (lv_at hl 1 rfl) ?_
              refine lg_town C hO hP dX0_fact_98 ?_
              refine tgN_needs (t := 0) C hO (by decide) hP dX0_fact_101 ?_
              refine lv_iload_n hx hb dX0_fact_104 rfl (lv_at hl 0 rfl) ?_
              refine lv_iload_n hx hb dX0_fact_105 rfl (lv_at hl 2 rfl) ?_
              obtain ⟨b20, hb20, h⟩ := bd1_some h
              refine cc_ist C hO hP hS (hO.2.2.2 _ (tk_ 1 (by decide) (by decide))) (cg_t 1 (by decide) (by decide)) hb20 (cg_At 1 (by decide) (by decide)) hP.2 dX0_fact_106 (fun H locs hP hS => ?_)
              refine lv_aload_n hx hb dX0_fact_107 rfl (lv_at hl 1 rfl) ?_
              refine lg_town C hO hP dX0_fact_108 ?_
              refine tgN_clashes (t := 0) C hO (by decide) hP dX0_fact_111 ?_
              refine lv_iload_n hx hb dX0_fact_114 rfl (lv_at hl 0 rfl) ?_
              refine lv_iconst (v := 0) hx hb dX0_fact_115 (by decide) ?_
              obtain ⟨b21, hb21, h⟩ := bd1_some h
              refine cc_ist C hO hP hS (hO.2.2.2 _ (tk_ 2 (by decide) (by decide))) (cg_t 2 (by decide) (by decide)) hb21 (cg_At 2 (by decide) (by decide)) hP.2 dX0_fact_116 (fun H locs hP hS => ?_)
              refine lv_aload_n hx hb dX0_fact_117 rfl (lv_at hl 1 rfl) ?_
              refine lg_town C hO hP dX0_fact_118 ?_
              refine tgN_within (t := 0) C hO (by decide) hP dX0_fact_121 ?_
              refine lv_iload_n hx hb dX0_fact_124 rfl (lv_at hl 0 rfl) ?_
              refine lv_iconst (v := 0) hx hb dX0_fact_125 (by decide) ?_
              obtain ⟨b22, hb22, h⟩ := bd1_some h
              refine cc_ist C hO hP hS (hO.2.2.2 _ (tk_ 3 (by decide) (by decide))) (cg_t 3 (by decide) (by decide)) hb22 (cg_At 3 (by decide) (by decide)) hP.2 dX0_fact_126 (fun H locs hP hS => ?_)
              refine lv_aload_n hx hb dX0_fact_127 rfl (lv_at hl 1 rfl) ?_
              refine lg_town C hO hP dX0_fact_128 ?_
              refine tgN_by (t := 0) C hO (by decide) hP dX0_fact_131 ?_
              refine lv_iload_n hx hb dX0_fact_134 rfl (lv_at hl 0 rfl) ?_
              refine lv_iconst (v := 0) hx hb dX0_fact_135 (by decide) ?_
              obtain ⟨b23, hb23, h⟩ := bd1_some h
              refine cc_ist C hO hP hS (hO.2.2.2 _ (tk_ 4 (by decide) (by decide))) (cg_t 4 (by decide) (by decide)) hb23 (cg_At 4 (by decide) (by decide)) hP.2 dX0_fact_136 (fun H locs hP hS => ?_)
              refine lv_aload_n hx hb dX0_fact_137 rfl (lv_at hl 1 rfl) ?_
              refine lg_town C hO hP dX0_fact_138 ?_
              refine tgN_witnesses (t := 0) C hO (by decide) hP dX0_fact_141 ?_
              refine lv_iload_n hx hb dX0_fact_144 rfl (lv_at hl 0 rfl) ?_
              refine lv_iload_n hx hb dX0_fact_145 rfl (lv_at hl 3 rfl) ?_
              obtain ⟨b24, hb24, h⟩ := bd1_some h
              refine cc_ist C hO hP hS (hO.2.2.2 _ (tk_ 5 (by decide) (by decide))) (cg_t 5 (by decide) (by decide)) hb24 (cg_At 5 (by decide) (by decide)) hP.2 dX0_fact_146 (fun H locs hP hS => ?_)
              refine lv_aload_n hx hb dX0_fact_147 rfl (lv_at hl 1 rfl) ?_
              refine lg_town C hO hP dX0_fact_148 ?_
              refine lv_dup hx hb dX0_fact_151 rfl ?_
              refine tgN_facts (t := 0) C hO (by decide) hP dX0_fact_152 ?_
              refine lv_iconst (v := 1) hx hb dX0_fact_155 (by decide) ?_
              refine lv_iadd hx hb dX0_fact_156 ?_
              refine tpN_facts (t := 0) C hO (by decide) hP hS dX0_fact_157 (fun H locs hP hS => ?_)
              refine lv_iload_n hx hb dX0_fact_160 rfl (lv_at hl 0 rfl) ?_
              exact cc_viret hx hb hr hlk h hP hS dX0_fact_161
          · have h := if_some_f h c14
            refine lv_iconst (v := 1) hx hb dX0_fact_80 (by decide) ?_
            refine lv_goto (tgt := 85) hx hb dX0_fact_81 rfl ?_
            refine lv_iconst (v := 4) hx hb dX0_fact_85 (by decide) ?_
            obtain ⟨o27, st26, hv25, h⟩ := bd2_some h
            rcases o27 with _ | v25
            · rw [onx_none] at h
              refine k_L_needT C hO hP hS hv25 q402 (Nat.le_of_ble_eq_true rfl) hl.1 (Nat.le_of_ble_eq_true rfl) hcs dX0_fact_86 (fun H locs hP hS => ?_)
              refine cc_catch (pre := []) (a1 := 0) (a2 := 161) (hp := 162) (post := []) C hO hP q129 htab rfl rfl ?_
              refine lv_astore_n (lv' := [(3, .ref (ad 61)), (0, .ref (ad 60)), (1, .int x1), (2, .int x2)]) hx hb dX0_fact_162 rfl hl (by decide) rfl (fun ls hl => ?_)
              refine lv_aload_n hx hb dX0_fact_163 rfl (lv_at hl 1 rfl) ?_
              refine lv_aload_n hx hb dX0_fact_164 rfl (lv_at hl 0 rfl) ?_
              obtain ⟨v28, st29, hv28, h⟩ := bd2_some h
              refine k_L_finds C hO hP hS hv28 q410 (Nat.le_of_ble_eq_true rfl) hl.1 (Nat.le_of_ble_eq_true rfl) hcs dX0_fact_165 (fun H locs hP hS => ?_)
              exact cc_viret hx hb hr hlk h hP hS dX0_fact_168
            · rw [onx_some] at h
              refine k_L_needR C hO hP hS hv25 q402 (Nat.le_of_ble_eq_true rfl) hl.1 (Nat.le_of_ble_eq_true rfl) hcs dX0_fact_86 (fun H locs hP hS => ?_)
              refine lv_aload_n hx hb dX0_fact_89 rfl (lv_at hl 0 rfl) ?_
              refine lg_town C hO hP dX0_fact_90 ?_
              refine tgN_facts (t := 0) C hO (by decide) hP dX0_fact_93 ?_
              refine lv_istore_n (lv' := [(3, .int (st26.1 (20 * 0) 0)), (0, .ref (ad 60)), (1, .int x1), (2, .int x2)]) hx hb dX0_fact_96 rfl hl (by decide) rfl (fun ls hl => ?_)
              refine lv_aload_n hx hb dX0_fact_97 rfl (lv_at hl 1 rfl) ?_
              refine lg_town C hO hP dX0_fact_98 ?_
              refine tgN_needs (t := 0) C hO (by decide) hP dX0_fact_101 ?_
              refine lv_iload_n hx hb dX0_fact_104 rfl (lv_at hl 0 rfl) ?_
              refine lv_iload_n hx hb dX0_fact_105 rfl (lv_at hl 2 rfl) ?_
              obtain ⟨b30, hb30, h⟩ := bd1_some h
              refine cc_ist C hO hP hS (hO.2.2.2 _ (tk_ 1 (by decide) (by decide))) (cg_t 1 (by decide) (by decide)) hb30 (cg_At 1 (by decide) (by decide)) hP.2 dX0_fact_106 (fun H locs hP hS => ?_)
              refine lv_aload_n hx hb dX0_fact_107 rfl (lv_at hl 1 rfl) ?_
              refine lg_town C hO hP dX0_fact_108 ?_
              refine tgN_clashes (t := 0) C hO (by decide) hP dX0_fact_111 ?_
              refine lv_iload_n hx hb dX0_fact_114 rfl (lv_at hl 0 rfl) ?_
              refine lv_iconst (v := 0) hx hb dX0_fact_115 (by decide) ?_
              obtain ⟨b31, hb31, h⟩ := bd1_some h
              refine cc_ist C hO hP hS (hO.2.2.2 _ (tk_ 2 (by decide) (by decide))) (cg_t 2 (by decide) (by decide)) hb31 (cg_At 2 (by decide) (by decide)) hP.2 dX0_fact_116 (fun H locs hP hS => ?_)
              refine lv_aload_n hx hb dX0_fact_117 rfl (lv_at hl 1 rfl) ?_
              refine lg_town C hO hP dX0_fact_118 ?_
              refine tgN_within (t := 0) C hO (by decide) hP dX0_fact_121 ?_
              refine lv_iload_n hx hb dX0_fact_124 rfl (lv_at hl 0 rfl) ?_
              refine lv_iconst (v := 0) hx hb dX0_fact_125 (by decide) ?_
              obtain ⟨b32, hb32, h⟩ := bd1_some h
              refine cc_ist C hO hP hS (hO.2.2.2 _ (tk_ 3 (by decide) (by decide))) (cg_t 3 (by decide) (by decide)) hb32 (cg_At 3 (by decide) (by decide)) hP.2 dX0_fact_126 (fun H locs hP hS => ?_)
              refine lv_aload_n hx hb dX0_fact_127 rfl (lv_at hl 1 rfl) ?_
              refine lg_town C hO hP dX0_fact_128 ?_
              refine tgN_by (t := 0) C hO (by decide) hP dX0_fact_131 ?_
              refine lv_iload_n hx hb dX0_fact_134 rfl (lv_at hl 0 rfl) ?_
              refine lv_iconst (v := 0) hx hb dX0_fact_135 (by decide) ?_
              obtain ⟨b33, hb33, h⟩ := bd1_some h
              refine cc_ist C hO hP hS (hO.2.2.2 _ (tk_ 4 (by decide) (by decide))) (cg_t 4 (by decide) (by decide)) hb33 (cg_At 4 (by decide) (by decide)) hP.2 dX0_fact_136 (fun H locs hP hS => ?_)
              refine lv_aload_n hx hb dX0_fact_137 rfl (lv_at hl 1 rfl) ?_
              refine lg_town C hO hP dX0_fact_138 ?_
              refine tgN_witnesses (t := 0) C hO (by decide) hP dX0_fact_141 ?_
              refine lv_iload_n hx hb dX0_fact_144 rfl (lv_at hl 0 rfl) ?_
              refine lv_iload_n hx hb dX0_fact_145 rfl (lv_at hl 3 rfl) ?_
              obtain ⟨b34, hb34, h⟩ := bd1_some h
              refine cc_ist C hO hP hS (hO.2.2.2 _ (tk_ 5 (by decide) (by decide))) (cg_t 5 (by decide) (by decide)) hb34 (cg_At 5 (by decide) (by decide)) hP.2 dX0_fact_146 (fun H locs hP hS => ?_)
              refine lv_aload_n hx hb dX0_fact_147 rfl (lv_at hl 1 rfl) ?_
              refine lg_town C hO hP dX0_fact_148 ?_
              refine lv_dup hx hb dX0_fact_151 rfl ?_
              refine tgN_facts (t := 0) C hO (by decide) hP dX0_fact_152 ?_
              refine lv_iconst (v := 1) hx hb dX0_fact_155 (by decide) ?_
              refine lv_iadd hx hb dX0_fact_156 ?_
              refine tpN_facts (t := 0) C hO (by decide) hP hS dX0_fact_157 (fun H locs hP hS => ?_)
              refine lv_iload_n hx hb dX0_fact_160 rfl (lv_at hl 0 rfl) ?_
              exact cc_viret hx hb hr hlk h hP hS dX0_fact_161
      · have h := if_some_f h c8
        refine lv_iload_n hx hb dX0_fact_44 rfl (lv_at hl 1 rfl) ?_
        refine lv_aload_n hx hb dX0_fact_45 rfl (lv_at hl 0 rfl) ?_
        refine lg_town C hO hP dX0_fact_46 ?_
        refine tgN_facts (t := 0) C hO (by decide) hP dX0_fact_49 ?_
        refine lv_ishr hx hb dX0_fact_52 ?_
        refine lv_iconst (v := 1) hx hb dX0_fact_53 (by decide) ?_
        refine lv_iand hx hb dX0_fact_54 ?_
        refine lv_if_ne (tgt := 62) hx hb dX0_fact_55 rfl (fun c35 => ?_) (fun c35 => ?_)
        · have h := if_some_f h c35
          refine lv_iconst (v := 0) hx hb dX0_fact_62 (by decide) ?_
          refine lv_iconst (v := 1) hx hb dX0_fact_63 (by decide) ?_
          obtain ⟨o38, st37, hv36, h⟩ := bd2_some h
          rcases o38 with _ | v36
          · rw [onx_none] at h
            refine k_L_needT C hO hP hS hv36 q402 (Nat.le_of_ble_eq_true rfl) hl.1 (Nat.le_of_ble_eq_true rfl) hcs dX0_fact_64 (fun H locs hP hS => ?_)
            refine cc_catch (pre := []) (a1 := 0) (a2 := 161) (hp := 162) (post := []) C hO hP q129 htab rfl rfl ?_
            refine lv_astore_n (lv' := [(3, .ref (ad 61)), (0, .ref (ad 60)), (1, .int x1), (2, .int x2)]) hx hb dX0_fact_162 rfl hl (by decide) rfl (fun ls hl => ?_)
            refine lv_aload_n hx hb dX0_fact_163 rfl (lv_at hl 1 rfl) ?_
            refine lv_aload_n hx hb dX0_fact_164 rfl (lv_at hl 0 rfl) ?_
            obtain ⟨v39, st40, hv39, h⟩ := bd2_some h
            refine k_L_finds C hO hP hS hv39 q410 (Nat.le_of_ble_eq_true rfl) hl.1 (Nat.le_of_ble_eq_true rfl) hcs dX0_fact_165 (fun H locs hP hS => ?_)
            exact cc_viret hx hb hr hlk h hP hS dX0_fact_168
          · rw [onx_some] at h
            refine k_L_needR C hO hP hS hv36 q402 (Nat.le_of_ble_eq_true rfl) hl.1 (Nat.le_of_ble_eq_true rfl) hcs dX0_fact_64 (fun H locs hP hS => ?_)
            refine lv_aload_n hx hb dX0_fact_67 rfl (lv_at hl 0 rfl) ?_
            refine lv_aload_n hx hb dX0_fact_68 rfl (lv_at hl 0 rfl) ?_
            refine lg_town C hO hP dX0_fact_69 ?_
            refine tgN_facts (t := 0) C hO (by decide) hP dX0_fact_72 ?_
            refine lv_bipush (v := 8) hx hb dX0_fact_75 (by decide) ?_
            refine lv_icmp_ge (tgt := 84) hx hb dX0_fact_77 rfl (fun c41 => ?_) (fun c41 => ?_)
            · have h := if_some_t h c41
              refine lv_iconst (v := 0) hx hb dX0_fact_84 (by decide) ?_
              refine lv_iconst (v := 4) hx hb dX0_fact_85 (by decide) ?_
              obtain ⟨o44, st43, hv42, h⟩ := bd2_some h
              rcases o44 with _ | v42
              · rw [onx_none] at h
                refine k_L_needT C hO hP hS hv42 q402 (Nat.le_of_ble_eq_true rfl) hl.1 (Nat.le_of_ble_eq_true rfl) hcs dX0_fact_86 (fun H locs hP hS => ?_)
                refine cc_catch (pre := []) (a1 := 0) (a2 := 161) (hp := 162) (post := []) C hO hP q129 htab rfl rfl ?_
                refine lv_astore_n (lv' := [(3, .ref (ad 61)), (0, .ref (ad 60)), (1, .int x1), (2, .int x2)]) hx hb dX0_fact_162 rfl hl (by decide) rfl (fun ls hl => ?_)
                refine lv_aload_n hx hb dX0_fact_163 rfl (lv_at hl 1 rfl) ?_
                refine lv_aload_n hx hb dX0_fact_164 rfl (lv_at hl 0 rfl) ?_
                obtain ⟨v45, st46, hv45, h⟩ := bd2_some h
                refine k_L_finds C hO hP hS hv45 q410 (Nat.le_of_ble_eq_true rfl) hl.1 (Nat.le_of_ble_eq_true rfl) hcs dX0_fact_165 (fun H locs hP hS => ?_)
                exact cc_viret hx hb hr hlk h hP hS dX0_fact_168
              · rw [onx_some] at h
                refine k_L_needR C hO hP hS hv42 q402 (Nat.le_of_ble_eq_true rfl) hl.1 (Nat.le_of_ble_eq_true rfl) hcs dX0_fact_86 (fun H locs hP hS => ?_)
                refine lv_aload_n hx hb dX0_fact_89 rfl (lv_at hl 0 rfl) ?_
                refine lg_town C hO hP dX0_fact_90 ?_
                refine tgN_facts (t := 0) C hO (by decide) hP dX0_fact_93 ?_
                refine lv_istore_n (lv' := [(3, .int (st43.1 (20 * 0) 0)), (0, .ref (ad 60)), (1, .int x1), (2, .int x2)]) hx hb dX0_fact_96 rfl hl (by decide) rfl (fun ls hl => ?_)
                refine lv_aload_n hx hb dX0_fact_97 rfl (lv_at hl 1 rfl) ?_
                refine lg_town C hO hP dX0_fact_98 ?_
                refine tgN_needs (t := 0) C hO (by decide) hP dX0_fact_101 ?_
                refine lv_iload_n hx hb dX0_fact_104 rfl (lv_at hl 0 rfl) ?_
                refine lv_iload_n hx hb dX0_fact_105 rfl (lv_at hl 2 rfl) ?_
                obtain ⟨b47, hb47, h⟩ := bd1_some h
                refine cc_ist C hO hP hS (hO.2.2.2 _ (tk_ 1 (by decide) (by decide))) (cg_t 1 (by decide) (by decide)) hb47 (cg_At 1 (by decide) (by decide)) hP.2 dX0_fact_106 (fun H locs hP hS => ?_)
                refine lv_aload_n hx hb dX0_fact_107 rfl (lv_at hl 1 rfl) ?_
                refine lg_town C hO hP dX0_fact_108 ?_
                refine tgN_clashes (t := 0) C hO (by decide) hP dX0_fact_111 ?_
                refine lv_iload_n hx hb dX0_fact_114 rfl (lv_at hl 0 rfl) ?_
                refine lv_iconst (v := 0) hx hb dX0_fact_115 (by decide) ?_
                obtain ⟨b48, hb48, h⟩ := bd1_some h
                refine cc_ist C hO hP hS (hO.2.2.2 _ (tk_ 2 (by decide) (by decide))) (cg_t 2 (by decide) (by decide)) hb48 (cg_At 2 (by decide) (by decide)) hP.2 dX0_fact_116 (fun H locs hP hS => ?_)
                refine lv_aload_n hx hb dX0_fact_117 rfl (lv_at hl 1 rfl) ?_
                refine lg_town C hO hP dX0_fact_118 ?_
                refine tgN_within (t := 0) C hO (by decide) hP dX0_fact_121 ?_
                refine lv_iload_n hx hb dX0_fact_124 rfl (lv_at hl 0 rfl) ?_
                refine lv_iconst (v := 0) hx hb dX0_fact_125 (by decide) ?_
                obtain ⟨b49, hb49, h⟩ := bd1_some h
                refine cc_ist C hO hP hS (hO.2.2.2 _ (tk_ 3 (by decide) (by decide))) (cg_t 3 (by decide) (by decide)) hb49 (cg_At 3 (by decide) (by decide)) hP.2 dX0_fact_126 (fun H locs hP hS => ?_)
                refine lv_aload_n hx hb dX0_fact_127 rfl (lv_at hl 1 rfl) ?_
                refine lg_town C hO hP dX0_fact_128 ?_
                refine tgN_by (t := 0) C hO (by decide) hP dX0_fact_131 ?_
                refine lv_iload_n hx hb dX0_fact_134 rfl (lv_at hl 0 rfl) ?_
                refine lv_iconst (v := 0) hx hb dX0_fact_135 (by decide) ?_
                obtain ⟨b50, hb50, h⟩ := bd1_some h
                refine cc_ist C hO hP hS (hO.2.2.2 _ (tk_ 4 (by decide) (by decide))) (cg_t 4 (by decide) (by decide)) hb50 (cg_At 4 (by decide) (by decide)) hP.2 dX0_fact_136 (fun H locs hP hS => ?_)
                refine lv_aload_n hx hb dX0_fact_137 rfl (lv_at hl 1 rfl) ?_
                refine lg_town C hO hP dX0_fact_138 ?_
                refine tgN_witnesses (t := 0) C hO (by decide) hP dX0_fact_141 ?_
                refine lv_iload_n hx hb dX0_fact_144 rfl (lv_at hl 0 rfl) ?_
                refine lv_iload_n hx hb dX0_fact_145 rfl (lv_at hl 3 rfl) ?_
                obtain ⟨b51, hb51, h⟩ := bd1_some h
                refine cc_ist C hO hP hS (hO.2.2.2 _ (tk_ 5 (by decide) (by decide))) (cg_t 5 (by decide) (by decide)) hb51 (cg_At 5 (by decide) (by decide)) hP.2 dX0_fact_146 (fun H locs hP hS => ?_)
                refine lv_aload_n hx hb dX0_fact_147 rfl (lv_at hl 1 rfl) ?_
                refine lg_town C hO hP dX0_fact_148 ?_
                refine lv_dup hx hb dX0_fact_151 rfl ?_
                refine tgN_facts (t := 0) C hO (by decide) hP dX0_fact_152 ?_
                refine lv_iconst (v := 1) hx hb dX0_fact_155 (by decide) ?_
                refine lv_iadd hx hb dX0_fact_156 ?_
                refine tpN_facts (t := 0) C hO (by decide) hP hS dX0_fact_157 (fun H locs hP hS => ?_)
                refine lv_iload_n hx hb dX0_fact_160 rfl (lv_at hl 0 rfl) ?_
                exact cc_viret hx hb hr hlk h hP hS dX0_fact_161
            · have h := if_some_f h c41
              refine lv_iconst (v := 1) hx hb dX0_fact_80 (by decide) ?_
              refine lv_goto (tgt := 85) hx hb dX0_fact_81 rfl ?_
              refine lv_iconst (v := 4) hx hb dX0_fact_85 (by decide) ?_
              obtain ⟨o54, st53, hv52, h⟩ := bd2_some h
              rcases o54 with _ | v52
              · rw [onx_none] at h
                refine k_L_needT C hO hP hS hv52 q402 (Nat.le_of_ble_eq_true rfl) hl.1 (Nat.le_of_ble_eq_true rfl) hcs dX0_fact_86 (fun H locs hP hS => ?_)
                refine cc_catch (pre := []) (a1 := 0) (a2 := 161) (hp := 162) (post := []) C hO hP q129 htab rfl rfl ?_
                refine lv_astore_n (lv' := [(3, .ref (ad 61)), (0, .ref (ad 60)), (1, .int x1), (2, .int x2)]) hx hb dX0_fact_162 rfl hl (by decide) rfl (fun ls hl => ?_)
                refine lv_aload_n hx hb dX0_fact_163 rfl (lv_at hl 1 rfl) ?_
                refine lv_aload_n hx hb dX0_fact_164 rfl (lv_at hl 0 rfl) ?_
                obtain ⟨v55, st56, hv55, h⟩ := bd2_some h
                refine k_L_finds C hO hP hS hv55 q410 (Nat.le_of_ble_eq_true rfl) hl.1 (Nat.le_of_ble_eq_true rfl) hcs dX0_fact_165 (fun H locs hP hS => ?_)
                exact cc_viret hx hb hr hlk h hP hS dX0_fact_168
              · rw [onx_some] at h
                refine k_L_needR C hO hP hS hv52 q402 (Nat.le_of_ble_eq_true rfl) hl.1 (Nat.le_of_ble_eq_true rfl) hcs dX0_fact_86 (fun H locs hP hS => ?_)
                refine lv_aload_n hx hb dX0_fact_89 rfl (lv_at hl 0 rfl) ?_
                refine lg_town C hO hP dX0_fact_90 ?_
                refine tgN_facts (t := 0) C hO (by decide) hP dX0_fact_93 ?_
                refine lv_istore_n (lv' := [(3, .int (st53.1 (20 * 0) 0)), (0, .ref (ad 60)), (1, .int x1), (2, .int x2)]) hx hb dX0_fact_96 rfl hl (by decide) rfl (fun ls hl => ?_)
                refine lv_aload_n hx hb dX0_fact_97 rfl (lv_at hl 1 rfl) ?_
                refine lg_town C hO hP dX0_fact_98 ?_
                refine tgN_needs (t := 0) C hO (by decide) hP dX0_fact_101 ?_
                refine lv_iload_n hx hb dX0_fact_104 rfl (lv_at hl 0 rfl) ?_
                refine lv_iload_n hx hb dX0_fact_105 rfl (lv_at hl 2 rfl) ?_
                obtain ⟨b57, hb57, h⟩ := bd1_some h
                refine cc_ist C hO hP hS (hO.2.2.2 _ (tk_ 1 (by decide) (by decide))) (cg_t 1 (by decide) (by decide)) hb57 (cg_At 1 (by decide) (by decide)) hP.2 dX0_fact_106 (fun H locs hP hS => ?_)
                refine lv_aload_n hx hb dX0_fact_107 rfl (lv_at hl 1 rfl) ?_
                refine lg_town C hO hP dX0_fact_108 ?_
                refine tgN_clashes (t := 0) C hO (by decide) hP dX0_fact_111 ?_
                refine lv_iload_n hx hb dX0_fact_114 rfl (lv_at hl 0 rfl) ?_
                refine lv_iconst (v := 0) hx hb dX0_fact_115 (by decide) ?_
                obtain ⟨b58, hb58, h⟩ := bd1_some h
                refine cc_ist C hO hP hS (hO.2.2.2 _ (tk_ 2 (by decide) (by decide))) (cg_t 2 (by decide) (by decide)) hb58 (cg_At 2 (by decide) (by decide)) hP.2 dX0_fact_116 (fun H locs hP hS => ?_)
                refine lv_aload_n hx hb dX0_fact_117 rfl (lv_at hl 1 rfl) ?_
                refine lg_town C hO hP dX0_fact_118 ?_
                refine tgN_within (t := 0) C hO (by decide) hP dX0_fact_121 ?_
                refine lv_iload_n hx hb dX0_fact_124 rfl (lv_at hl 0 rfl) ?_
                refine lv_iconst (v := 0) hx hb dX0_fact_125 (by decide) ?_
                obtain ⟨b59, hb59, h⟩ := bd1_some h
                refine cc_ist C hO hP hS (hO.2.2.2 _ (tk_ 3 (by decide) (by decide))) (cg_t 3 (by decide) (by decide)) hb59 (cg_At 3 (by decide) (by decide)) hP.2 dX0_fact_126 (fun H locs hP hS => ?_)
                refine lv_aload_n hx hb dX0_fact_127 rfl (lv_at hl 1 rfl) ?_
                refine lg_town C hO hP dX0_fact_128 ?_
                refine tgN_by (t := 0) C hO (by decide) hP dX0_fact_131 ?_
                refine lv_iload_n hx hb dX0_fact_134 rfl (lv_at hl 0 rfl) ?_
                refine lv_iconst (v := 0) hx hb dX0_fact_135 (by decide) ?_
                obtain ⟨b60, hb60, h⟩ := bd1_some h
                refine cc_ist C hO hP hS (hO.2.2.2 _ (tk_ 4 (by decide) (by decide))) (cg_t 4 (by decide) (by decide)) hb60 (cg_At 4 (by decide) (by decide)) hP.2 dX0_fact_136 (fun H locs hP hS => ?_)
                refine lv_aload_n hx hb dX0_fact_137 rfl (lv_at hl 1 rfl) ?_
                refine lg_town C hO hP dX0_fact_138 ?_
                refine tgN_witnesses (t := 0) C hO (by decide) hP dX0_fact_141 ?_
                refine lv_iload_n hx hb dX0_fact_144 rfl (lv_at hl 0 rfl) ?_
                refine lv_iload_n hx hb dX0_fact_145 rfl (lv_at hl 3 rfl) ?_
                obtain ⟨b61, hb61, h⟩ := bd1_some h
                refine cc_ist C hO hP hS (hO.2.2.2 _ (tk_ 5 (by decide) (by decide))) (cg_t 5 (by decide) (by decide)) hb61 (cg_At 5 (by decide) (by decide)) hP.2 dX0_fact_146 (fun H locs hP hS => ?_)
                refine lv_aload_n hx hb dX0_fact_147 rfl (lv_at hl 1 rfl) ?_
                refine lg_town C hO hP dX0_fact_148 ?_
                refine lv_dup hx hb dX0_fact_151 rfl ?_
                refine tgN_facts (t := 0) C hO (by decide) hP dX0_fact_152 ?_
                refine lv_iconst (v := 1) hx hb dX0_fact_155 (by decide) ?_
                refine lv_iadd hx hb dX0_fact_156 ?_
                refine tpN_facts (t := 0) C hO (by decide) hP hS dX0_fact_157 (fun H locs hP hS => ?_)
                refine lv_iload_n hx hb dX0_fact_160 rfl (lv_at hl 0 rfl) ?_
                exact cc_viret hx hb hr hlk h hP hS dX0_fact_161
        · have h := if_some_t h c35
          refine lv_iconst (v := 1) hx hb dX0_fact_58 (by decide) ?_
          refine lv_goto (tgt := 63) hx hb dX0_fact_59 rfl ?_
          refine lv_iconst (v := 1) hx hb dX0_fact_63 (by decide) ?_
          obtain ⟨o64, st63, hv62, h⟩ := bd2_some h
          rcases o64 with _ | v62
          · rw [onx_none] at h
            refine k_L_needT C hO hP hS hv62 q402 (Nat.le_of_ble_eq_true rfl) hl.1 (Nat.le_of_ble_eq_true rfl) hcs dX0_fact_64 (fun H locs hP hS => ?_)
            refine cc_catch (pre := []) (a1 := 0) (a2 := 161) (hp := 162) (post := []) C hO hP q129 htab rfl rfl ?_
            refine lv_astore_n (lv' := [(3, .ref (ad 61)), (0, .ref (ad 60)), (1, .int x1), (2, .int x2)]) hx hb dX0_fact_162 rfl hl (by decide) rfl (fun ls hl => ?_)
            refine lv_aload_n hx hb dX0_fact_163 rfl (lv_at hl 1 rfl) ?_
            refine lv_aload_n hx hb dX0_fact_164 rfl (lv_at hl 0 rfl) ?_
            obtain ⟨v65, st66, hv65, h⟩ := bd2_some h
            refine k_L_finds C hO hP hS hv65 q410 (Nat.le_of_ble_eq_true rfl) hl.1 (Nat.le_of_ble_eq_true rfl) hcs dX0_fact_165 (fun H locs hP hS => ?_)
            exact cc_viret hx hb hr hlk h hP hS dX0_fact_168
          · rw [onx_some] at h
            refine k_L_needR C hO hP hS hv62 q402 (Nat.le_of_ble_eq_true rfl) hl.1 (Nat.le_of_ble_eq_true rfl) hcs dX0_fact_64 (fun H locs hP hS => ?_)
            refine lv_aload_n hx hb dX0_fact_67 rfl (lv_at hl 0 rfl) ?_
            refine lv_aload_n hx hb dX0_fact_68 rfl (lv_at hl 0 rfl) ?_
            refine lg_town C hO hP dX0_fact_69 ?_
            refine tgN_facts (t := 0) C hO (by decide) hP dX0_fact_72 ?_
            refine lv_bipush (v := 8) hx hb dX0_fact_75 (by decide) ?_
            refine lv_icmp_ge (tgt := 84) hx hb dX0_fact_77 rfl (fun c67 => ?_) (fun c67 => ?_)
            · have h := if_some_t h c67
              refine lv_iconst (v := 0) hx hb dX0_fact_84 (by decide) ?_
              refine lv_iconst (v := 4) hx hb dX0_fact_85 (by decide) ?_
              obtain ⟨o70, st69, hv68, h⟩ := bd2_some h
              rcases o70 with _ | v68
              · rw [onx_none] at h
                refine k_L_needT C hO hP hS hv68 q402 (Nat.le_of_ble_eq_true rfl) hl.1 (Nat.le_of_ble_eq_true rfl) hcs dX0_fact_86 (fun H locs hP hS => ?_)
                refine cc_catch (pre := []) (a1 := 0) (a2 := 161) (hp := 162) (post := []) C hO hP q129 htab rfl rfl ?_
                refine lv_astore_n (lv' := [(3, .ref (ad 61)), (0, .ref (ad 60)), (1, .int x1), (2, .int x2)]) hx hb dX0_fact_162 rfl hl (by decide) rfl (fun ls hl => ?_)
                refine lv_aload_n hx hb dX0_fact_163 rfl (lv_at hl 1 rfl) ?_
                refine lv_aload_n hx hb dX0_fact_164 rfl (lv_at hl 0 rfl) ?_
                obtain ⟨v71, st72, hv71, h⟩ := bd2_some h
                refine k_L_finds C hO hP hS hv71 q410 (Nat.le_of_ble_eq_true rfl) hl.1 (Nat.le_of_ble_eq_true rfl) hcs dX0_fact_165 (fun H locs hP hS => ?_)
                exact cc_viret hx hb hr hlk h hP hS dX0_fact_168
              · rw [onx_some] at h
                refine k_L_needR C hO hP hS hv68 q402 (Nat.le_of_ble_eq_true rfl) hl.1 (Nat.le_of_ble_eq_true rfl) hcs dX0_fact_86 (fun H locs hP hS => ?_)
                refine lv_aload_n hx hb dX0_fact_89 rfl (lv_at hl 0 rfl) ?_
                refine lg_town C hO hP dX0_fact_90 ?_
                refine tgN_facts (t := 0) C hO (by decide) hP dX0_fact_93 ?_
                refine lv_istore_n (lv' := [(3, .int (st69.1 (20 * 0) 0)), (0, .ref (ad 60)), (1, .int x1), (2, .int x2)]) hx hb dX0_fact_96 rfl hl (by decide) rfl (fun ls hl => ?_)
                refine lv_aload_n hx hb dX0_fact_97 rfl (lv_at hl 1 rfl) ?_
                refine lg_town C hO hP dX0_fact_98 ?_
                refine tgN_needs (t := 0) C hO (by decide) hP dX0_fact_101 ?_
                refine lv_iload_n hx hb dX0_fact_104 rfl (lv_at hl 0 rfl) ?_
                refine lv_iload_n hx hb dX0_fact_105 rfl (lv_at hl 2 rfl) ?_
                obtain ⟨b73, hb73, h⟩ := bd1_some h
                refine cc_ist C hO hP hS (hO.2.2.2 _ (tk_ 1 (by decide) (by decide))) (cg_t 1 (by decide) (by decide)) hb73 (cg_At 1 (by decide) (by decide)) hP.2 dX0_fact_106 (fun H locs hP hS => ?_)
                refine lv_aload_n hx hb dX0_fact_107 rfl (lv_at hl 1 rfl) ?_
                refine lg_town C hO hP dX0_fact_108 ?_
                refine tgN_clashes (t := 0) C hO (by decide) hP dX0_fact_111 ?_
                refine lv_iload_n hx hb dX0_fact_114 rfl (lv_at hl 0 rfl) ?_
                refine lv_iconst (v := 0) hx hb dX0_fact_115 (by decide) ?_
                obtain ⟨b74, hb74, h⟩ := bd1_some h
                refine cc_ist C hO hP hS (hO.2.2.2 _ (tk_ 2 (by decide) (by decide))) (cg_t 2 (by decide) (by decide)) hb74 (cg_At 2 (by decide) (by decide)) hP.2 dX0_fact_116 (fun H locs hP hS => ?_)
                refine lv_aload_n hx hb dX0_fact_117 rfl (lv_at hl 1 rfl) ?_
                refine lg_town C hO hP dX0_fact_118 ?_
                refine tgN_within (t := 0) C hO (by decide) hP dX0_fact_121 ?_
                refine lv_iload_n hx hb dX0_fact_124 rfl (lv_at hl 0 rfl) ?_
                refine lv_iconst (v := 0) hx hb dX0_fact_125 (by decide) ?_
                obtain ⟨b75, hb75, h⟩ := bd1_some h
                refine cc_ist C hO hP hS (hO.2.2.2 _ (tk_ 3 (by decide) (by decide))) (cg_t 3 (by decide) (by decide)) hb75 (cg_At 3 (by decide) (by decide)) hP.2 dX0_fact_126 (fun H locs hP hS => ?_)
                refine lv_aload_n hx hb dX0_fact_127 rfl (lv_at hl 1 rfl) ?_
                refine lg_town C hO hP dX0_fact_128 ?_
                refine tgN_by (t := 0) C hO (by decide) hP dX0_fact_131 ?_
                refine lv_iload_n hx hb dX0_fact_134 rfl (lv_at hl 0 rfl) ?_
                refine lv_iconst (v := 0) hx hb dX0_fact_135 (by decide) ?_
                obtain ⟨b76, hb76, h⟩ := bd1_some h
                refine cc_ist C hO hP hS (hO.2.2.2 _ (tk_ 4 (by decide) (by decide))) (cg_t 4 (by decide) (by decide)) hb76 (cg_At 4 (by decide) (by decide)) hP.2 dX0_fact_136 (fun H locs hP hS => ?_)
                refine lv_aload_n hx hb dX0_fact_137 rfl (lv_at hl 1 rfl) ?_
                refine lg_town C hO hP dX0_fact_138 ?_
                refine tgN_witnesses (t := 0) C hO (by decide) hP dX0_fact_141 ?_
                refine lv_iload_n hx hb dX0_fact_144 rfl (lv_at hl 0 rfl) ?_
                refine lv_iload_n hx hb dX0_fact_145 rfl (lv_at hl 3 rfl) ?_
                obtain ⟨b77, hb77, h⟩ := bd1_some h
                refine cc_ist C hO hP hS (hO.2.2.2 _ (tk_ 5 (by decide) (by decide))) (cg_t 5 (by decide) (by decide)) hb77 (cg_At 5 (by decide) (by decide)) hP.2 dX0_fact_146 (fun H locs hP hS => ?_)
                refine lv_aload_n hx hb dX0_fact_147 rfl (lv_at hl 1 rfl) ?_
                refine lg_town C hO hP dX0_fact_148 ?_
                refine lv_dup hx hb dX0_fact_151 rfl ?_
                refine tgN_facts (t := 0) C hO (by decide) hP dX0_fact_152 ?_
                refine lv_iconst (v := 1) hx hb dX0_fact_155 (by decide) ?_
                refine lv_iadd hx hb dX0_fact_156 ?_
                refine tpN_facts (t := 0) C hO (by decide) hP hS dX0_fact_157 (fun H locs hP hS => ?_)
                refine lv_iload_n hx hb dX0_fact_160 rfl (lv_at hl 0 rfl) ?_
                exact cc_viret hx hb hr hlk h hP hS dX0_fact_161
            · have h := if_some_f h c67
              refine lv_iconst (v := 1) hx hb dX0_fact_80 (by decide) ?_
              refine lv_goto (tgt := 85) hx hb dX0_fact_81 rfl ?_
              refine lv_iconst (v := 4) hx hb dX0_fact_85 (by decide) ?_
              obtain ⟨o80, st79, hv78, h⟩ := bd2_some h
              rcases o80 with _ | v78
              · rw [onx_none] at h
                refine k_L_needT C hO hP hS hv78 q402 (Nat.le_of_ble_eq_true rfl) hl.1 (Nat.le_of_ble_eq_true rfl) hcs dX0_fact_86 (fun H locs hP hS => ?_)
                refine cc_catch (pre := []) (a1 := 0) (a2 := 161) (hp := 162) (post := []) C hO hP q129 htab rfl rfl ?_
                refine lv_astore_n (lv' := [(3, .ref (ad 61)), (0, .ref (ad 60)), (1, .int x1), (2, .int x2)]) hx hb dX0_fact_162 rfl hl (by decide) rfl (fun ls hl => ?_)
                refine lv_aload_n hx hb dX0_fact_163 rfl (lv_at hl 1 rfl) ?_
                refine lv_aload_n hx hb dX0_fact_164 rfl (lv_at hl 0 rfl) ?_
                obtain ⟨v81, st82, hv81, h⟩ := bd2_some h
                refine k_L_finds C hO hP hS hv81 q410 (Nat.le_of_ble_eq_true rfl) hl.1 (Nat.le_of_ble_eq_true rfl) hcs dX0_fact_165 (fun H locs hP hS => ?_)
                exact cc_viret hx hb hr hlk h hP hS dX0_fact_168
              · rw [onx_some] at h
                refine k_L_needR C hO hP hS hv78 q402 (Nat.le_of_ble_eq_true rfl) hl.1 (Nat.le_of_ble_eq_true rfl) hcs dX0_fact_86 (fun H locs hP hS => ?_)
                refine lv_aload_n hx hb dX0_fact_89 rfl (lv_at hl 0 rfl) ?_
                refine lg_town C hO hP dX0_fact_90 ?_
                refine tgN_facts (t := 0) C hO (by decide) hP dX0_fact_93 ?_
                refine lv_istore_n (lv' := [(3, .int (st79.1 (20 * 0) 0)), (0, .ref (ad 60)), (1, .int x1), (2, .int x2)]) hx hb dX0_fact_96 rfl hl (by decide) rfl (fun ls hl => ?_)
                refine lv_aload_n hx hb dX0_fact_97 rfl (lv_at hl 1 rfl) ?_
                refine lg_town C hO hP dX0_fact_98 ?_
                refine tgN_needs (t := 0) C hO (by decide) hP dX0_fact_101 ?_
                refine lv_iload_n hx hb dX0_fact_104 rfl (lv_at hl 0 rfl) ?_
                refine lv_iload_n hx hb dX0_fact_105 rfl (lv_at hl 2 rfl) ?_
                obtain ⟨b83, hb83, h⟩ := bd1_some h
                refine cc_ist C hO hP hS (hO.2.2.2 _ (tk_ 1 (by decide) (by decide))) (cg_t 1 (by decide) (by decide)) hb83 (cg_At 1 (by decide) (by decide)) hP.2 dX0_fact_106 (fun H locs hP hS => ?_)
                refine lv_aload_n hx hb dX0_fact_107 rfl (lv_at hl 1 rfl) ?_
                refine lg_town C hO hP dX0_fact_108 ?_
                refine tgN_clashes (t := 0) C hO (by decide) hP dX0_fact_111 ?_
                refine lv_iload_n hx hb dX0_fact_114 rfl (lv_at hl 0 rfl) ?_
                refine lv_iconst (v := 0) hx hb dX0_fact_115 (by decide) ?_
                obtain ⟨b84, hb84, h⟩ := bd1_some h
                refine cc_ist C hO hP hS (hO.2.2.2 _ (tk_ 2 (by decide) (by decide))) (cg_t 2 (by decide) (by decide)) hb84 (cg_At 2 (by decide) (by decide)) hP.2 dX0_fact_116 (fun H locs hP hS => ?_)
                refine lv_aload_n hx hb dX0_fact_117 rfl (lv_at hl 1 rfl) ?_
                refine lg_town C hO hP dX0_fact_118 ?_
                refine tgN_within (t := 0) C hO (by decide) hP dX0_fact_121 ?_
                refine lv_iload_n hx hb dX0_fact_124 rfl (lv_at hl 0 rfl) ?_
                refine lv_iconst (v := 0) hx hb dX0_fact_125 (by decide) ?_
                obtain ⟨b85, hb85, h⟩ := bd1_some h
                refine cc_ist C hO hP hS (hO.2.2.2 _ (tk_ 3 (by decide) (by decide))) (cg_t 3 (by decide) (by decide)) hb85 (cg_At 3 (by decide) (by decide)) hP.2 dX0_fact_126 (fun H locs hP hS => ?_)
                refine lv_aload_n hx hb dX0_fact_127 rfl (lv_at hl 1 rfl) ?_
                refine lg_town C hO hP dX0_fact_128 ?_
                refine tgN_by (t := 0) C hO (by decide) hP dX0_fact_131 ?_
                refine lv_iload_n hx hb dX0_fact_134 rfl (lv_at hl 0 rfl) ?_
                refine lv_iconst (v := 0) hx hb dX0_fact_135 (by decide) ?_
                obtain ⟨b86, hb86, h⟩ := bd1_some h
                refine cc_ist C hO hP hS (hO.2.2.2 _ (tk_ 4 (by decide) (by decide))) (cg_t 4 (by decide) (by decide)) hb86 (cg_At 4 (by decide) (by decide)) hP.2 dX0_fact_136 (fun H locs hP hS => ?_)
                refine lv_aload_n hx hb dX0_fact_137 rfl (lv_at hl 1 rfl) ?_
                refine lg_town C hO hP dX0_fact_138 ?_
                refine tgN_witnesses (t := 0) C hO (by decide) hP dX0_fact_141 ?_
                refine lv_iload_n hx hb dX0_fact_144 rfl (lv_at hl 0 rfl) ?_
                refine lv_iload_n hx hb dX0_fact_145 rfl (lv_at hl 3 rfl) ?_
                obtain ⟨b87, hb87, h⟩ := bd1_some h
                refine cc_ist C hO hP hS (hO.2.2.2 _ (tk_ 5 (by decide) (by decide))) (cg_t 5 (by decide) (by decide)) hb87 (cg_At 5 (by decide) (by decide)) hP.2 dX0_fact_146 (fun H locs hP hS => ?_)
                refine lv_aload_n hx hb dX0_fact_147 rfl (lv_at hl 1 rfl) ?_
                refine lg_town C hO hP dX0_fact_148 ?_
                refine lv_dup hx hb dX0_fact_151 rfl ?_
                refine tgN_facts (t := 0) C hO (by decide) hP dX0_fact_152 ?_
                refine lv_iconst (v := 1) hx hb dX0_fact_155 (by decide) ?_
                refine lv_iadd hx hb dX0_fact_156 ?_
                refine tpN_facts (t := 0) C hO (by decide) hP hS dX0_fact_157 (fun H locs hP hS => ?_)
                refine lv_iload_n hx hb dX0_fact_160 rfl (lv_at hl 0 rfl) ?_
                exact cc_viret hx hb hr hlk h hP hS dX0_fact_161
  · have h := if_some_f h c2
    refine lv_iload_n hx hb dX0_fact_12 rfl (lv_at hl 2 rfl) ?_
    refine lv_iconst (v := 0) hx hb dX0_fact_13 (by decide) ?_
    refine lv_bipush (v := 31) hx hb dX0_fact_14 (by decide) ?_
    obtain ⟨v88, hv88, h⟩ := bd1_some h
    refine k_L_in hx hb C.2.2.1 hown C.2.2.2.2.1 C.2.2.2.2.2.1 q399 hv88 (Nat.le_of_ble_eq_true rfl) hl.1 (Nat.le_of_ble_eq_true rfl) hcs dX0_fact_16 ?_
    refine lv_if_eq (tgt := 26) hx hb dX0_fact_19 rfl (fun c89 => ?_) (fun c89 => ?_)
    · have h := if_some_t h c89
      refine lv_iconst (v := 0) hx hb dX0_fact_26 (by decide) ?_
      refine lv_iconst (v := 1) hx hb dX0_fact_27 (by decide) ?_
      obtain ⟨o92, st91, hv90, h⟩ := bd2_some h
      rcases o92 with _ | v90
      · rw [onx_none] at h
        refine k_L_needT C hO hP hS hv90 q402 (Nat.le_of_ble_eq_true rfl) hl.1 (Nat.le_of_ble_eq_true rfl) hcs dX0_fact_28 (fun H locs hP hS => ?_)
        refine cc_catch (pre := []) (a1 := 0) (a2 := 161) (hp := 162) (post := []) C hO hP q129 htab rfl rfl ?_
        refine lv_astore_n (lv' := [(3, .ref (ad 61)), (0, .ref (ad 60)), (1, .int x1), (2, .int x2)]) hx hb dX0_fact_162 rfl hl (by decide) rfl (fun ls hl => ?_)
        refine lv_aload_n hx hb dX0_fact_163 rfl (lv_at hl 1 rfl) ?_
        refine lv_aload_n hx hb dX0_fact_164 rfl (lv_at hl 0 rfl) ?_
        obtain ⟨v93, st94, hv93, h⟩ := bd2_some h
        refine k_L_finds C hO hP hS hv93 q410 (Nat.le_of_ble_eq_true rfl) hl.1 (Nat.le_of_ble_eq_true rfl) hcs dX0_fact_165 (fun H locs hP hS => ?_)
        exact cc_viret hx hb hr hlk h hP hS dX0_fact_168
      · rw [onx_some] at h
        refine k_L_needR C hO hP hS hv90 q402 (Nat.le_of_ble_eq_true rfl) hl.1 (Nat.le_of_ble_eq_true rfl) hcs dX0_fact_28 (fun H locs hP hS => ?_)
        refine lv_aload_n hx hb dX0_fact_31 rfl (lv_at hl 0 rfl) ?_
        refine lv_aload_n hx hb dX0_fact_32 rfl (lv_at hl 0 rfl) ?_
        refine lg_town C hO hP dX0_fact_33 ?_
        refine tgN_facts (t := 0) C hO (by decide) hP dX0_fact_36 ?_
        refine lv_bipush (v := 8) hx hb dX0_fact_39 (by decide) ?_
        refine lv_icmp_eq (tgt := 58) hx hb dX0_fact_41 rfl (fun c95 => ?_) (fun c95 => ?_)
        · have h := if_some_t h c95
          refine lv_iconst (v := 1) hx hb dX0_fact_58 (by decide) ?_
          refine lv_goto (tgt := 63) hx hb dX0_fact_59 rfl ?_
          refine lv_iconst (v := 1) hx hb dX0_fact_63 (by decide) ?_
          obtain ⟨o98, st97, hv96, h⟩ := bd2_some h
          rcases o98 with _ | v96
          · rw [onx_none] at h
            refine k_L_needT C hO hP hS hv96 q402 (Nat.le_of_ble_eq_true rfl) hl.1 (Nat.le_of_ble_eq_true rfl) hcs dX0_fact_64 (fun H locs hP hS => ?_)
            refine cc_catch (pre := []) (a1 := 0) (a2 := 161) (hp := 162) (post := []) C hO hP q129 htab rfl rfl ?_
            refine lv_astore_n (lv' := [(3, .ref (ad 61)), (0, .ref (ad 60)), (1, .int x1), (2, .int x2)]) hx hb dX0_fact_162 rfl hl (by decide) rfl (fun ls hl => ?_)
            refine lv_aload_n hx hb dX0_fact_163 rfl (lv_at hl 1 rfl) ?_
            refine lv_aload_n hx hb dX0_fact_164 rfl (lv_at hl 0 rfl) ?_
            obtain ⟨v99, st100, hv99, h⟩ := bd2_some h
            refine k_L_finds C hO hP hS hv99 q410 (Nat.le_of_ble_eq_true rfl) hl.1 (Nat.le_of_ble_eq_true rfl) hcs dX0_fact_165 (fun H locs hP hS => ?_)
            exact cc_viret hx hb hr hlk h hP hS dX0_fact_168
          · rw [onx_some] at h
            refine k_L_needR C hO hP hS hv96 q402 (Nat.le_of_ble_eq_true rfl) hl.1 (Nat.le_of_ble_eq_true rfl) hcs dX0_fact_64 (fun H locs hP hS => ?_)
            refine lv_aload_n hx hb dX0_fact_67 rfl (lv_at hl 0 rfl) ?_
            refine lv_aload_n hx hb dX0_fact_68 rfl (lv_at hl 0 rfl) ?_
            refine lg_town C hO hP dX0_fact_69 ?_
            refine tgN_facts (t := 0) C hO (by decide) hP dX0_fact_72 ?_
            refine lv_bipush (v := 8) hx hb dX0_fact_75 (by decide) ?_
            refine lv_icmp_ge (tgt := 84) hx hb dX0_fact_77 rfl (fun c101 => ?_) (fun c101 => ?_)
            · have h := if_some_t h c101
              refine lv_iconst (v := 0) hx hb dX0_fact_84 (by decide) ?_
              refine lv_iconst (v := 4) hx hb dX0_fact_85 (by decide) ?_
              obtain ⟨o104, st103, hv102, h⟩ := bd2_some h
              rcases o104 with _ | v102
              · rw [onx_none] at h
                refine k_L_needT C hO hP hS hv102 q402 (Nat.le_of_ble_eq_true rfl) hl.1 (Nat.le_of_ble_eq_true rfl) hcs dX0_fact_86 (fun H locs hP hS => ?_)
                refine cc_catch (pre := []) (a1 := 0) (a2 := 161) (hp := 162) (post := []) C hO hP q129 htab rfl rfl ?_
                refine lv_astore_n (lv' := [(3, .ref (ad 61)), (0, .ref (ad 60)), (1, .int x1), (2, .int x2)]) hx hb dX0_fact_162 rfl hl (by decide) rfl (fun ls hl => ?_)
                refine lv_aload_n hx hb dX0_fact_163 rfl (lv_at hl 1 rfl) ?_
                refine lv_aload_n hx hb dX0_fact_164 rfl (lv_at hl 0 rfl) ?_
                obtain ⟨v105, st106, hv105, h⟩ := bd2_some h
                refine k_L_finds C hO hP hS hv105 q410 (Nat.le_of_ble_eq_true rfl) hl.1 (Nat.le_of_ble_eq_true rfl) hcs dX0_fact_165 (fun H locs hP hS => ?_)
                exact cc_viret hx hb hr hlk h hP hS dX0_fact_168
              · rw [onx_some] at h
                refine k_L_needR C hO hP hS hv102 q402 (Nat.le_of_ble_eq_true rfl) hl.1 (Nat.le_of_ble_eq_true rfl) hcs dX0_fact_86 (fun H locs hP hS => ?_)
                refine lv_aload_n hx hb dX0_fact_89 rfl (lv_at hl 0 rfl) ?_
                refine lg_town C hO hP dX0_fact_90 ?_
                refine tgN_facts (t := 0) C hO (by decide) hP dX0_fact_93 ?_
                refine lv_istore_n (lv' := [(3, .int (st103.1 (20 * 0) 0)), (0, .ref (ad 60)), (1, .int x1), (2, .int x2)]) hx hb dX0_fact_96 rfl hl (by decide) rfl (fun ls hl => ?_)
                refine lv_aload_n hx hb dX0_fact_97 rfl (lv_at hl 1 rfl) ?_
                refine lg_town C hO hP dX0_fact_98 ?_
                refine tgN_needs (t := 0) C hO (by decide) hP dX0_fact_101 ?_
                refine lv_iload_n hx hb dX0_fact_104 rfl (lv_at hl 0 rfl) ?_
                refine lv_iload_n hx hb dX0_fact_105 rfl (lv_at hl 2 rfl) ?_
                obtain ⟨b107, hb107, h⟩ := bd1_some h
                refine cc_ist C hO hP hS (hO.2.2.2 _ (tk_ 1 (by decide) (by decide))) (cg_t 1 (by decide) (by decide)) hb107 (cg_At 1 (by decide) (by decide)) hP.2 dX0_fact_106 (fun H locs hP hS => ?_)
                refine lv_aload_n hx hb dX0_fact_107 rfl (lv_at hl 1 rfl) ?_
                refine lg_town C hO hP dX0_fact_108 ?_
                refine tgN_clashes (t := 0) C hO (by decide) hP dX0_fact_111 ?_
                refine lv_iload_n hx hb dX0_fact_114 rfl (lv_at hl 0 rfl) ?_
                refine lv_iconst (v := 0) hx hb dX0_fact_115 (by decide) ?_
                obtain ⟨b108, hb108, h⟩ := bd1_some h
                refine cc_ist C hO hP hS (hO.2.2.2 _ (tk_ 2 (by decide) (by decide))) (cg_t 2 (by decide) (by decide)) hb108 (cg_At 2 (by decide) (by decide)) hP.2 dX0_fact_116 (fun H locs hP hS => ?_)
                refine lv_aload_n hx hb dX0_fact_117 rfl (lv_at hl 1 rfl) ?_
                refine lg_town C hO hP dX0_fact_118 ?_
                refine tgN_within (t := 0) C hO (by decide) hP dX0_fact_121 ?_
                refine lv_iload_n hx hb dX0_fact_124 rfl (lv_at hl 0 rfl) ?_
                refine lv_iconst (v := 0) hx hb dX0_fact_125 (by decide) ?_
                obtain ⟨b109, hb109, h⟩ := bd1_some h
                refine cc_ist C hO hP hS (hO.2.2.2 _ (tk_ 3 (by decide) (by decide))) (cg_t 3 (by decide) (by decide)) hb109 (cg_At 3 (by decide) (by decide)) hP.2 dX0_fact_126 (fun H locs hP hS => ?_)
                refine lv_aload_n hx hb dX0_fact_127 rfl (lv_at hl 1 rfl) ?_
                refine lg_town C hO hP dX0_fact_128 ?_
                refine tgN_by (t := 0) C hO (by decide) hP dX0_fact_131 ?_
                refine lv_iload_n hx hb dX0_fact_134 rfl (lv_at hl 0 rfl) ?_
                refine lv_iconst (v := 0) hx hb dX0_fact_135 (by decide) ?_
                obtain ⟨b110, hb110, h⟩ := bd1_some h
                refine cc_ist C hO hP hS (hO.2.2.2 _ (tk_ 4 (by decide) (by decide))) (cg_t 4 (by decide) (by decide)) hb110 (cg_At 4 (by decide) (by decide)) hP.2 dX0_fact_136 (fun H locs hP hS => ?_)
                refine lv_aload_n hx hb dX0_fact_137 rfl (lv_at hl 1 rfl) ?_
                refine lg_town C hO hP dX0_fact_138 ?_
                refine tgN_witnesses (t := 0) C hO (by decide) hP dX0_fact_141 ?_
                refine lv_iload_n hx hb dX0_fact_144 rfl (lv_at hl 0 rfl) ?_
                refine lv_iload_n hx hb dX0_fact_145 rfl (lv_at hl 3 rfl) ?_
                obtain ⟨b111, hb111, h⟩ := bd1_some h
                refine cc_ist C hO hP hS (hO.2.2.2 _ (tk_ 5 (by decide) (by decide))) (cg_t 5 (by decide) (by decide)) hb111 (cg_At 5 (by decide) (by decide)) hP.2 dX0_fact_146 (fun H locs hP hS => ?_)
                refine lv_aload_n hx hb dX0_fact_147 rfl (lv_at hl 1 rfl) ?_
                refine lg_town C hO hP dX0_fact_148 ?_
                refine lv_dup hx hb dX0_fact_151 rfl ?_
                refine tgN_facts (t := 0) C hO (by decide) hP dX0_fact_152 ?_
                refine lv_iconst (v := 1) hx hb dX0_fact_155 (by decide) ?_
                refine lv_iadd hx hb dX0_fact_156 ?_
                refine tpN_facts (t := 0) C hO (by decide) hP hS dX0_fact_157 (fun H locs hP hS => ?_)
                refine lv_iload_n hx hb dX0_fact_160 rfl (lv_at hl 0 rfl) ?_
                exact cc_viret hx hb hr hlk h hP hS dX0_fact_161
            · have h := if_some_f h c101
              refine lv_iconst (v := 1) hx hb dX0_fact_80 (by decide) ?_
              refine lv_goto (tgt := 85) hx hb dX0_fact_81 rfl ?_
              refine lv_iconst (v := 4) hx hb dX0_fact_85 (by decide) ?_
              obtain ⟨o114, st113, hv112, h⟩ := bd2_some h
              rcases o114 with _ | v112
              · rw [onx_none] at h
                refine k_L_needT C hO hP hS hv112 q402 (Nat.le_of_ble_eq_true rfl) hl.1 (Nat.le_of_ble_eq_true rfl) hcs dX0_fact_86 (fun H locs hP hS => ?_)
                refine cc_catch (pre := []) (a1 := 0) (a2 := 161) (hp := 162) (post := []) C hO hP q129 htab rfl rfl ?_
                refine lv_astore_n (lv' := [(3, .ref (ad 61)), (0, .ref (ad 60)), (1, .int x1), (2, .int x2)]) hx hb dX0_fact_162 rfl hl (by decide) rfl (fun ls hl => ?_)
                refine lv_aload_n hx hb dX0_fact_163 rfl (lv_at hl 1 rfl) ?_
                refine lv_aload_n hx hb dX0_fact_164 rfl (lv_at hl 0 rfl) ?_
                obtain ⟨v115, st116, hv115, h⟩ := bd2_some h
                refine k_L_finds C hO hP hS hv115 q410 (Nat.le_of_ble_eq_true rfl) hl.1 (Nat.le_of_ble_eq_true rfl) hcs dX0_fact_165 (fun H locs hP hS => ?_)
                exact cc_viret hx hb hr hlk h hP hS dX0_fact_168
              · rw [onx_some] at h
                refine k_L_needR C hO hP hS hv112 q402 (Nat.le_of_ble_eq_true rfl) hl.1 (Nat.le_of_ble_eq_true rfl) hcs dX0_fact_86 (fun H locs hP hS => ?_)
                refine lv_aload_n hx hb dX0_fact_89 rfl (lv_at hl 0 rfl) ?_
                refine lg_town C hO hP dX0_fact_90 ?_
                refine tgN_facts (t := 0) C hO (by decide) hP dX0_fact_93 ?_
                refine lv_istore_n (lv' := [(3, .int (st113.1 (20 * 0) 0)), (0, .ref (ad 60)), (1, .int x1), (2, .int x2)]) hx hb dX0_fact_96 rfl hl (by decide) rfl (fun ls hl => ?_)
                refine lv_aload_n hx hb dX0_fact_97 rfl (lv_at hl 1 rfl) ?_
                refine lg_town C hO hP dX0_fact_98 ?_
                refine tgN_needs (t := 0) C hO (by decide) hP dX0_fact_101 ?_
                refine lv_iload_n hx hb dX0_fact_104 rfl (lv_at hl 0 rfl) ?_
                refine lv_iload_n hx hb dX0_fact_105 rfl (lv_at hl 2 rfl) ?_
                obtain ⟨b117, hb117, h⟩ := bd1_some h
                refine cc_ist C hO hP hS (hO.2.2.2 _ (tk_ 1 (by decide) (by decide))) (cg_t 1 (by decide) (by decide)) hb117 (cg_At 1 (by decide) (by decide)) hP.2 dX0_fact_106 (fun H locs hP hS => ?_)
                refine lv_aload_n hx hb dX0_fact_107 rfl (lv_at hl 1 rfl) ?_
                refine lg_town C hO hP dX0_fact_108 ?_
                refine tgN_clashes (t := 0) C hO (by decide) hP dX0_fact_111 ?_
                refine lv_iload_n hx hb dX0_fact_114 rfl (lv_at hl 0 rfl) ?_
                refine lv_iconst (v := 0) hx hb dX0_fact_115 (by decide) ?_
                obtain ⟨b118, hb118, h⟩ := bd1_some h
                refine cc_ist C hO hP hS (hO.2.2.2 _ (tk_ 2 (by decide) (by decide))) (cg_t 2 (by decide) (by decide)) hb118 (cg_At 2 (by decide) (by decide)) hP.2 dX0_fact_116 (fun H locs hP hS => ?_)
                refine lv_aload_n hx hb dX0_fact_117 rfl (lv_at hl 1 rfl) ?_
                refine lg_town C hO hP dX0_fact_118 ?_
                refine tgN_within (t := 0) C hO (by decide) hP dX0_fact_121 ?_
                refine lv_iload_n hx hb dX0_fact_124 rfl (lv_at hl 0 rfl) ?_
                refine lv_iconst (v := 0) hx hb dX0_fact_125 (by decide) ?_
                obtain ⟨b119, hb119, h⟩ := bd1_some h
                refine cc_ist C hO hP hS (hO.2.2.2 _ (tk_ 3 (by decide) (by decide))) (cg_t 3 (by decide) (by decide)) hb119 (cg_At 3 (by decide) (by decide)) hP.2 dX0_fact_126 (fun H locs hP hS => ?_)
                refine lv_aload_n hx hb dX0_fact_127 rfl (lv_at hl 1 rfl) ?_
                refine lg_town C hO hP dX0_fact_128 ?_
                refine tgN_by (t := 0) C hO (by decide) hP dX0_fact_131 ?_
                refine lv_iload_n hx hb dX0_fact_134 rfl (lv_at hl 0 rfl) ?_
                refine lv_iconst (v := 0) hx hb dX0_fact_135 (by decide) ?_
                obtain ⟨b120, hb120, h⟩ := bd1_some h
                refine cc_ist C hO hP hS (hO.2.2.2 _ (tk_ 4 (by decide) (by decide))) (cg_t 4 (by decide) (by decide)) hb120 (cg_At 4 (by decide) (by decide)) hP.2 dX0_fact_136 (fun H locs hP hS => ?_)
                refine lv_aload_n hx hb dX0_fact_137 rfl (lv_at hl 1 rfl) ?_
                refine lg_town C hO hP dX0_fact_138 ?_
                refine tgN_witnesses (t := 0) C hO (by decide) hP dX0_fact_141 ?_
                refine lv_iload_n hx hb dX0_fact_144 rfl (lv_at hl 0 rfl) ?_
                refine lv_iload_n hx hb dX0_fact_145 rfl (lv_at hl 3 rfl) ?_
                obtain ⟨b121, hb121, h⟩ := bd1_some h
                refine cc_ist C hO hP hS (hO.2.2.2 _ (tk_ 5 (by decide) (by decide))) (cg_t 5 (by decide) (by decide)) hb121 (cg_At 5 (by decide) (by decide)) hP.2 dX0_fact_146 (fun H locs hP hS => ?_)
                refine lv_aload_n hx hb dX0_fact_147 rfl (lv_at hl 1 rfl) ?_
                refine lg_town C hO hP dX0_fact_148 ?_
                refine lv_dup hx hb dX0_fact_151 rfl ?_
                refine tgN_facts (t := 0) C hO (by decide) hP dX0_fact_152 ?_
                refine lv_iconst (v := 1) hx hb dX0_fact_155 (by decide) ?_
                refine lv_iadd hx hb dX0_fact_156 ?_
                refine tpN_facts (t := 0) C hO (by decide) hP hS dX0_fact_157 (fun H locs hP hS => ?_)
                refine lv_iload_n hx hb dX0_fact_160 rfl (lv_at hl 0 rfl) ?_
                exact cc_viret hx hb hr hlk h hP hS dX0_fact_161
        · have h := if_some_f h c95
          refine lv_iload_n hx hb dX0_fact_44 rfl (lv_at hl 1 rfl) ?_
          refine lv_aload_n hx hb dX0_fact_45 rfl (lv_at hl 0 rfl) ?_
          refine lg_town C hO hP dX0_fact_46 ?_
          refine tgN_facts (t := 0) C hO (by decide) hP dX0_fact_49 ?_
          refine lv_ishr hx hb dX0_fact_52 ?_
          refine lv_iconst (v := 1) hx hb dX0_fact_53 (by decide) ?_
          refine lv_iand hx hb dX0_fact_54 ?_
          refine lv_if_ne (tgt := 62) hx hb dX0_fact_55 rfl (fun c122 => ?_) (fun c122 => ?_)
          · have h := if_some_f h c122
            refine lv_iconst (v := 0) hx hb dX0_fact_62 (by decide) ?_
            refine lv_iconst (v := 1) hx hb dX0_fact_63 (by decide) ?_
            obtain ⟨o125, st124, hv123, h⟩ := bd2_some h
            rcases o125 with _ | v123
            · rw [onx_none] at h
              refine k_L_needT C hO hP hS hv123 q402 (Nat.le_of_ble_eq_true rfl) hl.1 (Nat.le_of_ble_eq_true rfl) hcs dX0_fact_64 (fun H locs hP hS => ?_)
              refine cc_catch (pre := []) (a1 := 0) (a2 := 161) (hp := 162) (post := []) C hO hP q129 htab rfl rfl ?_
              refine lv_astore_n (lv' := [(3, .ref (ad 61)), (0, .ref (ad 60)), (1, .int x1), (2, .int x2)]) hx hb dX0_fact_162 rfl hl (by decide) rfl (fun ls hl => ?_)
              refine lv_aload_n hx hb dX0_fact_163 rfl (lv_at hl 1 rfl) ?_
              refine lv_aload_n hx hb dX0_fact_164 rfl (lv_at hl 0 rfl) ?_
              obtain ⟨v126, st127, hv126, h⟩ := bd2_some h
              refine k_L_finds C hO hP hS hv126 q410 (Nat.le_of_ble_eq_true rfl) hl.1 (Nat.le_of_ble_eq_true rfl) hcs dX0_fact_165 (fun H locs hP hS => ?_)
              exact cc_viret hx hb hr hlk h hP hS dX0_fact_168
            · rw [onx_some] at h
              refine k_L_needR C hO hP hS hv123 q402 (Nat.le_of_ble_eq_true rfl) hl.1 (Nat.le_of_ble_eq_true rfl) hcs dX0_fact_64 (fun H locs hP hS => ?_)
              refine lv_aload_n hx hb dX0_fact_67 rfl (lv_at hl 0 rfl) ?_
              refine lv_aload_n hx hb dX0_fact_68 rfl (lv_at hl 0 rfl) ?_
              refine lg_town C hO hP dX0_fact_69 ?_
              refine tgN_facts (t := 0) C hO (by decide) hP dX0_fact_72 ?_
              refine lv_bipush (v := 8) hx hb dX0_fact_75 (by decide) ?_
              refine lv_icmp_ge (tgt := 84) hx hb dX0_fact_77 rfl (fun c128 => ?_) (fun c128 => ?_)
              · have h := if_some_t h c128
                refine lv_iconst (v := 0) hx hb dX0_fact_84 (by decide) ?_
                refine lv_iconst (v := 4) hx hb dX0_fact_85 (by decide) ?_
                obtain ⟨o131, st130, hv129, h⟩ := bd2_some h
                rcases o131 with _ | v129
                · rw [onx_none] at h
                  refine k_L_needT C hO hP hS hv129 q402 (Nat.le_of_ble_eq_true rfl) hl.1 (Nat.le_of_ble_eq_true rfl) hcs dX0_fact_86 (fun H locs hP hS => ?_)
                  refine cc_catch (pre := []) (a1 := 0) (a2 := 161) (hp := 162) (post := []) C hO hP q129 htab rfl rfl ?_
                  refine lv_astore_n (lv' := [(3, .ref (ad 61)), (0, .ref (ad 60)), (1, .int x1), (2, .int x2)]) hx hb dX0_fact_162 rfl hl (by decide) rfl (fun ls hl => ?_)
                  refine lv_aload_n hx hb dX0_fact_163 rfl (lv_at hl 1 rfl) ?_
                  refine lv_aload_n hx hb dX0_fact_164 rfl (lv_at hl 0 rfl) ?_
                  obtain ⟨v132, st133, hv132, h⟩ := bd2_some h
                  refine k_L_finds C hO hP hS hv132 q410 (Nat.le_of_ble_eq_true rfl) hl.1 (Nat.le_of_ble_eq_true rfl) hcs dX0_fact_165 (fun H locs hP hS => ?_)
                  exact cc_viret hx hb hr hlk h hP hS dX0_fact_168
                · rw [onx_some] at h
                  refine k_L_needR C hO hP hS hv129 q402 (Nat.le_of_ble_eq_true rfl) hl.1 (Nat.le_of_ble_eq_true rfl) hcs dX0_fact_86 (fun H locs hP hS => ?_)
                  refine lv_aload_n hx hb dX0_fact_89 rfl (lv_at hl 0 rfl) ?_
                  refine lg_town C hO hP dX0_fact_90 ?_
                  refine tgN_facts (t := 0) C hO (by decide) hP dX0_fact_93 ?_
                  refine lv_istore_n (lv' := [(3, .int (st130.1 (20 * 0) 0)), (0, .ref (ad 60)), (1, .int x1), (2, .int x2)]) hx hb dX0_fact_96 rfl hl (by decide) rfl (fun ls hl => ?_)
                  refine lv_aload_n hx hb dX0_fact_97 rfl (lv_at hl 1 rfl) ?_
                  refine lg_town C hO hP dX0_fact_98 ?_
                  refine tgN_needs (t := 0) C hO (by decide) hP dX0_fact_101 ?_
                  refine lv_iload_n hx hb dX0_fact_104 rfl (lv_at hl 0 rfl) ?_
                  refine lv_iload_n hx hb dX0_fact_105 rfl (lv_at hl 2 rfl) ?_
                  obtain ⟨b134, hb134, h⟩ := bd1_some h
                  refine cc_ist C hO hP hS (hO.2.2.2 _ (tk_ 1 (by decide) (by decide))) (cg_t 1 (by decide) (by decide)) hb134 (cg_At 1 (by decide) (by decide)) hP.2 dX0_fact_106 (fun H locs hP hS => ?_)
                  refine lv_aload_n hx hb dX0_fact_107 rfl (lv_at hl 1 rfl) ?_
                  refine lg_town C hO hP dX0_fact_108 ?_
                  refine tgN_clashes (t := 0) C hO (by decide) hP dX0_fact_111 ?_
                  refine lv_iload_n hx hb dX0_fact_114 rfl (lv_at hl 0 rfl) ?_
                  refine lv_iconst (v := 0) hx hb dX0_fact_115 (by decide) ?_
                  obtain ⟨b135, hb135, h⟩ := bd1_some h
                  refine cc_ist C hO hP hS (hO.2.2.2 _ (tk_ 2 (by decide) (by decide))) (cg_t 2 (by decide) (by decide)) hb135 (cg_At 2 (by decide) (by decide)) hP.2 dX0_fact_116 (fun H locs hP hS => ?_)
                  refine lv_aload_n hx hb dX0_fact_117 rfl (lv_at hl 1 rfl) ?_
                  refine lg_town C hO hP dX0_fact_118 ?_
                  refine tgN_within (t := 0) C hO (by decide) hP dX0_fact_121 ?_
                  refine lv_iload_n hx hb dX0_fact_124 rfl (lv_at hl 0 rfl) ?_
                  refine lv_iconst (v := 0) hx hb dX0_fact_125 (by decide) ?_
                  obtain ⟨b136, hb136, h⟩ := bd1_some h
                  refine cc_ist C hO hP hS (hO.2.2.2 _ (tk_ 3 (by decide) (by decide))) (cg_t 3 (by decide) (by decide)) hb136 (cg_At 3 (by decide) (by decide)) hP.2 dX0_fact_126 (fun H locs hP hS => ?_)
                  refine lv_aload_n hx hb dX0_fact_127 rfl (lv_at hl 1 rfl) ?_
                  refine lg_town C hO hP dX0_fact_128 ?_
                  refine tgN_by (t := 0) C hO (by decide) hP dX0_fact_131 ?_
                  refine lv_iload_n hx hb dX0_fact_134 rfl (lv_at hl 0 rfl) ?_
                  refine lv_iconst (v := 0) hx hb dX0_fact_135 (by decide) ?_
                  obtain ⟨b137, hb137, h⟩ := bd1_some h
                  refine cc_ist C hO hP hS (hO.2.2.2 _ (tk_ 4 (by decide) (by decide))) (cg_t 4 (by decide) (by decide)) hb137 (cg_At 4 (by decide) (by decide)) hP.2 dX0_fact_136 (fun H locs hP hS => ?_)
                  refine lv_aload_n hx hb dX0_fact_137 rfl (lv_at hl 1 rfl) ?_
                  refine lg_town C hO hP dX0_fact_138 ?_
                  refine tgN_witnesses (t := 0) C hO (by decide) hP dX0_fact_141 ?_
                  refine lv_iload_n hx hb dX0_fact_144 rfl (lv_at hl 0 rfl) ?_
                  refine lv_iload_n hx hb dX0_fact_145 rfl (lv_at hl 3 rfl) ?_
                  obtain ⟨b138, hb138, h⟩ := bd1_some h
                  refine cc_ist C hO hP hS (hO.2.2.2 _ (tk_ 5 (by decide) (by decide))) (cg_t 5 (by decide) (by decide)) hb138 (cg_At 5 (by decide) (by decide)) hP.2 dX0_fact_146 (fun H locs hP hS => ?_)
                  refine lv_aload_n hx hb dX0_fact_147 rfl (lv_at hl 1 rfl) ?_
                  refine lg_town C hO hP dX0_fact_148 ?_
                  refine lv_dup hx hb dX0_fact_151 rfl ?_
                  refine tgN_facts (t := 0) C hO (by decide) hP dX0_fact_152 ?_
                  refine lv_iconst (v := 1) hx hb dX0_fact_155 (by decide) ?_
                  refine lv_iadd hx hb dX0_fact_156 ?_
                  refine tpN_facts (t := 0) C hO (by decide) hP hS dX0_fact_157 (fun H locs hP hS => ?_)
                  refine lv_iload_n hx hb dX0_fact_160 rfl (lv_at hl 0 rfl) ?_
                  exact cc_viret hx hb hr hlk h hP hS dX0_fact_161
              · have h := if_some_f h c128
                refine lv_iconst (v := 1) hx hb dX0_fact_80 (by decide) ?_
                refine lv_goto (tgt := 85) hx hb dX0_fact_81 rfl ?_
                refine lv_iconst (v := 4) hx hb dX0_fact_85 (by decide) ?_
                obtain ⟨o141, st140, hv139, h⟩ := bd2_some h
                rcases o141 with _ | v139
                · rw [onx_none] at h
                  refine k_L_needT C hO hP hS hv139 q402 (Nat.le_of_ble_eq_true rfl) hl.1 (Nat.le_of_ble_eq_true rfl) hcs dX0_fact_86 (fun H locs hP hS => ?_)
                  refine cc_catch (pre := []) (a1 := 0) (a2 := 161) (hp := 162) (post := []) C hO hP q129 htab rfl rfl ?_
                  refine lv_astore_n (lv' := [(3, .ref (ad 61)), (0, .ref (ad 60)), (1, .int x1), (2, .int x2)]) hx hb dX0_fact_162 rfl hl (by decide) rfl (fun ls hl => ?_)
                  refine lv_aload_n hx hb dX0_fact_163 rfl (lv_at hl 1 rfl) ?_
                  refine lv_aload_n hx hb dX0_fact_164 rfl (lv_at hl 0 rfl) ?_
                  obtain ⟨v142, st143, hv142, h⟩ := bd2_some h
                  refine k_L_finds C hO hP hS hv142 q410 (Nat.le_of_ble_eq_true rfl) hl.1 (Nat.le_of_ble_eq_true rfl) hcs dX0_fact_165 (fun H locs hP hS => ?_)
                  exact cc_viret hx hb hr hlk h hP hS dX0_fact_168
                · rw [onx_some] at h
                  refine k_L_needR C hO hP hS hv139 q402 (Nat.le_of_ble_eq_true rfl) hl.1 (Nat.le_of_ble_eq_true rfl) hcs dX0_fact_86 (fun H locs hP hS => ?_)
                  refine lv_aload_n hx hb dX0_fact_89 rfl (lv_at hl 0 rfl) ?_
                  refine lg_town C hO hP dX0_fact_90 ?_
                  refine tgN_facts (t := 0) C hO (by decide) hP dX0_fact_93 ?_
                  refine lv_istore_n (lv' := [(3, .int (st140.1 (20 * 0) 0)), (0, .ref (ad 60)), (1, .int x1), (2, .int x2)]) hx hb dX0_fact_96 rfl hl (by decide) rfl (fun ls hl => ?_)
                  refine lv_aload_n hx hb dX0_fact_97 rfl (lv_at hl 1 rfl) ?_
                  refine lg_town C hO hP dX0_fact_98 ?_
                  refine tgN_needs (t := 0) C hO (by decide) hP dX0_fact_101 ?_
                  refine lv_iload_n hx hb dX0_fact_104 rfl (lv_at hl 0 rfl) ?_
                  refine lv_iload_n hx hb dX0_fact_105 rfl (lv_at hl 2 rfl) ?_
                  obtain ⟨b144, hb144, h⟩ := bd1_some h
                  refine cc_ist C hO hP hS (hO.2.2.2 _ (tk_ 1 (by decide) (by decide))) (cg_t 1 (by decide) (by decide)) hb144 (cg_At 1 (by decide) (by decide)) hP.2 dX0_fact_106 (fun H locs hP hS => ?_)
                  refine lv_aload_n hx hb dX0_fact_107 rfl (lv_at hl 1 rfl) ?_
                  refine lg_town C hO hP dX0_fact_108 ?_
                  refine tgN_clashes (t := 0) C hO (by decide) hP dX0_fact_111 ?_
                  refine lv_iload_n hx hb dX0_fact_114 rfl (lv_at hl 0 rfl) ?_
                  refine lv_iconst (v := 0) hx hb dX0_fact_115 (by decide) ?_
                  obtain ⟨b145, hb145, h⟩ := bd1_some h
                  refine cc_ist C hO hP hS (hO.2.2.2 _ (tk_ 2 (by decide) (by decide))) (cg_t 2 (by decide) (by decide)) hb145 (cg_At 2 (by decide) (by decide)) hP.2 dX0_fact_116 (fun H locs hP hS => ?_)
                  refine lv_aload_n hx hb dX0_fact_117 rfl (lv_at hl 1 rfl) ?_
                  refine lg_town C hO hP dX0_fact_118 ?_
                  refine tgN_within (t := 0) C hO (by decide) hP dX0_fact_121 ?_
                  refine lv_iload_n hx hb dX0_fact_124 rfl (lv_at hl 0 rfl) ?_
                  refine lv_iconst (v := 0) hx hb dX0_fact_125 (by decide) ?_
                  obtain ⟨b146, hb146, h⟩ := bd1_some h
                  refine cc_ist C hO hP hS (hO.2.2.2 _ (tk_ 3 (by decide) (by decide))) (cg_t 3 (by decide) (by decide)) hb146 (cg_At 3 (by decide) (by decide)) hP.2 dX0_fact_126 (fun H locs hP hS => ?_)
                  refine lv_aload_n hx hb dX0_fact_127 rfl (lv_at hl 1 rfl) ?_
                  refine lg_town C hO hP dX0_fact_128 ?_
                  refine tgN_by (t := 0) C hO (by decide) hP dX0_fact_131 ?_
                  refine lv_iload_n hx hb dX0_fact_134 rfl (lv_at hl 0 rfl) ?_
                  refine lv_iconst (v := 0) hx hb dX0_fact_135 (by decide) ?_
                  obtain ⟨b147, hb147, h⟩ := bd1_some h
                  refine cc_ist C hO hP hS (hO.2.2.2 _ (tk_ 4 (by decide) (by decide))) (cg_t 4 (by decide) (by decide)) hb147 (cg_At 4 (by decide) (by decide)) hP.2 dX0_fact_136 (fun H locs hP hS => ?_)
                  refine lv_aload_n hx hb dX0_fact_137 rfl (lv_at hl 1 rfl) ?_
                  refine lg_town C hO hP dX0_fact_138 ?_
                  refine tgN_witnesses (t := 0) C hO (by decide) hP dX0_fact_141 ?_
                  refine lv_iload_n hx hb dX0_fact_144 rfl (lv_at hl 0 rfl) ?_
                  refine lv_iload_n hx hb dX0_fact_145 rfl (lv_at hl 3 rfl) ?_
                  obtain ⟨b148, hb148, h⟩ := bd1_some h
                  refine cc_ist C hO hP hS (hO.2.2.2 _ (tk_ 5 (by decide) (by decide))) (cg_t 5 (by decide) (by decide)) hb148 (cg_At 5 (by decide) (by decide)) hP.2 dX0_fact_146 (fun H locs hP hS => ?_)
                  refine lv_aload_n hx hb dX0_fact_147 rfl (lv_at hl 1 rfl) ?_
                  refine lg_town C hO hP dX0_fact_148 ?_
                  refine lv_dup hx hb dX0_fact_151 rfl ?_
                  refine tgN_facts (t := 0) C hO (by decide) hP dX0_fact_152 ?_
                  refine lv_iconst (v := 1) hx hb dX0_fact_155 (by decide) ?_
                  refine lv_iadd hx hb dX0_fact_156 ?_
                  refine tpN_facts (t := 0) C hO (by decide) hP hS dX0_fact_157 (fun H locs hP hS => ?_)
                  refine lv_iload_n hx hb dX0_fact_160 rfl (lv_at hl 0 rfl) ?_
                  exact cc_viret hx hb hr hlk h hP hS dX0_fact_161
          · have h := if_some_t h c122
            refine lv_iconst (v := 1) hx hb dX0_fact_58 (by decide) ?_
            refine lv_goto (tgt := 63) hx hb dX0_fact_59 rfl ?_
            refine lv_iconst (v := 1) hx hb dX0_fact_63 (by decide) ?_
            obtain ⟨o151, st150, hv149, h⟩ := bd2_some h
            rcases o151 with _ | v149
            · rw [onx_none] at h
              refine k_L_needT C hO hP hS hv149 q402 (Nat.le_of_ble_eq_true rfl) hl.1 (Nat.le_of_ble_eq_true rfl) hcs dX0_fact_64 (fun H locs hP hS => ?_)
              refine cc_catch (pre := []) (a1 := 0) (a2 := 161) (hp := 162) (post := []) C hO hP q129 htab rfl rfl ?_
              refine lv_astore_n (lv' := [(3, .ref (ad 61)), (0, .ref (ad 60)), (1, .int x1), (2, .int x2)]) hx hb dX0_fact_162 rfl hl (by decide) rfl (fun ls hl => ?_)
              refine lv_aload_n hx hb dX0_fact_163 rfl (lv_at hl 1 rfl) ?_
              refine lv_aload_n hx hb dX0_fact_164 rfl (lv_at hl 0 rfl) ?_
              obtain ⟨v152, st153, hv152, h⟩ := bd2_some h
              refine k_L_finds C hO hP hS hv152 q410 (Nat.le_of_ble_eq_true rfl) hl.1 (Nat.le_of_ble_eq_true rfl) hcs dX0_fact_165 (fun H locs hP hS => ?_)
              exact cc_viret hx hb hr hlk h hP hS dX0_fact_168
            · rw [onx_some] at h
              refine k_L_needR C hO hP hS hv149 q402 (Nat.le_of_ble_eq_true rfl) hl.1 (Nat.le_of_ble_eq_true rfl) hcs dX0_fact_64 (fun H locs hP hS => ?_)
              refine lv_aload_n hx hb dX0_fact_67 rfl (lv_at hl 0 rfl) ?_
              refine lv_aload_n hx hb dX0_fact_68 rfl (lv_at hl 0 rfl) ?_
              refine lg_town C hO hP dX0_fact_69 ?_
              refine tgN_facts (t := 0) C hO (by decide) hP dX0_fact_72 ?_
              refine lv_bipush (v := 8) hx hb dX0_fact_75 (by decide) ?_
              refine lv_icmp_ge (tgt := 84) hx hb dX0_fact_77 rfl (fun c154 => ?_) (fun c154 => ?_)
              · have h := if_some_t h c154
                refine lv_iconst (v := 0) hx hb dX0_fact_84 (by decide) ?_
                refine lv_iconst (v := 4) hx hb dX0_fact_85 (by decide) ?_
                obtain ⟨o157, st156, hv155, h⟩ := bd2_some h
                rcases o157 with _ | v155
                · rw [onx_none] at h
                  refine k_L_needT C hO hP hS hv155 q402 (Nat.le_of_ble_eq_true rfl) hl.1 (Nat.le_of_ble_eq_true rfl) hcs dX0_fact_86 (fun H locs hP hS => ?_)
                  refine cc_catch (pre := []) (a1 := 0) (a2 := 161) (hp := 162) (post := []) C hO hP q129 htab rfl rfl ?_
                  refine lv_astore_n (lv' := [(3, .ref (ad 61)), (0, .ref (ad 60)), (1, .int x1), (2, .int x2)]) hx hb dX0_fact_162 rfl hl (by decide) rfl (fun ls hl => ?_)
                  refine lv_aload_n hx hb dX0_fact_163 rfl (lv_at hl 1 rfl) ?_
                  refine lv_aload_n hx hb dX0_fact_164 rfl (lv_at hl 0 rfl) ?_
                  obtain ⟨v158, st159, hv158, h⟩ := bd2_some h
                  refine k_L_finds C hO hP hS hv158 q410 (Nat.le_of_ble_eq_true rfl) hl.1 (Nat.le_of_ble_eq_true rfl) hcs dX0_fact_165 (fun H locs hP hS => ?_)
                  exact cc_viret hx hb hr hlk h hP hS dX0_fact_168
                · rw [onx_some] at h
                  refine k_L_needR C hO hP hS hv155 q402 (Nat.le_of_ble_eq_true rfl) hl.1 (Nat.le_of_ble_eq_true rfl) hcs dX0_fact_86 (fun H locs hP hS => ?_)
                  refine lv_aload_n hx hb dX0_fact_89 rfl (lv_at hl 0 rfl) ?_
                  refine lg_town C hO hP dX0_fact_90 ?_
                  refine tgN_facts (t := 0) C hO (by decide) hP dX0_fact_93 ?_
                  refine lv_istore_n (lv' := [(3, .int (st156.1 (20 * 0) 0)), (0, .ref (ad 60)), (1, .int x1), (2, .int x2)]) hx hb dX0_fact_96 rfl hl (by decide) rfl (fun ls hl => ?_)
                  refine lv_aload_n hx hb dX0_fact_97 rfl (lv_at hl 1 rfl) ?_
                  refine lg_town C hO hP dX0_fact_98 ?_
                  refine tgN_needs (t := 0) C hO (by decide) hP dX0_fact_101 ?_
                  refine lv_iload_n hx hb dX0_fact_104 rfl (lv_at hl 0 rfl) ?_
                  refine lv_iload_n hx hb dX0_fact_105 rfl (lv_at hl 2 rfl) ?_
                  obtain ⟨b160, hb160, h⟩ := bd1_some h
                  refine cc_ist C hO hP hS (hO.2.2.2 _ (tk_ 1 (by decide) (by decide))) (cg_t 1 (by decide) (by decide)) hb160 (cg_At 1 (by decide) (by decide)) hP.2 dX0_fact_106 (fun H locs hP hS => ?_)
                  refine lv_aload_n hx hb dX0_fact_107 rfl (lv_at hl 1 rfl) ?_
                  refine lg_town C hO hP dX0_fact_108 ?_
                  refine tgN_clashes (t := 0) C hO (by decide) hP dX0_fact_111 ?_
                  refine lv_iload_n hx hb dX0_fact_114 rfl (lv_at hl 0 rfl) ?_
                  refine lv_iconst (v := 0) hx hb dX0_fact_115 (by decide) ?_
                  obtain ⟨b161, hb161, h⟩ := bd1_some h
                  refine cc_ist C hO hP hS (hO.2.2.2 _ (tk_ 2 (by decide) (by decide))) (cg_t 2 (by decide) (by decide)) hb161 (cg_At 2 (by decide) (by decide)) hP.2 dX0_fact_116 (fun H locs hP hS => ?_)
                  refine lv_aload_n hx hb dX0_fact_117 rfl (lv_at hl 1 rfl) ?_
                  refine lg_town C hO hP dX0_fact_118 ?_
                  refine tgN_within (t := 0) C hO (by decide) hP dX0_fact_121 ?_
                  refine lv_iload_n hx hb dX0_fact_124 rfl (lv_at hl 0 rfl) ?_
                  refine lv_iconst (v := 0) hx hb dX0_fact_125 (by decide) ?_
                  obtain ⟨b162, hb162, h⟩ := bd1_some h
                  refine cc_ist C hO hP hS (hO.2.2.2 _ (tk_ 3 (by decide) (by decide))) (cg_t 3 (by decide) (by decide)) hb162 (cg_At 3 (by decide) (by decide)) hP.2 dX0_fact_126 (fun H locs hP hS => ?_)
                  refine lv_aload_n hx hb dX0_fact_127 rfl (lv_at hl 1 rfl) ?_
                  refine lg_town C hO hP dX0_fact_128 ?_
                  refine tgN_by (t := 0) C hO (by decide) hP dX0_fact_131 ?_
                  refine lv_iload_n hx hb dX0_fact_134 rfl (lv_at hl 0 rfl) ?_
                  refine lv_iconst (v := 0) hx hb dX0_fact_135 (by decide) ?_
                  obtain ⟨b163, hb163, h⟩ := bd1_some h
                  refine cc_ist C hO hP hS (hO.2.2.2 _ (tk_ 4 (by decide) (by decide))) (cg_t 4 (by decide) (by decide)) hb163 (cg_At 4 (by decide) (by decide)) hP.2 dX0_fact_136 (fun H locs hP hS => ?_)
                  refine lv_aload_n hx hb dX0_fact_137 rfl (lv_at hl 1 rfl) ?_
                  refine lg_town C hO hP dX0_fact_138 ?_
                  refine tgN_witnesses (t := 0) C hO (by decide) hP dX0_fact_141 ?_
                  refine lv_iload_n hx hb dX0_fact_144 rfl (lv_at hl 0 rfl) ?_
                  refine lv_iload_n hx hb dX0_fact_145 rfl (lv_at hl 3 rfl) ?_
                  obtain ⟨b164, hb164, h⟩ := bd1_some h
                  refine cc_ist C hO hP hS (hO.2.2.2 _ (tk_ 5 (by decide) (by decide))) (cg_t 5 (by decide) (by decide)) hb164 (cg_At 5 (by decide) (by decide)) hP.2 dX0_fact_146 (fun H locs hP hS => ?_)
                  refine lv_aload_n hx hb dX0_fact_147 rfl (lv_at hl 1 rfl) ?_
                  refine lg_town C hO hP dX0_fact_148 ?_
                  refine lv_dup hx hb dX0_fact_151 rfl ?_
                  refine tgN_facts (t := 0) C hO (by decide) hP dX0_fact_152 ?_
                  refine lv_iconst (v := 1) hx hb dX0_fact_155 (by decide) ?_
                  refine lv_iadd hx hb dX0_fact_156 ?_
                  refine tpN_facts (t := 0) C hO (by decide) hP hS dX0_fact_157 (fun H locs hP hS => ?_)
                  refine lv_iload_n hx hb dX0_fact_160 rfl (lv_at hl 0 rfl) ?_
                  exact cc_viret hx hb hr hlk h hP hS dX0_fact_161
              · have h := if_some_f h c154
                refine lv_iconst (v := 1) hx hb dX0_fact_80 (by decide) ?_
                refine lv_goto (tgt := 85) hx hb dX0_fact_81 rfl ?_
                refine lv_iconst (v := 4) hx hb dX0_fact_85 (by decide) ?_
                obtain ⟨o167, st166, hv165, h⟩ := bd2_some h
                rcases o167 with _ | v165
                · rw [onx_none] at h
                  refine k_L_needT C hO hP hS hv165 q402 (Nat.le_of_ble_eq_true rfl) hl.1 (Nat.le_of_ble_eq_true rfl) hcs dX0_fact_86 (fun H locs hP hS => ?_)
                  refine cc_catch (pre := []) (a1 := 0) (a2 := 161) (hp := 162) (post := []) C hO hP q129 htab rfl rfl ?_
                  refine lv_astore_n (lv' := [(3, .ref (ad 61)), (0, .ref (ad 60)), (1, .int x1), (2, .int x2)]) hx hb dX0_fact_162 rfl hl (by decide) rfl (fun ls hl => ?_)
                  refine lv_aload_n hx hb dX0_fact_163 rfl (lv_at hl 1 rfl) ?_
                  refine lv_aload_n hx hb dX0_fact_164 rfl (lv_at hl 0 rfl) ?_
                  obtain ⟨v168, st169, hv168, h⟩ := bd2_some h
                  refine k_L_finds C hO hP hS hv168 q410 (Nat.le_of_ble_eq_true rfl) hl.1 (Nat.le_of_ble_eq_true rfl) hcs dX0_fact_165 (fun H locs hP hS => ?_)
                  exact cc_viret hx hb hr hlk h hP hS dX0_fact_168
                · rw [onx_some] at h
                  refine k_L_needR C hO hP hS hv165 q402 (Nat.le_of_ble_eq_true rfl) hl.1 (Nat.le_of_ble_eq_true rfl) hcs dX0_fact_86 (fun H locs hP hS => ?_)
                  refine lv_aload_n hx hb dX0_fact_89 rfl (lv_at hl 0 rfl) ?_
                  refine lg_town C hO hP dX0_fact_90 ?_
                  refine tgN_facts (t := 0) C hO (by decide) hP dX0_fact_93 ?_
                  refine lv_istore_n (lv' := [(3, .int (st166.1 (20 * 0) 0)), (0, .ref (ad 60)), (1, .int x1), (2, .int x2)]) hx hb dX0_fact_96 rfl hl (by decide) rfl (fun ls hl => ?_)
                  refine lv_aload_n hx hb dX0_fact_97 rfl (lv_at hl 1 rfl) ?_
                  refine lg_town C hO hP dX0_fact_98 ?_
                  refine tgN_needs (t := 0) C hO (by decide) hP dX0_fact_101 ?_
                  refine lv_iload_n hx hb dX0_fact_104 rfl (lv_at hl 0 rfl) ?_
                  refine lv_iload_n hx hb dX0_fact_105 rfl (lv_at hl 2 rfl) ?_
                  obtain ⟨b170, hb170, h⟩ := bd1_some h
                  refine cc_ist C hO hP hS (hO.2.2.2 _ (tk_ 1 (by decide) (by decide))) (cg_t 1 (by decide) (by decide)) hb170 (cg_At 1 (by decide) (by decide)) hP.2 dX0_fact_106 (fun H locs hP hS => ?_)
                  refine lv_aload_n hx hb dX0_fact_107 rfl (lv_at hl 1 rfl) ?_
                  refine lg_town C hO hP dX0_fact_108 ?_
                  refine tgN_clashes (t := 0) C hO (by decide) hP dX0_fact_111 ?_
                  refine lv_iload_n hx hb dX0_fact_114 rfl (lv_at hl 0 rfl) ?_
                  refine lv_iconst (v := 0) hx hb dX0_fact_115 (by decide) ?_
                  obtain ⟨b171, hb171, h⟩ := bd1_some h
                  refine cc_ist C hO hP hS (hO.2.2.2 _ (tk_ 2 (by decide) (by decide))) (cg_t 2 (by decide) (by decide)) hb171 (cg_At 2 (by decide) (by decide)) hP.2 dX0_fact_116 (fun H locs hP hS => ?_)
                  refine lv_aload_n hx hb dX0_fact_117 rfl (lv_at hl 1 rfl) ?_
                  refine lg_town C hO hP dX0_fact_118 ?_
                  refine tgN_within (t := 0) C hO (by decide) hP dX0_fact_121 ?_
                  refine lv_iload_n hx hb dX0_fact_124 rfl (lv_at hl 0 rfl) ?_
                  refine lv_iconst (v := 0) hx hb dX0_fact_125 (by decide) ?_
                  obtain ⟨b172, hb172, h⟩ := bd1_some h
                  refine cc_ist C hO hP hS (hO.2.2.2 _ (tk_ 3 (by decide) (by decide))) (cg_t 3 (by decide) (by decide)) hb172 (cg_At 3 (by decide) (by decide)) hP.2 dX0_fact_126 (fun H locs hP hS => ?_)
                  refine lv_aload_n hx hb dX0_fact_127 rfl (lv_at hl 1 rfl) ?_
                  refine lg_town C hO hP dX0_fact_128 ?_
                  refine tgN_by (t := 0) C hO (by decide) hP dX0_fact_131 ?_
                  refine lv_iload_n hx hb dX0_fact_134 rfl (lv_at hl 0 rfl) ?_
                  refine lv_iconst (v := 0) hx hb dX0_fact_135 (by decide) ?_
                  obtain ⟨b173, hb173, h⟩ := bd1_some h
                  refine cc_ist C hO hP hS (hO.2.2.2 _ (tk_ 4 (by decide) (by decide))) (cg_t 4 (by decide) (by decide)) hb173 (cg_At 4 (by decide) (by decide)) hP.2 dX0_fact_136 (fun H locs hP hS => ?_)
                  refine lv_aload_n hx hb dX0_fact_137 rfl (lv_at hl 1 rfl) ?_
                  refine lg_town C hO hP dX0_fact_138 ?_
                  refine tgN_witnesses (t := 0) C hO (by decide) hP dX0_fact_141 ?_
                  refine lv_iload_n hx hb dX0_fact_144 rfl (lv_at hl 0 rfl) ?_
                  refine lv_iload_n hx hb dX0_fact_145 rfl (lv_at hl 3 rfl) ?_
                  obtain ⟨b174, hb174, h⟩ := bd1_some h
                  refine cc_ist C hO hP hS (hO.2.2.2 _ (tk_ 5 (by decide) (by decide))) (cg_t 5 (by decide) (by decide)) hb174 (cg_At 5 (by decide) (by decide)) hP.2 dX0_fact_146 (fun H locs hP hS => ?_)
                  refine lv_aload_n hx hb dX0_fact_147 rfl (lv_at hl 1 rfl) ?_
                  refine lg_town C hO hP dX0_fact_148 ?_
                  refine lv_dup hx hb dX0_fact_151 rfl ?_
                  refine tgN_facts (t := 0) C hO (by decide) hP dX0_fact_152 ?_
                  refine lv_iconst (v := 1) hx hb dX0_fact_155 (by decide) ?_
                  refine lv_iadd hx hb dX0_fact_156 ?_
                  refine tpN_facts (t := 0) C hO (by decide) hP hS dX0_fact_157 (fun H locs hP hS => ?_)
                  refine lv_iload_n hx hb dX0_fact_160 rfl (lv_at hl 0 rfl) ?_
                  exact cc_viret hx hb hr hlk h hP hS dX0_fact_161
    · have h := if_some_f h c89
      refine lv_iconst (v := 1) hx hb dX0_fact_22 (by decide) ?_
      refine lv_goto (tgt := 27) hx hb dX0_fact_23 rfl ?_
      refine lv_iconst (v := 1) hx hb dX0_fact_27 (by decide) ?_
      obtain ⟨o177, st176, hv175, h⟩ := bd2_some h
      rcases o177 with _ | v175
      · rw [onx_none] at h
        refine k_L_needT C hO hP hS hv175 q402 (Nat.le_of_ble_eq_true rfl) hl.1 (Nat.le_of_ble_eq_true rfl) hcs dX0_fact_28 (fun H locs hP hS => ?_)
        refine cc_catch (pre := []) (a1 := 0) (a2 := 161) (hp := 162) (post := []) C hO hP q129 htab rfl rfl ?_
        refine lv_astore_n (lv' := [(3, .ref (ad 61)), (0, .ref (ad 60)), (1, .int x1), (2, .int x2)]) hx hb dX0_fact_162 rfl hl (by decide) rfl (fun ls hl => ?_)
        refine lv_aload_n hx hb dX0_fact_163 rfl (lv_at hl 1 rfl) ?_
        refine lv_aload_n hx hb dX0_fact_164 rfl (lv_at hl 0 rfl) ?_
        obtain ⟨v178, st179, hv178, h⟩ := bd2_some h
        refine k_L_finds C hO hP hS hv178 q410 (Nat.le_of_ble_eq_true rfl) hl.1 (Nat.le_of_ble_eq_true rfl) hcs dX0_fact_165 (fun H locs hP hS => ?_)
        exact cc_viret hx hb hr hlk h hP hS dX0_fact_168
      · rw [onx_some] at h
        refine k_L_needR C hO hP hS hv175 q402 (Nat.le_of_ble_eq_true rfl) hl.1 (Nat.le_of_ble_eq_true rfl) hcs dX0_fact_28 (fun H locs hP hS => ?_)
        refine lv_aload_n hx hb dX0_fact_31 rfl (lv_at hl 0 rfl) ?_
        refine lv_aload_n hx hb dX0_fact_32 rfl (lv_at hl 0 rfl) ?_
        refine lg_town C hO hP dX0_fact_33 ?_
        refine tgN_facts (t := 0) C hO (by decide) hP dX0_fact_36 ?_
        refine lv_bipush (v := 8) hx hb dX0_fact_39 (by decide) ?_
        refine lv_icmp_eq (tgt := 58) hx hb dX0_fact_41 rfl (fun c180 => ?_) (fun c180 => ?_)
        · have h := if_some_t h c180
          refine lv_iconst (v := 1) hx hb dX0_fact_58 (by decide) ?_
          refine lv_goto (tgt := 63) hx hb dX0_fact_59 rfl ?_
          refine lv_iconst (v := 1) hx hb dX0_fact_63 (by decide) ?_
          obtain ⟨o183, st182, hv181, h⟩ := bd2_some h
          rcases o183 with _ | v181
          · rw [onx_none] at h
            refine k_L_needT C hO hP hS hv181 q402 (Nat.le_of_ble_eq_true rfl) hl.1 (Nat.le_of_ble_eq_true rfl) hcs dX0_fact_64 (fun H locs hP hS => ?_)
            refine cc_catch (pre := []) (a1 := 0) (a2 := 161) (hp := 162) (post := []) C hO hP q129 htab rfl rfl ?_
            refine lv_astore_n (lv' := [(3, .ref (ad 61)), (0, .ref (ad 60)), (1, .int x1), (2, .int x2)]) hx hb dX0_fact_162 rfl hl (by decide) rfl (fun ls hl => ?_)
            refine lv_aload_n hx hb dX0_fact_163 rfl (lv_at hl 1 rfl) ?_
            refine lv_aload_n hx hb dX0_fact_164 rfl (lv_at hl 0 rfl) ?_
            obtain ⟨v184, st185, hv184, h⟩ := bd2_some h
            refine k_L_finds C hO hP hS hv184 q410 (Nat.le_of_ble_eq_true rfl) hl.1 (Nat.le_of_ble_eq_true rfl) hcs dX0_fact_165 (fun H locs hP hS => ?_)
            exact cc_viret hx hb hr hlk h hP hS dX0_fact_168
          · rw [onx_some] at h
            refine k_L_needR C hO hP hS hv181 q402 (Nat.le_of_ble_eq_true rfl) hl.1 (Nat.le_of_ble_eq_true rfl) hcs dX0_fact_64 (fun H locs hP hS => ?_)
            refine lv_aload_n hx hb dX0_fact_67 rfl (lv_at hl 0 rfl) ?_
            refine lv_aload_n hx hb dX0_fact_68 rfl (lv_at hl 0 rfl) ?_
            refine lg_town C hO hP dX0_fact_69 ?_
            refine tgN_facts (t := 0) C hO (by decide) hP dX0_fact_72 ?_
            refine lv_bipush (v := 8) hx hb dX0_fact_75 (by decide) ?_
            refine lv_icmp_ge (tgt := 84) hx hb dX0_fact_77 rfl (fun c186 => ?_) (fun c186 => ?_)
            · have h := if_some_t h c186
              refine lv_iconst (v := 0) hx hb dX0_fact_84 (by decide) ?_
              refine lv_iconst (v := 4) hx hb dX0_fact_85 (by decide) ?_
              obtain ⟨o189, st188, hv187, h⟩ := bd2_some h
              rcases o189 with _ | v187
              · rw [onx_none] at h
                refine k_L_needT C hO hP hS hv187 q402 (Nat.le_of_ble_eq_true rfl) hl.1 (Nat.le_of_ble_eq_true rfl) hcs dX0_fact_86 (fun H locs hP hS => ?_)
                refine cc_catch (pre := []) (a1 := 0) (a2 := 161) (hp := 162) (post := []) C hO hP q129 htab rfl rfl ?_
                refine lv_astore_n (lv' := [(3, .ref (ad 61)), (0, .ref (ad 60)), (1, .int x1), (2, .int x2)]) hx hb dX0_fact_162 rfl hl (by decide) rfl (fun ls hl => ?_)
                refine lv_aload_n hx hb dX0_fact_163 rfl (lv_at hl 1 rfl) ?_
                refine lv_aload_n hx hb dX0_fact_164 rfl (lv_at hl 0 rfl) ?_
                obtain ⟨v190, st191, hv190, h⟩ := bd2_some h
                refine k_L_finds C hO hP hS hv190 q410 (Nat.le_of_ble_eq_true rfl) hl.1 (Nat.le_of_ble_eq_true rfl) hcs dX0_fact_165 (fun H locs hP hS => ?_)
                exact cc_viret hx hb hr hlk h hP hS dX0_fact_168
              · rw [onx_some] at h
                refine k_L_needR C hO hP hS hv187 q402 (Nat.le_of_ble_eq_true rfl) hl.1 (Nat.le_of_ble_eq_true rfl) hcs dX0_fact_86 (fun H locs hP hS => ?_)
                refine lv_aload_n hx hb dX0_fact_89 rfl (lv_at hl 0 rfl) ?_
                refine lg_town C hO hP dX0_fact_90 ?_
                refine tgN_facts (t := 0) C hO (by decide) hP dX0_fact_93 ?_
                refine lv_istore_n (lv' := [(3, .int (st188.1 (20 * 0) 0)), (0, .ref (ad 60)), (1, .int x1), (2, .int x2)]) hx hb dX0_fact_96 rfl hl (by decide) rfl (fun ls hl => ?_)
                refine lv_aload_n hx hb dX0_fact_97 rfl (lv_at hl 1 rfl) ?_
                refine lg_town C hO hP dX0_fact_98 ?_
                refine tgN_needs (t := 0) C hO (by decide) hP dX0_fact_101 ?_
                refine lv_iload_n hx hb dX0_fact_104 rfl (lv_at hl 0 rfl) ?_
                refine lv_iload_n hx hb dX0_fact_105 rfl (lv_at hl 2 rfl) ?_
                obtain ⟨b192, hb192, h⟩ := bd1_some h
                refine cc_ist C hO hP hS (hO.2.2.2 _ (tk_ 1 (by decide) (by decide))) (cg_t 1 (by decide) (by decide)) hb192 (cg_At 1 (by decide) (by decide)) hP.2 dX0_fact_106 (fun H locs hP hS => ?_)
                refine lv_aload_n hx hb dX0_fact_107 rfl (lv_at hl 1 rfl) ?_
                refine lg_town C hO hP dX0_fact_108 ?_
                refine tgN_clashes (t := 0) C hO (by decide) hP dX0_fact_111 ?_
                refine lv_iload_n hx hb dX0_fact_114 rfl (lv_at hl 0 rfl) ?_
                refine lv_iconst (v := 0) hx hb dX0_fact_115 (by decide) ?_
                obtain ⟨b193, hb193, h⟩ := bd1_some h
                refine cc_ist C hO hP hS (hO.2.2.2 _ (tk_ 2 (by decide) (by decide))) (cg_t 2 (by decide) (by decide)) hb193 (cg_At 2 (by decide) (by decide)) hP.2 dX0_fact_116 (fun H locs hP hS => ?_)
                refine lv_aload_n hx hb dX0_fact_117 rfl (lv_at hl 1 rfl) ?_
                refine lg_town C hO hP dX0_fact_118 ?_
                refine tgN_within (t := 0) C hO (by decide) hP dX0_fact_121 ?_
                refine lv_iload_n hx hb dX0_fact_124 rfl (lv_at hl 0 rfl) ?_
                refine lv_iconst (v := 0) hx hb dX0_fact_125 (by decide) ?_
                obtain ⟨b194, hb194, h⟩ := bd1_some h
                refine cc_ist C hO hP hS (hO.2.2.2 _ (tk_ 3 (by decide) (by decide))) (cg_t 3 (by decide) (by decide)) hb194 (cg_At 3 (by decide) (by decide)) hP.2 dX0_fact_126 (fun H locs hP hS => ?_)
                refine lv_aload_n hx hb dX0_fact_127 rfl (lv_at hl 1 rfl) ?_
                refine lg_town C hO hP dX0_fact_128 ?_
                refine tgN_by (t := 0) C hO (by decide) hP dX0_fact_131 ?_
                refine lv_iload_n hx hb dX0_fact_134 rfl (lv_at hl 0 rfl) ?_
                refine lv_iconst (v := 0) hx hb dX0_fact_135 (by decide) ?_
                obtain ⟨b195, hb195, h⟩ := bd1_some h
                refine cc_ist C hO hP hS (hO.2.2.2 _ (tk_ 4 (by decide) (by decide))) (cg_t 4 (by decide) (by decide)) hb195 (cg_At 4 (by decide) (by decide)) hP.2 dX0_fact_136 (fun H locs hP hS => ?_)
                refine lv_aload_n hx hb dX0_fact_137 rfl (lv_at hl 1 rfl) ?_
                refine lg_town C hO hP dX0_fact_138 ?_
                refine tgN_witnesses (t := 0) C hO (by decide) hP dX0_fact_141 ?_
                refine lv_iload_n hx hb dX0_fact_144 rfl (lv_at hl 0 rfl) ?_
                refine lv_iload_n hx hb dX0_fact_145 rfl (lv_at hl 3 rfl) ?_
                obtain ⟨b196, hb196, h⟩ := bd1_some h
                refine cc_ist C hO hP hS (hO.2.2.2 _ (tk_ 5 (by decide) (by decide))) (cg_t 5 (by decide) (by decide)) hb196 (cg_At 5 (by decide) (by decide)) hP.2 dX0_fact_146 (fun H locs hP hS => ?_)
                refine lv_aload_n hx hb dX0_fact_147 rfl (lv_at hl 1 rfl) ?_
                refine lg_town C hO hP dX0_fact_148 ?_
                refine lv_dup hx hb dX0_fact_151 rfl ?_
                refine tgN_facts (t := 0) C hO (by decide) hP dX0_fact_152 ?_
                refine lv_iconst (v := 1) hx hb dX0_fact_155 (by decide) ?_
                refine lv_iadd hx hb dX0_fact_156 ?_
                refine tpN_facts (t := 0) C hO (by decide) hP hS dX0_fact_157 (fun H locs hP hS => ?_)
                refine lv_iload_n hx hb dX0_fact_160 rfl (lv_at hl 0 rfl) ?_
                exact cc_viret hx hb hr hlk h hP hS dX0_fact_161
            · have h := if_some_f h c186
              refine lv_iconst (v := 1) hx hb dX0_fact_80 (by decide) ?_
              refine lv_goto (tgt := 85) hx hb dX0_fact_81 rfl ?_
              refine lv_iconst (v := 4) hx hb dX0_fact_85 (by decide) ?_
              obtain ⟨o199, st198, hv197, h⟩ := bd2_some h
              rcases o199 with _ | v197
              · rw [onx_none] at h
                refine k_L_needT C hO hP hS hv197 q402 (Nat.le_of_ble_eq_true rfl) hl.1 (Nat.le_of_ble_eq_true rfl) hcs dX0_fact_86 (fun H locs hP hS => ?_)
                refine cc_catch (pre := []) (a1 := 0) (a2 := 161) (hp := 162) (post := []) C hO hP q129 htab rfl rfl ?_
                refine lv_astore_n (lv' := [(3, .ref (ad 61)), (0, .ref (ad 60)), (1, .int x1), (2, .int x2)]) hx hb dX0_fact_162 rfl hl (by decide) rfl (fun ls hl => ?_)
                refine lv_aload_n hx hb dX0_fact_163 rfl (lv_at hl 1 rfl) ?_
                refine lv_aload_n hx hb dX0_fact_164 rfl (lv_at hl 0 rfl) ?_
                obtain ⟨v200, st201, hv200, h⟩ := bd2_some h
                refine k_L_finds C hO hP hS hv200 q410 (Nat.le_of_ble_eq_true rfl) hl.1 (Nat.le_of_ble_eq_true rfl) hcs dX0_fact_165 (fun H locs hP hS => ?_)
                exact cc_viret hx hb hr hlk h hP hS dX0_fact_168
              · rw [onx_some] at h
                refine k_L_needR C hO hP hS hv197 q402 (Nat.le_of_ble_eq_true rfl) hl.1 (Nat.le_of_ble_eq_true rfl) hcs dX0_fact_86 (fun H locs hP hS => ?_)
                refine lv_aload_n hx hb dX0_fact_89 rfl (lv_at hl 0 rfl) ?_
                refine lg_town C hO hP dX0_fact_90 ?_
                refine tgN_facts (t := 0) C hO (by decide) hP dX0_fact_93 ?_
                refine lv_istore_n (lv' := [(3, .int (st198.1 (20 * 0) 0)), (0, .ref (ad 60)), (1, .int x1), (2, .int x2)]) hx hb dX0_fact_96 rfl hl (by decide) rfl (fun ls hl => ?_)
                refine lv_aload_n hx hb dX0_fact_97 rfl (lv_at hl 1 rfl) ?_
                refine lg_town C hO hP dX0_fact_98 ?_
                refine tgN_needs (t := 0) C hO (by decide) hP dX0_fact_101 ?_
                refine lv_iload_n hx hb dX0_fact_104 rfl (lv_at hl 0 rfl) ?_
                refine lv_iload_n hx hb dX0_fact_105 rfl (lv_at hl 2 rfl) ?_
                obtain ⟨b202, hb202, h⟩ := bd1_some h
                refine cc_ist C hO hP hS (hO.2.2.2 _ (tk_ 1 (by decide) (by decide))) (cg_t 1 (by decide) (by decide)) hb202 (cg_At 1 (by decide) (by decide)) hP.2 dX0_fact_106 (fun H locs hP hS => ?_)
                refine lv_aload_n hx hb dX0_fact_107 rfl (lv_at hl 1 rfl) ?_
                refine lg_town C hO hP dX0_fact_108 ?_
                refine tgN_clashes (t := 0) C hO (by decide) hP dX0_fact_111 ?_
                refine lv_iload_n hx hb dX0_fact_114 rfl (lv_at hl 0 rfl) ?_
                refine lv_iconst (v := 0) hx hb dX0_fact_115 (by decide) ?_
                obtain ⟨b203, hb203, h⟩ := bd1_some h
                refine cc_ist C hO hP hS (hO.2.2.2 _ (tk_ 2 (by decide) (by decide))) (cg_t 2 (by decide) (by decide)) hb203 (cg_At 2 (by decide) (by decide)) hP.2 dX0_fact_116 (fun H locs hP hS => ?_)
                refine lv_aload_n hx hb dX0_fact_117 rfl (lv_at hl 1 rfl) ?_
                refine lg_town C hO hP dX0_fact_118 ?_
                refine tgN_within (t := 0) C hO (by decide) hP dX0_fact_121 ?_
                refine lv_iload_n hx hb dX0_fact_124 rfl (lv_at hl 0 rfl) ?_
                refine lv_iconst (v := 0) hx hb dX0_fact_125 (by decide) ?_
                obtain ⟨b204, hb204, h⟩ := bd1_some h
                refine cc_ist C hO hP hS (hO.2.2.2 _ (tk_ 3 (by decide) (by decide))) (cg_t 3 (by decide) (by decide)) hb204 (cg_At 3 (by decide) (by decide)) hP.2 dX0_fact_126 (fun H locs hP hS => ?_)
                refine lv_aload_n hx hb dX0_fact_127 rfl (lv_at hl 1 rfl) ?_
                refine lg_town C hO hP dX0_fact_128 ?_
                refine tgN_by (t := 0) C hO (by decide) hP dX0_fact_131 ?_
                refine lv_iload_n hx hb dX0_fact_134 rfl (lv_at hl 0 rfl) ?_
                refine lv_iconst (v := 0) hx hb dX0_fact_135 (by decide) ?_
                obtain ⟨b205, hb205, h⟩ := bd1_some h
                refine cc_ist C hO hP hS (hO.2.2.2 _ (tk_ 4 (by decide) (by decide))) (cg_t 4 (by decide) (by decide)) hb205 (cg_At 4 (by decide) (by decide)) hP.2 dX0_fact_136 (fun H locs hP hS => ?_)
                refine lv_aload_n hx hb dX0_fact_137 rfl (lv_at hl 1 rfl) ?_
                refine lg_town C hO hP dX0_fact_138 ?_
                refine tgN_witnesses (t := 0) C hO (by decide) hP dX0_fact_141 ?_
                refine lv_iload_n hx hb dX0_fact_144 rfl (lv_at hl 0 rfl) ?_
                refine lv_iload_n hx hb dX0_fact_145 rfl (lv_at hl 3 rfl) ?_
                obtain ⟨b206, hb206, h⟩ := bd1_some h
                refine cc_ist C hO hP hS (hO.2.2.2 _ (tk_ 5 (by decide) (by decide))) (cg_t 5 (by decide) (by decide)) hb206 (cg_At 5 (by decide) (by decide)) hP.2 dX0_fact_146 (fun H locs hP hS => ?_)
                refine lv_aload_n hx hb dX0_fact_147 rfl (lv_at hl 1 rfl) ?_
                refine lg_town C hO hP dX0_fact_148 ?_
                refine lv_dup hx hb dX0_fact_151 rfl ?_
                refine tgN_facts (t := 0) C hO (by decide) hP dX0_fact_152 ?_
                refine lv_iconst (v := 1) hx hb dX0_fact_155 (by decide) ?_
                refine lv_iadd hx hb dX0_fact_156 ?_
                refine tpN_facts (t := 0) C hO (by decide) hP hS dX0_fact_157 (fun H locs hP hS => ?_)
                refine lv_iload_n hx hb dX0_fact_160 rfl (lv_at hl 0 rfl) ?_
                exact cc_viret hx hb hr hlk h hP hS dX0_fact_161
        · have h := if_some_f h c180
          refine lv_iload_n hx hb dX0_fact_44 rfl (lv_at hl 1 rfl) ?_
          refine lv_aload_n hx hb dX0_fact_45 rfl (lv_at hl 0 rfl) ?_
          refine lg_town C hO hP dX0_fact_46 ?_
          refine tgN_facts (t := 0) C hO (by decide) hP dX0_fact_49 ?_
          refine lv_ishr hx hb dX0_fact_52 ?_
          refine lv_iconst (v := 1) hx hb dX0_fact_53 (by decide) ?_
          refine lv_iand hx hb dX0_fact_54 ?_
          refine lv_if_ne (tgt := 62) hx hb dX0_fact_55 rfl (fun c207 => ?_) (fun c207 => ?_)
          · have h := if_some_f h c207
            refine lv_iconst (v := 0) hx hb dX0_fact_62 (by decide) ?_
            refine lv_iconst (v := 1) hx hb dX0_fact_63 (by decide) ?_
            obtain ⟨o210, st209, hv208, h⟩ := bd2_some h
            rcases o210 with _ | v208
            · rw [onx_none] at h
              refine k_L_needT C hO hP hS hv208 q402 (Nat.le_of_ble_eq_true rfl) hl.1 (Nat.le_of_ble_eq_true rfl) hcs dX0_fact_64 (fun H locs hP hS => ?_)
              refine cc_catch (pre := []) (a1 := 0) (a2 := 161) (hp := 162) (post := []) C hO hP q129 htab rfl rfl ?_
              refine lv_astore_n (lv' := [(3, .ref (ad 61)), (0, .ref (ad 60)), (1, .int x1), (2, .int x2)]) hx hb dX0_fact_162 rfl hl (by decide) rfl (fun ls hl => ?_)
              refine lv_aload_n hx hb dX0_fact_163 rfl (lv_at hl 1 rfl) ?_
              refine lv_aload_n hx hb dX0_fact_164 rfl (lv_at hl 0 rfl) ?_
              obtain ⟨v211, st212, hv211, h⟩ := bd2_some h
              refine k_L_finds C hO hP hS hv211 q410 (Nat.le_of_ble_eq_true rfl) hl.1 (Nat.le_of_ble_eq_true rfl) hcs dX0_fact_165 (fun H locs hP hS => ?_)
              exact cc_viret hx hb hr hlk h hP hS dX0_fact_168
            · rw [onx_some] at h
              refine k_L_needR C hO hP hS hv208 q402 (Nat.le_of_ble_eq_true rfl) hl.1 (Nat.le_of_ble_eq_true rfl) hcs dX0_fact_64 (fun H locs hP hS => ?_)
              refine lv_aload_n hx hb dX0_fact_67 rfl (lv_at hl 0 rfl) ?_
              refine lv_aload_n hx hb dX0_fact_68 rfl (lv_at hl 0 rfl) ?_
              refine lg_town C hO hP dX0_fact_69 ?_
              refine tgN_facts (t := 0) C hO (by decide) hP dX0_fact_72 ?_
              refine lv_bipush (v := 8) hx hb dX0_fact_75 (by decide) ?_
              refine lv_icmp_ge (tgt := 84) hx hb dX0_fact_77 rfl (fun c213 => ?_) (fun c213 => ?_)
              · have h := if_some_t h c213
                refine lv_iconst (v := 0) hx hb dX0_fact_84 (by decide) ?_
                refine lv_iconst (v := 4) hx hb dX0_fact_85 (by decide) ?_
                obtain ⟨o216, st215, hv214, h⟩ := bd2_some h
                rcases o216 with _ | v214
                · rw [onx_none] at h
                  refine k_L_needT C hO hP hS hv214 q402 (Nat.le_of_ble_eq_true rfl) hl.1 (Nat.le_of_ble_eq_true rfl) hcs dX0_fact_86 (fun H locs hP hS => ?_)
                  refine cc_catch (pre := []) (a1 := 0) (a2 := 161) (hp := 162) (post := []) C hO hP q129 htab rfl rfl ?_
                  refine lv_astore_n (lv' := [(3, .ref (ad 61)), (0, .ref (ad 60)), (1, .int x1), (2, .int x2)]) hx hb dX0_fact_162 rfl hl (by decide) rfl (fun ls hl => ?_)
                  refine lv_aload_n hx hb dX0_fact_163 rfl (lv_at hl 1 rfl) ?_
                  refine lv_aload_n hx hb dX0_fact_164 rfl (lv_at hl 0 rfl) ?_
                  obtain ⟨v217, st218, hv217, h⟩ := bd2_some h
                  refine k_L_finds C hO hP hS hv217 q410 (Nat.le_of_ble_eq_true rfl) hl.1 (Nat.le_of_ble_eq_true rfl) hcs dX0_fact_165 (fun H locs hP hS => ?_)
                  exact cc_viret hx hb hr hlk h hP hS dX0_fact_168
                · rw [onx_some] at h
                  refine k_L_needR C hO hP hS hv214 q402 (Nat.le_of_ble_eq_true rfl) hl.1 (Nat.le_of_ble_eq_true rfl) hcs dX0_fact_86 (fun H locs hP hS => ?_)
                  refine lv_aload_n hx hb dX0_fact_89 rfl (lv_at hl 0 rfl) ?_
                  refine lg_town C hO hP dX0_fact_90 ?_
                  refine tgN_facts (t := 0) C hO (by decide) hP dX0_fact_93 ?_
                  refine lv_istore_n (lv' := [(3, .int (st215.1 (20 * 0) 0)), (0, .ref (ad 60)), (1, .int x1), (2, .int x2)]) hx hb dX0_fact_96 rfl hl (by decide) rfl (fun ls hl => ?_)
                  refine lv_aload_n hx hb dX0_fact_97 rfl (lv_at hl 1 rfl) ?_
                  refine lg_town C hO hP dX0_fact_98 ?_
                  refine tgN_needs (t := 0) C hO (by decide) hP dX0_fact_101 ?_
                  refine lv_iload_n hx hb dX0_fact_104 rfl (lv_at hl 0 rfl) ?_
                  refine lv_iload_n hx hb dX0_fact_105 rfl (lv_at hl 2 rfl) ?_
                  obtain ⟨b219, hb219, h⟩ := bd1_some h
                  refine cc_ist C hO hP hS (hO.2.2.2 _ (tk_ 1 (by decide) (by decide))) (cg_t 1 (by decide) (by decide)) hb219 (cg_At 1 (by decide) (by decide)) hP.2 dX0_fact_106 (fun H locs hP hS => ?_)
                  refine lv_aload_n hx hb dX0_fact_107 rfl (lv_at hl 1 rfl) ?_
                  refine lg_town C hO hP dX0_fact_108 ?_
                  refine tgN_clashes (t := 0) C hO (by decide) hP dX0_fact_111 ?_
                  refine lv_iload_n hx hb dX0_fact_114 rfl (lv_at hl 0 rfl) ?_
                  refine lv_iconst (v := 0) hx hb dX0_fact_115 (by decide) ?_
                  obtain ⟨b220, hb220, h⟩ := bd1_some h
                  refine cc_ist C hO hP hS (hO.2.2.2 _ (tk_ 2 (by decide) (by decide))) (cg_t 2 (by decide) (by decide)) hb220 (cg_At 2 (by decide) (by decide)) hP.2 dX0_fact_116 (fun H locs hP hS => ?_)
                  refine lv_aload_n hx hb dX0_fact_117 rfl (lv_at hl 1 rfl) ?_
                  refine lg_town C hO hP dX0_fact_118 ?_
                  refine tgN_within (t := 0) C hO (by decide) hP dX0_fact_121 ?_
                  refine lv_iload_n hx hb dX0_fact_124 rfl (lv_at hl 0 rfl) ?_
                  refine lv_iconst (v := 0) hx hb dX0_fact_125 (by decide) ?_
                  obtain ⟨b221, hb221, h⟩ := bd1_some h
                  refine cc_ist C hO hP hS (hO.2.2.2 _ (tk_ 3 (by decide) (by decide))) (cg_t 3 (by decide) (by decide)) hb221 (cg_At 3 (by decide) (by decide)) hP.2 dX0_fact_126 (fun H locs hP hS => ?_)
                  refine lv_aload_n hx hb dX0_fact_127 rfl (lv_at hl 1 rfl) ?_
                  refine lg_town C hO hP dX0_fact_128 ?_
                  refine tgN_by (t := 0) C hO (by decide) hP dX0_fact_131 ?_
                  refine lv_iload_n hx hb dX0_fact_134 rfl (lv_at hl 0 rfl) ?_
                  refine lv_iconst (v := 0) hx hb dX0_fact_135 (by decide) ?_
                  obtain ⟨b222, hb222, h⟩ := bd1_some h
                  refine cc_ist C hO hP hS (hO.2.2.2 _ (tk_ 4 (by decide) (by decide))) (cg_t 4 (by decide) (by decide)) hb222 (cg_At 4 (by decide) (by decide)) hP.2 dX0_fact_136 (fun H locs hP hS => ?_)
                  refine lv_aload_n hx hb dX0_fact_137 rfl (lv_at hl 1 rfl) ?_
                  refine lg_town C hO hP dX0_fact_138 ?_
                  refine tgN_witnesses (t := 0) C hO (by decide) hP dX0_fact_141 ?_
                  refine lv_iload_n hx hb dX0_fact_144 rfl (lv_at hl 0 rfl) ?_
                  refine lv_iload_n hx hb dX0_fact_145 rfl (lv_at hl 3 rfl) ?_
                  obtain ⟨b223, hb223, h⟩ := bd1_some h
                  refine cc_ist C hO hP hS (hO.2.2.2 _ (tk_ 5 (by decide) (by decide))) (cg_t 5 (by decide) (by decide)) hb223 (cg_At 5 (by decide) (by decide)) hP.2 dX0_fact_146 (fun H locs hP hS => ?_)
                  refine lv_aload_n hx hb dX0_fact_147 rfl (lv_at hl 1 rfl) ?_
                  refine lg_town C hO hP dX0_fact_148 ?_
                  refine lv_dup hx hb dX0_fact_151 rfl ?_
                  refine tgN_facts (t := 0) C hO (by decide) hP dX0_fact_152 ?_
                  refine lv_iconst (v := 1) hx hb dX0_fact_155 (by decide) ?_
                  refine lv_iadd hx hb dX0_fact_156 ?_
                  refine tpN_facts (t := 0) C hO (by decide) hP hS dX0_fact_157 (fun H locs hP hS => ?_)
                  refine lv_iload_n hx hb dX0_fact_160 rfl (lv_at hl 0 rfl) ?_
                  exact cc_viret hx hb hr hlk h hP hS dX0_fact_161
              · have h := if_some_f h c213
                refine lv_iconst (v := 1) hx hb dX0_fact_80 (by decide) ?_
                refine lv_goto (tgt := 85) hx hb dX0_fact_81 rfl ?_
                refine lv_iconst (v := 4) hx hb dX0_fact_85 (by decide) ?_
                obtain ⟨o226, st225, hv224, h⟩ := bd2_some h
                rcases o226 with _ | v224
                · rw [onx_none] at h
                  refine k_L_needT C hO hP hS hv224 q402 (Nat.le_of_ble_eq_true rfl) hl.1 (Nat.le_of_ble_eq_true rfl) hcs dX0_fact_86 (fun H locs hP hS => ?_)
                  refine cc_catch (pre := []) (a1 := 0) (a2 := 161) (hp := 162) (post := []) C hO hP q129 htab rfl rfl ?_
                  refine lv_astore_n (lv' := [(3, .ref (ad 61)), (0, .ref (ad 60)), (1, .int x1), (2, .int x2)]) hx hb dX0_fact_162 rfl hl (by decide) rfl (fun ls hl => ?_)
                  refine lv_aload_n hx hb dX0_fact_163 rfl (lv_at hl 1 rfl) ?_
                  refine lv_aload_n hx hb dX0_fact_164 rfl (lv_at hl 0 rfl) ?_
                  obtain ⟨v227, st228, hv227, h⟩ := bd2_some h
                  refine k_L_finds C hO hP hS hv227 q410 (Nat.le_of_ble_eq_true rfl) hl.1 (Nat.le_of_ble_eq_true rfl) hcs dX0_fact_165 (fun H locs hP hS => ?_)
                  exact cc_viret hx hb hr hlk h hP hS dX0_fact_168
                · rw [onx_some] at h
                  refine k_L_needR C hO hP hS hv224 q402 (Nat.le_of_ble_eq_true rfl) hl.1 (Nat.le_of_ble_eq_true rfl) hcs dX0_fact_86 (fun H locs hP hS => ?_)
                  refine lv_aload_n hx hb dX0_fact_89 rfl (lv_at hl 0 rfl) ?_
                  refine lg_town C hO hP dX0_fact_90 ?_
                  refine tgN_facts (t := 0) C hO (by decide) hP dX0_fact_93 ?_
                  refine lv_istore_n (lv' := [(3, .int (st225.1 (20 * 0) 0)), (0, .ref (ad 60)), (1, .int x1), (2, .int x2)]) hx hb dX0_fact_96 rfl hl (by decide) rfl (fun ls hl => ?_)
                  refine lv_aload_n hx hb dX0_fact_97 rfl (lv_at hl 1 rfl) ?_
                  refine lg_town C hO hP dX0_fact_98 ?_
                  refine tgN_needs (t := 0) C hO (by decide) hP dX0_fact_101 ?_
                  refine lv_iload_n hx hb dX0_fact_104 rfl (lv_at hl 0 rfl) ?_
                  refine lv_iload_n hx hb dX0_fact_105 rfl (lv_at hl 2 rfl) ?_
                  obtain ⟨b229, hb229, h⟩ := bd1_some h
                  refine cc_ist C hO hP hS (hO.2.2.2 _ (tk_ 1 (by decide) (by decide))) (cg_t 1 (by decide) (by decide)) hb229 (cg_At 1 (by decide) (by decide)) hP.2 dX0_fact_106 (fun H locs hP hS => ?_)
                  refine lv_aload_n hx hb dX0_fact_107 rfl (lv_at hl 1 rfl) ?_
                  refine lg_town C hO hP dX0_fact_108 ?_
                  refine tgN_clashes (t := 0) C hO (by decide) hP dX0_fact_111 ?_
                  refine lv_iload_n hx hb dX0_fact_114 rfl (lv_at hl 0 rfl) ?_
                  refine lv_iconst (v := 0) hx hb dX0_fact_115 (by decide) ?_
                  obtain ⟨b230, hb230, h⟩ := bd1_some h
                  refine cc_ist C hO hP hS (hO.2.2.2 _ (tk_ 2 (by decide) (by decide))) (cg_t 2 (by decide) (by decide)) hb230 (cg_At 2 (by decide) (by decide)) hP.2 dX0_fact_116 (fun H locs hP hS => ?_)
                  refine lv_aload_n hx hb dX0_fact_117 rfl (lv_at hl 1 rfl) ?_
                  refine lg_town C hO hP dX0_fact_118 ?_
                  refine tgN_within (t := 0) C hO (by decide) hP dX0_fact_121 ?_
                  refine lv_iload_n hx hb dX0_fact_124 rfl (lv_at hl 0 rfl) ?_
                  refine lv_iconst (v := 0) hx hb dX0_fact_125 (by decide) ?_
                  obtain ⟨b231, hb231, h⟩ := bd1_some h
                  refine cc_ist C hO hP hS (hO.2.2.2 _ (tk_ 3 (by decide) (by decide))) (cg_t 3 (by decide) (by decide)) hb231 (cg_At 3 (by decide) (by decide)) hP.2 dX0_fact_126 (fun H locs hP hS => ?_)
                  refine lv_aload_n hx hb dX0_fact_127 rfl (lv_at hl 1 rfl) ?_
                  refine lg_town C hO hP dX0_fact_128 ?_
                  refine tgN_by (t := 0) C hO (by decide) hP dX0_fact_131 ?_
                  refine lv_iload_n hx hb dX0_fact_134 rfl (lv_at hl 0 rfl) ?_
                  refine lv_iconst (v := 0) hx hb dX0_fact_135 (by decide) ?_
                  obtain ⟨b232, hb232, h⟩ := bd1_some h
                  refine cc_ist C hO hP hS (hO.2.2.2 _ (tk_ 4 (by decide) (by decide))) (cg_t 4 (by decide) (by decide)) hb232 (cg_At 4 (by decide) (by decide)) hP.2 dX0_fact_136 (fun H locs hP hS => ?_)
                  refine lv_aload_n hx hb dX0_fact_137 rfl (lv_at hl 1 rfl) ?_
                  refine lg_town C hO hP dX0_fact_138 ?_
                  refine tgN_witnesses (t := 0) C hO (by decide) hP dX0_fact_141 ?_
                  refine lv_iload_n hx hb dX0_fact_144 rfl (lv_at hl 0 rfl) ?_
                  refine lv_iload_n hx hb dX0_fact_145 rfl (lv_at hl 3 rfl) ?_
                  obtain ⟨b233, hb233, h⟩ := bd1_some h
                  refine cc_ist C hO hP hS (hO.2.2.2 _ (tk_ 5 (by decide) (by decide))) (cg_t 5 (by decide) (by decide)) hb233 (cg_At 5 (by decide) (by decide)) hP.2 dX0_fact_146 (fun H locs hP hS => ?_)
                  refine lv_aload_n hx hb dX0_fact_147 rfl (lv_at hl 1 rfl) ?_
                  refine lg_town C hO hP dX0_fact_148 ?_
                  refine lv_dup hx hb dX0_fact_151 rfl ?_
                  refine tgN_facts (t := 0) C hO (by decide) hP dX0_fact_152 ?_
                  refine lv_iconst (v := 1) hx hb dX0_fact_155 (by decide) ?_
                  refine lv_iadd hx hb dX0_fact_156 ?_
                  refine tpN_facts (t := 0) C hO (by decide) hP hS dX0_fact_157 (fun H locs hP hS => ?_)
                  refine lv_iload_n hx hb dX0_fact_160 rfl (lv_at hl 0 rfl) ?_
                  exact cc_viret hx hb hr hlk h hP hS dX0_fact_161
          · have h := if_some_t h c207
            refine lv_iconst (v := 1) hx hb dX0_fact_58 (by decide) ?_
            refine lv_goto (tgt := 63) hx hb dX0_fact_59 rfl ?_
            refine lv_iconst (v := 1) hx hb dX0_fact_63 (by decide) ?_
            obtain ⟨o236, st235, hv234, h⟩ := bd2_some h
            rcases o236 with _ | v234
            · rw [onx_none] at h
              refine k_L_needT C hO hP hS hv234 q402 (Nat.le_of_ble_eq_true rfl) hl.1 (Nat.le_of_ble_eq_true rfl) hcs dX0_fact_64 (fun H locs hP hS => ?_)
              refine cc_catch (pre := []) (a1 := 0) (a2 := 161) (hp := 162) (post := []) C hO hP q129 htab rfl rfl ?_
              refine lv_astore_n (lv' := [(3, .ref (ad 61)), (0, .ref (ad 60)), (1, .int x1), (2, .int x2)]) hx hb dX0_fact_162 rfl hl (by decide) rfl (fun ls hl => ?_)
              refine lv_aload_n hx hb dX0_fact_163 rfl (lv_at hl 1 rfl) ?_
              refine lv_aload_n hx hb dX0_fact_164 rfl (lv_at hl 0 rfl) ?_
              obtain ⟨v237, st238, hv237, h⟩ := bd2_some h
              refine k_L_finds C hO hP hS hv237 q410 (Nat.le_of_ble_eq_true rfl) hl.1 (Nat.le_of_ble_eq_true rfl) hcs dX0_fact_165 (fun H locs hP hS => ?_)
              exact cc_viret hx hb hr hlk h hP hS dX0_fact_168
            · rw [onx_some] at h
              refine k_L_needR C hO hP hS hv234 q402 (Nat.le_of_ble_eq_true rfl) hl.1 (Nat.le_of_ble_eq_true rfl) hcs dX0_fact_64 (fun H locs hP hS => ?_)
              refine lv_aload_n hx hb dX0_fact_67 rfl (lv_at hl 0 rfl) ?_
              refine lv_aload_n hx hb dX0_fact_68 rfl (lv_at hl 0 rfl) ?_
              refine lg_town C hO hP dX0_fact_69 ?_
              refine tgN_facts (t := 0) C hO (by decide) hP dX0_fact_72 ?_
              refine lv_bipush (v := 8) hx hb dX0_fact_75 (by decide) ?_
              refine lv_icmp_ge (tgt := 84) hx hb dX0_fact_77 rfl (fun c239 => ?_) (fun c239 => ?_)
              · have h := if_some_t h c239
                refine lv_iconst (v := 0) hx hb dX0_fact_84 (by decide) ?_
                refine lv_iconst (v := 4) hx hb dX0_fact_85 (by decide) ?_
                obtain ⟨o242, st241, hv240, h⟩ := bd2_some h
                rcases o242 with _ | v240
                · rw [onx_none] at h
                  refine k_L_needT C hO hP hS hv240 q402 (Nat.le_of_ble_eq_true rfl) hl.1 (Nat.le_of_ble_eq_true rfl) hcs dX0_fact_86 (fun H locs hP hS => ?_)
                  refine cc_catch (pre := []) (a1 := 0) (a2 := 161) (hp := 162) (post := []) C hO hP q129 htab rfl rfl ?_
                  refine lv_astore_n (lv' := [(3, .ref (ad 61)), (0, .ref (ad 60)), (1, .int x1), (2, .int x2)]) hx hb dX0_fact_162 rfl hl (by decide) rfl (fun ls hl => ?_)
                  refine lv_aload_n hx hb dX0_fact_163 rfl (lv_at hl 1 rfl) ?_
                  refine lv_aload_n hx hb dX0_fact_164 rfl (lv_at hl 0 rfl) ?_
                  obtain ⟨v243, st244, hv243, h⟩ := bd2_some h
                  refine k_L_finds C hO hP hS hv243 q410 (Nat.le_of_ble_eq_true rfl) hl.1 (Nat.le_of_ble_eq_true rfl) hcs dX0_fact_165 (fun H locs hP hS => ?_)
                  exact cc_viret hx hb hr hlk h hP hS dX0_fact_168
                · rw [onx_some] at h
                  refine k_L_needR C hO hP hS hv240 q402 (Nat.le_of_ble_eq_true rfl) hl.1 (Nat.le_of_ble_eq_true rfl) hcs dX0_fact_86 (fun H locs hP hS => ?_)
                  refine lv_aload_n hx hb dX0_fact_89 rfl (lv_at hl 0 rfl) ?_
                  refine lg_town C hO hP dX0_fact_90 ?_
                  refine tgN_facts (t := 0) C hO (by decide) hP dX0_fact_93 ?_
                  refine lv_istore_n (lv' := [(3, .int (st241.1 (20 * 0) 0)), (0, .ref (ad 60)), (1, .int x1), (2, .int x2)]) hx hb dX0_fact_96 rfl hl (by decide) rfl (fun ls hl => ?_)
                  refine lv_aload_n hx hb dX0_fact_97 rfl (lv_at hl 1 rfl) ?_
                  refine lg_town C hO hP dX0_fact_98 ?_
                  refine tgN_needs (t := 0) C hO (by decide) hP dX0_fact_101 ?_
                  refine lv_iload_n hx hb dX0_fact_104 rfl (lv_at hl 0 rfl) ?_
                  refine lv_iload_n hx hb dX0_fact_105 rfl (lv_at hl 2 rfl) ?_
                  obtain ⟨b245, hb245, h⟩ := bd1_some h
                  refine cc_ist C hO hP hS (hO.2.2.2 _ (tk_ 1 (by decide) (by decide))) (cg_t 1 (by decide) (by decide)) hb245 (cg_At 1 (by decide) (by decide)) hP.2 dX0_fact_106 (fun H locs hP hS => ?_)
                  refine lv_aload_n hx hb dX0_fact_107 rfl (lv_at hl 1 rfl) ?_
                  refine lg_town C hO hP dX0_fact_108 ?_
                  refine tgN_clashes (t := 0) C hO (by decide) hP dX0_fact_111 ?_
                  refine lv_iload_n hx hb dX0_fact_114 rfl (lv_at hl 0 rfl) ?_
                  refine lv_iconst (v := 0) hx hb dX0_fact_115 (by decide) ?_
                  obtain ⟨b246, hb246, h⟩ := bd1_some h
                  refine cc_ist C hO hP hS (hO.2.2.2 _ (tk_ 2 (by decide) (by decide))) (cg_t 2 (by decide) (by decide)) hb246 (cg_At 2 (by decide) (by decide)) hP.2 dX0_fact_116 (fun H locs hP hS => ?_)
                  refine lv_aload_n hx hb dX0_fact_117 rfl (lv_at hl 1 rfl) ?_
                  refine lg_town C hO hP dX0_fact_118 ?_
                  refine tgN_within (t := 0) C hO (by decide) hP dX0_fact_121 ?_
                  refine lv_iload_n hx hb dX0_fact_124 rfl (lv_at hl 0 rfl) ?_
                  refine lv_iconst (v := 0) hx hb dX0_fact_125 (by decide) ?_
                  obtain ⟨b247, hb247, h⟩ := bd1_some h
                  refine cc_ist C hO hP hS (hO.2.2.2 _ (tk_ 3 (by decide) (by decide))) (cg_t 3 (by decide) (by decide)) hb247 (cg_At 3 (by decide) (by decide)) hP.2 dX0_fact_126 (fun H locs hP hS => ?_)
                  refine lv_aload_n hx hb dX0_fact_127 rfl (lv_at hl 1 rfl) ?_
                  refine lg_town C hO hP dX0_fact_128 ?_
                  refine tgN_by (t := 0) C hO (by decide) hP dX0_fact_131 ?_
                  refine lv_iload_n hx hb dX0_fact_134 rfl (lv_at hl 0 rfl) ?_
                  refine lv_iconst (v := 0) hx hb dX0_fact_135 (by decide) ?_
                  obtain ⟨b248, hb248, h⟩ := bd1_some h
                  refine cc_ist C hO hP hS (hO.2.2.2 _ (tk_ 4 (by decide) (by decide))) (cg_t 4 (by decide) (by decide)) hb248 (cg_At 4 (by decide) (by decide)) hP.2 dX0_fact_136 (fun H locs hP hS => ?_)
                  refine lv_aload_n hx hb dX0_fact_137 rfl (lv_at hl 1 rfl) ?_
                  refine lg_town C hO hP dX0_fact_138 ?_
                  refine tgN_witnesses (t := 0) C hO (by decide) hP dX0_fact_141 ?_
                  refine lv_iload_n hx hb dX0_fact_144 rfl (lv_at hl 0 rfl) ?_
                  refine lv_iload_n hx hb dX0_fact_145 rfl (lv_at hl 3 rfl) ?_
                  obtain ⟨b249, hb249, h⟩ := bd1_some h
                  refine cc_ist C hO hP hS (hO.2.2.2 _ (tk_ 5 (by decide) (by decide))) (cg_t 5 (by decide) (by decide)) hb249 (cg_At 5 (by decide) (by decide)) hP.2 dX0_fact_146 (fun H locs hP hS => ?_)
                  refine lv_aload_n hx hb dX0_fact_147 rfl (lv_at hl 1 rfl) ?_
                  refine lg_town C hO hP dX0_fact_148 ?_
                  refine lv_dup hx hb dX0_fact_151 rfl ?_
                  refine tgN_facts (t := 0) C hO (by decide) hP dX0_fact_152 ?_
                  refine lv_iconst (v := 1) hx hb dX0_fact_155 (by decide) ?_
                  refine lv_iadd hx hb dX0_fact_156 ?_
                  refine tpN_facts (t := 0) C hO (by decide) hP hS dX0_fact_157 (fun H locs hP hS => ?_)
                  refine lv_iload_n hx hb dX0_fact_160 rfl (lv_at hl 0 rfl) ?_
                  exact cc_viret hx hb hr hlk h hP hS dX0_fact_161
              · have h := if_some_f h c239
                refine lv_iconst (v := 1) hx hb dX0_fact_80 (by decide) ?_
                refine lv_goto (tgt := 85) hx hb dX0_fact_81 rfl ?_
                refine lv_iconst (v := 4) hx hb dX0_fact_85 (by decide) ?_
                obtain ⟨o252, st251, hv250, h⟩ := bd2_some h
                rcases o252 with _ | v250
                · rw [onx_none] at h
                  refine k_L_needT C hO hP hS hv250 q402 (Nat.le_of_ble_eq_true rfl) hl.1 (Nat.le_of_ble_eq_true rfl) hcs dX0_fact_86 (fun H locs hP hS => ?_)
                  refine cc_catch (pre := []) (a1 := 0) (a2 := 161) (hp := 162) (post := []) C hO hP q129 htab rfl rfl ?_
                  refine lv_astore_n (lv' := [(3, .ref (ad 61)), (0, .ref (ad 60)), (1, .int x1), (2, .int x2)]) hx hb dX0_fact_162 rfl hl (by decide) rfl (fun ls hl => ?_)
                  refine lv_aload_n hx hb dX0_fact_163 rfl (lv_at hl 1 rfl) ?_
                  refine lv_aload_n hx hb dX0_fact_164 rfl (lv_at hl 0 rfl) ?_
                  obtain ⟨v253, st254, hv253, h⟩ := bd2_some h
                  refine k_L_finds C hO hP hS hv253 q410 (Nat.le_of_ble_eq_true rfl) hl.1 (Nat.le_of_ble_eq_true rfl) hcs dX0_fact_165 (fun H locs hP hS => ?_)
                  exact cc_viret hx hb hr hlk h hP hS dX0_fact_168
                · rw [onx_some] at h
                  refine k_L_needR C hO hP hS hv250 q402 (Nat.le_of_ble_eq_true rfl) hl.1 (Nat.le_of_ble_eq_true rfl) hcs dX0_fact_86 (fun H locs hP hS => ?_)
                  refine lv_aload_n hx hb dX0_fact_89 rfl (lv_at hl 0 rfl) ?_
                  refine lg_town C hO hP dX0_fact_90 ?_
                  refine tgN_facts (t := 0) C hO (by decide) hP dX0_fact_93 ?_
                  refine lv_istore_n (lv' := [(3, .int (st251.1 (20 * 0) 0)), (0, .ref (ad 60)), (1, .int x1), (2, .int x2)]) hx hb dX0_fact_96 rfl hl (by decide) rfl (fun ls hl => ?_)
                  refine lv_aload_n hx hb dX0_fact_97 rfl (lv_at hl 1 rfl) ?_
                  refine lg_town C hO hP dX0_fact_98 ?_
                  refine tgN_needs (t := 0) C hO (by decide) hP dX0_fact_101 ?_
                  refine lv_iload_n hx hb dX0_fact_104 rfl (lv_at hl 0 rfl) ?_
                  refine lv_iload_n hx hb dX0_fact_105 rfl (lv_at hl 2 rfl) ?_
                  obtain ⟨b255, hb255, h⟩ := bd1_some h
                  refine cc_ist C hO hP hS (hO.2.2.2 _ (tk_ 1 (by decide) (by decide))) (cg_t 1 (by decide) (by decide)) hb255 (cg_At 1 (by decide) (by decide)) hP.2 dX0_fact_106 (fun H locs hP hS => ?_)
                  refine lv_aload_n hx hb dX0_fact_107 rfl (lv_at hl 1 rfl) ?_
                  refine lg_town C hO hP dX0_fact_108 ?_
                  refine tgN_clashes (t := 0) C hO (by decide) hP dX0_fact_111 ?_
                  refine lv_iload_n hx hb dX0_fact_114 rfl (lv_at hl 0 rfl) ?_
                  refine lv_iconst (v := 0) hx hb dX0_fact_115 (by decide) ?_
                  obtain ⟨b256, hb256, h⟩ := bd1_some h
                  refine cc_ist C hO hP hS (hO.2.2.2 _ (tk_ 2 (by decide) (by decide))) (cg_t 2 (by decide) (by decide)) hb256 (cg_At 2 (by decide) (by decide)) hP.2 dX0_fact_116 (fun H locs hP hS => ?_)
                  refine lv_aload_n hx hb dX0_fact_117 rfl (lv_at hl 1 rfl) ?_
                  refine lg_town C hO hP dX0_fact_118 ?_
                  refine tgN_within (t := 0) C hO (by decide) hP dX0_fact_121 ?_
                  refine lv_iload_n hx hb dX0_fact_124 rfl (lv_at hl 0 rfl) ?_
                  refine lv_iconst (v := 0) hx hb dX0_fact_125 (by decide) ?_
                  obtain ⟨b257, hb257, h⟩ := bd1_some h
                  refine cc_ist C hO hP hS (hO.2.2.2 _ (tk_ 3 (by decide) (by decide))) (cg_t 3 (by decide) (by decide)) hb257 (cg_At 3 (by decide) (by decide)) hP.2 dX0_fact_126 (fun H locs hP hS => ?_)
                  refine lv_aload_n hx hb dX0_fact_127 rfl (lv_at hl 1 rfl) ?_
                  refine lg_town C hO hP dX0_fact_128 ?_
                  refine tgN_by (t := 0) C hO (by decide) hP dX0_fact_131 ?_
                  refine lv_iload_n hx hb dX0_fact_134 rfl (lv_at hl 0 rfl) ?_
                  refine lv_iconst (v := 0) hx hb dX0_fact_135 (by decide) ?_
                  obtain ⟨b258, hb258, h⟩ := bd1_some h
                  refine cc_ist C hO hP hS (hO.2.2.2 _ (tk_ 4 (by decide) (by decide))) (cg_t 4 (by decide) (by decide)) hb258 (cg_At 4 (by decide) (by decide)) hP.2 dX0_fact_136 (fun H locs hP hS => ?_)
                  refine lv_aload_n hx hb dX0_fact_137 rfl (lv_at hl 1 rfl) ?_
                  refine lg_town C hO hP dX0_fact_138 ?_
                  refine tgN_witnesses (t := 0) C hO (by decide) hP dX0_fact_141 ?_
                  refine lv_iload_n hx hb dX0_fact_144 rfl (lv_at hl 0 rfl) ?_
                  refine lv_iload_n hx hb dX0_fact_145 rfl (lv_at hl 3 rfl) ?_
                  obtain ⟨b259, hb259, h⟩ := bd1_some h
                  refine cc_ist C hO hP hS (hO.2.2.2 _ (tk_ 5 (by decide) (by decide))) (cg_t 5 (by decide) (by decide)) hb259 (cg_At 5 (by decide) (by decide)) hP.2 dX0_fact_146 (fun H locs hP hS => ?_)
                  refine lv_aload_n hx hb dX0_fact_147 rfl (lv_at hl 1 rfl) ?_
                  refine lg_town C hO hP dX0_fact_148 ?_
                  refine lv_dup hx hb dX0_fact_151 rfl ?_
                  refine tgN_facts (t := 0) C hO (by decide) hP dX0_fact_152 ?_
                  refine lv_iconst (v := 1) hx hb dX0_fact_155 (by decide) ?_
                  refine lv_iadd hx hb dX0_fact_156 ?_
                  refine tpN_facts (t := 0) C hO (by decide) hP hS dX0_fact_157 (fun H locs hP hS => ?_)
                  refine lv_iload_n hx hb dX0_fact_160 rfl (lv_at hl 0 rfl) ?_
                  exact cc_viret hx hb hr hlk h hP hS dX0_fact_161
abbrev cX0_clash : ByteArray := prog_1_method_17_code
def yX0_clash : MethodName := ⟨RX0, "clash", "(III)I"⟩
theorem dX0_clash_0 : decode cX0_clash 0 = .ok (.aload_n 0, 1) := by decide +kernel
theorem dX0_clash_1 : decode cX0_clash 1 = .ok (.aload_n 0, 1) := by decide +kernel
theorem dX0_clash_2 : decode cX0_clash 2 = .ok (.iload_n 1, 1) := by decide +kernel
theorem dX0_clash_3 : decode cX0_clash 3 = .ok (.invokevirtual 127, 3) := by decide +kernel
theorem dX0_clash_6 : decode cX0_clash 6 = .ok (.ifCond .eq 29, 3) := by decide +kernel
theorem dX0_clash_9 : decode cX0_clash 9 = .ok (.aload_n 0, 1) := by decide +kernel
theorem dX0_clash_10 : decode cX0_clash 10 = .ok (.iload_n 2, 1) := by decide +kernel
theorem dX0_clash_11 : decode cX0_clash 11 = .ok (.invokevirtual 127, 3) := by decide +kernel
theorem dX0_clash_14 : decode cX0_clash 14 = .ok (.ifCond .eq 21, 3) := by decide +kernel
theorem dX0_clash_17 : decode cX0_clash 17 = .ok (.iload_n 1, 1) := by decide +kernel
theorem dX0_clash_18 : decode cX0_clash 18 = .ok (.iload_n 2, 1) := by decide +kernel
theorem dX0_clash_19 : decode cX0_clash 19 = .ok (.if_icmp .eq 16, 3) := by decide +kernel
theorem dX0_clash_22 : decode cX0_clash 22 = .ok (.iload_n 3, 1) := by decide +kernel
theorem dX0_clash_23 : decode cX0_clash 23 = .ok (.iconst 0, 1) := by decide +kernel
theorem dX0_clash_24 : decode cX0_clash 24 = .ok (.iconst 1, 1) := by decide +kernel
theorem dX0_clash_25 : decode cX0_clash 25 = .ok (.invokestatic 91, 3) := by decide +kernel
theorem dX0_clash_28 : decode cX0_clash 28 = .ok (.ifCond .eq 7, 3) := by decide +kernel
theorem dX0_clash_31 : decode cX0_clash 31 = .ok (.iconst 1, 1) := by decide +kernel
theorem dX0_clash_32 : decode cX0_clash 32 = .ok (.goto 4, 3) := by decide +kernel
theorem dX0_clash_35 : decode cX0_clash 35 = .ok (.iconst 0, 1) := by decide +kernel
theorem dX0_clash_36 : decode cX0_clash 36 = .ok (.iconst 1, 1) := by decide +kernel
theorem dX0_clash_37 : decode cX0_clash 37 = .ok (.invokevirtual 102, 3) := by decide +kernel
theorem dX0_clash_40 : decode cX0_clash 40 = .ok (.aload_n 0, 1) := by decide +kernel
theorem dX0_clash_41 : decode cX0_clash 41 = .ok (.getfield 46, 3) := by decide +kernel
theorem dX0_clash_44 : decode cX0_clash 44 = .ok (.getfield 111, 3) := by decide +kernel
theorem dX0_clash_47 : decode cX0_clash 47 = .ok (.iload_n 1, 1) := by decide +kernel
theorem dX0_clash_48 : decode cX0_clash 48 = .ok (.iaload, 1) := by decide +kernel
theorem dX0_clash_49 : decode cX0_clash 49 = .ok (.iload_n 2, 1) := by decide +kernel
theorem dX0_clash_50 : decode cX0_clash 50 = .ok (.ishr, 1) := by decide +kernel
theorem dX0_clash_51 : decode cX0_clash 51 = .ok (.iconst 1, 1) := by decide +kernel
theorem dX0_clash_52 : decode cX0_clash 52 = .ok (.iand, 1) := by decide +kernel
theorem dX0_clash_53 : decode cX0_clash 53 = .ok (.istore 4, 2) := by decide +kernel
theorem dX0_clash_55 : decode cX0_clash 55 = .ok (.iload 4, 2) := by decide +kernel
theorem dX0_clash_57 : decode cX0_clash 57 = .ok (.iload_n 3, 1) := by decide +kernel
theorem dX0_clash_58 : decode cX0_clash 58 = .ok (.if_icmp .eq 33, 3) := by decide +kernel
theorem dX0_clash_61 : decode cX0_clash 61 = .ok (.aload_n 0, 1) := by decide +kernel
theorem dX0_clash_62 : decode cX0_clash 62 = .ok (.getfield 46, 3) := by decide +kernel
theorem dX0_clash_65 : decode cX0_clash 65 = .ok (.getfield 111, 3) := by decide +kernel
theorem dX0_clash_68 : decode cX0_clash 68 = .ok (.iload_n 1, 1) := by decide +kernel
theorem dX0_clash_69 : decode cX0_clash 69 = .ok (.dup2, 1) := by decide +kernel
theorem dX0_clash_70 : decode cX0_clash 70 = .ok (.iaload, 1) := by decide +kernel
theorem dX0_clash_71 : decode cX0_clash 71 = .ok (.iconst 1, 1) := by decide +kernel
theorem dX0_clash_72 : decode cX0_clash 72 = .ok (.iload_n 2, 1) := by decide +kernel
theorem dX0_clash_73 : decode cX0_clash 73 = .ok (.ishl, 1) := by decide +kernel
theorem dX0_clash_74 : decode cX0_clash 74 = .ok (.ixor, 1) := by decide +kernel
theorem dX0_clash_75 : decode cX0_clash 75 = .ok (.iastore, 1) := by decide +kernel
theorem dX0_clash_76 : decode cX0_clash 76 = .ok (.aload_n 0, 1) := by decide +kernel
theorem dX0_clash_77 : decode cX0_clash 77 = .ok (.getfield 46, 3) := by decide +kernel
theorem dX0_clash_80 : decode cX0_clash 80 = .ok (.getfield 111, 3) := by decide +kernel
theorem dX0_clash_83 : decode cX0_clash 83 = .ok (.iload_n 2, 1) := by decide +kernel
theorem dX0_clash_84 : decode cX0_clash 84 = .ok (.dup2, 1) := by decide +kernel
theorem dX0_clash_85 : decode cX0_clash 85 = .ok (.iaload, 1) := by decide +kernel
theorem dX0_clash_86 : decode cX0_clash 86 = .ok (.iconst 1, 1) := by decide +kernel
theorem dX0_clash_87 : decode cX0_clash 87 = .ok (.iload_n 1, 1) := by decide +kernel
theorem dX0_clash_88 : decode cX0_clash 88 = .ok (.ishl, 1) := by decide +kernel
theorem dX0_clash_89 : decode cX0_clash 89 = .ok (.ixor, 1) := by decide +kernel
theorem dX0_clash_90 : decode cX0_clash 90 = .ok (.iastore, 1) := by decide +kernel
theorem dX0_clash_91 : decode cX0_clash 91 = .ok (.iload 4, 2) := by decide +kernel
theorem dX0_clash_93 : decode cX0_clash 93 = .ok (.ireturn, 1) := by decide +kernel
theorem dX0_clash_94 : decode cX0_clash 94 = .ok (.astore 4, 2) := by decide +kernel
theorem dX0_clash_96 : decode cX0_clash 96 = .ok (.aload_n 0, 1) := by decide +kernel
theorem dX0_clash_97 : decode cX0_clash 97 = .ok (.aload 4, 2) := by decide +kernel
theorem dX0_clash_99 : decode cX0_clash 99 = .ok (.invokevirtual 123, 3) := by decide +kernel
theorem dX0_clash_102 : decode cX0_clash 102 = .ok (.ireturn, 1) := by decide +kernel
theorem q419 : (Jvm.Cond.methodLink "ChapterLoan" (127 : Nat) ({ cls := "ChapterLoan", name := "isFact", desc := "(I)Z" } : Jvm.MethodName)) ∈ lw_all := lw_g (lw_at lw_m2 95 rfl) rfl
theorem w_L_clash {l : Launch} {D : va_G} {cA : Nat → ClassId} {ks : List Nat} {ad : Nat → Nat} {A : Nat → Prop} (hO : klOk A ks ad) {st st' : CS} {x1 : Int32} {x2 : Int32} {x3 : Int32} {r0 : Int32} (h : L_clash st x1 x2 x3 = some (r0, st')) : Met l yX0_clash (wsW_ yX0_clash cX0_clash 5 (some .int) [(0, 93, 94, 8)]) (k2_rm 2 (40 * 2)) (cPre D cA ks ad A st [.ref (ad 60), .int x1, .int x2, .int x3]) (cQ (some (.int r0)) D cA ks ad A st') 0 0 A := by
  refine cc_ofH (own := RX0) (by decide) rfl (Nat.le_of_ble_eq_true rfl) (fun p e s m below meth c R args ls C hr hlk htab hP hS hl hcs => ?_)
  have hx := C.1
  have hb := C.2.1
  have hown := C.2.2.2.1
  have hNst := C.2.2.2.2.2.2.2.1
  have hl : lv_has ls 5 [(0, .ref (ad 60)), (1, .int x1), (2, .int x2), (3, .int x3)] := hl
  rw [L_clash] at h
  refine lv_aload_n hx hb dX0_clash_0 rfl (lv_at hl 0 rfl) ?_
  refine lv_aload_n hx hb dX0_clash_1 rfl (lv_at hl 0 rfl) ?_
  refine lv_iload_n hx hb dX0_clash_2 rfl (lv_at hl 1 rfl) ?_
  obtain ⟨v1, hv1, h⟩ := bd1_some h
  refine k_L_isFact C hO hP hv1 q419 (Nat.le_of_ble_eq_true rfl) hS.1 hl.1 (Nat.le_of_ble_eq_true rfl) hcs dX0_clash_3 ?_
  refine lv_if_eq (tgt := 35) hx hb dX0_clash_6 rfl (fun c2 => ?_) (fun c2 => ?_)
  · have h := if_some_t h c2
    refine lv_iconst (v := 0) hx hb dX0_clash_35 (by decide) ?_
    refine lv_iconst (v := 1) hx hb dX0_clash_36 (by decide) ?_
    obtain ⟨o5, st4, hv3, h⟩ := bd2_some h
    rcases o5 with _ | v3
    · rw [onx_none] at h
      refine k_L_needT C hO hP hS hv3 q402 (Nat.le_of_ble_eq_true rfl) hl.1 (Nat.le_of_ble_eq_true rfl) hcs dX0_clash_37 (fun H locs hP hS => ?_)
      refine cc_catch (pre := []) (a1 := 0) (a2 := 93) (hp := 94) (post := []) C hO hP q129 htab rfl rfl ?_
      refine lv_astore (lv' := [(4, .ref (ad 61)), (0, .ref (ad 60)), (1, .int x1), (2, .int x2), (3, .int x3)]) hx hb dX0_clash_94 hl (by decide) rfl (fun ls hl => ?_)
      refine lv_aload_n hx hb dX0_clash_96 rfl (lv_at hl 1 rfl) ?_
      refine lv_aload hx hb dX0_clash_97 (lv_at hl 0 rfl) ?_
      obtain ⟨v6, st7, hv6, h⟩ := bd2_some h
      refine k_L_finds C hO hP hS hv6 q410 (Nat.le_of_ble_eq_true rfl) hl.1 (Nat.le_of_ble_eq_true rfl) hcs dX0_clash_99 (fun H locs hP hS => ?_)
      exact cc_viret hx hb hr hlk h hP hS dX0_clash_102
    · rw [onx_some] at h
      refine k_L_needR C hO hP hS hv3 q402 (Nat.le_of_ble_eq_true rfl) hl.1 (Nat.le_of_ble_eq_true rfl) hcs dX0_clash_37 (fun H locs hP hS => ?_)
      refine lv_aload_n hx hb dX0_clash_40 rfl (lv_at hl 0 rfl) ?_
      refine lg_town C hO hP dX0_clash_41 ?_
      refine tgN_clashes (t := 0) C hO (by decide) hP dX0_clash_44 ?_
      refine lv_iload_n hx hb dX0_clash_47 rfl (lv_at hl 1 rfl) ?_
      obtain ⟨v8, hv8, h⟩ := bd1_some h
      refine cc_ild C hP (hO.2.2.2 _ (tk_ 2 (by decide) (by decide))) (cg_t 2 (by decide) (by decide)) hv8 dX0_clash_48 ?_
      refine lv_iload_n hx hb dX0_clash_49 rfl (lv_at hl 2 rfl) ?_
      refine lv_ishr hx hb dX0_clash_50 ?_
      refine lv_iconst (v := 1) hx hb dX0_clash_51 (by decide) ?_
      refine lv_iand hx hb dX0_clash_52 ?_
      refine lv_istore (lv' := [(4, .int ((v8 >>> (x2 &&& 31)) &&& 1)), (0, .ref (ad 60)), (1, .int x1), (2, .int x2), (3, .int x3)]) hx hb dX0_clash_53 hl (by decide) rfl (fun ls hl => ?_)
      refine lv_iload hx hb dX0_clash_55 (lv_at hl 0 rfl) ?_
      refine lv_iload_n hx hb dX0_clash_57 rfl (lv_at hl 4 rfl) ?_
      refine lv_icmp_eq (tgt := 91) hx hb dX0_clash_58 rfl (fun c9 => ?_) (fun c9 => ?_)
      · have h := if_some_t h c9
        refine lv_iload hx hb dX0_clash_91 (lv_at hl 0 rfl) ?_
        exact cc_viret hx hb hr hlk h hP hS dX0_clash_93
      · have h := if_some_f h c9
        refine lv_aload_n hx hb dX0_clash_61 rfl (lv_at hl 1 rfl) ?_
        refine lg_town C hO hP dX0_clash_62 ?_
        refine tgN_clashes (t := 0) C hO (by decide) hP dX0_clash_65 ?_
        refine lv_iload_n hx hb dX0_clash_68 rfl (lv_at hl 2 rfl) ?_
        refine lv_dup2_11 hx hb dX0_clash_69 rfl rfl ?_
        obtain ⟨v10, hv10, h⟩ := bd1_some h
        refine cc_ild C hP (hO.2.2.2 _ (tk_ 2 (by decide) (by decide))) (cg_t 2 (by decide) (by decide)) hv10 dX0_clash_70 ?_
        refine lv_iconst (v := 1) hx hb dX0_clash_71 (by decide) ?_
        refine lv_iload_n hx hb dX0_clash_72 rfl (lv_at hl 3 rfl) ?_
        refine lv_ishl hx hb dX0_clash_73 ?_
        refine lv_ixor hx hb dX0_clash_74 ?_
        obtain ⟨b11, hb11, h⟩ := bd1_some h
        refine cc_ist C hO hP hS (hO.2.2.2 _ (tk_ 2 (by decide) (by decide))) (cg_t 2 (by decide) (by decide)) hb11 (cg_At 2 (by decide) (by decide)) hP.2 dX0_clash_75 (fun H locs hP hS => ?_)
        refine lv_aload_n hx hb dX0_clash_76 rfl (lv_at hl 1 rfl) ?_
        refine lg_town C hO hP dX0_clash_77 ?_
        refine tgN_clashes (t := 0) C hO (by decide) hP dX0_clash_80 ?_
        refine lv_iload_n hx hb dX0_clash_83 rfl (lv_at hl 3 rfl) ?_
        refine lv_dup2_11 hx hb dX0_clash_84 rfl rfl ?_
        obtain ⟨v12, hv12, h⟩ := bd1_some h
        refine cc_ild C hP (hO.2.2.2 _ (tk_ 2 (by decide) (by decide))) (cg_t 2 (by decide) (by decide)) hv12 dX0_clash_85 ?_
        refine lv_iconst (v := 1) hx hb dX0_clash_86 (by decide) ?_
        refine lv_iload_n hx hb dX0_clash_87 rfl (lv_at hl 2 rfl) ?_
        refine lv_ishl hx hb dX0_clash_88 ?_
        refine lv_ixor hx hb dX0_clash_89 ?_
        obtain ⟨b13, hb13, h⟩ := bd1_some h
        refine cc_ist C hO hP hS (hO.2.2.2 _ (tk_ 2 (by decide) (by decide))) (cg_t 2 (by decide) (by decide)) hb13 (cg_At 2 (by decide) (by decide)) hP.2 dX0_clash_90 (fun H locs hP hS => ?_)
        refine lv_iload hx hb dX0_clash_91 (lv_at hl 0 rfl) ?_
        exact cc_viret hx hb hr hlk h hP hS dX0_clash_93
  · have h := if_some_f h c2
    refine lv_aload_n hx hb dX0_clash_9 rfl (lv_at hl 0 rfl) ?_
    refine lv_iload_n hx hb dX0_clash_10 rfl (lv_at hl 2 rfl) ?_
    obtain ⟨v14, hv14, h⟩ := bd1_some h
    refine k_L_isFact C hO hP hv14 q419 (Nat.le_of_ble_eq_true rfl) hS.1 hl.1 (Nat.le_of_ble_eq_true rfl) hcs dX0_clash_11 ?_
    refine lv_if_eq (tgt := 35) hx hb dX0_clash_14 rfl (fun c15 => ?_) (fun c15 => ?_)
    · have h := if_some_t h c15
      refine lv_iconst (v := 0) hx hb dX0_clash_35 (by decide) ?_
      refine lv_iconst (v := 1) hx hb dX0_clash_36 (by decide) ?_
      obtain ⟨o18, st17, hv16, h⟩ := bd2_some h
      rcases o18 with _ | v16
      · rw [onx_none] at h
        refine k_L_needT C hO hP hS hv16 q402 (Nat.le_of_ble_eq_true rfl) hl.1 (Nat.le_of_ble_eq_true rfl) hcs dX0_clash_37 (fun H locs hP hS => ?_)
        refine cc_catch (pre := []) (a1 := 0) (a2 := 93) (hp := 94) (post := []) C hO hP q129 htab rfl rfl ?_
        refine lv_astore (lv' := [(4, .ref (ad 61)), (0, .ref (ad 60)), (1, .int x1), (2, .int x2), (3, .int x3)]) hx hb dX0_clash_94 hl (by decide) rfl (fun ls hl => ?_)
        refine lv_aload_n hx hb dX0_clash_96 rfl (lv_at hl 1 rfl) ?_
        refine lv_aload hx hb dX0_clash_97 (lv_at hl 0 rfl) ?_
        obtain ⟨v19, st20, hv19, h⟩ := bd2_some h
        refine k_L_finds C hO hP hS hv19 q410 (Nat.le_of_ble_eq_true rfl) hl.1 (Nat.le_of_ble_eq_true rfl) hcs dX0_clash_99 (fun H locs hP hS => ?_)
        exact cc_viret hx hb hr hlk h hP hS dX0_clash_102
      · rw [onx_some] at h
        refine k_L_needR C hO hP hS hv16 q402 (Nat.le_of_ble_eq_true rfl) hl.1 (Nat.le_of_ble_eq_true rfl) hcs dX0_clash_37 (fun H locs hP hS => ?_)
        refine lv_aload_n hx hb dX0_clash_40 rfl (lv_at hl 0 rfl) ?_
        refine lg_town C hO hP dX0_clash_41 ?_
        refine tgN_clashes (t := 0) C hO (by decide) hP dX0_clash_44 ?_
        refine lv_iload_n hx hb dX0_clash_47 rfl (lv_at hl 1 rfl) ?_
        obtain ⟨v21, hv21, h⟩ := bd1_some h
        refine cc_ild C hP (hO.2.2.2 _ (tk_ 2 (by decide) (by decide))) (cg_t 2 (by decide) (by decide)) hv21 dX0_clash_48 ?_
        refine lv_iload_n hx hb dX0_clash_49 rfl (lv_at hl 2 rfl) ?_
        refine lv_ishr hx hb dX0_clash_50 ?_
        refine lv_iconst (v := 1) hx hb dX0_clash_51 (by decide) ?_
        refine lv_iand hx hb dX0_clash_52 ?_
        refine lv_istore (lv' := [(4, .int ((v21 >>> (x2 &&& 31)) &&& 1)), (0, .ref (ad 60)), (1, .int x1), (2, .int x2), (3, .int x3)]) hx hb dX0_clash_53 hl (by decide) rfl (fun ls hl => ?_)
        refine lv_iload hx hb dX0_clash_55 (lv_at hl 0 rfl) ?_
        refine lv_iload_n hx hb dX0_clash_57 rfl (lv_at hl 4 rfl) ?_
        refine lv_icmp_eq (tgt := 91) hx hb dX0_clash_58 rfl (fun c22 => ?_) (fun c22 => ?_)
        · have h := if_some_t h c22
          refine lv_iload hx hb dX0_clash_91 (lv_at hl 0 rfl) ?_
          exact cc_viret hx hb hr hlk h hP hS dX0_clash_93
        · have h := if_some_f h c22
          refine lv_aload_n hx hb dX0_clash_61 rfl (lv_at hl 1 rfl) ?_
          refine lg_town C hO hP dX0_clash_62 ?_
          refine tgN_clashes (t := 0) C hO (by decide) hP dX0_clash_65 ?_
          refine lv_iload_n hx hb dX0_clash_68 rfl (lv_at hl 2 rfl) ?_
          refine lv_dup2_11 hx hb dX0_clash_69 rfl rfl ?_
          obtain ⟨v23, hv23, h⟩ := bd1_some h
          refine cc_ild C hP (hO.2.2.2 _ (tk_ 2 (by decide) (by decide))) (cg_t 2 (by decide) (by decide)) hv23 dX0_clash_70 ?_
          refine lv_iconst (v := 1) hx hb dX0_clash_71 (by decide) ?_
          refine lv_iload_n hx hb dX0_clash_72 rfl (lv_at hl 3 rfl) ?_
          refine lv_ishl hx hb dX0_clash_73 ?_
          refine lv_ixor hx hb dX0_clash_74 ?_
          obtain ⟨b24, hb24, h⟩ := bd1_some h
          refine cc_ist C hO hP hS (hO.2.2.2 _ (tk_ 2 (by decide) (by decide))) (cg_t 2 (by decide) (by decide)) hb24 (cg_At 2 (by decide) (by decide)) hP.2 dX0_clash_75 (fun H locs hP hS => ?_)
          refine lv_aload_n hx hb dX0_clash_76 rfl (lv_at hl 1 rfl) ?_
          refine lg_town C hO hP dX0_clash_77 ?_
          refine tgN_clashes (t := 0) C hO (by decide) hP dX0_clash_80 ?_
          refine lv_iload_n hx hb dX0_clash_83 rfl (lv_at hl 3 rfl) ?_
          refine lv_dup2_11 hx hb dX0_clash_84 rfl rfl ?_
          obtain ⟨v25, hv25, h⟩ := bd1_some h
          refine cc_ild C hP (hO.2.2.2 _ (tk_ 2 (by decide) (by decide))) (cg_t 2 (by decide) (by decide)) hv25 dX0_clash_85 ?_
          refine lv_iconst (v := 1) hx hb dX0_clash_86 (by decide) ?_
          refine lv_iload_n hx hb dX0_clash_87 rfl (lv_at hl 2 rfl) ?_
          refine lv_ishl hx hb dX0_clash_88 ?_
          refine lv_ixor hx hb dX0_clash_89 ?_
          obtain ⟨b26, hb26, h⟩ := bd1_some h
          refine cc_ist C hO hP hS (hO.2.2.2 _ (tk_ 2 (by decide) (by decide))) (cg_t 2 (by decide) (by decide)) hb26 (cg_At 2 (by decide) (by decide)) hP.2 dX0_clash_90 (fun H locs hP hS => ?_)
          refine lv_iload hx hb dX0_clash_91 (lv_at hl 0 rfl) ?_
          exact cc_viret hx hb hr hlk h hP hS dX0_clash_93
    · have h := if_some_f h c15
      refine lv_iload_n hx hb dX0_clash_17 rfl (lv_at hl 1 rfl) ?_
      refine lv_iload_n hx hb dX0_clash_18 rfl (lv_at hl 2 rfl) ?_
      refine lv_icmp_eq (tgt := 35) hx hb dX0_clash_19 rfl (fun c27 => ?_) (fun c27 => ?_)
      · have h := if_some_t h c27
        refine lv_iconst (v := 0) hx hb dX0_clash_35 (by decide) ?_
        refine lv_iconst (v := 1) hx hb dX0_clash_36 (by decide) ?_
        obtain ⟨o30, st29, hv28, h⟩ := bd2_some h
        rcases o30 with _ | v28
        · rw [onx_none] at h
          refine k_L_needT C hO hP hS hv28 q402 (Nat.le_of_ble_eq_true rfl) hl.1 (Nat.le_of_ble_eq_true rfl) hcs dX0_clash_37 (fun H locs hP hS => ?_)
          refine cc_catch (pre := []) (a1 := 0) (a2 := 93) (hp := 94) (post := []) C hO hP q129 htab rfl rfl ?_
          refine lv_astore (lv' := [(4, .ref (ad 61)), (0, .ref (ad 60)), (1, .int x1), (2, .int x2), (3, .int x3)]) hx hb dX0_clash_94 hl (by decide) rfl (fun ls hl => ?_)
          refine lv_aload_n hx hb dX0_clash_96 rfl (lv_at hl 1 rfl) ?_
          refine lv_aload hx hb dX0_clash_97 (lv_at hl 0 rfl) ?_
          obtain ⟨v31, st32, hv31, h⟩ := bd2_some h
          refine k_L_finds C hO hP hS hv31 q410 (Nat.le_of_ble_eq_true rfl) hl.1 (Nat.le_of_ble_eq_true rfl) hcs dX0_clash_99 (fun H locs hP hS => ?_)
          exact cc_viret hx hb hr hlk h hP hS dX0_clash_102
        · rw [onx_some] at h
          refine k_L_needR C hO hP hS hv28 q402 (Nat.le_of_ble_eq_true rfl) hl.1 (Nat.le_of_ble_eq_true rfl) hcs dX0_clash_37 (fun H locs hP hS => ?_)
          refine lv_aload_n hx hb dX0_clash_40 rfl (lv_at hl 0 rfl) ?_
          refine lg_town C hO hP dX0_clash_41 ?_
          refine tgN_clashes (t := 0) C hO (by decide) hP dX0_clash_44 ?_
          refine lv_iload_n hx hb dX0_clash_47 rfl (lv_at hl 1 rfl) ?_
          obtain ⟨v33, hv33, h⟩ := bd1_some h
          refine cc_ild C hP (hO.2.2.2 _ (tk_ 2 (by decide) (by decide))) (cg_t 2 (by decide) (by decide)) hv33 dX0_clash_48 ?_
          refine lv_iload_n hx hb dX0_clash_49 rfl (lv_at hl 2 rfl) ?_
          refine lv_ishr hx hb dX0_clash_50 ?_
          refine lv_iconst (v := 1) hx hb dX0_clash_51 (by decide) ?_
          refine lv_iand hx hb dX0_clash_52 ?_
          refine lv_istore (lv' := [(4, .int ((v33 >>> (x2 &&& 31)) &&& 1)), (0, .ref (ad 60)), (1, .int x1), (2, .int x2), (3, .int x3)]) hx hb dX0_clash_53 hl (by decide) rfl (fun ls hl => ?_)
          refine lv_iload hx hb dX0_clash_55 (lv_at hl 0 rfl) ?_
          refine lv_iload_n hx hb dX0_clash_57 rfl (lv_at hl 4 rfl) ?_
          refine lv_icmp_eq (tgt := 91) hx hb dX0_clash_58 rfl (fun c34 => ?_) (fun c34 => ?_)
          · have h := if_some_t h c34
            refine lv_iload hx hb dX0_clash_91 (lv_at hl 0 rfl) ?_
            exact cc_viret hx hb hr hlk h hP hS dX0_clash_93
          · have h := if_some_f h c34
            refine lv_aload_n hx hb dX0_clash_61 rfl (lv_at hl 1 rfl) ?_
            refine lg_town C hO hP dX0_clash_62 ?_
            refine tgN_clashes (t := 0) C hO (by decide) hP dX0_clash_65 ?_
            refine lv_iload_n hx hb dX0_clash_68 rfl (lv_at hl 2 rfl) ?_
            refine lv_dup2_11 hx hb dX0_clash_69 rfl rfl ?_
            obtain ⟨v35, hv35, h⟩ := bd1_some h
            refine cc_ild C hP (hO.2.2.2 _ (tk_ 2 (by decide) (by decide))) (cg_t 2 (by decide) (by decide)) hv35 dX0_clash_70 ?_
            refine lv_iconst (v := 1) hx hb dX0_clash_71 (by decide) ?_
            refine lv_iload_n hx hb dX0_clash_72 rfl (lv_at hl 3 rfl) ?_
            refine lv_ishl hx hb dX0_clash_73 ?_
            refine lv_ixor hx hb dX0_clash_74 ?_
            obtain ⟨b36, hb36, h⟩ := bd1_some h
            refine cc_ist C hO hP hS (hO.2.2.2 _ (tk_ 2 (by decide) (by decide))) (cg_t 2 (by decide) (by decide)) hb36 (cg_At 2 (by decide) (by decide)) hP.2 dX0_clash_75 (fun H locs hP hS => ?_)
            refine lv_aload_n hx hb dX0_clash_76 rfl (lv_at hl 1 rfl) ?_
            refine lg_town C hO hP dX0_clash_77 ?_
            refine tgN_clashes (t := 0) C hO (by decide) hP dX0_clash_80 ?_
            refine lv_iload_n hx hb dX0_clash_83 rfl (lv_at hl 3 rfl) ?_
            refine lv_dup2_11 hx hb dX0_clash_84 rfl rfl ?_
            obtain ⟨v37, hv37, h⟩ := bd1_some h
            refine cc_ild C hP (hO.2.2.2 _ (tk_ 2 (by decide) (by decide))) (cg_t 2 (by decide) (by decide)) hv37 dX0_clash_85 ?_
            refine lv_iconst (v := 1) hx hb dX0_clash_86 (by decide) ?_
            refine lv_iload_n hx hb dX0_clash_87 rfl (lv_at hl 2 rfl) ?_
            refine lv_ishl hx hb dX0_clash_88 ?_
            refine lv_ixor hx hb dX0_clash_89 ?_
            obtain ⟨b38, hb38, h⟩ := bd1_some h
            refine cc_ist C hO hP hS (hO.2.2.2 _ (tk_ 2 (by decide) (by decide))) (cg_t 2 (by decide) (by decide)) hb38 (cg_At 2 (by decide) (by decide)) hP.2 dX0_clash_90 (fun H locs hP hS => ?_)
            refine lv_iload hx hb dX0_clash_91 (lv_at hl 0 rfl) ?_
            exact cc_viret hx hb hr hlk h hP hS dX0_clash_93
      · have h := if_some_f h c27
        refine lv_iload_n hx hb dX0_clash_22 rfl (lv_at hl 3 rfl) ?_
        refine lv_iconst (v := 0) hx hb dX0_clash_23 (by decide) ?_
        refine lv_iconst (v := 1) hx hb dX0_clash_24 (by decide) ?_
        obtain ⟨v39, hv39, h⟩ := bd1_some h
        refine k_L_in hx hb C.2.2.1 hown C.2.2.2.2.1 C.2.2.2.2.2.1 q399 hv39 (Nat.le_of_ble_eq_true rfl) hl.1 (Nat.le_of_ble_eq_true rfl) hcs dX0_clash_25 ?_
        refine lv_if_eq (tgt := 35) hx hb dX0_clash_28 rfl (fun c40 => ?_) (fun c40 => ?_)
        · have h := if_some_t h c40
          refine lv_iconst (v := 0) hx hb dX0_clash_35 (by decide) ?_
          refine lv_iconst (v := 1) hx hb dX0_clash_36 (by decide) ?_
          obtain ⟨o43, st42, hv41, h⟩ := bd2_some h
          rcases o43 with _ | v41
          · rw [onx_none] at h
            refine k_L_needT C hO hP hS hv41 q402 (Nat.le_of_ble_eq_true rfl) hl.1 (Nat.le_of_ble_eq_true rfl) hcs dX0_clash_37 (fun H locs hP hS => ?_)
            refine cc_catch (pre := []) (a1 := 0) (a2 := 93) (hp := 94) (post := []) C hO hP q129 htab rfl rfl ?_
            refine lv_astore (lv' := [(4, .ref (ad 61)), (0, .ref (ad 60)), (1, .int x1), (2, .int x2), (3, .int x3)]) hx hb dX0_clash_94 hl (by decide) rfl (fun ls hl => ?_)
            refine lv_aload_n hx hb dX0_clash_96 rfl (lv_at hl 1 rfl) ?_
            refine lv_aload hx hb dX0_clash_97 (lv_at hl 0 rfl) ?_
            obtain ⟨v44, st45, hv44, h⟩ := bd2_some h
            refine k_L_finds C hO hP hS hv44 q410 (Nat.le_of_ble_eq_true rfl) hl.1 (Nat.le_of_ble_eq_true rfl) hcs dX0_clash_99 (fun H locs hP hS => ?_)
            exact cc_viret hx hb hr hlk h hP hS dX0_clash_102
          · rw [onx_some] at h
            refine k_L_needR C hO hP hS hv41 q402 (Nat.le_of_ble_eq_true rfl) hl.1 (Nat.le_of_ble_eq_true rfl) hcs dX0_clash_37 (fun H locs hP hS => ?_)
            refine lv_aload_n hx hb dX0_clash_40 rfl (lv_at hl 0 rfl) ?_
            refine lg_town C hO hP dX0_clash_41 ?_
            refine tgN_clashes (t := 0) C hO (by decide) hP dX0_clash_44 ?_
            refine lv_iload_n hx hb dX0_clash_47 rfl (lv_at hl 1 rfl) ?_
            obtain ⟨v46, hv46, h⟩ := bd1_some h
            refine cc_ild C hP (hO.2.2.2 _ (tk_ 2 (by decide) (by decide))) (cg_t 2 (by decide) (by decide)) hv46 dX0_clash_48 ?_
            refine lv_iload_n hx hb dX0_clash_49 rfl (lv_at hl 2 rfl) ?_
            refine lv_ishr hx hb dX0_clash_50 ?_
            refine lv_iconst (v := 1) hx hb dX0_clash_51 (by decide) ?_
            refine lv_iand hx hb dX0_clash_52 ?_
            refine lv_istore (lv' := [(4, .int ((v46 >>> (x2 &&& 31)) &&& 1)), (0, .ref (ad 60)), (1, .int x1), (2, .int x2), (3, .int x3)]) hx hb dX0_clash_53 hl (by decide) rfl (fun ls hl => ?_)
            refine lv_iload hx hb dX0_clash_55 (lv_at hl 0 rfl) ?_
            refine lv_iload_n hx hb dX0_clash_57 rfl (lv_at hl 4 rfl) ?_
            refine lv_icmp_eq (tgt := 91) hx hb dX0_clash_58 rfl (fun c47 => ?_) (fun c47 => ?_)
            · have h := if_some_t h c47
              refine lv_iload hx hb dX0_clash_91 (lv_at hl 0 rfl) ?_
              exact cc_viret hx hb hr hlk h hP hS dX0_clash_93
            · have h := if_some_f h c47
              refine lv_aload_n hx hb dX0_clash_61 rfl (lv_at hl 1 rfl) ?_
              refine lg_town C hO hP dX0_clash_62 ?_
              refine tgN_clashes (t := 0) C hO (by decide) hP dX0_clash_65 ?_
              refine lv_iload_n hx hb dX0_clash_68 rfl (lv_at hl 2 rfl) ?_
              refine lv_dup2_11 hx hb dX0_clash_69 rfl rfl ?_
              obtain ⟨v48, hv48, h⟩ := bd1_some h
              refine cc_ild C hP (hO.2.2.2 _ (tk_ 2 (by decide) (by decide))) (cg_t 2 (by decide) (by decide)) hv48 dX0_clash_70 ?_
              refine lv_iconst (v := 1) hx hb dX0_clash_71 (by decide) ?_
              refine lv_iload_n hx hb dX0_clash_72 rfl (lv_at hl 3 rfl) ?_
              refine lv_ishl hx hb dX0_clash_73 ?_
              refine lv_ixor hx hb dX0_clash_74 ?_
              obtain ⟨b49, hb49, h⟩ := bd1_some h
              refine cc_ist C hO hP hS (hO.2.2.2 _ (tk_ 2 (by decide) (by decide))) (cg_t 2 (by decide) (by decide)) hb49 (cg_At 2 (by decide) (by decide)) hP.2 dX0_clash_75 (fun H locs hP hS => ?_)
              refine lv_aload_n hx hb dX0_clash_76 rfl (lv_at hl 1 rfl) ?_
              refine lg_town C hO hP dX0_clash_77 ?_
              refine tgN_clashes (t := 0) C hO (by decide) hP dX0_clash_80 ?_
              refine lv_iload_n hx hb dX0_clash_83 rfl (lv_at hl 3 rfl) ?_
              refine lv_dup2_11 hx hb dX0_clash_84 rfl rfl ?_
              obtain ⟨v50, hv50, h⟩ := bd1_some h
              refine cc_ild C hP (hO.2.2.2 _ (tk_ 2 (by decide) (by decide))) (cg_t 2 (by decide) (by decide)) hv50 dX0_clash_85 ?_
              refine lv_iconst (v := 1) hx hb dX0_clash_86 (by decide) ?_
              refine lv_iload_n hx hb dX0_clash_87 rfl (lv_at hl 2 rfl) ?_
              refine lv_ishl hx hb dX0_clash_88 ?_
              refine lv_ixor hx hb dX0_clash_89 ?_
              obtain ⟨b51, hb51, h⟩ := bd1_some h
              refine cc_ist C hO hP hS (hO.2.2.2 _ (tk_ 2 (by decide) (by decide))) (cg_t 2 (by decide) (by decide)) hb51 (cg_At 2 (by decide) (by decide)) hP.2 dX0_clash_90 (fun H locs hP hS => ?_)
              refine lv_iload hx hb dX0_clash_91 (lv_at hl 0 rfl) ?_
              exact cc_viret hx hb hr hlk h hP hS dX0_clash_93
        · have h := if_some_f h c40
          refine lv_iconst (v := 1) hx hb dX0_clash_31 (by decide) ?_
          refine lv_goto (tgt := 36) hx hb dX0_clash_32 rfl ?_
          refine lv_iconst (v := 1) hx hb dX0_clash_36 (by decide) ?_
          obtain ⟨o54, st53, hv52, h⟩ := bd2_some h
          rcases o54 with _ | v52
          · rw [onx_none] at h
            refine k_L_needT C hO hP hS hv52 q402 (Nat.le_of_ble_eq_true rfl) hl.1 (Nat.le_of_ble_eq_true rfl) hcs dX0_clash_37 (fun H locs hP hS => ?_)
            refine cc_catch (pre := []) (a1 := 0) (a2 := 93) (hp := 94) (post := []) C hO hP q129 htab rfl rfl ?_
            refine lv_astore (lv' := [(4, .ref (ad 61)), (0, .ref (ad 60)), (1, .int x1), (2, .int x2), (3, .int x3)]) hx hb dX0_clash_94 hl (by decide) rfl (fun ls hl => ?_)
            refine lv_aload_n hx hb dX0_clash_96 rfl (lv_at hl 1 rfl) ?_
            refine lv_aload hx hb dX0_clash_97 (lv_at hl 0 rfl) ?_
            obtain ⟨v55, st56, hv55, h⟩ := bd2_some h
            refine k_L_finds C hO hP hS hv55 q410 (Nat.le_of_ble_eq_true rfl) hl.1 (Nat.le_of_ble_eq_true rfl) hcs dX0_clash_99 (fun H locs hP hS => ?_)
            exact cc_viret hx hb hr hlk h hP hS dX0_clash_102
          · rw [onx_some] at h
            refine k_L_needR C hO hP hS hv52 q402 (Nat.le_of_ble_eq_true rfl) hl.1 (Nat.le_of_ble_eq_true rfl) hcs dX0_clash_37 (fun H locs hP hS => ?_)
            refine lv_aload_n hx hb dX0_clash_40 rfl (lv_at hl 0 rfl) ?_
            refine lg_town C hO hP dX0_clash_41 ?_
            refine tgN_clashes (t := 0) C hO (by decide) hP dX0_clash_44 ?_
            refine lv_iload_n hx hb dX0_clash_47 rfl (lv_at hl 1 rfl) ?_
            obtain ⟨v57, hv57, h⟩ := bd1_some h
            refine cc_ild C hP (hO.2.2.2 _ (tk_ 2 (by decide) (by decide))) (cg_t 2 (by decide) (by decide)) hv57 dX0_clash_48 ?_
            refine lv_iload_n hx hb dX0_clash_49 rfl (lv_at hl 2 rfl) ?_
            refine lv_ishr hx hb dX0_clash_50 ?_
            refine lv_iconst (v := 1) hx hb dX0_clash_51 (by decide) ?_
            refine lv_iand hx hb dX0_clash_52 ?_
            refine lv_istore (lv' := [(4, .int ((v57 >>> (x2 &&& 31)) &&& 1)), (0, .ref (ad 60)), (1, .int x1), (2, .int x2), (3, .int x3)]) hx hb dX0_clash_53 hl (by decide) rfl (fun ls hl => ?_)
            refine lv_iload hx hb dX0_clash_55 (lv_at hl 0 rfl) ?_
            refine lv_iload_n hx hb dX0_clash_57 rfl (lv_at hl 4 rfl) ?_
            refine lv_icmp_eq (tgt := 91) hx hb dX0_clash_58 rfl (fun c58 => ?_) (fun c58 => ?_)
            · have h := if_some_t h c58
              refine lv_iload hx hb dX0_clash_91 (lv_at hl 0 rfl) ?_
              exact cc_viret hx hb hr hlk h hP hS dX0_clash_93
            · have h := if_some_f h c58
              refine lv_aload_n hx hb dX0_clash_61 rfl (lv_at hl 1 rfl) ?_
              refine lg_town C hO hP dX0_clash_62 ?_
              refine tgN_clashes (t := 0) C hO (by decide) hP dX0_clash_65 ?_
              refine lv_iload_n hx hb dX0_clash_68 rfl (lv_at hl 2 rfl) ?_
              refine lv_dup2_11 hx hb dX0_clash_69 rfl rfl ?_
              obtain ⟨v59, hv59, h⟩ := bd1_some h
              refine cc_ild C hP (hO.2.2.2 _ (tk_ 2 (by decide) (by decide))) (cg_t 2 (by decide) (by decide)) hv59 dX0_clash_70 ?_
              refine lv_iconst (v := 1) hx hb dX0_clash_71 (by decide) ?_
              refine lv_iload_n hx hb dX0_clash_72 rfl (lv_at hl 3 rfl) ?_
              refine lv_ishl hx hb dX0_clash_73 ?_
              refine lv_ixor hx hb dX0_clash_74 ?_
              obtain ⟨b60, hb60, h⟩ := bd1_some h
              refine cc_ist C hO hP hS (hO.2.2.2 _ (tk_ 2 (by decide) (by decide))) (cg_t 2 (by decide) (by decide)) hb60 (cg_At 2 (by decide) (by decide)) hP.2 dX0_clash_75 (fun H locs hP hS => ?_)
              refine lv_aload_n hx hb dX0_clash_76 rfl (lv_at hl 1 rfl) ?_
              refine lg_town C hO hP dX0_clash_77 ?_
              refine tgN_clashes (t := 0) C hO (by decide) hP dX0_clash_80 ?_
              refine lv_iload_n hx hb dX0_clash_83 rfl (lv_at hl 3 rfl) ?_
              refine lv_dup2_11 hx hb dX0_clash_84 rfl rfl ?_
              obtain ⟨v61, hv61, h⟩ := bd1_some h
              refine cc_ild C hP (hO.2.2.2 _ (tk_ 2 (by decide) (by decide))) (cg_t 2 (by decide) (by decide)) hv61 dX0_clash_85 ?_
              refine lv_iconst (v := 1) hx hb dX0_clash_86 (by decide) ?_
              refine lv_iload_n hx hb dX0_clash_87 rfl (lv_at hl 2 rfl) ?_
              refine lv_ishl hx hb dX0_clash_88 ?_
              refine lv_ixor hx hb dX0_clash_89 ?_
              obtain ⟨b62, hb62, h⟩ := bd1_some h
              refine cc_ist C hO hP hS (hO.2.2.2 _ (tk_ 2 (by decide) (by decide))) (cg_t 2 (by decide) (by decide)) hb62 (cg_At 2 (by decide) (by decide)) hP.2 dX0_clash_90 (fun H locs hP hS => ?_)
              refine lv_iload hx hb dX0_clash_91 (lv_at hl 0 rfl) ?_
              exact cc_viret hx hb hr hlk h hP hS dX0_clash_93
abbrev cX0_explain : ByteArray := prog_1_method_18_code
def yX0_explain : MethodName := ⟨RX0, "explain", "(III)I"⟩
theorem dX0_explain_0 : decode cX0_explain 0 = .ok (.aload_n 0, 1) := by decide +kernel
theorem dX0_explain_1 : decode cX0_explain 1 = .ok (.aload_n 0, 1) := by decide +kernel
theorem dX0_explain_2 : decode cX0_explain 2 = .ok (.iload_n 1, 1) := by decide +kernel
theorem dX0_explain_3 : decode cX0_explain 3 = .ok (.invokevirtual 127, 3) := by decide +kernel
theorem dX0_explain_6 : decode cX0_explain 6 = .ok (.ifCond .eq 34, 3) := by decide +kernel
theorem dX0_explain_9 : decode cX0_explain 9 = .ok (.iload_n 2, 1) := by decide +kernel
theorem dX0_explain_10 : decode cX0_explain 10 = .ok (.iconst 0, 1) := by decide +kernel
theorem dX0_explain_11 : decode cX0_explain 11 = .ok (.bipush 9, 2) := by decide +kernel
theorem dX0_explain_13 : decode cX0_explain 13 = .ok (.invokestatic 91, 3) := by decide +kernel
theorem dX0_explain_16 : decode cX0_explain 16 = .ok (.ifCond .eq 24, 3) := by decide +kernel
theorem dX0_explain_19 : decode cX0_explain 19 = .ok (.iload_n 2, 1) := by decide +kernel
theorem dX0_explain_20 : decode cX0_explain 20 = .ok (.ifCond .eq 16, 3) := by decide +kernel
theorem dX0_explain_23 : decode cX0_explain 23 = .ok (.aload_n 0, 1) := by decide +kernel
theorem dX0_explain_24 : decode cX0_explain 24 = .ok (.iload_n 3, 1) := by decide +kernel
theorem dX0_explain_25 : decode cX0_explain 25 = .ok (.invokevirtual 127, 3) := by decide +kernel
theorem dX0_explain_28 : decode cX0_explain 28 = .ok (.ifCond .eq 12, 3) := by decide +kernel
theorem dX0_explain_31 : decode cX0_explain 31 = .ok (.iload_n 3, 1) := by decide +kernel
theorem dX0_explain_32 : decode cX0_explain 32 = .ok (.iload_n 1, 1) := by decide +kernel
theorem dX0_explain_33 : decode cX0_explain 33 = .ok (.if_icmp .eq 7, 3) := by decide +kernel
theorem dX0_explain_36 : decode cX0_explain 36 = .ok (.iconst 1, 1) := by decide +kernel
theorem dX0_explain_37 : decode cX0_explain 37 = .ok (.goto 4, 3) := by decide +kernel
theorem dX0_explain_40 : decode cX0_explain 40 = .ok (.iconst 0, 1) := by decide +kernel
theorem dX0_explain_41 : decode cX0_explain 41 = .ok (.iconst 1, 1) := by decide +kernel
theorem dX0_explain_42 : decode cX0_explain 42 = .ok (.invokevirtual 102, 3) := by decide +kernel
theorem dX0_explain_45 : decode cX0_explain 45 = .ok (.aload_n 0, 1) := by decide +kernel
theorem dX0_explain_46 : decode cX0_explain 46 = .ok (.getfield 46, 3) := by decide +kernel
theorem dX0_explain_49 : decode cX0_explain 49 = .ok (.getfield 114, 3) := by decide +kernel
theorem dX0_explain_52 : decode cX0_explain 52 = .ok (.iload_n 1, 1) := by decide +kernel
theorem dX0_explain_53 : decode cX0_explain 53 = .ok (.iaload, 1) := by decide +kernel
theorem dX0_explain_54 : decode cX0_explain 54 = .ok (.istore 4, 2) := by decide +kernel
theorem dX0_explain_56 : decode cX0_explain 56 = .ok (.aload_n 0, 1) := by decide +kernel
theorem dX0_explain_57 : decode cX0_explain 57 = .ok (.getfield 46, 3) := by decide +kernel
theorem dX0_explain_60 : decode cX0_explain 60 = .ok (.getfield 114, 3) := by decide +kernel
theorem dX0_explain_63 : decode cX0_explain 63 = .ok (.iload_n 1, 1) := by decide +kernel
theorem dX0_explain_64 : decode cX0_explain 64 = .ok (.iload_n 2, 1) := by decide +kernel
theorem dX0_explain_65 : decode cX0_explain 65 = .ok (.iastore, 1) := by decide +kernel
theorem dX0_explain_66 : decode cX0_explain 66 = .ok (.aload_n 0, 1) := by decide +kernel
theorem dX0_explain_67 : decode cX0_explain 67 = .ok (.getfield 46, 3) := by decide +kernel
theorem dX0_explain_70 : decode cX0_explain 70 = .ok (.getfield 117, 3) := by decide +kernel
theorem dX0_explain_73 : decode cX0_explain 73 = .ok (.iload_n 1, 1) := by decide +kernel
theorem dX0_explain_74 : decode cX0_explain 74 = .ok (.iload_n 2, 1) := by decide +kernel
theorem dX0_explain_75 : decode cX0_explain 75 = .ok (.ifCond .ne 7, 3) := by decide +kernel
theorem dX0_explain_78 : decode cX0_explain 78 = .ok (.iconst 0, 1) := by decide +kernel
theorem dX0_explain_79 : decode cX0_explain 79 = .ok (.goto 4, 3) := by decide +kernel
theorem dX0_explain_82 : decode cX0_explain 82 = .ok (.iload_n 3, 1) := by decide +kernel
theorem dX0_explain_83 : decode cX0_explain 83 = .ok (.iastore, 1) := by decide +kernel
theorem dX0_explain_84 : decode cX0_explain 84 = .ok (.iload 4, 2) := by decide +kernel
theorem dX0_explain_86 : decode cX0_explain 86 = .ok (.ireturn, 1) := by decide +kernel
theorem dX0_explain_87 : decode cX0_explain 87 = .ok (.astore 4, 2) := by decide +kernel
theorem dX0_explain_89 : decode cX0_explain 89 = .ok (.aload_n 0, 1) := by decide +kernel
theorem dX0_explain_90 : decode cX0_explain 90 = .ok (.aload 4, 2) := by decide +kernel
theorem dX0_explain_92 : decode cX0_explain 92 = .ok (.invokevirtual 123, 3) := by decide +kernel
theorem dX0_explain_95 : decode cX0_explain 95 = .ok (.ireturn, 1) := by decide +kernel
theorem w_L_explain {l : Launch} {D : va_G} {cA : Nat → ClassId} {ks : List Nat} {ad : Nat → Nat} {A : Nat → Prop} (hO : klOk A ks ad) {st st' : CS} {x1 : Int32} {x2 : Int32} {x3 : Int32} {r0 : Int32} (h : L_explain st x1 x2 x3 = some (r0, st')) : Met l yX0_explain (wsW_ yX0_explain cX0_explain 5 (some .int) [(0, 86, 87, 8)]) (k2_rm 2 (40 * 2)) (cPre D cA ks ad A st [.ref (ad 60), .int x1, .int x2, .int x3]) (cQ (some (.int r0)) D cA ks ad A st') 0 0 A := by
  refine cc_ofH (own := RX0) (by decide) rfl (Nat.le_of_ble_eq_true rfl) (fun p e s m below meth c R args ls C hr hlk htab hP hS hl hcs => ?_)
  have hx := C.1
  have hb := C.2.1
  have hown := C.2.2.2.1
  have hNst := C.2.2.2.2.2.2.2.1
  have hl : lv_has ls 5 [(0, .ref (ad 60)), (1, .int x1), (2, .int x2), (3, .int x3)] := hl
  rw [L_explain] at h
  refine lv_aload_n hx hb dX0_explain_0 rfl (lv_at hl 0 rfl) ?_
  refine lv_aload_n hx hb dX0_explain_1 rfl (lv_at hl 0 rfl) ?_
  refine lv_iload_n hx hb dX0_explain_2 rfl (lv_at hl 1 rfl) ?_
  obtain ⟨v1, hv1, h⟩ := bd1_some h
  refine k_L_isFact C hO hP hv1 q419 (Nat.le_of_ble_eq_true rfl) hS.1 hl.1 (Nat.le_of_ble_eq_true rfl) hcs dX0_explain_3 ?_
  refine lv_if_eq (tgt := 40) hx hb dX0_explain_6 rfl (fun c2 => ?_) (fun c2 => ?_)
  · have h := if_some_t h c2
    refine lv_iconst (v := 0) hx hb dX0_explain_40 (by decide) ?_
    refine lv_iconst (v := 1) hx hb dX0_explain_41 (by decide) ?_
    obtain ⟨o5, st4, hv3, h⟩ := bd2_some h
    rcases o5 with _ | v3
    · rw [onx_none] at h
      refine k_L_needT C hO hP hS hv3 q402 (Nat.le_of_ble_eq_true rfl) hl.1 (Nat.le_of_ble_eq_true rfl) hcs dX0_explain_42 (fun H locs hP hS => ?_)
      refine cc_catch (pre := []) (a1 := 0) (a2 := 86) (hp := 87) (post := []) C hO hP q129 htab rfl rfl ?_
      refine lv_astore (lv' := [(4, .ref (ad 61)), (0, .ref (ad 60)), (1, .int x1), (2, .int x2), (3, .int x3)]) hx hb dX0_explain_87 hl (by decide) rfl (fun ls hl => ?_)
      refine lv_aload_n hx hb dX0_explain_89 rfl (lv_at hl 1 rfl) ?_
      refine lv_aload hx hb dX0_explain_90 (lv_at hl 0 rfl) ?_
      obtain ⟨v6, st7, hv6, h⟩ := bd2_some h
      refine k_L_finds C hO hP hS hv6 q410 (Nat.le_of_ble_eq_true rfl) hl.1 (Nat.le_of_ble_eq_true rfl) hcs dX0_explain_92 (fun H locs hP hS => ?_)
      exact cc_viret hx hb hr hlk h hP hS dX0_explain_95
    · rw [onx_some] at h
      refine k_L_needR C hO hP hS hv3 q402 (Nat.le_of_ble_eq_true rfl) hl.1 (Nat.le_of_ble_eq_true rfl) hcs dX0_explain_42 (fun H locs hP hS => ?_)
      refine lv_aload_n hx hb dX0_explain_45 rfl (lv_at hl 0 rfl) ?_
      refine lg_town C hO hP dX0_explain_46 ?_
      refine tgN_within (t := 0) C hO (by decide) hP dX0_explain_49 ?_
      refine lv_iload_n hx hb dX0_explain_52 rfl (lv_at hl 1 rfl) ?_
      obtain ⟨v8, hv8, h⟩ := bd1_some h
      refine cc_ild C hP (hO.2.2.2 _ (tk_ 3 (by decide) (by decide))) (cg_t 3 (by decide) (by decide)) hv8 dX0_explain_53 ?_
      refine lv_istore (lv' := [(4, .int v8), (0, .ref (ad 60)), (1, .int x1), (2, .int x2), (3, .int x3)]) hx hb dX0_explain_54 hl (by decide) rfl (fun ls hl => ?_)
      refine lv_aload_n hx hb dX0_explain_56 rfl (lv_at hl 1 rfl) ?_
      refine lg_town C hO hP dX0_explain_57 ?_
      refine tgN_within (t := 0) C hO (by decide) hP dX0_explain_60 ?_
      refine lv_iload_n hx hb dX0_explain_63 rfl (lv_at hl 2 rfl) ?_
      refine lv_iload_n hx hb dX0_explain_64 rfl (lv_at hl 3 rfl) ?_
      obtain ⟨b9, hb9, h⟩ := bd1_some h
      refine cc_ist C hO hP hS (hO.2.2.2 _ (tk_ 3 (by decide) (by decide))) (cg_t 3 (by decide) (by decide)) hb9 (cg_At 3 (by decide) (by decide)) hP.2 dX0_explain_65 (fun H locs hP hS => ?_)
      refine lv_aload_n hx hb dX0_explain_66 rfl (lv_at hl 1 rfl) ?_
      refine lg_town C hO hP dX0_explain_67 ?_
      refine tgN_by (t := 0) C hO (by decide) hP dX0_explain_70 ?_
      refine lv_iload_n hx hb dX0_explain_73 rfl (lv_at hl 2 rfl) ?_
      refine lv_iload_n hx hb dX0_explain_74 rfl (lv_at hl 3 rfl) ?_
      refine lv_if_ne (tgt := 82) hx hb dX0_explain_75 rfl (fun c10 => ?_) (fun c10 => ?_)
      · have h := if_some_f h c10
        refine lv_iload_n hx hb dX0_explain_82 rfl (lv_at hl 4 rfl) ?_
        obtain ⟨b11, hb11, h⟩ := bd1_some h
        refine cc_ist C hO hP hS (hO.2.2.2 _ (tk_ 4 (by decide) (by decide))) (cg_t 4 (by decide) (by decide)) hb11 (cg_At 4 (by decide) (by decide)) hP.2 dX0_explain_83 (fun H locs hP hS => ?_)
        refine lv_iload hx hb dX0_explain_84 (lv_at hl 0 rfl) ?_
        exact cc_viret hx hb hr hlk h hP hS dX0_explain_86
      · have h := if_some_t h c10
        refine lv_iconst (v := 0) hx hb dX0_explain_78 (by decide) ?_
        refine lv_goto (tgt := 83) hx hb dX0_explain_79 rfl ?_
        obtain ⟨b12, hb12, h⟩ := bd1_some h
        refine cc_ist C hO hP hS (hO.2.2.2 _ (tk_ 4 (by decide) (by decide))) (cg_t 4 (by decide) (by decide)) hb12 (cg_At 4 (by decide) (by decide)) hP.2 dX0_explain_83 (fun H locs hP hS => ?_)
        refine lv_iload hx hb dX0_explain_84 (lv_at hl 0 rfl) ?_
        exact cc_viret hx hb hr hlk h hP hS dX0_explain_86
  · have h := if_some_f h c2
    refine lv_iload_n hx hb dX0_explain_9 rfl (lv_at hl 2 rfl) ?_
    refine lv_iconst (v := 0) hx hb dX0_explain_10 (by decide) ?_
    refine lv_bipush (v := 9) hx hb dX0_explain_11 (by decide) ?_
    obtain ⟨v13, hv13, h⟩ := bd1_some h
    refine k_L_in hx hb C.2.2.1 hown C.2.2.2.2.1 C.2.2.2.2.2.1 q399 hv13 (Nat.le_of_ble_eq_true rfl) hl.1 (Nat.le_of_ble_eq_true rfl) hcs dX0_explain_13 ?_
    refine lv_if_eq (tgt := 40) hx hb dX0_explain_16 rfl (fun c14 => ?_) (fun c14 => ?_)
    · have h := if_some_t h c14
      refine lv_iconst (v := 0) hx hb dX0_explain_40 (by decide) ?_
      refine lv_iconst (v := 1) hx hb dX0_explain_41 (by decide) ?_
      obtain ⟨o17, st16, hv15, h⟩ := bd2_some h
      rcases o17 with _ | v15
      · rw [onx_none] at h
        refine k_L_needT C hO hP hS hv15 q402 (Nat.le_of_ble_eq_true rfl) hl.1 (Nat.le_of_ble_eq_true rfl) hcs dX0_explain_42 (fun H locs hP hS => ?_)
        refine cc_catch (pre := []) (a1 := 0) (a2 := 86) (hp := 87) (post := []) C hO hP q129 htab rfl rfl ?_
        refine lv_astore (lv' := [(4, .ref (ad 61)), (0, .ref (ad 60)), (1, .int x1), (2, .int x2), (3, .int x3)]) hx hb dX0_explain_87 hl (by decide) rfl (fun ls hl => ?_)
        refine lv_aload_n hx hb dX0_explain_89 rfl (lv_at hl 1 rfl) ?_
        refine lv_aload hx hb dX0_explain_90 (lv_at hl 0 rfl) ?_
        obtain ⟨v18, st19, hv18, h⟩ := bd2_some h
        refine k_L_finds C hO hP hS hv18 q410 (Nat.le_of_ble_eq_true rfl) hl.1 (Nat.le_of_ble_eq_true rfl) hcs dX0_explain_92 (fun H locs hP hS => ?_)
        exact cc_viret hx hb hr hlk h hP hS dX0_explain_95
      · rw [onx_some] at h
        refine k_L_needR C hO hP hS hv15 q402 (Nat.le_of_ble_eq_true rfl) hl.1 (Nat.le_of_ble_eq_true rfl) hcs dX0_explain_42 (fun H locs hP hS => ?_)
        refine lv_aload_n hx hb dX0_explain_45 rfl (lv_at hl 0 rfl) ?_
        refine lg_town C hO hP dX0_explain_46 ?_
        refine tgN_within (t := 0) C hO (by decide) hP dX0_explain_49 ?_
        refine lv_iload_n hx hb dX0_explain_52 rfl (lv_at hl 1 rfl) ?_
        obtain ⟨v20, hv20, h⟩ := bd1_some h
        refine cc_ild C hP (hO.2.2.2 _ (tk_ 3 (by decide) (by decide))) (cg_t 3 (by decide) (by decide)) hv20 dX0_explain_53 ?_
        refine lv_istore (lv' := [(4, .int v20), (0, .ref (ad 60)), (1, .int x1), (2, .int x2), (3, .int x3)]) hx hb dX0_explain_54 hl (by decide) rfl (fun ls hl => ?_)
        refine lv_aload_n hx hb dX0_explain_56 rfl (lv_at hl 1 rfl) ?_
        refine lg_town C hO hP dX0_explain_57 ?_
        refine tgN_within (t := 0) C hO (by decide) hP dX0_explain_60 ?_
        refine lv_iload_n hx hb dX0_explain_63 rfl (lv_at hl 2 rfl) ?_
        refine lv_iload_n hx hb dX0_explain_64 rfl (lv_at hl 3 rfl) ?_
        obtain ⟨b21, hb21, h⟩ := bd1_some h
        refine cc_ist C hO hP hS (hO.2.2.2 _ (tk_ 3 (by decide) (by decide))) (cg_t 3 (by decide) (by decide)) hb21 (cg_At 3 (by decide) (by decide)) hP.2 dX0_explain_65 (fun H locs hP hS => ?_)
        refine lv_aload_n hx hb dX0_explain_66 rfl (lv_at hl 1 rfl) ?_
        refine lg_town C hO hP dX0_explain_67 ?_
        refine tgN_by (t := 0) C hO (by decide) hP dX0_explain_70 ?_
        refine lv_iload_n hx hb dX0_explain_73 rfl (lv_at hl 2 rfl) ?_
        refine lv_iload_n hx hb dX0_explain_74 rfl (lv_at hl 3 rfl) ?_
        refine lv_if_ne (tgt := 82) hx hb dX0_explain_75 rfl (fun c22 => ?_) (fun c22 => ?_)
        · have h := if_some_f h c22
          refine lv_iload_n hx hb dX0_explain_82 rfl (lv_at hl 4 rfl) ?_
          obtain ⟨b23, hb23, h⟩ := bd1_some h
          refine cc_ist C hO hP hS (hO.2.2.2 _ (tk_ 4 (by decide) (by decide))) (cg_t 4 (by decide) (by decide)) hb23 (cg_At 4 (by decide) (by decide)) hP.2 dX0_explain_83 (fun H locs hP hS => ?_)
          refine lv_iload hx hb dX0_explain_84 (lv_at hl 0 rfl) ?_
          exact cc_viret hx hb hr hlk h hP hS dX0_explain_86
        · have h := if_some_t h c22
          refine lv_iconst (v := 0) hx hb dX0_explain_78 (by decide) ?_
          refine lv_goto (tgt := 83) hx hb dX0_explain_79 rfl ?_
          obtain ⟨b24, hb24, h⟩ := bd1_some h
          refine cc_ist C hO hP hS (hO.2.2.2 _ (tk_ 4 (by decide) (by decide))) (cg_t 4 (by decide) (by decide)) hb24 (cg_At 4 (by decide) (by decide)) hP.2 dX0_explain_83 (fun H locs hP hS => ?_)
          refine lv_iload hx hb dX0_explain_84 (lv_at hl 0 rfl) ?_
          exact cc_viret hx hb hr hlk h hP hS dX0_explain_86
    · have h := if_some_f h c14
      refine lv_iload_n hx hb dX0_explain_19 rfl (lv_at hl 2 rfl) ?_
      refine lv_if_eq (tgt := 36) hx hb dX0_explain_20 rfl (fun c25 => ?_) (fun c25 => ?_)
      · have h := if_some_t h c25
        refine lv_iconst (v := 1) hx hb dX0_explain_36 (by decide) ?_
        refine lv_goto (tgt := 41) hx hb dX0_explain_37 rfl ?_
        refine lv_iconst (v := 1) hx hb dX0_explain_41 (by decide) ?_
        obtain ⟨o28, st27, hv26, h⟩ := bd2_some h
        rcases o28 with _ | v26
        · rw [onx_none] at h
          refine k_L_needT C hO hP hS hv26 q402 (Nat.le_of_ble_eq_true rfl) hl.1 (Nat.le_of_ble_eq_true rfl) hcs dX0_explain_42 (fun H locs hP hS => ?_)
          refine cc_catch (pre := []) (a1 := 0) (a2 := 86) (hp := 87) (post := []) C hO hP q129 htab rfl rfl ?_
          refine lv_astore (lv' := [(4, .ref (ad 61)), (0, .ref (ad 60)), (1, .int x1), (2, .int x2), (3, .int x3)]) hx hb dX0_explain_87 hl (by decide) rfl (fun ls hl => ?_)
          refine lv_aload_n hx hb dX0_explain_89 rfl (lv_at hl 1 rfl) ?_
          refine lv_aload hx hb dX0_explain_90 (lv_at hl 0 rfl) ?_
          obtain ⟨v29, st30, hv29, h⟩ := bd2_some h
          refine k_L_finds C hO hP hS hv29 q410 (Nat.le_of_ble_eq_true rfl) hl.1 (Nat.le_of_ble_eq_true rfl) hcs dX0_explain_92 (fun H locs hP hS => ?_)
          exact cc_viret hx hb hr hlk h hP hS dX0_explain_95
        · rw [onx_some] at h
          refine k_L_needR C hO hP hS hv26 q402 (Nat.le_of_ble_eq_true rfl) hl.1 (Nat.le_of_ble_eq_true rfl) hcs dX0_explain_42 (fun H locs hP hS => ?_)
          refine lv_aload_n hx hb dX0_explain_45 rfl (lv_at hl 0 rfl) ?_
          refine lg_town C hO hP dX0_explain_46 ?_
          refine tgN_within (t := 0) C hO (by decide) hP dX0_explain_49 ?_
          refine lv_iload_n hx hb dX0_explain_52 rfl (lv_at hl 1 rfl) ?_
          obtain ⟨v31, hv31, h⟩ := bd1_some h
          refine cc_ild C hP (hO.2.2.2 _ (tk_ 3 (by decide) (by decide))) (cg_t 3 (by decide) (by decide)) hv31 dX0_explain_53 ?_
          refine lv_istore (lv' := [(4, .int v31), (0, .ref (ad 60)), (1, .int x1), (2, .int x2), (3, .int x3)]) hx hb dX0_explain_54 hl (by decide) rfl (fun ls hl => ?_)
          refine lv_aload_n hx hb dX0_explain_56 rfl (lv_at hl 1 rfl) ?_
          refine lg_town C hO hP dX0_explain_57 ?_
          refine tgN_within (t := 0) C hO (by decide) hP dX0_explain_60 ?_
          refine lv_iload_n hx hb dX0_explain_63 rfl (lv_at hl 2 rfl) ?_
          refine lv_iload_n hx hb dX0_explain_64 rfl (lv_at hl 3 rfl) ?_
          obtain ⟨b32, hb32, h⟩ := bd1_some h
          refine cc_ist C hO hP hS (hO.2.2.2 _ (tk_ 3 (by decide) (by decide))) (cg_t 3 (by decide) (by decide)) hb32 (cg_At 3 (by decide) (by decide)) hP.2 dX0_explain_65 (fun H locs hP hS => ?_)
          refine lv_aload_n hx hb dX0_explain_66 rfl (lv_at hl 1 rfl) ?_
          refine lg_town C hO hP dX0_explain_67 ?_
          refine tgN_by (t := 0) C hO (by decide) hP dX0_explain_70 ?_
          refine lv_iload_n hx hb dX0_explain_73 rfl (lv_at hl 2 rfl) ?_
          refine lv_iload_n hx hb dX0_explain_74 rfl (lv_at hl 3 rfl) ?_
          refine lv_if_ne (tgt := 82) hx hb dX0_explain_75 rfl (fun c33 => ?_) (fun c33 => ?_)
          · have h := if_some_f h c33
            refine lv_iload_n hx hb dX0_explain_82 rfl (lv_at hl 4 rfl) ?_
            obtain ⟨b34, hb34, h⟩ := bd1_some h
            refine cc_ist C hO hP hS (hO.2.2.2 _ (tk_ 4 (by decide) (by decide))) (cg_t 4 (by decide) (by decide)) hb34 (cg_At 4 (by decide) (by decide)) hP.2 dX0_explain_83 (fun H locs hP hS => ?_)
            refine lv_iload hx hb dX0_explain_84 (lv_at hl 0 rfl) ?_
            exact cc_viret hx hb hr hlk h hP hS dX0_explain_86
          · have h := if_some_t h c33
            refine lv_iconst (v := 0) hx hb dX0_explain_78 (by decide) ?_
            refine lv_goto (tgt := 83) hx hb dX0_explain_79 rfl ?_
            obtain ⟨b35, hb35, h⟩ := bd1_some h
            refine cc_ist C hO hP hS (hO.2.2.2 _ (tk_ 4 (by decide) (by decide))) (cg_t 4 (by decide) (by decide)) hb35 (cg_At 4 (by decide) (by decide)) hP.2 dX0_explain_83 (fun H locs hP hS => ?_)
            refine lv_iload hx hb dX0_explain_84 (lv_at hl 0 rfl) ?_
            exact cc_viret hx hb hr hlk h hP hS dX0_explain_86
      · have h := if_some_f h c25
        refine lv_aload_n hx hb dX0_explain_23 rfl (lv_at hl 0 rfl) ?_
        refine lv_iload_n hx hb dX0_explain_24 rfl (lv_at hl 3 rfl) ?_
        obtain ⟨v36, hv36, h⟩ := bd1_some h
        refine k_L_isFact C hO hP hv36 q419 (Nat.le_of_ble_eq_true rfl) hS.1 hl.1 (Nat.le_of_ble_eq_true rfl) hcs dX0_explain_25 ?_
        refine lv_if_eq (tgt := 40) hx hb dX0_explain_28 rfl (fun c37 => ?_) (fun c37 => ?_)
        · have h := if_some_t h c37
          refine lv_iconst (v := 0) hx hb dX0_explain_40 (by decide) ?_
          refine lv_iconst (v := 1) hx hb dX0_explain_41 (by decide) ?_
          obtain ⟨o40, st39, hv38, h⟩ := bd2_some h
          rcases o40 with _ | v38
          · rw [onx_none] at h
            refine k_L_needT C hO hP hS hv38 q402 (Nat.le_of_ble_eq_true rfl) hl.1 (Nat.le_of_ble_eq_true rfl) hcs dX0_explain_42 (fun H locs hP hS => ?_)
            refine cc_catch (pre := []) (a1 := 0) (a2 := 86) (hp := 87) (post := []) C hO hP q129 htab rfl rfl ?_
            refine lv_astore (lv' := [(4, .ref (ad 61)), (0, .ref (ad 60)), (1, .int x1), (2, .int x2), (3, .int x3)]) hx hb dX0_explain_87 hl (by decide) rfl (fun ls hl => ?_)
            refine lv_aload_n hx hb dX0_explain_89 rfl (lv_at hl 1 rfl) ?_
            refine lv_aload hx hb dX0_explain_90 (lv_at hl 0 rfl) ?_
            obtain ⟨v41, st42, hv41, h⟩ := bd2_some h
            refine k_L_finds C hO hP hS hv41 q410 (Nat.le_of_ble_eq_true rfl) hl.1 (Nat.le_of_ble_eq_true rfl) hcs dX0_explain_92 (fun H locs hP hS => ?_)
            exact cc_viret hx hb hr hlk h hP hS dX0_explain_95
          · rw [onx_some] at h
            refine k_L_needR C hO hP hS hv38 q402 (Nat.le_of_ble_eq_true rfl) hl.1 (Nat.le_of_ble_eq_true rfl) hcs dX0_explain_42 (fun H locs hP hS => ?_)
            refine lv_aload_n hx hb dX0_explain_45 rfl (lv_at hl 0 rfl) ?_
            refine lg_town C hO hP dX0_explain_46 ?_
            refine tgN_within (t := 0) C hO (by decide) hP dX0_explain_49 ?_
            refine lv_iload_n hx hb dX0_explain_52 rfl (lv_at hl 1 rfl) ?_
            obtain ⟨v43, hv43, h⟩ := bd1_some h
            refine cc_ild C hP (hO.2.2.2 _ (tk_ 3 (by decide) (by decide))) (cg_t 3 (by decide) (by decide)) hv43 dX0_explain_53 ?_
            refine lv_istore (lv' := [(4, .int v43), (0, .ref (ad 60)), (1, .int x1), (2, .int x2), (3, .int x3)]) hx hb dX0_explain_54 hl (by decide) rfl (fun ls hl => ?_)
            refine lv_aload_n hx hb dX0_explain_56 rfl (lv_at hl 1 rfl) ?_
            refine lg_town C hO hP dX0_explain_57 ?_
            refine tgN_within (t := 0) C hO (by decide) hP dX0_explain_60 ?_
            refine lv_iload_n hx hb dX0_explain_63 rfl (lv_at hl 2 rfl) ?_
            refine lv_iload_n hx hb dX0_explain_64 rfl (lv_at hl 3 rfl) ?_
            obtain ⟨b44, hb44, h⟩ := bd1_some h
            refine cc_ist C hO hP hS (hO.2.2.2 _ (tk_ 3 (by decide) (by decide))) (cg_t 3 (by decide) (by decide)) hb44 (cg_At 3 (by decide) (by decide)) hP.2 dX0_explain_65 (fun H locs hP hS => ?_)
            refine lv_aload_n hx hb dX0_explain_66 rfl (lv_at hl 1 rfl) ?_
            refine lg_town C hO hP dX0_explain_67 ?_
            refine tgN_by (t := 0) C hO (by decide) hP dX0_explain_70 ?_
            refine lv_iload_n hx hb dX0_explain_73 rfl (lv_at hl 2 rfl) ?_
            refine lv_iload_n hx hb dX0_explain_74 rfl (lv_at hl 3 rfl) ?_
            refine lv_if_ne (tgt := 82) hx hb dX0_explain_75 rfl (fun c45 => ?_) (fun c45 => ?_)
            · have h := if_some_f h c45
              refine lv_iload_n hx hb dX0_explain_82 rfl (lv_at hl 4 rfl) ?_
              obtain ⟨b46, hb46, h⟩ := bd1_some h
              refine cc_ist C hO hP hS (hO.2.2.2 _ (tk_ 4 (by decide) (by decide))) (cg_t 4 (by decide) (by decide)) hb46 (cg_At 4 (by decide) (by decide)) hP.2 dX0_explain_83 (fun H locs hP hS => ?_)
              refine lv_iload hx hb dX0_explain_84 (lv_at hl 0 rfl) ?_
              exact cc_viret hx hb hr hlk h hP hS dX0_explain_86
            · have h := if_some_t h c45
              refine lv_iconst (v := 0) hx hb dX0_explain_78 (by decide) ?_
              refine lv_goto (tgt := 83) hx hb dX0_explain_79 rfl ?_
              obtain ⟨b47, hb47, h⟩ := bd1_some h
              refine cc_ist C hO hP hS (hO.2.2.2 _ (tk_ 4 (by decide) (by decide))) (cg_t 4 (by decide) (by decide)) hb47 (cg_At 4 (by decide) (by decide)) hP.2 dX0_explain_83 (fun H locs hP hS => ?_)
              refine lv_iload hx hb dX0_explain_84 (lv_at hl 0 rfl) ?_
              exact cc_viret hx hb hr hlk h hP hS dX0_explain_86
        · have h := if_some_f h c37
          refine lv_iload_n hx hb dX0_explain_31 rfl (lv_at hl 3 rfl) ?_
          refine lv_iload_n hx hb dX0_explain_32 rfl (lv_at hl 1 rfl) ?_
          refine lv_icmp_eq (tgt := 40) hx hb dX0_explain_33 rfl (fun c48 => ?_) (fun c48 => ?_)
          · have h := if_some_t h c48
            refine lv_iconst (v := 0) hx hb dX0_explain_40 (by decide) ?_
            refine lv_iconst (v := 1) hx hb dX0_explain_41 (by decide) ?_
            obtain ⟨o51, st50, hv49, h⟩ := bd2_some h
            rcases o51 with _ | v49
            · rw [onx_none] at h
              refine k_L_needT C hO hP hS hv49 q402 (Nat.le_of_ble_eq_true rfl) hl.1 (Nat.le_of_ble_eq_true rfl) hcs dX0_explain_42 (fun H locs hP hS => ?_)
              refine cc_catch (pre := []) (a1 := 0) (a2 := 86) (hp := 87) (post := []) C hO hP q129 htab rfl rfl ?_
              refine lv_astore (lv' := [(4, .ref (ad 61)), (0, .ref (ad 60)), (1, .int x1), (2, .int x2), (3, .int x3)]) hx hb dX0_explain_87 hl (by decide) rfl (fun ls hl => ?_)
              refine lv_aload_n hx hb dX0_explain_89 rfl (lv_at hl 1 rfl) ?_
              refine lv_aload hx hb dX0_explain_90 (lv_at hl 0 rfl) ?_
              obtain ⟨v52, st53, hv52, h⟩ := bd2_some h
              refine k_L_finds C hO hP hS hv52 q410 (Nat.le_of_ble_eq_true rfl) hl.1 (Nat.le_of_ble_eq_true rfl) hcs dX0_explain_92 (fun H locs hP hS => ?_)
              exact cc_viret hx hb hr hlk h hP hS dX0_explain_95
            · rw [onx_some] at h
              refine k_L_needR C hO hP hS hv49 q402 (Nat.le_of_ble_eq_true rfl) hl.1 (Nat.le_of_ble_eq_true rfl) hcs dX0_explain_42 (fun H locs hP hS => ?_)
              refine lv_aload_n hx hb dX0_explain_45 rfl (lv_at hl 0 rfl) ?_
              refine lg_town C hO hP dX0_explain_46 ?_
              refine tgN_within (t := 0) C hO (by decide) hP dX0_explain_49 ?_
              refine lv_iload_n hx hb dX0_explain_52 rfl (lv_at hl 1 rfl) ?_
              obtain ⟨v54, hv54, h⟩ := bd1_some h
              refine cc_ild C hP (hO.2.2.2 _ (tk_ 3 (by decide) (by decide))) (cg_t 3 (by decide) (by decide)) hv54 dX0_explain_53 ?_
              refine lv_istore (lv' := [(4, .int v54), (0, .ref (ad 60)), (1, .int x1), (2, .int x2), (3, .int x3)]) hx hb dX0_explain_54 hl (by decide) rfl (fun ls hl => ?_)
              refine lv_aload_n hx hb dX0_explain_56 rfl (lv_at hl 1 rfl) ?_
              refine lg_town C hO hP dX0_explain_57 ?_
              refine tgN_within (t := 0) C hO (by decide) hP dX0_explain_60 ?_
              refine lv_iload_n hx hb dX0_explain_63 rfl (lv_at hl 2 rfl) ?_
              refine lv_iload_n hx hb dX0_explain_64 rfl (lv_at hl 3 rfl) ?_
              obtain ⟨b55, hb55, h⟩ := bd1_some h
              refine cc_ist C hO hP hS (hO.2.2.2 _ (tk_ 3 (by decide) (by decide))) (cg_t 3 (by decide) (by decide)) hb55 (cg_At 3 (by decide) (by decide)) hP.2 dX0_explain_65 (fun H locs hP hS => ?_)
              refine lv_aload_n hx hb dX0_explain_66 rfl (lv_at hl 1 rfl) ?_
              refine lg_town C hO hP dX0_explain_67 ?_
              refine tgN_by (t := 0) C hO (by decide) hP dX0_explain_70 ?_
              refine lv_iload_n hx hb dX0_explain_73 rfl (lv_at hl 2 rfl) ?_
              refine lv_iload_n hx hb dX0_explain_74 rfl (lv_at hl 3 rfl) ?_
              refine lv_if_ne (tgt := 82) hx hb dX0_explain_75 rfl (fun c56 => ?_) (fun c56 => ?_)
              · have h := if_some_f h c56
                refine lv_iload_n hx hb dX0_explain_82 rfl (lv_at hl 4 rfl) ?_
                obtain ⟨b57, hb57, h⟩ := bd1_some h
                refine cc_ist C hO hP hS (hO.2.2.2 _ (tk_ 4 (by decide) (by decide))) (cg_t 4 (by decide) (by decide)) hb57 (cg_At 4 (by decide) (by decide)) hP.2 dX0_explain_83 (fun H locs hP hS => ?_)
                refine lv_iload hx hb dX0_explain_84 (lv_at hl 0 rfl) ?_
                exact cc_viret hx hb hr hlk h hP hS dX0_explain_86
              · have h := if_some_t h c56
                refine lv_iconst (v := 0) hx hb dX0_explain_78 (by decide) ?_
                refine lv_goto (tgt := 83) hx hb dX0_explain_79 rfl ?_
                obtain ⟨b58, hb58, h⟩ := bd1_some h
                refine cc_ist C hO hP hS (hO.2.2.2 _ (tk_ 4 (by decide) (by decide))) (cg_t 4 (by decide) (by decide)) hb58 (cg_At 4 (by decide) (by decide)) hP.2 dX0_explain_83 (fun H locs hP hS => ?_)
                refine lv_iload hx hb dX0_explain_84 (lv_at hl 0 rfl) ?_
                exact cc_viret hx hb hr hlk h hP hS dX0_explain_86
          · have h := if_some_f h c48
            refine lv_iconst (v := 1) hx hb dX0_explain_36 (by decide) ?_
            refine lv_goto (tgt := 41) hx hb dX0_explain_37 rfl ?_
            refine lv_iconst (v := 1) hx hb dX0_explain_41 (by decide) ?_
            obtain ⟨o61, st60, hv59, h⟩ := bd2_some h
            rcases o61 with _ | v59
            · rw [onx_none] at h
              refine k_L_needT C hO hP hS hv59 q402 (Nat.le_of_ble_eq_true rfl) hl.1 (Nat.le_of_ble_eq_true rfl) hcs dX0_explain_42 (fun H locs hP hS => ?_)
              refine cc_catch (pre := []) (a1 := 0) (a2 := 86) (hp := 87) (post := []) C hO hP q129 htab rfl rfl ?_
              refine lv_astore (lv' := [(4, .ref (ad 61)), (0, .ref (ad 60)), (1, .int x1), (2, .int x2), (3, .int x3)]) hx hb dX0_explain_87 hl (by decide) rfl (fun ls hl => ?_)
              refine lv_aload_n hx hb dX0_explain_89 rfl (lv_at hl 1 rfl) ?_
              refine lv_aload hx hb dX0_explain_90 (lv_at hl 0 rfl) ?_
              obtain ⟨v62, st63, hv62, h⟩ := bd2_some h
              refine k_L_finds C hO hP hS hv62 q410 (Nat.le_of_ble_eq_true rfl) hl.1 (Nat.le_of_ble_eq_true rfl) hcs dX0_explain_92 (fun H locs hP hS => ?_)
              exact cc_viret hx hb hr hlk h hP hS dX0_explain_95
            · rw [onx_some] at h
              refine k_L_needR C hO hP hS hv59 q402 (Nat.le_of_ble_eq_true rfl) hl.1 (Nat.le_of_ble_eq_true rfl) hcs dX0_explain_42 (fun H locs hP hS => ?_)
              refine lv_aload_n hx hb dX0_explain_45 rfl (lv_at hl 0 rfl) ?_
              refine lg_town C hO hP dX0_explain_46 ?_
              refine tgN_within (t := 0) C hO (by decide) hP dX0_explain_49 ?_
              refine lv_iload_n hx hb dX0_explain_52 rfl (lv_at hl 1 rfl) ?_
              obtain ⟨v64, hv64, h⟩ := bd1_some h
              refine cc_ild C hP (hO.2.2.2 _ (tk_ 3 (by decide) (by decide))) (cg_t 3 (by decide) (by decide)) hv64 dX0_explain_53 ?_
              refine lv_istore (lv' := [(4, .int v64), (0, .ref (ad 60)), (1, .int x1), (2, .int x2), (3, .int x3)]) hx hb dX0_explain_54 hl (by decide) rfl (fun ls hl => ?_)
              refine lv_aload_n hx hb dX0_explain_56 rfl (lv_at hl 1 rfl) ?_
              refine lg_town C hO hP dX0_explain_57 ?_
              refine tgN_within (t := 0) C hO (by decide) hP dX0_explain_60 ?_
              refine lv_iload_n hx hb dX0_explain_63 rfl (lv_at hl 2 rfl) ?_
              refine lv_iload_n hx hb dX0_explain_64 rfl (lv_at hl 3 rfl) ?_
              obtain ⟨b65, hb65, h⟩ := bd1_some h
              refine cc_ist C hO hP hS (hO.2.2.2 _ (tk_ 3 (by decide) (by decide))) (cg_t 3 (by decide) (by decide)) hb65 (cg_At 3 (by decide) (by decide)) hP.2 dX0_explain_65 (fun H locs hP hS => ?_)
              refine lv_aload_n hx hb dX0_explain_66 rfl (lv_at hl 1 rfl) ?_
              refine lg_town C hO hP dX0_explain_67 ?_
              refine tgN_by (t := 0) C hO (by decide) hP dX0_explain_70 ?_
              refine lv_iload_n hx hb dX0_explain_73 rfl (lv_at hl 2 rfl) ?_
              refine lv_iload_n hx hb dX0_explain_74 rfl (lv_at hl 3 rfl) ?_
              refine lv_if_ne (tgt := 82) hx hb dX0_explain_75 rfl (fun c66 => ?_) (fun c66 => ?_)
              · have h := if_some_f h c66
                refine lv_iload_n hx hb dX0_explain_82 rfl (lv_at hl 4 rfl) ?_
                obtain ⟨b67, hb67, h⟩ := bd1_some h
                refine cc_ist C hO hP hS (hO.2.2.2 _ (tk_ 4 (by decide) (by decide))) (cg_t 4 (by decide) (by decide)) hb67 (cg_At 4 (by decide) (by decide)) hP.2 dX0_explain_83 (fun H locs hP hS => ?_)
                refine lv_iload hx hb dX0_explain_84 (lv_at hl 0 rfl) ?_
                exact cc_viret hx hb hr hlk h hP hS dX0_explain_86
              · have h := if_some_t h c66
                refine lv_iconst (v := 0) hx hb dX0_explain_78 (by decide) ?_
                refine lv_goto (tgt := 83) hx hb dX0_explain_79 rfl ?_
                obtain ⟨b68, hb68, h⟩ := bd1_some h
                refine cc_ist C hO hP hS (hO.2.2.2 _ (tk_ 4 (by decide) (by decide))) (cg_t 4 (by decide) (by decide)) hb68 (cg_At 4 (by decide) (by decide)) hP.2 dX0_explain_83 (fun H locs hP hS => ?_)
                refine lv_iload hx hb dX0_explain_84 (lv_at hl 0 rfl) ?_
                exact cc_viret hx hb hr hlk h hP hS dX0_explain_86
abbrev cX0_ofFact : ByteArray := prog_1_method_19_code
def yX0_ofFact : MethodName := ⟨RX0, "ofFact", "(II)I"⟩
theorem dX0_ofFact_0 : decode cX0_ofFact 0 = .ok (.aload_n 0, 1) := by decide +kernel
theorem dX0_ofFact_1 : decode cX0_ofFact 1 = .ok (.aload_n 0, 1) := by decide +kernel
theorem dX0_ofFact_2 : decode cX0_ofFact 2 = .ok (.iload_n 1, 1) := by decide +kernel
theorem dX0_ofFact_3 : decode cX0_ofFact 3 = .ok (.invokevirtual 127, 3) := by decide +kernel
theorem dX0_ofFact_6 : decode cX0_ofFact 6 = .ok (.ifCond .eq 16, 3) := by decide +kernel
theorem dX0_ofFact_9 : decode cX0_ofFact 9 = .ok (.iload_n 2, 1) := by decide +kernel
theorem dX0_ofFact_10 : decode cX0_ofFact 10 = .ok (.iconst 0, 1) := by decide +kernel
theorem dX0_ofFact_11 : decode cX0_ofFact 11 = .ok (.iconst 5, 1) := by decide +kernel
theorem dX0_ofFact_12 : decode cX0_ofFact 12 = .ok (.invokestatic 91, 3) := by decide +kernel
theorem dX0_ofFact_15 : decode cX0_ofFact 15 = .ok (.ifCond .eq 7, 3) := by decide +kernel
theorem dX0_ofFact_18 : decode cX0_ofFact 18 = .ok (.iconst 1, 1) := by decide +kernel
theorem dX0_ofFact_19 : decode cX0_ofFact 19 = .ok (.goto 4, 3) := by decide +kernel
theorem dX0_ofFact_22 : decode cX0_ofFact 22 = .ok (.iconst 0, 1) := by decide +kernel
theorem dX0_ofFact_23 : decode cX0_ofFact 23 = .ok (.iconst 1, 1) := by decide +kernel
theorem dX0_ofFact_24 : decode cX0_ofFact 24 = .ok (.invokevirtual 102, 3) := by decide +kernel
theorem dX0_ofFact_27 : decode cX0_ofFact 27 = .ok (.iload_n 2, 1) := by decide +kernel
theorem dX0_ofFact_28 : decode cX0_ofFact 28 = .ok (.tableswitch 102 0 4 #[36, 46, 56, 66, 92], 36) := by decide +kernel
theorem dX0_ofFact_64 : decode cX0_ofFact 64 = .ok (.aload_n 0, 1) := by decide +kernel
theorem dX0_ofFact_65 : decode cX0_ofFact 65 = .ok (.getfield 46, 3) := by decide +kernel
theorem dX0_ofFact_68 : decode cX0_ofFact 68 = .ok (.getfield 108, 3) := by decide +kernel
theorem dX0_ofFact_71 : decode cX0_ofFact 71 = .ok (.iload_n 1, 1) := by decide +kernel
theorem dX0_ofFact_72 : decode cX0_ofFact 72 = .ok (.iaload, 1) := by decide +kernel
theorem dX0_ofFact_73 : decode cX0_ofFact 73 = .ok (.ireturn, 1) := by decide +kernel
theorem dX0_ofFact_74 : decode cX0_ofFact 74 = .ok (.aload_n 0, 1) := by decide +kernel
theorem dX0_ofFact_75 : decode cX0_ofFact 75 = .ok (.getfield 46, 3) := by decide +kernel
theorem dX0_ofFact_78 : decode cX0_ofFact 78 = .ok (.getfield 111, 3) := by decide +kernel
theorem dX0_ofFact_81 : decode cX0_ofFact 81 = .ok (.iload_n 1, 1) := by decide +kernel
theorem dX0_ofFact_82 : decode cX0_ofFact 82 = .ok (.iaload, 1) := by decide +kernel
theorem dX0_ofFact_83 : decode cX0_ofFact 83 = .ok (.ireturn, 1) := by decide +kernel
theorem dX0_ofFact_84 : decode cX0_ofFact 84 = .ok (.aload_n 0, 1) := by decide +kernel
theorem dX0_ofFact_85 : decode cX0_ofFact 85 = .ok (.getfield 46, 3) := by decide +kernel
theorem dX0_ofFact_88 : decode cX0_ofFact 88 = .ok (.getfield 114, 3) := by decide +kernel
theorem dX0_ofFact_91 : decode cX0_ofFact 91 = .ok (.iload_n 1, 1) := by decide +kernel
theorem dX0_ofFact_92 : decode cX0_ofFact 92 = .ok (.iaload, 1) := by decide +kernel
theorem dX0_ofFact_93 : decode cX0_ofFact 93 = .ok (.ireturn, 1) := by decide +kernel
theorem dX0_ofFact_94 : decode cX0_ofFact 94 = .ok (.aload_n 0, 1) := by decide +kernel
theorem dX0_ofFact_95 : decode cX0_ofFact 95 = .ok (.getfield 46, 3) := by decide +kernel
theorem dX0_ofFact_98 : decode cX0_ofFact 98 = .ok (.getfield 114, 3) := by decide +kernel
theorem dX0_ofFact_101 : decode cX0_ofFact 101 = .ok (.iload_n 1, 1) := by decide +kernel
theorem dX0_ofFact_102 : decode cX0_ofFact 102 = .ok (.iaload, 1) := by decide +kernel
theorem dX0_ofFact_103 : decode cX0_ofFact 103 = .ok (.ifCond .ne 7, 3) := by decide +kernel
theorem dX0_ofFact_106 : decode cX0_ofFact 106 = .ok (.iconst (-1), 1) := by decide +kernel
theorem dX0_ofFact_107 : decode cX0_ofFact 107 = .ok (.goto 12, 3) := by decide +kernel
theorem dX0_ofFact_110 : decode cX0_ofFact 110 = .ok (.aload_n 0, 1) := by decide +kernel
theorem dX0_ofFact_111 : decode cX0_ofFact 111 = .ok (.getfield 46, 3) := by decide +kernel
theorem dX0_ofFact_114 : decode cX0_ofFact 114 = .ok (.getfield 117, 3) := by decide +kernel
theorem dX0_ofFact_117 : decode cX0_ofFact 117 = .ok (.iload_n 1, 1) := by decide +kernel
theorem dX0_ofFact_118 : decode cX0_ofFact 118 = .ok (.iaload, 1) := by decide +kernel
theorem dX0_ofFact_119 : decode cX0_ofFact 119 = .ok (.ireturn, 1) := by decide +kernel
theorem dX0_ofFact_120 : decode cX0_ofFact 120 = .ok (.aload_n 0, 1) := by decide +kernel
theorem dX0_ofFact_121 : decode cX0_ofFact 121 = .ok (.getfield 46, 3) := by decide +kernel
theorem dX0_ofFact_124 : decode cX0_ofFact 124 = .ok (.getfield 120, 3) := by decide +kernel
theorem dX0_ofFact_127 : decode cX0_ofFact 127 = .ok (.iload_n 1, 1) := by decide +kernel
theorem dX0_ofFact_128 : decode cX0_ofFact 128 = .ok (.iaload, 1) := by decide +kernel
theorem dX0_ofFact_129 : decode cX0_ofFact 129 = .ok (.ireturn, 1) := by decide +kernel
theorem dX0_ofFact_130 : decode cX0_ofFact 130 = .ok (.iconst 0, 1) := by decide +kernel
theorem dX0_ofFact_131 : decode cX0_ofFact 131 = .ok (.istore_n 3, 1) := by decide +kernel
theorem dX0_ofFact_132 : decode cX0_ofFact 132 = .ok (.iconst 0, 1) := by decide +kernel
theorem dX0_ofFact_133 : decode cX0_ofFact 133 = .ok (.istore 4, 2) := by decide +kernel
theorem dX0_ofFact_135 : decode cX0_ofFact 135 = .ok (.iload 4, 2) := by decide +kernel
theorem dX0_ofFact_137 : decode cX0_ofFact 137 = .ok (.aload_n 0, 1) := by decide +kernel
theorem dX0_ofFact_138 : decode cX0_ofFact 138 = .ok (.getfield 46, 3) := by decide +kernel
theorem dX0_ofFact_141 : decode cX0_ofFact 141 = .ok (.getfield 95, 3) := by decide +kernel
theorem dX0_ofFact_144 : decode cX0_ofFact 144 = .ok (.if_icmp .ge 33, 3) := by decide +kernel
theorem dX0_ofFact_147 : decode cX0_ofFact 147 = .ok (.iload_n 3, 1) := by decide +kernel
theorem dX0_ofFact_148 : decode cX0_ofFact 148 = .ok (.aload_n 0, 1) := by decide +kernel
theorem dX0_ofFact_149 : decode cX0_ofFact 149 = .ok (.getfield 46, 3) := by decide +kernel
theorem dX0_ofFact_152 : decode cX0_ofFact 152 = .ok (.iload 4, 2) := by decide +kernel
theorem dX0_ofFact_154 : decode cX0_ofFact 154 = .ok (.invokevirtual 131, 3) := by decide +kernel
theorem dX0_ofFact_157 : decode cX0_ofFact 157 = .ok (.iload_n 1, 1) := by decide +kernel
theorem dX0_ofFact_158 : decode cX0_ofFact 158 = .ok (.invokestatic 135, 3) := by decide +kernel
theorem dX0_ofFact_161 : decode cX0_ofFact 161 = .ok (.ifCond .eq 7, 3) := by decide +kernel
theorem dX0_ofFact_164 : decode cX0_ofFact 164 = .ok (.iconst 1, 1) := by decide +kernel
theorem dX0_ofFact_165 : decode cX0_ofFact 165 = .ok (.goto 4, 3) := by decide +kernel
theorem dX0_ofFact_168 : decode cX0_ofFact 168 = .ok (.iconst 0, 1) := by decide +kernel
theorem dX0_ofFact_169 : decode cX0_ofFact 169 = .ok (.iadd, 1) := by decide +kernel
theorem dX0_ofFact_170 : decode cX0_ofFact 170 = .ok (.istore_n 3, 1) := by decide +kernel
theorem dX0_ofFact_171 : decode cX0_ofFact 171 = .ok (.iinc 4 1, 3) := by decide +kernel
theorem dX0_ofFact_174 : decode cX0_ofFact 174 = .ok (.goto (-39), 3) := by decide +kernel
theorem dX0_ofFact_177 : decode cX0_ofFact 177 = .ok (.iload_n 3, 1) := by decide +kernel
theorem dX0_ofFact_178 : decode cX0_ofFact 178 = .ok (.ireturn, 1) := by decide +kernel
theorem dX0_ofFact_179 : decode cX0_ofFact 179 = .ok (.astore_n 3, 1) := by decide +kernel
theorem dX0_ofFact_180 : decode cX0_ofFact 180 = .ok (.aload_n 0, 1) := by decide +kernel
theorem dX0_ofFact_181 : decode cX0_ofFact 181 = .ok (.aload_n 3, 1) := by decide +kernel
theorem dX0_ofFact_182 : decode cX0_ofFact 182 = .ok (.invokevirtual 123, 3) := by decide +kernel
theorem dX0_ofFact_185 : decode cX0_ofFact 185 = .ok (.ireturn, 1) := by decide +kernel
theorem q439 : (Jvm.Cond.methodLink "ChapterLoan" (135 : Nat) ({ cls := "ChapterLoan", name := "isIn", desc := "(II)Z" } : Jvm.MethodName)) ∈ lw_all := lw_g (lw_at lw_m2 115 rfl) rfl
theorem w_L_ofFact {l : Launch} {D : va_G} {cA : Nat → ClassId} {ks : List Nat} {ad : Nat → Nat} {A : Nat → Prop} (hO : klOk A ks ad) {st st' : CS} {N : Nat} {x1 : Int32} {x2 : Int32} {r0 : Int32} (h : L_ofFact N st x1 x2 = some (r0, st')) : Met l yX0_ofFact (wsW_ yX0_ofFact cX0_ofFact 5 (some .int) [(0, 73, 179, 8), (74, 83, 179, 8), (84, 93, 179, 8), (94, 119, 179, 8), (120, 129, 179, 8), (130, 178, 179, 8)]) (k2_rm 2 (40 * 2)) (cPre D cA ks ad A st [.ref (ad 60), .int x1, .int x2]) (cQ (some (.int r0)) D cA ks ad A st') 0 0 A := by
  refine cc_ofH (own := RX0) (by decide) rfl (Nat.le_of_ble_eq_true rfl) (fun p e s m below meth c R args ls C hr hlk htab hP hS hl hcs => ?_)
  have hx := C.1
  have hb := C.2.1
  have hown := C.2.2.2.1
  have hNst := C.2.2.2.2.2.2.2.1
  have hl : lv_has ls 5 [(0, .ref (ad 60)), (1, .int x1), (2, .int x2)] := hl
  have L135 : ∀ (st : CS), ∀ (x1 : Int32), ∀ (n : Nat) (x3 : Int32) (x4 : Int32) (z3 : Int32), L_ofFact_L135 N st x1 n x3 x4 = some z3 → ∀ (H : Heap) (locs : List Loc), cW D cA ks ad st H → va_S A s.heap H locs → ∀ ls : Array Slot, lv_has ls 5 [(0, .ref (ad 60)), (1, .int x1), (3, .int x3), (4, .int x4)] → (∀ ls : Array Slot, lv_has ls 5 [(3, .int z3)] → cWV p l e R s m args below meth c D cA ks ad A (some (.int r0)) st' H locs (F0 m 177 ls [])) → cWV p l e R s m args below meth c D cA ks ad A (some (.int r0)) st' H locs (F0 m 135 ls []) := by
    intro st x1 n
    induction n with
    | zero =>
      intro x3 x4 z3 h
      exact non_some h
    | succ n ih =>
      intro x3 x4 z3 h H locs hP hS ls hl kx
      rw [L_ofFact_L135] at h
      refine lv_iload hx hb dX0_ofFact_135 (lv_at hl 3 rfl) ?_
      refine lv_aload_n hx hb dX0_ofFact_137 rfl (lv_at hl 0 rfl) ?_
      refine lg_town C hO hP dX0_ofFact_138 ?_
      refine tgN_debtors (t := 0) C hO (by decide) hP dX0_ofFact_141 ?_
      refine lv_icmp_ge (tgt := 177) hx hb dX0_ofFact_144 rfl (fun c20 => ?_) (fun c20 => ?_)
      · have h := if_some_t h c20
        cases h
        exact kx ls (lv_sub hl [2] rfl)
      · have h := if_some_f h c20
        refine lv_iload_n hx hb dX0_ofFact_147 rfl (lv_at hl 2 rfl) ?_
        refine lv_aload_n hx hb dX0_ofFact_148 rfl (lv_at hl 0 rfl) ?_
        refine lg_town C hO hP dX0_ofFact_149 ?_
        refine lv_iload hx hb dX0_ofFact_152 (lv_at hl 3 rfl) ?_
        obtain ⟨v21, hv21, h⟩ := bd1_some h
        refine k_T_told (t := 0) C hO (by decide) hP hv21 q431 (Nat.le_of_ble_eq_true rfl) hS.1 hl.1 (Nat.le_of_ble_eq_true rfl) hcs dX0_ofFact_154 ?_
        refine lv_iload_n hx hb dX0_ofFact_157 rfl (lv_at hl 1 rfl) ?_
        obtain ⟨v22, hv22, h⟩ := bd1_some h
        refine k_L_isIn hx hb C.2.2.1 hown C.2.2.2.2.1 C.2.2.2.2.2.1 q439 hv22 (Nat.le_of_ble_eq_true rfl) hl.1 (Nat.le_of_ble_eq_true rfl) hcs dX0_ofFact_158 ?_
        refine lv_if_eq (tgt := 168) hx hb dX0_ofFact_161 rfl (fun c23 => ?_) (fun c23 => ?_)
        · have h := if_some_t h c23
          refine lv_iconst (v := 0) hx hb dX0_ofFact_168 (by decide) ?_
          refine lv_iadd hx hb dX0_ofFact_169 ?_
          refine lv_istore_n (lv' := [(3, .int (x3 + 0)), (0, .ref (ad 60)), (1, .int x1), (4, .int x4)]) hx hb dX0_ofFact_170 rfl hl (by decide) rfl (fun ls hl => ?_)
          refine lv_iinc (v := x4 + 1) (lv' := [(4, .int (x4 + 1)), (3, .int (x3 + 0)), (0, .ref (ad 60)), (1, .int x1)]) hx hb dX0_ofFact_171 hl (k := 3) rfl rfl (by decide) rfl (fun ls hl => ?_)
          refine lv_goto (tgt := 135) hx hb dX0_ofFact_174 rfl ?_
          exact ih (x3 + 0) (x4 + 1) _ h _ _ hP hS ls (lv_sub hl [2, 3, 1, 0] rfl) kx
        · have h := if_some_f h c23
          refine lv_iconst (v := 1) hx hb dX0_ofFact_164 (by decide) ?_
          refine lv_goto (tgt := 169) hx hb dX0_ofFact_165 rfl ?_
          refine lv_iadd hx hb dX0_ofFact_169 ?_
          refine lv_istore_n (lv' := [(3, .int (x3 + 1)), (0, .ref (ad 60)), (1, .int x1), (4, .int x4)]) hx hb dX0_ofFact_170 rfl hl (by decide) rfl (fun ls hl => ?_)
          refine lv_iinc (v := x4 + 1) (lv' := [(4, .int (x4 + 1)), (3, .int (x3 + 1)), (0, .ref (ad 60)), (1, .int x1)]) hx hb dX0_ofFact_171 hl (k := 3) rfl rfl (by decide) rfl (fun ls hl => ?_)
          refine lv_goto (tgt := 135) hx hb dX0_ofFact_174 rfl ?_
          exact ih (x3 + 1) (x4 + 1) _ h _ _ hP hS ls (lv_sub hl [2, 3, 1, 0] rfl) kx
  rw [L_ofFact] at h
  refine lv_aload_n hx hb dX0_ofFact_0 rfl (lv_at hl 0 rfl) ?_
  refine lv_aload_n hx hb dX0_ofFact_1 rfl (lv_at hl 0 rfl) ?_
  refine lv_iload_n hx hb dX0_ofFact_2 rfl (lv_at hl 1 rfl) ?_
  obtain ⟨v1, hv1, h⟩ := bd1_some h
  refine k_L_isFact C hO hP hv1 q419 (Nat.le_of_ble_eq_true rfl) hS.1 hl.1 (Nat.le_of_ble_eq_true rfl) hcs dX0_ofFact_3 ?_
  refine lv_if_eq (tgt := 22) hx hb dX0_ofFact_6 rfl (fun c2 => ?_) (fun c2 => ?_)
  · have h := if_some_t h c2
    refine lv_iconst (v := 0) hx hb dX0_ofFact_22 (by decide) ?_
    refine lv_iconst (v := 1) hx hb dX0_ofFact_23 (by decide) ?_
    obtain ⟨o5, st4, hv3, h⟩ := bd2_some h
    rcases o5 with _ | v3
    · rw [onx_none] at h
      refine k_L_needT C hO hP hS hv3 q402 (Nat.le_of_ble_eq_true rfl) hl.1 (Nat.le_of_ble_eq_true rfl) hcs dX0_ofFact_24 (fun H locs hP hS => ?_)
      refine cc_catch (pre := []) (a1 := 0) (a2 := 73) (hp := 179) (post := [(74, 83, 179, 8), (84, 93, 179, 8), (94, 119, 179, 8), (120, 129, 179, 8), (130, 178, 179, 8)]) C hO hP q129 htab rfl rfl ?_
      refine lv_astore_n (lv' := [(3, .ref (ad 61)), (0, .ref (ad 60)), (1, .int x1), (2, .int x2)]) hx hb dX0_ofFact_179 rfl hl (by decide) rfl (fun ls hl => ?_)
      refine lv_aload_n hx hb dX0_ofFact_180 rfl (lv_at hl 1 rfl) ?_
      refine lv_aload_n hx hb dX0_ofFact_181 rfl (lv_at hl 0 rfl) ?_
      obtain ⟨v6, st7, hv6, h⟩ := bd2_some h
      refine k_L_finds C hO hP hS hv6 q410 (Nat.le_of_ble_eq_true rfl) hl.1 (Nat.le_of_ble_eq_true rfl) hcs dX0_ofFact_182 (fun H locs hP hS => ?_)
      exact cc_viret hx hb hr hlk h hP hS dX0_ofFact_185
    · rw [onx_some] at h
      refine k_L_needR C hO hP hS hv3 q402 (Nat.le_of_ble_eq_true rfl) hl.1 (Nat.le_of_ble_eq_true rfl) hcs dX0_ofFact_24 (fun H locs hP hS => ?_)
      refine lv_iload_n hx hb dX0_ofFact_27 rfl (lv_at hl 2 rfl) ?_
      by_cases c8 : x2 = 0
      · have h := if_some_t h c8
        refine lv_tableIn (tgt := 64) hx hb dX0_ofFact_28 (by rw [c8]; decide) (by rw [c8]; decide) (by rw [c8]; rfl) (by decide) ?_
        refine lv_aload_n hx hb dX0_ofFact_64 rfl (lv_at hl 0 rfl) ?_
        refine lg_town C hO hP dX0_ofFact_65 ?_
        refine tgN_needs (t := 0) C hO (by decide) hP dX0_ofFact_68 ?_
        refine lv_iload_n hx hb dX0_ofFact_71 rfl (lv_at hl 1 rfl) ?_
        obtain ⟨v9, hv9, h⟩ := bd1_some h
        refine cc_ild C hP (hO.2.2.2 _ (tk_ 1 (by decide) (by decide))) (cg_t 1 (by decide) (by decide)) hv9 dX0_ofFact_72 ?_
        exact cc_viret hx hb hr hlk h hP hS dX0_ofFact_73
      · have h := if_some_f h c8
        by_cases c10 : x2 = 1
        · have h := if_some_t h c10
          refine lv_tableIn (tgt := 74) hx hb dX0_ofFact_28 (by rw [c10]; decide) (by rw [c10]; decide) (by rw [c10]; rfl) (by decide) ?_
          refine lv_aload_n hx hb dX0_ofFact_74 rfl (lv_at hl 0 rfl) ?_
          refine lg_town C hO hP dX0_ofFact_75 ?_
          refine tgN_clashes (t := 0) C hO (by decide) hP dX0_ofFact_78 ?_
          refine lv_iload_n hx hb dX0_ofFact_81 rfl (lv_at hl 1 rfl) ?_
          obtain ⟨v11, hv11, h⟩ := bd1_some h
          refine cc_ild C hP (hO.2.2.2 _ (tk_ 2 (by decide) (by decide))) (cg_t 2 (by decide) (by decide)) hv11 dX0_ofFact_82 ?_
          exact cc_viret hx hb hr hlk h hP hS dX0_ofFact_83
        · have h := if_some_f h c10
          by_cases c12 : x2 = 2
          · have h := if_some_t h c12
            refine lv_tableIn (tgt := 84) hx hb dX0_ofFact_28 (by rw [c12]; decide) (by rw [c12]; decide) (by rw [c12]; rfl) (by decide) ?_
            refine lv_aload_n hx hb dX0_ofFact_84 rfl (lv_at hl 0 rfl) ?_
            refine lg_town C hO hP dX0_ofFact_85 ?_
            refine tgN_within (t := 0) C hO (by decide) hP dX0_ofFact_88 ?_
            refine lv_iload_n hx hb dX0_ofFact_91 rfl (lv_at hl 1 rfl) ?_
            obtain ⟨v13, hv13, h⟩ := bd1_some h
            refine cc_ild C hP (hO.2.2.2 _ (tk_ 3 (by decide) (by decide))) (cg_t 3 (by decide) (by decide)) hv13 dX0_ofFact_92 ?_
            exact cc_viret hx hb hr hlk h hP hS dX0_ofFact_93
          · have h := if_some_f h c12
            by_cases c14 : x2 = 3
            · have h := if_some_t h c14
              refine lv_tableIn (tgt := 94) hx hb dX0_ofFact_28 (by rw [c14]; decide) (by rw [c14]; decide) (by rw [c14]; rfl) (by decide) ?_
              refine lv_aload_n hx hb dX0_ofFact_94 rfl (lv_at hl 0 rfl) ?_
              refine lg_town C hO hP dX0_ofFact_95 ?_
              refine tgN_within (t := 0) C hO (by decide) hP dX0_ofFact_98 ?_
              refine lv_iload_n hx hb dX0_ofFact_101 rfl (lv_at hl 1 rfl) ?_
              obtain ⟨v15, hv15, h⟩ := bd1_some h
              refine cc_ild C hP (hO.2.2.2 _ (tk_ 3 (by decide) (by decide))) (cg_t 3 (by decide) (by decide)) hv15 dX0_ofFact_102 ?_
              refine lv_if_ne (tgt := 110) hx hb dX0_ofFact_103 rfl (fun c16 => ?_) (fun c16 => ?_)
              · have h := if_some_f h c16
                refine lv_aload_n hx hb dX0_ofFact_110 rfl (lv_at hl 0 rfl) ?_
                refine lg_town C hO hP dX0_ofFact_111 ?_
                refine tgN_by (t := 0) C hO (by decide) hP dX0_ofFact_114 ?_
                refine lv_iload_n hx hb dX0_ofFact_117 rfl (lv_at hl 1 rfl) ?_
                obtain ⟨v17, hv17, h⟩ := bd1_some h
                refine cc_ild C hP (hO.2.2.2 _ (tk_ 4 (by decide) (by decide))) (cg_t 4 (by decide) (by decide)) hv17 dX0_ofFact_118 ?_
                exact cc_viret hx hb hr hlk h hP hS dX0_ofFact_119
              · have h := if_some_t h c16
                refine lv_iconst (v := (-1)) hx hb dX0_ofFact_106 (by decide) ?_
                refine lv_goto (tgt := 119) hx hb dX0_ofFact_107 rfl ?_
                exact cc_viret hx hb hr hlk h hP hS dX0_ofFact_119
            · have h := if_some_f h c14
              by_cases c18 : x2 = 4
              · have h := if_some_t h c18
                refine lv_tableIn (tgt := 120) hx hb dX0_ofFact_28 (by rw [c18]; decide) (by rw [c18]; decide) (by rw [c18]; rfl) (by decide) ?_
                refine lv_aload_n hx hb dX0_ofFact_120 rfl (lv_at hl 0 rfl) ?_
                refine lg_town C hO hP dX0_ofFact_121 ?_
                refine tgN_witnesses (t := 0) C hO (by decide) hP dX0_ofFact_124 ?_
                refine lv_iload_n hx hb dX0_ofFact_127 rfl (lv_at hl 1 rfl) ?_
                obtain ⟨v19, hv19, h⟩ := bd1_some h
                refine cc_ild C hP (hO.2.2.2 _ (tk_ 5 (by decide) (by decide))) (cg_t 5 (by decide) (by decide)) hv19 dX0_ofFact_128 ?_
                exact cc_viret hx hb hr hlk h hP hS dX0_ofFact_129
              · have h := if_some_f h c18
                refine lv_tableOut (tgt := 130) hx hb dX0_ofFact_28 ?_ (by decide) ?_
                · have := lv_neT c8 (show (0 : Int32).toInt = 0 by decide)
                  have := lv_neT c10 (show (1 : Int32).toInt = 1 by decide)
                  have := lv_neT c12 (show (2 : Int32).toInt = 2 by decide)
                  have := lv_neT c14 (show (3 : Int32).toInt = 3 by decide)
                  have := lv_neT c18 (show (4 : Int32).toInt = 4 by decide)
                  omega
                · refine lv_iconst (v := 0) hx hb dX0_ofFact_130 (by decide) ?_
                  refine lv_istore_n (lv' := [(3, .int 0), (0, .ref (ad 60)), (1, .int x1), (2, .int x2)]) hx hb dX0_ofFact_131 rfl hl (by decide) rfl (fun ls hl => ?_)
                  refine lv_iconst (v := 0) hx hb dX0_ofFact_132 (by decide) ?_
                  refine lv_istore (lv' := [(4, .int 0), (3, .int 0), (0, .ref (ad 60)), (1, .int x1), (2, .int x2)]) hx hb dX0_ofFact_133 hl (by decide) rfl (fun ls hl => ?_)
                  obtain ⟨z24, hz25, h⟩ := bd1_some h
                  refine L135 st4 x1 N 0 0 _ hz25 _ _ hP hS ls (lv_sub hl [2, 3, 1, 0] rfl) (fun ls hl => ?_)
                  refine lv_iload_n hx hb dX0_ofFact_177 rfl (lv_at hl 0 rfl) ?_
                  exact cc_viret hx hb hr hlk h hP hS dX0_ofFact_178
  · have h := if_some_f h c2
    refine lv_iload_n hx hb dX0_ofFact_9 rfl (lv_at hl 2 rfl) ?_
    refine lv_iconst (v := 0) hx hb dX0_ofFact_10 (by decide) ?_
    refine lv_iconst (v := 5) hx hb dX0_ofFact_11 (by decide) ?_
    obtain ⟨v26, hv26, h⟩ := bd1_some h
    refine k_L_in hx hb C.2.2.1 hown C.2.2.2.2.1 C.2.2.2.2.2.1 q399 hv26 (Nat.le_of_ble_eq_true rfl) hl.1 (Nat.le_of_ble_eq_true rfl) hcs dX0_ofFact_12 ?_
    refine lv_if_eq (tgt := 22) hx hb dX0_ofFact_15 rfl (fun c27 => ?_) (fun c27 => ?_)
    · have h := if_some_t h c27
      refine lv_iconst (v := 0) hx hb dX0_ofFact_22 (by decide) ?_
      refine lv_iconst (v := 1) hx hb dX0_ofFact_23 (by decide) ?_
      obtain ⟨o30, st29, hv28, h⟩ := bd2_some h
      rcases o30 with _ | v28
      · rw [onx_none] at h
        refine k_L_needT C hO hP hS hv28 q402 (Nat.le_of_ble_eq_true rfl) hl.1 (Nat.le_of_ble_eq_true rfl) hcs dX0_ofFact_24 (fun H locs hP hS => ?_)
        refine cc_catch (pre := []) (a1 := 0) (a2 := 73) (hp := 179) (post := [(74, 83, 179, 8), (84, 93, 179, 8), (94, 119, 179, 8), (120, 129, 179, 8), (130, 178, 179, 8)]) C hO hP q129 htab rfl rfl ?_
        refine lv_astore_n (lv' := [(3, .ref (ad 61)), (0, .ref (ad 60)), (1, .int x1), (2, .int x2)]) hx hb dX0_ofFact_179 rfl hl (by decide) rfl (fun ls hl => ?_)
        refine lv_aload_n hx hb dX0_ofFact_180 rfl (lv_at hl 1 rfl) ?_
        refine lv_aload_n hx hb dX0_ofFact_181 rfl (lv_at hl 0 rfl) ?_
        obtain ⟨v31, st32, hv31, h⟩ := bd2_some h
        refine k_L_finds C hO hP hS hv31 q410 (Nat.le_of_ble_eq_true rfl) hl.1 (Nat.le_of_ble_eq_true rfl) hcs dX0_ofFact_182 (fun H locs hP hS => ?_)
        exact cc_viret hx hb hr hlk h hP hS dX0_ofFact_185
      · rw [onx_some] at h
        refine k_L_needR C hO hP hS hv28 q402 (Nat.le_of_ble_eq_true rfl) hl.1 (Nat.le_of_ble_eq_true rfl) hcs dX0_ofFact_24 (fun H locs hP hS => ?_)
        refine lv_iload_n hx hb dX0_ofFact_27 rfl (lv_at hl 2 rfl) ?_
        by_cases c33 : x2 = 0
        · have h := if_some_t h c33
          refine lv_tableIn (tgt := 64) hx hb dX0_ofFact_28 (by rw [c33]; decide) (by rw [c33]; decide) (by rw [c33]; rfl) (by decide) ?_
          refine lv_aload_n hx hb dX0_ofFact_64 rfl (lv_at hl 0 rfl) ?_
          refine lg_town C hO hP dX0_ofFact_65 ?_
          refine tgN_needs (t := 0) C hO (by decide) hP dX0_ofFact_68 ?_
          refine lv_iload_n hx hb dX0_ofFact_71 rfl (lv_at hl 1 rfl) ?_
          obtain ⟨v34, hv34, h⟩ := bd1_some h
          refine cc_ild C hP (hO.2.2.2 _ (tk_ 1 (by decide) (by decide))) (cg_t 1 (by decide) (by decide)) hv34 dX0_ofFact_72 ?_
          exact cc_viret hx hb hr hlk h hP hS dX0_ofFact_73
        · have h := if_some_f h c33
          by_cases c35 : x2 = 1
          · have h := if_some_t h c35
            refine lv_tableIn (tgt := 74) hx hb dX0_ofFact_28 (by rw [c35]; decide) (by rw [c35]; decide) (by rw [c35]; rfl) (by decide) ?_
            refine lv_aload_n hx hb dX0_ofFact_74 rfl (lv_at hl 0 rfl) ?_
            refine lg_town C hO hP dX0_ofFact_75 ?_
            refine tgN_clashes (t := 0) C hO (by decide) hP dX0_ofFact_78 ?_
            refine lv_iload_n hx hb dX0_ofFact_81 rfl (lv_at hl 1 rfl) ?_
            obtain ⟨v36, hv36, h⟩ := bd1_some h
            refine cc_ild C hP (hO.2.2.2 _ (tk_ 2 (by decide) (by decide))) (cg_t 2 (by decide) (by decide)) hv36 dX0_ofFact_82 ?_
            exact cc_viret hx hb hr hlk h hP hS dX0_ofFact_83
          · have h := if_some_f h c35
            by_cases c37 : x2 = 2
            · have h := if_some_t h c37
              refine lv_tableIn (tgt := 84) hx hb dX0_ofFact_28 (by rw [c37]; decide) (by rw [c37]; decide) (by rw [c37]; rfl) (by decide) ?_
              refine lv_aload_n hx hb dX0_ofFact_84 rfl (lv_at hl 0 rfl) ?_
              refine lg_town C hO hP dX0_ofFact_85 ?_
              refine tgN_within (t := 0) C hO (by decide) hP dX0_ofFact_88 ?_
              refine lv_iload_n hx hb dX0_ofFact_91 rfl (lv_at hl 1 rfl) ?_
              obtain ⟨v38, hv38, h⟩ := bd1_some h
              refine cc_ild C hP (hO.2.2.2 _ (tk_ 3 (by decide) (by decide))) (cg_t 3 (by decide) (by decide)) hv38 dX0_ofFact_92 ?_
              exact cc_viret hx hb hr hlk h hP hS dX0_ofFact_93
            · have h := if_some_f h c37
              by_cases c39 : x2 = 3
              · have h := if_some_t h c39
                refine lv_tableIn (tgt := 94) hx hb dX0_ofFact_28 (by rw [c39]; decide) (by rw [c39]; decide) (by rw [c39]; rfl) (by decide) ?_
                refine lv_aload_n hx hb dX0_ofFact_94 rfl (lv_at hl 0 rfl) ?_
                refine lg_town C hO hP dX0_ofFact_95 ?_
                refine tgN_within (t := 0) C hO (by decide) hP dX0_ofFact_98 ?_
                refine lv_iload_n hx hb dX0_ofFact_101 rfl (lv_at hl 1 rfl) ?_
                obtain ⟨v40, hv40, h⟩ := bd1_some h
                refine cc_ild C hP (hO.2.2.2 _ (tk_ 3 (by decide) (by decide))) (cg_t 3 (by decide) (by decide)) hv40 dX0_ofFact_102 ?_
                refine lv_if_ne (tgt := 110) hx hb dX0_ofFact_103 rfl (fun c41 => ?_) (fun c41 => ?_)
                · have h := if_some_f h c41
                  refine lv_aload_n hx hb dX0_ofFact_110 rfl (lv_at hl 0 rfl) ?_
                  refine lg_town C hO hP dX0_ofFact_111 ?_
                  refine tgN_by (t := 0) C hO (by decide) hP dX0_ofFact_114 ?_
                  refine lv_iload_n hx hb dX0_ofFact_117 rfl (lv_at hl 1 rfl) ?_
                  obtain ⟨v42, hv42, h⟩ := bd1_some h
                  refine cc_ild C hP (hO.2.2.2 _ (tk_ 4 (by decide) (by decide))) (cg_t 4 (by decide) (by decide)) hv42 dX0_ofFact_118 ?_
                  exact cc_viret hx hb hr hlk h hP hS dX0_ofFact_119
                · have h := if_some_t h c41
                  refine lv_iconst (v := (-1)) hx hb dX0_ofFact_106 (by decide) ?_
                  refine lv_goto (tgt := 119) hx hb dX0_ofFact_107 rfl ?_
                  exact cc_viret hx hb hr hlk h hP hS dX0_ofFact_119
              · have h := if_some_f h c39
                by_cases c43 : x2 = 4
                · have h := if_some_t h c43
                  refine lv_tableIn (tgt := 120) hx hb dX0_ofFact_28 (by rw [c43]; decide) (by rw [c43]; decide) (by rw [c43]; rfl) (by decide) ?_
                  refine lv_aload_n hx hb dX0_ofFact_120 rfl (lv_at hl 0 rfl) ?_
                  refine lg_town C hO hP dX0_ofFact_121 ?_
                  refine tgN_witnesses (t := 0) C hO (by decide) hP dX0_ofFact_124 ?_
                  refine lv_iload_n hx hb dX0_ofFact_127 rfl (lv_at hl 1 rfl) ?_
                  obtain ⟨v44, hv44, h⟩ := bd1_some h
                  refine cc_ild C hP (hO.2.2.2 _ (tk_ 5 (by decide) (by decide))) (cg_t 5 (by decide) (by decide)) hv44 dX0_ofFact_128 ?_
                  exact cc_viret hx hb hr hlk h hP hS dX0_ofFact_129
                · have h := if_some_f h c43
                  refine lv_tableOut (tgt := 130) hx hb dX0_ofFact_28 ?_ (by decide) ?_
                  · have := lv_neT c33 (show (0 : Int32).toInt = 0 by decide)
                    have := lv_neT c35 (show (1 : Int32).toInt = 1 by decide)
                    have := lv_neT c37 (show (2 : Int32).toInt = 2 by decide)
                    have := lv_neT c39 (show (3 : Int32).toInt = 3 by decide)
                    have := lv_neT c43 (show (4 : Int32).toInt = 4 by decide)
                    omega
                  · refine lv_iconst (v := 0) hx hb dX0_ofFact_130 (by decide) ?_
                    refine lv_istore_n (lv' := [(3, .int 0), (0, .ref (ad 60)), (1, .int x1), (2, .int x2)]) hx hb dX0_ofFact_131 rfl hl (by decide) rfl (fun ls hl => ?_)
                    refine lv_iconst (v := 0) hx hb dX0_ofFact_132 (by decide) ?_
                    refine lv_istore (lv' := [(4, .int 0), (3, .int 0), (0, .ref (ad 60)), (1, .int x1), (2, .int x2)]) hx hb dX0_ofFact_133 hl (by decide) rfl (fun ls hl => ?_)
                    obtain ⟨z45, hz46, h⟩ := bd1_some h
                    refine L135 st29 x1 N 0 0 _ hz46 _ _ hP hS ls (lv_sub hl [2, 3, 1, 0] rfl) (fun ls hl => ?_)
                    refine lv_iload_n hx hb dX0_ofFact_177 rfl (lv_at hl 0 rfl) ?_
                    exact cc_viret hx hb hr hlk h hP hS dX0_ofFact_178
    · have h := if_some_f h c27
      refine lv_iconst (v := 1) hx hb dX0_ofFact_18 (by decide) ?_
      refine lv_goto (tgt := 23) hx hb dX0_ofFact_19 rfl ?_
      refine lv_iconst (v := 1) hx hb dX0_ofFact_23 (by decide) ?_
      obtain ⟨o49, st48, hv47, h⟩ := bd2_some h
      rcases o49 with _ | v47
      · rw [onx_none] at h
        refine k_L_needT C hO hP hS hv47 q402 (Nat.le_of_ble_eq_true rfl) hl.1 (Nat.le_of_ble_eq_true rfl) hcs dX0_ofFact_24 (fun H locs hP hS => ?_)
        refine cc_catch (pre := []) (a1 := 0) (a2 := 73) (hp := 179) (post := [(74, 83, 179, 8), (84, 93, 179, 8), (94, 119, 179, 8), (120, 129, 179, 8), (130, 178, 179, 8)]) C hO hP q129 htab rfl rfl ?_
        refine lv_astore_n (lv' := [(3, .ref (ad 61)), (0, .ref (ad 60)), (1, .int x1), (2, .int x2)]) hx hb dX0_ofFact_179 rfl hl (by decide) rfl (fun ls hl => ?_)
        refine lv_aload_n hx hb dX0_ofFact_180 rfl (lv_at hl 1 rfl) ?_
        refine lv_aload_n hx hb dX0_ofFact_181 rfl (lv_at hl 0 rfl) ?_
        obtain ⟨v50, st51, hv50, h⟩ := bd2_some h
        refine k_L_finds C hO hP hS hv50 q410 (Nat.le_of_ble_eq_true rfl) hl.1 (Nat.le_of_ble_eq_true rfl) hcs dX0_ofFact_182 (fun H locs hP hS => ?_)
        exact cc_viret hx hb hr hlk h hP hS dX0_ofFact_185
      · rw [onx_some] at h
        refine k_L_needR C hO hP hS hv47 q402 (Nat.le_of_ble_eq_true rfl) hl.1 (Nat.le_of_ble_eq_true rfl) hcs dX0_ofFact_24 (fun H locs hP hS => ?_)
        refine lv_iload_n hx hb dX0_ofFact_27 rfl (lv_at hl 2 rfl) ?_
        by_cases c52 : x2 = 0
        · have h := if_some_t h c52
          refine lv_tableIn (tgt := 64) hx hb dX0_ofFact_28 (by rw [c52]; decide) (by rw [c52]; decide) (by rw [c52]; rfl) (by decide) ?_
          refine lv_aload_n hx hb dX0_ofFact_64 rfl (lv_at hl 0 rfl) ?_
          refine lg_town C hO hP dX0_ofFact_65 ?_
          refine tgN_needs (t := 0) C hO (by decide) hP dX0_ofFact_68 ?_
          refine lv_iload_n hx hb dX0_ofFact_71 rfl (lv_at hl 1 rfl) ?_
          obtain ⟨v53, hv53, h⟩ := bd1_some h
          refine cc_ild C hP (hO.2.2.2 _ (tk_ 1 (by decide) (by decide))) (cg_t 1 (by decide) (by decide)) hv53 dX0_ofFact_72 ?_
          exact cc_viret hx hb hr hlk h hP hS dX0_ofFact_73
        · have h := if_some_f h c52
          by_cases c54 : x2 = 1
          · have h := if_some_t h c54
            refine lv_tableIn (tgt := 74) hx hb dX0_ofFact_28 (by rw [c54]; decide) (by rw [c54]; decide) (by rw [c54]; rfl) (by decide) ?_
            refine lv_aload_n hx hb dX0_ofFact_74 rfl (lv_at hl 0 rfl) ?_
            refine lg_town C hO hP dX0_ofFact_75 ?_
            refine tgN_clashes (t := 0) C hO (by decide) hP dX0_ofFact_78 ?_
            refine lv_iload_n hx hb dX0_ofFact_81 rfl (lv_at hl 1 rfl) ?_
            obtain ⟨v55, hv55, h⟩ := bd1_some h
            refine cc_ild C hP (hO.2.2.2 _ (tk_ 2 (by decide) (by decide))) (cg_t 2 (by decide) (by decide)) hv55 dX0_ofFact_82 ?_
            exact cc_viret hx hb hr hlk h hP hS dX0_ofFact_83
          · have h := if_some_f h c54
            by_cases c56 : x2 = 2
            · have h := if_some_t h c56
              refine lv_tableIn (tgt := 84) hx hb dX0_ofFact_28 (by rw [c56]; decide) (by rw [c56]; decide) (by rw [c56]; rfl) (by decide) ?_
              refine lv_aload_n hx hb dX0_ofFact_84 rfl (lv_at hl 0 rfl) ?_
              refine lg_town C hO hP dX0_ofFact_85 ?_
              refine tgN_within (t := 0) C hO (by decide) hP dX0_ofFact_88 ?_
              refine lv_iload_n hx hb dX0_ofFact_91 rfl (lv_at hl 1 rfl) ?_
              obtain ⟨v57, hv57, h⟩ := bd1_some h
              refine cc_ild C hP (hO.2.2.2 _ (tk_ 3 (by decide) (by decide))) (cg_t 3 (by decide) (by decide)) hv57 dX0_ofFact_92 ?_
              exact cc_viret hx hb hr hlk h hP hS dX0_ofFact_93
            · have h := if_some_f h c56
              by_cases c58 : x2 = 3
              · have h := if_some_t h c58
                refine lv_tableIn (tgt := 94) hx hb dX0_ofFact_28 (by rw [c58]; decide) (by rw [c58]; decide) (by rw [c58]; rfl) (by decide) ?_
                refine lv_aload_n hx hb dX0_ofFact_94 rfl (lv_at hl 0 rfl) ?_
                refine lg_town C hO hP dX0_ofFact_95 ?_
                refine tgN_within (t := 0) C hO (by decide) hP dX0_ofFact_98 ?_
                refine lv_iload_n hx hb dX0_ofFact_101 rfl (lv_at hl 1 rfl) ?_
                obtain ⟨v59, hv59, h⟩ := bd1_some h
                refine cc_ild C hP (hO.2.2.2 _ (tk_ 3 (by decide) (by decide))) (cg_t 3 (by decide) (by decide)) hv59 dX0_ofFact_102 ?_
                refine lv_if_ne (tgt := 110) hx hb dX0_ofFact_103 rfl (fun c60 => ?_) (fun c60 => ?_)
                · have h := if_some_f h c60
                  refine lv_aload_n hx hb dX0_ofFact_110 rfl (lv_at hl 0 rfl) ?_
                  refine lg_town C hO hP dX0_ofFact_111 ?_
                  refine tgN_by (t := 0) C hO (by decide) hP dX0_ofFact_114 ?_
                  refine lv_iload_n hx hb dX0_ofFact_117 rfl (lv_at hl 1 rfl) ?_
                  obtain ⟨v61, hv61, h⟩ := bd1_some h
                  refine cc_ild C hP (hO.2.2.2 _ (tk_ 4 (by decide) (by decide))) (cg_t 4 (by decide) (by decide)) hv61 dX0_ofFact_118 ?_
                  exact cc_viret hx hb hr hlk h hP hS dX0_ofFact_119
                · have h := if_some_t h c60
                  refine lv_iconst (v := (-1)) hx hb dX0_ofFact_106 (by decide) ?_
                  refine lv_goto (tgt := 119) hx hb dX0_ofFact_107 rfl ?_
                  exact cc_viret hx hb hr hlk h hP hS dX0_ofFact_119
              · have h := if_some_f h c58
                by_cases c62 : x2 = 4
                · have h := if_some_t h c62
                  refine lv_tableIn (tgt := 120) hx hb dX0_ofFact_28 (by rw [c62]; decide) (by rw [c62]; decide) (by rw [c62]; rfl) (by decide) ?_
                  refine lv_aload_n hx hb dX0_ofFact_120 rfl (lv_at hl 0 rfl) ?_
                  refine lg_town C hO hP dX0_ofFact_121 ?_
                  refine tgN_witnesses (t := 0) C hO (by decide) hP dX0_ofFact_124 ?_
                  refine lv_iload_n hx hb dX0_ofFact_127 rfl (lv_at hl 1 rfl) ?_
                  obtain ⟨v63, hv63, h⟩ := bd1_some h
                  refine cc_ild C hP (hO.2.2.2 _ (tk_ 5 (by decide) (by decide))) (cg_t 5 (by decide) (by decide)) hv63 dX0_ofFact_128 ?_
                  exact cc_viret hx hb hr hlk h hP hS dX0_ofFact_129
                · have h := if_some_f h c62
                  refine lv_tableOut (tgt := 130) hx hb dX0_ofFact_28 ?_ (by decide) ?_
                  · have := lv_neT c52 (show (0 : Int32).toInt = 0 by decide)
                    have := lv_neT c54 (show (1 : Int32).toInt = 1 by decide)
                    have := lv_neT c56 (show (2 : Int32).toInt = 2 by decide)
                    have := lv_neT c58 (show (3 : Int32).toInt = 3 by decide)
                    have := lv_neT c62 (show (4 : Int32).toInt = 4 by decide)
                    omega
                  · refine lv_iconst (v := 0) hx hb dX0_ofFact_130 (by decide) ?_
                    refine lv_istore_n (lv' := [(3, .int 0), (0, .ref (ad 60)), (1, .int x1), (2, .int x2)]) hx hb dX0_ofFact_131 rfl hl (by decide) rfl (fun ls hl => ?_)
                    refine lv_iconst (v := 0) hx hb dX0_ofFact_132 (by decide) ?_
                    refine lv_istore (lv' := [(4, .int 0), (3, .int 0), (0, .ref (ad 60)), (1, .int x1), (2, .int x2)]) hx hb dX0_ofFact_133 hl (by decide) rfl (fun ls hl => ?_)
                    obtain ⟨z64, hz65, h⟩ := bd1_some h
                    refine L135 st48 x1 N 0 0 _ hz65 _ _ hP hS ls (lv_sub hl [2, 3, 1, 0] rfl) (fun ls hl => ?_)
                    refine lv_iload_n hx hb dX0_ofFact_177 rfl (lv_at hl 0 rfl) ?_
                    exact cc_viret hx hb hr hlk h hP hS dX0_ofFact_178
abbrev cX0_book : ByteArray := prog_1_method_24_code
def yX0_book : MethodName := ⟨RX0, "book", "(III)I"⟩
theorem dX0_book_0 : decode cX0_book 0 = .ok (.aload_n 0, 1) := by decide +kernel
theorem dX0_book_1 : decode cX0_book 1 = .ok (.aload_n 0, 1) := by decide +kernel
theorem dX0_book_2 : decode cX0_book 2 = .ok (.iload_n 1, 1) := by decide +kernel
theorem dX0_book_3 : decode cX0_book 3 = .ok (.invokevirtual 160, 3) := by decide +kernel
theorem dX0_book_6 : decode cX0_book 6 = .ok (.ifCond .eq 16, 3) := by decide +kernel
theorem dX0_book_9 : decode cX0_book 9 = .ok (.iload_n 3, 1) := by decide +kernel
theorem dX0_book_10 : decode cX0_book 10 = .ok (.iconst 0, 1) := by decide +kernel
theorem dX0_book_11 : decode cX0_book 11 = .ok (.iconst 1, 1) := by decide +kernel
theorem dX0_book_12 : decode cX0_book 12 = .ok (.invokestatic 91, 3) := by decide +kernel
theorem dX0_book_15 : decode cX0_book 15 = .ok (.ifCond .eq 7, 3) := by decide +kernel
theorem dX0_book_18 : decode cX0_book 18 = .ok (.iconst 1, 1) := by decide +kernel
theorem dX0_book_19 : decode cX0_book 19 = .ok (.goto 4, 3) := by decide +kernel
theorem dX0_book_22 : decode cX0_book 22 = .ok (.iconst 0, 1) := by decide +kernel
theorem dX0_book_23 : decode cX0_book 23 = .ok (.iconst 1, 1) := by decide +kernel
theorem dX0_book_24 : decode cX0_book 24 = .ok (.invokevirtual 102, 3) := by decide +kernel
theorem dX0_book_27 : decode cX0_book 27 = .ok (.aload_n 0, 1) := by decide +kernel
theorem dX0_book_28 : decode cX0_book 28 = .ok (.iload_n 2, 1) := by decide +kernel
theorem dX0_book_29 : decode cX0_book 29 = .ok (.iconst 0, 1) := by decide +kernel
theorem dX0_book_30 : decode cX0_book 30 = .ok (.aload_n 0, 1) := by decide +kernel
theorem dX0_book_31 : decode cX0_book 31 = .ok (.getfield 46, 3) := by decide +kernel
theorem dX0_book_34 : decode cX0_book 34 = .ok (.getfield 157, 3) := by decide +kernel
theorem dX0_book_37 : decode cX0_book 37 = .ok (.iload_n 1, 1) := by decide +kernel
theorem dX0_book_38 : decode cX0_book 38 = .ok (.iaload, 1) := by decide +kernel
theorem dX0_book_39 : decode cX0_book 39 = .ok (.iconst 1, 1) := by decide +kernel
theorem dX0_book_40 : decode cX0_book 40 = .ok (.isub, 1) := by decide +kernel
theorem dX0_book_41 : decode cX0_book 41 = .ok (.invokestatic 91, 3) := by decide +kernel
theorem dX0_book_44 : decode cX0_book 44 = .ok (.iconst 2, 1) := by decide +kernel
theorem dX0_book_45 : decode cX0_book 45 = .ok (.invokevirtual 102, 3) := by decide +kernel
theorem dX0_book_48 : decode cX0_book 48 = .ok (.iload_n 3, 1) := by decide +kernel
theorem dX0_book_49 : decode cX0_book 49 = .ok (.ifCond .ne 15, 3) := by decide +kernel
theorem dX0_book_52 : decode cX0_book 52 = .ok (.aload_n 0, 1) := by decide +kernel
theorem dX0_book_53 : decode cX0_book 53 = .ok (.getfield 46, 3) := by decide +kernel
theorem dX0_book_56 : decode cX0_book 56 = .ok (.iload_n 1, 1) := by decide +kernel
theorem dX0_book_57 : decode cX0_book 57 = .ok (.iload_n 2, 1) := by decide +kernel
theorem dX0_book_58 : decode cX0_book 58 = .ok (.invokevirtual 190, 3) := by decide +kernel
theorem dX0_book_61 : decode cX0_book 61 = .ok (.goto 17, 3) := by decide +kernel
theorem dX0_book_64 : decode cX0_book 64 = .ok (.aload_n 0, 1) := by decide +kernel
theorem dX0_book_65 : decode cX0_book 65 = .ok (.getfield 46, 3) := by decide +kernel
theorem dX0_book_68 : decode cX0_book 68 = .ok (.getfield 194, 3) := by decide +kernel
theorem dX0_book_71 : decode cX0_book 71 = .ok (.bipush 8, 2) := by decide +kernel
theorem dX0_book_73 : decode cX0_book 73 = .ok (.iload_n 1, 1) := by decide +kernel
theorem dX0_book_74 : decode cX0_book 74 = .ok (.imul, 1) := by decide +kernel
theorem dX0_book_75 : decode cX0_book 75 = .ok (.iload_n 2, 1) := by decide +kernel
theorem dX0_book_76 : decode cX0_book 76 = .ok (.iadd, 1) := by decide +kernel
theorem dX0_book_77 : decode cX0_book 77 = .ok (.iaload, 1) := by decide +kernel
theorem dX0_book_78 : decode cX0_book 78 = .ok (.ireturn, 1) := by decide +kernel
theorem dX0_book_79 : decode cX0_book 79 = .ok (.astore 4, 2) := by decide +kernel
theorem dX0_book_81 : decode cX0_book 81 = .ok (.aload_n 0, 1) := by decide +kernel
theorem dX0_book_82 : decode cX0_book 82 = .ok (.aload 4, 2) := by decide +kernel
theorem dX0_book_84 : decode cX0_book 84 = .ok (.invokevirtual 123, 3) := by decide +kernel
theorem dX0_book_87 : decode cX0_book 87 = .ok (.ireturn, 1) := by decide +kernel
theorem q559 : (Jvm.Cond.methodLink "ChapterLoan" (160 : Nat) ({ cls := "ChapterLoan", name := "isDebtor", desc := "(I)Z" } : Jvm.MethodName)) ∈ lw_all := lw_g (lw_at lw_m2 235 rfl) rfl
theorem q708 : (Jvm.Cond.methodLink "ChapterLoan" (190 : Nat) ({ cls := "ChapterLoan$Town", name := "factAt", desc := "(II)I" } : Jvm.MethodName)) ∈ lw_all := lw_g (lw_at lw_m3 144 rfl) rfl
theorem w_L_book {l : Launch} {D : va_G} {cA : Nat → ClassId} {ks : List Nat} {ad : Nat → Nat} {A : Nat → Prop} (hO : klOk A ks ad) {st st' : CS} {x1 : Int32} {x2 : Int32} {x3 : Int32} {r0 : Int32} (h : L_book st x1 x2 x3 = some (r0, st')) : Met l yX0_book (wsW_ yX0_book cX0_book 5 (some .int) [(0, 78, 79, 8)]) (k2_rm 2 (40 * 2)) (cPre D cA ks ad A st [.ref (ad 60), .int x1, .int x2, .int x3]) (cQ (some (.int r0)) D cA ks ad A st') 0 0 A := by
  refine cc_ofH (own := RX0) (by decide) rfl (Nat.le_of_ble_eq_true rfl) (fun p e s m below meth c R args ls C hr hlk htab hP hS hl hcs => ?_)
  have hx := C.1
  have hb := C.2.1
  have hown := C.2.2.2.1
  have hNst := C.2.2.2.2.2.2.2.1
  have hl : lv_has ls 5 [(0, .ref (ad 60)), (1, .int x1), (2, .int x2), (3, .int x3)] := hl
  rw [L_book] at h
  refine lv_aload_n hx hb dX0_book_0 rfl (lv_at hl 0 rfl) ?_
  refine lv_aload_n hx hb dX0_book_1 rfl (lv_at hl 0 rfl) ?_
  refine lv_iload_n hx hb dX0_book_2 rfl (lv_at hl 1 rfl) ?_
  obtain ⟨v1, hv1, h⟩ := bd1_some h
  refine k_L_isDebtor C hO hP hv1 q559 (Nat.le_of_ble_eq_true rfl) hS.1 hl.1 (Nat.le_of_ble_eq_true rfl) hcs dX0_book_3 ?_
  refine lv_if_eq (tgt := 22) hx hb dX0_book_6 rfl (fun c2 => ?_) (fun c2 => ?_)
  · have h := if_some_t h c2
    refine lv_iconst (v := 0) hx hb dX0_book_22 (by decide) ?_
    refine lv_iconst (v := 1) hx hb dX0_book_23 (by decide) ?_
    obtain ⟨o5, st4, hv3, h⟩ := bd2_some h
    rcases o5 with _ | v3
    · rw [onx_none] at h
      refine k_L_needT C hO hP hS hv3 q402 (Nat.le_of_ble_eq_true rfl) hl.1 (Nat.le_of_ble_eq_true rfl) hcs dX0_book_24 (fun H locs hP hS => ?_)
      refine cc_catch (pre := []) (a1 := 0) (a2 := 78) (hp := 79) (post := []) C hO hP q129 htab rfl rfl ?_
      refine lv_astore (lv' := [(4, .ref (ad 61)), (0, .ref (ad 60)), (1, .int x1), (2, .int x2), (3, .int x3)]) hx hb dX0_book_79 hl (by decide) rfl (fun ls hl => ?_)
      refine lv_aload_n hx hb dX0_book_81 rfl (lv_at hl 1 rfl) ?_
      refine lv_aload hx hb dX0_book_82 (lv_at hl 0 rfl) ?_
      obtain ⟨v6, st7, hv6, h⟩ := bd2_some h
      refine k_L_finds C hO hP hS hv6 q410 (Nat.le_of_ble_eq_true rfl) hl.1 (Nat.le_of_ble_eq_true rfl) hcs dX0_book_84 (fun H locs hP hS => ?_)
      exact cc_viret hx hb hr hlk h hP hS dX0_book_87
    · rw [onx_some] at h
      refine k_L_needR C hO hP hS hv3 q402 (Nat.le_of_ble_eq_true rfl) hl.1 (Nat.le_of_ble_eq_true rfl) hcs dX0_book_24 (fun H locs hP hS => ?_)
      refine lv_aload_n hx hb dX0_book_27 rfl (lv_at hl 0 rfl) ?_
      refine lv_iload_n hx hb dX0_book_28 rfl (lv_at hl 2 rfl) ?_
      refine lv_iconst (v := 0) hx hb dX0_book_29 (by decide) ?_
      refine lv_aload_n hx hb dX0_book_30 rfl (lv_at hl 0 rfl) ?_
      refine lg_town C hO hP dX0_book_31 ?_
      refine tgN_many (t := 0) C hO (by decide) hP dX0_book_34 ?_
      refine lv_iload_n hx hb dX0_book_37 rfl (lv_at hl 1 rfl) ?_
      obtain ⟨v8, hv8, h⟩ := bd1_some h
      refine cc_ild C hP (hO.2.2.2 _ (tk_ 8 (by decide) (by decide))) (cg_t 8 (by decide) (by decide)) hv8 dX0_book_38 ?_
      refine lv_iconst (v := 1) hx hb dX0_book_39 (by decide) ?_
      refine lv_isub hx hb dX0_book_40 ?_
      obtain ⟨v9, hv9, h⟩ := bd1_some h
      refine k_L_in hx hb C.2.2.1 hown C.2.2.2.2.1 C.2.2.2.2.2.1 q399 hv9 (Nat.le_of_ble_eq_true rfl) hl.1 (Nat.le_of_ble_eq_true rfl) hcs dX0_book_41 ?_
      refine lv_iconst (v := 2) hx hb dX0_book_44 (by decide) ?_
      obtain ⟨o12, st11, hv10, h⟩ := bd2_some h
      rcases o12 with _ | v10
      · rw [onx_none] at h
        refine k_L_needT C hO hP hS hv10 q402 (Nat.le_of_ble_eq_true rfl) hl.1 (Nat.le_of_ble_eq_true rfl) hcs dX0_book_45 (fun H locs hP hS => ?_)
        refine cc_catch (pre := []) (a1 := 0) (a2 := 78) (hp := 79) (post := []) C hO hP q129 htab rfl rfl ?_
        refine lv_astore (lv' := [(4, .ref (ad 61)), (0, .ref (ad 60)), (1, .int x1), (2, .int x2), (3, .int x3)]) hx hb dX0_book_79 hl (by decide) rfl (fun ls hl => ?_)
        refine lv_aload_n hx hb dX0_book_81 rfl (lv_at hl 1 rfl) ?_
        refine lv_aload hx hb dX0_book_82 (lv_at hl 0 rfl) ?_
        obtain ⟨v13, st14, hv13, h⟩ := bd2_some h
        refine k_L_finds C hO hP hS hv13 q410 (Nat.le_of_ble_eq_true rfl) hl.1 (Nat.le_of_ble_eq_true rfl) hcs dX0_book_84 (fun H locs hP hS => ?_)
        exact cc_viret hx hb hr hlk h hP hS dX0_book_87
      · rw [onx_some] at h
        refine k_L_needR C hO hP hS hv10 q402 (Nat.le_of_ble_eq_true rfl) hl.1 (Nat.le_of_ble_eq_true rfl) hcs dX0_book_45 (fun H locs hP hS => ?_)
        refine lv_iload_n hx hb dX0_book_48 rfl (lv_at hl 3 rfl) ?_
        refine lv_if_ne (tgt := 64) hx hb dX0_book_49 rfl (fun c15 => ?_) (fun c15 => ?_)
        · have h := if_some_f h c15
          refine lv_aload_n hx hb dX0_book_64 rfl (lv_at hl 0 rfl) ?_
          refine lg_town C hO hP dX0_book_65 ?_
          refine tgN_bookWeek (t := 0) C hO (by decide) hP dX0_book_68 ?_
          refine lv_bipush (v := 8) hx hb dX0_book_71 (by decide) ?_
          refine lv_iload_n hx hb dX0_book_73 rfl (lv_at hl 1 rfl) ?_
          refine lv_imul hx hb dX0_book_74 ?_
          refine lv_iload_n hx hb dX0_book_75 rfl (lv_at hl 2 rfl) ?_
          refine lv_iadd hx hb dX0_book_76 ?_
          obtain ⟨v16, hv16, h⟩ := bd1_some h
          refine cc_ild C hP (hO.2.2.2 _ (tk_ 10 (by decide) (by decide))) (cg_t 10 (by decide) (by decide)) hv16 dX0_book_77 ?_
          exact cc_viret hx hb hr hlk h hP hS dX0_book_78
        · have h := if_some_t h c15
          refine lv_aload_n hx hb dX0_book_52 rfl (lv_at hl 0 rfl) ?_
          refine lg_town C hO hP dX0_book_53 ?_
          refine lv_iload_n hx hb dX0_book_56 rfl (lv_at hl 1 rfl) ?_
          refine lv_iload_n hx hb dX0_book_57 rfl (lv_at hl 2 rfl) ?_
          obtain ⟨v17, hv17, h⟩ := bd1_some h
          refine k_T_factAt (t := 0) C hO (by decide) hP hv17 q708 (Nat.le_of_ble_eq_true rfl) hS.1 hl.1 (Nat.le_of_ble_eq_true rfl) hcs dX0_book_58 ?_
          refine lv_goto (tgt := 78) hx hb dX0_book_61 rfl ?_
          exact cc_viret hx hb hr hlk h hP hS dX0_book_78
  · have h := if_some_f h c2
    refine lv_iload_n hx hb dX0_book_9 rfl (lv_at hl 3 rfl) ?_
    refine lv_iconst (v := 0) hx hb dX0_book_10 (by decide) ?_
    refine lv_iconst (v := 1) hx hb dX0_book_11 (by decide) ?_
    obtain ⟨v18, hv18, h⟩ := bd1_some h
    refine k_L_in hx hb C.2.2.1 hown C.2.2.2.2.1 C.2.2.2.2.2.1 q399 hv18 (Nat.le_of_ble_eq_true rfl) hl.1 (Nat.le_of_ble_eq_true rfl) hcs dX0_book_12 ?_
    refine lv_if_eq (tgt := 22) hx hb dX0_book_15 rfl (fun c19 => ?_) (fun c19 => ?_)
    · have h := if_some_t h c19
      refine lv_iconst (v := 0) hx hb dX0_book_22 (by decide) ?_
      refine lv_iconst (v := 1) hx hb dX0_book_23 (by decide) ?_
      obtain ⟨o22, st21, hv20, h⟩ := bd2_some h
      rcases o22 with _ | v20
      · rw [onx_none] at h
        refine k_L_needT C hO hP hS hv20 q402 (Nat.le_of_ble_eq_true rfl) hl.1 (Nat.le_of_ble_eq_true rfl) hcs dX0_book_24 (fun H locs hP hS => ?_)
        refine cc_catch (pre := []) (a1 := 0) (a2 := 78) (hp := 79) (post := []) C hO hP q129 htab rfl rfl ?_
        refine lv_astore (lv' := [(4, .ref (ad 61)), (0, .ref (ad 60)), (1, .int x1), (2, .int x2), (3, .int x3)]) hx hb dX0_book_79 hl (by decide) rfl (fun ls hl => ?_)
        refine lv_aload_n hx hb dX0_book_81 rfl (lv_at hl 1 rfl) ?_
        refine lv_aload hx hb dX0_book_82 (lv_at hl 0 rfl) ?_
        obtain ⟨v23, st24, hv23, h⟩ := bd2_some h
        refine k_L_finds C hO hP hS hv23 q410 (Nat.le_of_ble_eq_true rfl) hl.1 (Nat.le_of_ble_eq_true rfl) hcs dX0_book_84 (fun H locs hP hS => ?_)
        exact cc_viret hx hb hr hlk h hP hS dX0_book_87
      · rw [onx_some] at h
        refine k_L_needR C hO hP hS hv20 q402 (Nat.le_of_ble_eq_true rfl) hl.1 (Nat.le_of_ble_eq_true rfl) hcs dX0_book_24 (fun H locs hP hS => ?_)
        refine lv_aload_n hx hb dX0_book_27 rfl (lv_at hl 0 rfl) ?_
        refine lv_iload_n hx hb dX0_book_28 rfl (lv_at hl 2 rfl) ?_
        refine lv_iconst (v := 0) hx hb dX0_book_29 (by decide) ?_
        refine lv_aload_n hx hb dX0_book_30 rfl (lv_at hl 0 rfl) ?_
        refine lg_town C hO hP dX0_book_31 ?_
        refine tgN_many (t := 0) C hO (by decide) hP dX0_book_34 ?_
        refine lv_iload_n hx hb dX0_book_37 rfl (lv_at hl 1 rfl) ?_
        obtain ⟨v25, hv25, h⟩ := bd1_some h
        refine cc_ild C hP (hO.2.2.2 _ (tk_ 8 (by decide) (by decide))) (cg_t 8 (by decide) (by decide)) hv25 dX0_book_38 ?_
        refine lv_iconst (v := 1) hx hb dX0_book_39 (by decide) ?_
        refine lv_isub hx hb dX0_book_40 ?_
        obtain ⟨v26, hv26, h⟩ := bd1_some h
        refine k_L_in hx hb C.2.2.1 hown C.2.2.2.2.1 C.2.2.2.2.2.1 q399 hv26 (Nat.le_of_ble_eq_true rfl) hl.1 (Nat.le_of_ble_eq_true rfl) hcs dX0_book_41 ?_
        refine lv_iconst (v := 2) hx hb dX0_book_44 (by decide) ?_
        obtain ⟨o29, st28, hv27, h⟩ := bd2_some h
        rcases o29 with _ | v27
        · rw [onx_none] at h
          refine k_L_needT C hO hP hS hv27 q402 (Nat.le_of_ble_eq_true rfl) hl.1 (Nat.le_of_ble_eq_true rfl) hcs dX0_book_45 (fun H locs hP hS => ?_)
          refine cc_catch (pre := []) (a1 := 0) (a2 := 78) (hp := 79) (post := []) C hO hP q129 htab rfl rfl ?_
          refine lv_astore (lv' := [(4, .ref (ad 61)), (0, .ref (ad 60)), (1, .int x1), (2, .int x2), (3, .int x3)]) hx hb dX0_book_79 hl (by decide) rfl (fun ls hl => ?_)
          refine lv_aload_n hx hb dX0_book_81 rfl (lv_at hl 1 rfl) ?_
          refine lv_aload hx hb dX0_book_82 (lv_at hl 0 rfl) ?_
          obtain ⟨v30, st31, hv30, h⟩ := bd2_some h
          refine k_L_finds C hO hP hS hv30 q410 (Nat.le_of_ble_eq_true rfl) hl.1 (Nat.le_of_ble_eq_true rfl) hcs dX0_book_84 (fun H locs hP hS => ?_)
          exact cc_viret hx hb hr hlk h hP hS dX0_book_87
        · rw [onx_some] at h
          refine k_L_needR C hO hP hS hv27 q402 (Nat.le_of_ble_eq_true rfl) hl.1 (Nat.le_of_ble_eq_true rfl) hcs dX0_book_45 (fun H locs hP hS => ?_)
          refine lv_iload_n hx hb dX0_book_48 rfl (lv_at hl 3 rfl) ?_
          refine lv_if_ne (tgt := 64) hx hb dX0_book_49 rfl (fun c32 => ?_) (fun c32 => ?_)
          · have h := if_some_f h c32
            refine lv_aload_n hx hb dX0_book_64 rfl (lv_at hl 0 rfl) ?_
            refine lg_town C hO hP dX0_book_65 ?_
            refine tgN_bookWeek (t := 0) C hO (by decide) hP dX0_book_68 ?_
            refine lv_bipush (v := 8) hx hb dX0_book_71 (by decide) ?_
            refine lv_iload_n hx hb dX0_book_73 rfl (lv_at hl 1 rfl) ?_
            refine lv_imul hx hb dX0_book_74 ?_
            refine lv_iload_n hx hb dX0_book_75 rfl (lv_at hl 2 rfl) ?_
            refine lv_iadd hx hb dX0_book_76 ?_
            obtain ⟨v33, hv33, h⟩ := bd1_some h
            refine cc_ild C hP (hO.2.2.2 _ (tk_ 10 (by decide) (by decide))) (cg_t 10 (by decide) (by decide)) hv33 dX0_book_77 ?_
            exact cc_viret hx hb hr hlk h hP hS dX0_book_78
          · have h := if_some_t h c32
            refine lv_aload_n hx hb dX0_book_52 rfl (lv_at hl 0 rfl) ?_
            refine lg_town C hO hP dX0_book_53 ?_
            refine lv_iload_n hx hb dX0_book_56 rfl (lv_at hl 1 rfl) ?_
            refine lv_iload_n hx hb dX0_book_57 rfl (lv_at hl 2 rfl) ?_
            obtain ⟨v34, hv34, h⟩ := bd1_some h
            refine k_T_factAt (t := 0) C hO (by decide) hP hv34 q708 (Nat.le_of_ble_eq_true rfl) hS.1 hl.1 (Nat.le_of_ble_eq_true rfl) hcs dX0_book_58 ?_
            refine lv_goto (tgt := 78) hx hb dX0_book_61 rfl ?_
            exact cc_viret hx hb hr hlk h hP hS dX0_book_78
    · have h := if_some_f h c19
      refine lv_iconst (v := 1) hx hb dX0_book_18 (by decide) ?_
      refine lv_goto (tgt := 23) hx hb dX0_book_19 rfl ?_
      refine lv_iconst (v := 1) hx hb dX0_book_23 (by decide) ?_
      obtain ⟨o37, st36, hv35, h⟩ := bd2_some h
      rcases o37 with _ | v35
      · rw [onx_none] at h
        refine k_L_needT C hO hP hS hv35 q402 (Nat.le_of_ble_eq_true rfl) hl.1 (Nat.le_of_ble_eq_true rfl) hcs dX0_book_24 (fun H locs hP hS => ?_)
        refine cc_catch (pre := []) (a1 := 0) (a2 := 78) (hp := 79) (post := []) C hO hP q129 htab rfl rfl ?_
        refine lv_astore (lv' := [(4, .ref (ad 61)), (0, .ref (ad 60)), (1, .int x1), (2, .int x2), (3, .int x3)]) hx hb dX0_book_79 hl (by decide) rfl (fun ls hl => ?_)
        refine lv_aload_n hx hb dX0_book_81 rfl (lv_at hl 1 rfl) ?_
        refine lv_aload hx hb dX0_book_82 (lv_at hl 0 rfl) ?_
        obtain ⟨v38, st39, hv38, h⟩ := bd2_some h
        refine k_L_finds C hO hP hS hv38 q410 (Nat.le_of_ble_eq_true rfl) hl.1 (Nat.le_of_ble_eq_true rfl) hcs dX0_book_84 (fun H locs hP hS => ?_)
        exact cc_viret hx hb hr hlk h hP hS dX0_book_87
      · rw [onx_some] at h
        refine k_L_needR C hO hP hS hv35 q402 (Nat.le_of_ble_eq_true rfl) hl.1 (Nat.le_of_ble_eq_true rfl) hcs dX0_book_24 (fun H locs hP hS => ?_)
        refine lv_aload_n hx hb dX0_book_27 rfl (lv_at hl 0 rfl) ?_
        refine lv_iload_n hx hb dX0_book_28 rfl (lv_at hl 2 rfl) ?_
        refine lv_iconst (v := 0) hx hb dX0_book_29 (by decide) ?_
        refine lv_aload_n hx hb dX0_book_30 rfl (lv_at hl 0 rfl) ?_
        refine lg_town C hO hP dX0_book_31 ?_
        refine tgN_many (t := 0) C hO (by decide) hP dX0_book_34 ?_
        refine lv_iload_n hx hb dX0_book_37 rfl (lv_at hl 1 rfl) ?_
        obtain ⟨v40, hv40, h⟩ := bd1_some h
        refine cc_ild C hP (hO.2.2.2 _ (tk_ 8 (by decide) (by decide))) (cg_t 8 (by decide) (by decide)) hv40 dX0_book_38 ?_
        refine lv_iconst (v := 1) hx hb dX0_book_39 (by decide) ?_
        refine lv_isub hx hb dX0_book_40 ?_
        obtain ⟨v41, hv41, h⟩ := bd1_some h
        refine k_L_in hx hb C.2.2.1 hown C.2.2.2.2.1 C.2.2.2.2.2.1 q399 hv41 (Nat.le_of_ble_eq_true rfl) hl.1 (Nat.le_of_ble_eq_true rfl) hcs dX0_book_41 ?_
        refine lv_iconst (v := 2) hx hb dX0_book_44 (by decide) ?_
        obtain ⟨o44, st43, hv42, h⟩ := bd2_some h
        rcases o44 with _ | v42
        · rw [onx_none] at h
          refine k_L_needT C hO hP hS hv42 q402 (Nat.le_of_ble_eq_true rfl) hl.1 (Nat.le_of_ble_eq_true rfl) hcs dX0_book_45 (fun H locs hP hS => ?_)
          refine cc_catch (pre := []) (a1 := 0) (a2 := 78) (hp := 79) (post := []) C hO hP q129 htab rfl rfl ?_
          refine lv_astore (lv' := [(4, .ref (ad 61)), (0, .ref (ad 60)), (1, .int x1), (2, .int x2), (3, .int x3)]) hx hb dX0_book_79 hl (by decide) rfl (fun ls hl => ?_)
          refine lv_aload_n hx hb dX0_book_81 rfl (lv_at hl 1 rfl) ?_
          refine lv_aload hx hb dX0_book_82 (lv_at hl 0 rfl) ?_
          obtain ⟨v45, st46, hv45, h⟩ := bd2_some h
          refine k_L_finds C hO hP hS hv45 q410 (Nat.le_of_ble_eq_true rfl) hl.1 (Nat.le_of_ble_eq_true rfl) hcs dX0_book_84 (fun H locs hP hS => ?_)
          exact cc_viret hx hb hr hlk h hP hS dX0_book_87
        · rw [onx_some] at h
          refine k_L_needR C hO hP hS hv42 q402 (Nat.le_of_ble_eq_true rfl) hl.1 (Nat.le_of_ble_eq_true rfl) hcs dX0_book_45 (fun H locs hP hS => ?_)
          refine lv_iload_n hx hb dX0_book_48 rfl (lv_at hl 3 rfl) ?_
          refine lv_if_ne (tgt := 64) hx hb dX0_book_49 rfl (fun c47 => ?_) (fun c47 => ?_)
          · have h := if_some_f h c47
            refine lv_aload_n hx hb dX0_book_64 rfl (lv_at hl 0 rfl) ?_
            refine lg_town C hO hP dX0_book_65 ?_
            refine tgN_bookWeek (t := 0) C hO (by decide) hP dX0_book_68 ?_
            refine lv_bipush (v := 8) hx hb dX0_book_71 (by decide) ?_
            refine lv_iload_n hx hb dX0_book_73 rfl (lv_at hl 1 rfl) ?_
            refine lv_imul hx hb dX0_book_74 ?_
            refine lv_iload_n hx hb dX0_book_75 rfl (lv_at hl 2 rfl) ?_
            refine lv_iadd hx hb dX0_book_76 ?_
            obtain ⟨v48, hv48, h⟩ := bd1_some h
            refine cc_ild C hP (hO.2.2.2 _ (tk_ 10 (by decide) (by decide))) (cg_t 10 (by decide) (by decide)) hv48 dX0_book_77 ?_
            exact cc_viret hx hb hr hlk h hP hS dX0_book_78
          · have h := if_some_t h c47
            refine lv_aload_n hx hb dX0_book_52 rfl (lv_at hl 0 rfl) ?_
            refine lg_town C hO hP dX0_book_53 ?_
            refine lv_iload_n hx hb dX0_book_56 rfl (lv_at hl 1 rfl) ?_
            refine lv_iload_n hx hb dX0_book_57 rfl (lv_at hl 2 rfl) ?_
            obtain ⟨v49, hv49, h⟩ := bd1_some h
            refine k_T_factAt (t := 0) C hO (by decide) hP hv49 q708 (Nat.le_of_ble_eq_true rfl) hS.1 hl.1 (Nat.le_of_ble_eq_true rfl) hcs dX0_book_58 ?_
            refine lv_goto (tgt := 78) hx hb dX0_book_61 rfl ?_
            exact cc_viret hx hb hr hlk h hP hS dX0_book_78
abbrev cX0_lend : ByteArray := prog_1_method_27_code
def yX0_lend : MethodName := ⟨RX0, "lend", "(II)I"⟩
theorem dX0_lend_0 : decode cX0_lend 0 = .ok (.aload_n 0, 1) := by decide +kernel
theorem dX0_lend_1 : decode cX0_lend 1 = .ok (.aload_n 0, 1) := by decide +kernel
theorem dX0_lend_2 : decode cX0_lend 2 = .ok (.iload_n 1, 1) := by decide +kernel
theorem dX0_lend_3 : decode cX0_lend 3 = .ok (.invokevirtual 160, 3) := by decide +kernel
theorem dX0_lend_6 : decode cX0_lend 6 = .ok (.ifCond .eq 18, 3) := by decide +kernel
theorem dX0_lend_9 : decode cX0_lend 9 = .ok (.iload_n 2, 1) := by decide +kernel
theorem dX0_lend_10 : decode cX0_lend 10 = .ok (.iconst 1, 1) := by decide +kernel
theorem dX0_lend_11 : decode cX0_lend 11 = .ok (.sipush 999, 3) := by decide +kernel
theorem dX0_lend_14 : decode cX0_lend 14 = .ok (.invokestatic 91, 3) := by decide +kernel
theorem dX0_lend_17 : decode cX0_lend 17 = .ok (.ifCond .eq 7, 3) := by decide +kernel
theorem dX0_lend_20 : decode cX0_lend 20 = .ok (.iconst 1, 1) := by decide +kernel
theorem dX0_lend_21 : decode cX0_lend 21 = .ok (.goto 4, 3) := by decide +kernel
theorem dX0_lend_24 : decode cX0_lend 24 = .ok (.iconst 0, 1) := by decide +kernel
theorem dX0_lend_25 : decode cX0_lend 25 = .ok (.iconst 1, 1) := by decide +kernel
theorem dX0_lend_26 : decode cX0_lend 26 = .ok (.invokevirtual 102, 3) := by decide +kernel
theorem dX0_lend_29 : decode cX0_lend 29 = .ok (.aload_n 0, 1) := by decide +kernel
theorem dX0_lend_30 : decode cX0_lend 30 = .ok (.aload_n 0, 1) := by decide +kernel
theorem dX0_lend_31 : decode cX0_lend 31 = .ok (.getfield 46, 3) := by decide +kernel
theorem dX0_lend_34 : decode cX0_lend 34 = .ok (.getfield 153, 3) := by decide +kernel
theorem dX0_lend_37 : decode cX0_lend 37 = .ok (.iload_n 1, 1) := by decide +kernel
theorem dX0_lend_38 : decode cX0_lend 38 = .ok (.baload, 1) := by decide +kernel
theorem dX0_lend_39 : decode cX0_lend 39 = .ok (.ifCond .ne 7, 3) := by decide +kernel
theorem dX0_lend_42 : decode cX0_lend 42 = .ok (.iconst 1, 1) := by decide +kernel
theorem dX0_lend_43 : decode cX0_lend 43 = .ok (.goto 4, 3) := by decide +kernel
theorem dX0_lend_46 : decode cX0_lend 46 = .ok (.iconst 0, 1) := by decide +kernel
theorem dX0_lend_47 : decode cX0_lend 47 = .ok (.iconst 3, 1) := by decide +kernel
theorem dX0_lend_48 : decode cX0_lend 48 = .ok (.invokevirtual 102, 3) := by decide +kernel
theorem dX0_lend_51 : decode cX0_lend 51 = .ok (.aload_n 0, 1) := by decide +kernel
theorem dX0_lend_52 : decode cX0_lend 52 = .ok (.getfield 46, 3) := by decide +kernel
theorem dX0_lend_55 : decode cX0_lend 55 = .ok (.iload_n 1, 1) := by decide +kernel
theorem dX0_lend_56 : decode cX0_lend 56 = .ok (.iload_n 2, 1) := by decide +kernel
theorem dX0_lend_57 : decode cX0_lend 57 = .ok (.invokevirtual 200, 3) := by decide +kernel
theorem dX0_lend_60 : decode cX0_lend 60 = .ok (.aload_n 0, 1) := by decide +kernel
theorem dX0_lend_61 : decode cX0_lend 61 = .ok (.getfield 46, 3) := by decide +kernel
theorem dX0_lend_64 : decode cX0_lend 64 = .ok (.getfield 150, 3) := by decide +kernel
theorem dX0_lend_67 : decode cX0_lend 67 = .ok (.iload_n 1, 1) := by decide +kernel
theorem dX0_lend_68 : decode cX0_lend 68 = .ok (.iaload, 1) := by decide +kernel
theorem dX0_lend_69 : decode cX0_lend 69 = .ok (.ireturn, 1) := by decide +kernel
theorem dX0_lend_70 : decode cX0_lend 70 = .ok (.astore_n 3, 1) := by decide +kernel
theorem dX0_lend_71 : decode cX0_lend 71 = .ok (.aload_n 0, 1) := by decide +kernel
theorem dX0_lend_72 : decode cX0_lend 72 = .ok (.aload_n 3, 1) := by decide +kernel
theorem dX0_lend_73 : decode cX0_lend 73 = .ok (.invokevirtual 123, 3) := by decide +kernel
theorem dX0_lend_76 : decode cX0_lend 76 = .ok (.ireturn, 1) := by decide +kernel
theorem q750 : (Jvm.Cond.methodLink "ChapterLoan" (200 : Nat) ({ cls := "ChapterLoan$Town", name := "lends", desc := "(II)V" } : Jvm.MethodName)) ∈ lw_all := lw_g (lw_at lw_m3 186 rfl) rfl
theorem w_L_lend {l : Launch} {D : va_G} {cA : Nat → ClassId} {ks : List Nat} {ad : Nat → Nat} {A : Nat → Prop} (hO : klOk A ks ad) {st st' : CS} {x1 : Int32} {x2 : Int32} {r0 : Int32} (h : L_lend st x1 x2 = some (r0, st')) : Met l yX0_lend (wsW_ yX0_lend cX0_lend 4 (some .int) [(0, 69, 70, 8)]) (k2_rm 2 (40 * 2)) (cPre D cA ks ad A st [.ref (ad 60), .int x1, .int x2]) (cQ (some (.int r0)) D cA ks ad A st') 0 0 A := by
  refine cc_ofH (own := RX0) (by decide) rfl (Nat.le_of_ble_eq_true rfl) (fun p e s m below meth c R args ls C hr hlk htab hP hS hl hcs => ?_)
  have hx := C.1
  have hb := C.2.1
  have hown := C.2.2.2.1
  have hNst := C.2.2.2.2.2.2.2.1
  have hl : lv_has ls 4 [(0, .ref (ad 60)), (1, .int x1), (2, .int x2)] := hl
  rw [L_lend] at h
  refine lv_aload_n hx hb dX0_lend_0 rfl (lv_at hl 0 rfl) ?_
  refine lv_aload_n hx hb dX0_lend_1 rfl (lv_at hl 0 rfl) ?_
  refine lv_iload_n hx hb dX0_lend_2 rfl (lv_at hl 1 rfl) ?_
  obtain ⟨v1, hv1, h⟩ := bd1_some h
  refine k_L_isDebtor C hO hP hv1 q559 (Nat.le_of_ble_eq_true rfl) hS.1 hl.1 (Nat.le_of_ble_eq_true rfl) hcs dX0_lend_3 ?_
  refine lv_if_eq (tgt := 24) hx hb dX0_lend_6 rfl (fun c2 => ?_) (fun c2 => ?_)
  · have h := if_some_t h c2
    refine lv_iconst (v := 0) hx hb dX0_lend_24 (by decide) ?_
    refine lv_iconst (v := 1) hx hb dX0_lend_25 (by decide) ?_
    obtain ⟨o5, st4, hv3, h⟩ := bd2_some h
    rcases o5 with _ | v3
    · rw [onx_none] at h
      refine k_L_needT C hO hP hS hv3 q402 (Nat.le_of_ble_eq_true rfl) hl.1 (Nat.le_of_ble_eq_true rfl) hcs dX0_lend_26 (fun H locs hP hS => ?_)
      refine cc_catch (pre := []) (a1 := 0) (a2 := 69) (hp := 70) (post := []) C hO hP q129 htab rfl rfl ?_
      refine lv_astore_n (lv' := [(3, .ref (ad 61)), (0, .ref (ad 60)), (1, .int x1), (2, .int x2)]) hx hb dX0_lend_70 rfl hl (by decide) rfl (fun ls hl => ?_)
      refine lv_aload_n hx hb dX0_lend_71 rfl (lv_at hl 1 rfl) ?_
      refine lv_aload_n hx hb dX0_lend_72 rfl (lv_at hl 0 rfl) ?_
      obtain ⟨v6, st7, hv6, h⟩ := bd2_some h
      refine k_L_finds C hO hP hS hv6 q410 (Nat.le_of_ble_eq_true rfl) hl.1 (Nat.le_of_ble_eq_true rfl) hcs dX0_lend_73 (fun H locs hP hS => ?_)
      exact cc_viret hx hb hr hlk h hP hS dX0_lend_76
    · rw [onx_some] at h
      refine k_L_needR C hO hP hS hv3 q402 (Nat.le_of_ble_eq_true rfl) hl.1 (Nat.le_of_ble_eq_true rfl) hcs dX0_lend_26 (fun H locs hP hS => ?_)
      refine lv_aload_n hx hb dX0_lend_29 rfl (lv_at hl 0 rfl) ?_
      refine lv_aload_n hx hb dX0_lend_30 rfl (lv_at hl 0 rfl) ?_
      refine lg_town C hO hP dX0_lend_31 ?_
      refine tgN_isBroken (t := 0) C hO (by decide) hP dX0_lend_34 ?_
      refine lv_iload_n hx hb dX0_lend_37 rfl (lv_at hl 1 rfl) ?_
      obtain ⟨v8, hv8, h⟩ := bd1_some h
      refine cc_zld C hP (hO.2.2.2 _ (tk_ 7 (by decide) (by decide))) (cg_t 7 (by decide) (by decide)) hv8 dX0_lend_38 ?_
      refine lv_if_ne (tgt := 46) hx hb dX0_lend_39 rfl (fun c9 => ?_) (fun c9 => ?_)
      · have h := if_some_f h c9
        refine lv_iconst (v := 0) hx hb dX0_lend_46 (by decide) ?_
        refine lv_iconst (v := 3) hx hb dX0_lend_47 (by decide) ?_
        obtain ⟨o12, st11, hv10, h⟩ := bd2_some h
        rcases o12 with _ | v10
        · rw [onx_none] at h
          refine k_L_needT C hO hP hS hv10 q402 (Nat.le_of_ble_eq_true rfl) hl.1 (Nat.le_of_ble_eq_true rfl) hcs dX0_lend_48 (fun H locs hP hS => ?_)
          refine cc_catch (pre := []) (a1 := 0) (a2 := 69) (hp := 70) (post := []) C hO hP q129 htab rfl rfl ?_
          refine lv_astore_n (lv' := [(3, .ref (ad 61)), (0, .ref (ad 60)), (1, .int x1), (2, .int x2)]) hx hb dX0_lend_70 rfl hl (by decide) rfl (fun ls hl => ?_)
          refine lv_aload_n hx hb dX0_lend_71 rfl (lv_at hl 1 rfl) ?_
          refine lv_aload_n hx hb dX0_lend_72 rfl (lv_at hl 0 rfl) ?_
          obtain ⟨v13, st14, hv13, h⟩ := bd2_some h
          refine k_L_finds C hO hP hS hv13 q410 (Nat.le_of_ble_eq_true rfl) hl.1 (Nat.le_of_ble_eq_true rfl) hcs dX0_lend_73 (fun H locs hP hS => ?_)
          exact cc_viret hx hb hr hlk h hP hS dX0_lend_76
        · rw [onx_some] at h
          refine k_L_needR C hO hP hS hv10 q402 (Nat.le_of_ble_eq_true rfl) hl.1 (Nat.le_of_ble_eq_true rfl) hcs dX0_lend_48 (fun H locs hP hS => ?_)
          refine lv_aload_n hx hb dX0_lend_51 rfl (lv_at hl 0 rfl) ?_
          refine lg_town C hO hP dX0_lend_52 ?_
          refine lv_iload_n hx hb dX0_lend_55 rfl (lv_at hl 1 rfl) ?_
          refine lv_iload_n hx hb dX0_lend_56 rfl (lv_at hl 2 rfl) ?_
          obtain ⟨st16, hv15, h⟩ := bd1_some h
          refine k_T_lends (t := 0) C hO (by decide) hP hS hv15 q750 (Nat.le_of_ble_eq_true rfl) hl.1 (Nat.le_of_ble_eq_true rfl) hcs dX0_lend_57 (fun H locs hP hS => ?_)
          refine lv_aload_n hx hb dX0_lend_60 rfl (lv_at hl 0 rfl) ?_
          refine lg_town C hO hP dX0_lend_61 ?_
          refine tgN_debt (t := 0) C hO (by decide) hP dX0_lend_64 ?_
          refine lv_iload_n hx hb dX0_lend_67 rfl (lv_at hl 1 rfl) ?_
          obtain ⟨v17, hv17, h⟩ := bd1_some h
          refine cc_ild C hP (hO.2.2.2 _ (tk_ 6 (by decide) (by decide))) (cg_t 6 (by decide) (by decide)) hv17 dX0_lend_68 ?_
          exact cc_viret hx hb hr hlk h hP hS dX0_lend_69
      · have h := if_some_t h c9
        refine lv_iconst (v := 1) hx hb dX0_lend_42 (by decide) ?_
        refine lv_goto (tgt := 47) hx hb dX0_lend_43 rfl ?_
        refine lv_iconst (v := 3) hx hb dX0_lend_47 (by decide) ?_
        obtain ⟨o20, st19, hv18, h⟩ := bd2_some h
        rcases o20 with _ | v18
        · rw [onx_none] at h
          refine k_L_needT C hO hP hS hv18 q402 (Nat.le_of_ble_eq_true rfl) hl.1 (Nat.le_of_ble_eq_true rfl) hcs dX0_lend_48 (fun H locs hP hS => ?_)
          refine cc_catch (pre := []) (a1 := 0) (a2 := 69) (hp := 70) (post := []) C hO hP q129 htab rfl rfl ?_
          refine lv_astore_n (lv' := [(3, .ref (ad 61)), (0, .ref (ad 60)), (1, .int x1), (2, .int x2)]) hx hb dX0_lend_70 rfl hl (by decide) rfl (fun ls hl => ?_)
          refine lv_aload_n hx hb dX0_lend_71 rfl (lv_at hl 1 rfl) ?_
          refine lv_aload_n hx hb dX0_lend_72 rfl (lv_at hl 0 rfl) ?_
          obtain ⟨v21, st22, hv21, h⟩ := bd2_some h
          refine k_L_finds C hO hP hS hv21 q410 (Nat.le_of_ble_eq_true rfl) hl.1 (Nat.le_of_ble_eq_true rfl) hcs dX0_lend_73 (fun H locs hP hS => ?_)
          exact cc_viret hx hb hr hlk h hP hS dX0_lend_76
        · rw [onx_some] at h
          refine k_L_needR C hO hP hS hv18 q402 (Nat.le_of_ble_eq_true rfl) hl.1 (Nat.le_of_ble_eq_true rfl) hcs dX0_lend_48 (fun H locs hP hS => ?_)
          refine lv_aload_n hx hb dX0_lend_51 rfl (lv_at hl 0 rfl) ?_
          refine lg_town C hO hP dX0_lend_52 ?_
          refine lv_iload_n hx hb dX0_lend_55 rfl (lv_at hl 1 rfl) ?_
          refine lv_iload_n hx hb dX0_lend_56 rfl (lv_at hl 2 rfl) ?_
          obtain ⟨st24, hv23, h⟩ := bd1_some h
          refine k_T_lends (t := 0) C hO (by decide) hP hS hv23 q750 (Nat.le_of_ble_eq_true rfl) hl.1 (Nat.le_of_ble_eq_true rfl) hcs dX0_lend_57 (fun H locs hP hS => ?_)
          refine lv_aload_n hx hb dX0_lend_60 rfl (lv_at hl 0 rfl) ?_
          refine lg_town C hO hP dX0_lend_61 ?_
          refine tgN_debt (t := 0) C hO (by decide) hP dX0_lend_64 ?_
          refine lv_iload_n hx hb dX0_lend_67 rfl (lv_at hl 1 rfl) ?_
          obtain ⟨v25, hv25, h⟩ := bd1_some h
          refine cc_ild C hP (hO.2.2.2 _ (tk_ 6 (by decide) (by decide))) (cg_t 6 (by decide) (by decide)) hv25 dX0_lend_68 ?_
          exact cc_viret hx hb hr hlk h hP hS dX0_lend_69
  · have h := if_some_f h c2
    refine lv_iload_n hx hb dX0_lend_9 rfl (lv_at hl 2 rfl) ?_
    refine lv_iconst (v := 1) hx hb dX0_lend_10 (by decide) ?_
    refine lv_sipush (v := 999) hx hb dX0_lend_11 (by decide) ?_
    obtain ⟨v26, hv26, h⟩ := bd1_some h
    refine k_L_in hx hb C.2.2.1 hown C.2.2.2.2.1 C.2.2.2.2.2.1 q399 hv26 (Nat.le_of_ble_eq_true rfl) hl.1 (Nat.le_of_ble_eq_true rfl) hcs dX0_lend_14 ?_
    refine lv_if_eq (tgt := 24) hx hb dX0_lend_17 rfl (fun c27 => ?_) (fun c27 => ?_)
    · have h := if_some_t h c27
      refine lv_iconst (v := 0) hx hb dX0_lend_24 (by decide) ?_
      refine lv_iconst (v := 1) hx hb dX0_lend_25 (by decide) ?_
      obtain ⟨o30, st29, hv28, h⟩ := bd2_some h
      rcases o30 with _ | v28
      · rw [onx_none] at h
        refine k_L_needT C hO hP hS hv28 q402 (Nat.le_of_ble_eq_true rfl) hl.1 (Nat.le_of_ble_eq_true rfl) hcs dX0_lend_26 (fun H locs hP hS => ?_)
        refine cc_catch (pre := []) (a1 := 0) (a2 := 69) (hp := 70) (post := []) C hO hP q129 htab rfl rfl ?_
        refine lv_astore_n (lv' := [(3, .ref (ad 61)), (0, .ref (ad 60)), (1, .int x1), (2, .int x2)]) hx hb dX0_lend_70 rfl hl (by decide) rfl (fun ls hl => ?_)
        refine lv_aload_n hx hb dX0_lend_71 rfl (lv_at hl 1 rfl) ?_
        refine lv_aload_n hx hb dX0_lend_72 rfl (lv_at hl 0 rfl) ?_
        obtain ⟨v31, st32, hv31, h⟩ := bd2_some h
        refine k_L_finds C hO hP hS hv31 q410 (Nat.le_of_ble_eq_true rfl) hl.1 (Nat.le_of_ble_eq_true rfl) hcs dX0_lend_73 (fun H locs hP hS => ?_)
        exact cc_viret hx hb hr hlk h hP hS dX0_lend_76
      · rw [onx_some] at h
        refine k_L_needR C hO hP hS hv28 q402 (Nat.le_of_ble_eq_true rfl) hl.1 (Nat.le_of_ble_eq_true rfl) hcs dX0_lend_26 (fun H locs hP hS => ?_)
        refine lv_aload_n hx hb dX0_lend_29 rfl (lv_at hl 0 rfl) ?_
        refine lv_aload_n hx hb dX0_lend_30 rfl (lv_at hl 0 rfl) ?_
        refine lg_town C hO hP dX0_lend_31 ?_
        refine tgN_isBroken (t := 0) C hO (by decide) hP dX0_lend_34 ?_
        refine lv_iload_n hx hb dX0_lend_37 rfl (lv_at hl 1 rfl) ?_
        obtain ⟨v33, hv33, h⟩ := bd1_some h
        refine cc_zld C hP (hO.2.2.2 _ (tk_ 7 (by decide) (by decide))) (cg_t 7 (by decide) (by decide)) hv33 dX0_lend_38 ?_
        refine lv_if_ne (tgt := 46) hx hb dX0_lend_39 rfl (fun c34 => ?_) (fun c34 => ?_)
        · have h := if_some_f h c34
          refine lv_iconst (v := 0) hx hb dX0_lend_46 (by decide) ?_
          refine lv_iconst (v := 3) hx hb dX0_lend_47 (by decide) ?_
          obtain ⟨o37, st36, hv35, h⟩ := bd2_some h
          rcases o37 with _ | v35
          · rw [onx_none] at h
            refine k_L_needT C hO hP hS hv35 q402 (Nat.le_of_ble_eq_true rfl) hl.1 (Nat.le_of_ble_eq_true rfl) hcs dX0_lend_48 (fun H locs hP hS => ?_)
            refine cc_catch (pre := []) (a1 := 0) (a2 := 69) (hp := 70) (post := []) C hO hP q129 htab rfl rfl ?_
            refine lv_astore_n (lv' := [(3, .ref (ad 61)), (0, .ref (ad 60)), (1, .int x1), (2, .int x2)]) hx hb dX0_lend_70 rfl hl (by decide) rfl (fun ls hl => ?_)
            refine lv_aload_n hx hb dX0_lend_71 rfl (lv_at hl 1 rfl) ?_
            refine lv_aload_n hx hb dX0_lend_72 rfl (lv_at hl 0 rfl) ?_
            obtain ⟨v38, st39, hv38, h⟩ := bd2_some h
            refine k_L_finds C hO hP hS hv38 q410 (Nat.le_of_ble_eq_true rfl) hl.1 (Nat.le_of_ble_eq_true rfl) hcs dX0_lend_73 (fun H locs hP hS => ?_)
            exact cc_viret hx hb hr hlk h hP hS dX0_lend_76
          · rw [onx_some] at h
            refine k_L_needR C hO hP hS hv35 q402 (Nat.le_of_ble_eq_true rfl) hl.1 (Nat.le_of_ble_eq_true rfl) hcs dX0_lend_48 (fun H locs hP hS => ?_)
            refine lv_aload_n hx hb dX0_lend_51 rfl (lv_at hl 0 rfl) ?_
            refine lg_town C hO hP dX0_lend_52 ?_
            refine lv_iload_n hx hb dX0_lend_55 rfl (lv_at hl 1 rfl) ?_
            refine lv_iload_n hx hb dX0_lend_56 rfl (lv_at hl 2 rfl) ?_
            obtain ⟨st41, hv40, h⟩ := bd1_some h
            refine k_T_lends (t := 0) C hO (by decide) hP hS hv40 q750 (Nat.le_of_ble_eq_true rfl) hl.1 (Nat.le_of_ble_eq_true rfl) hcs dX0_lend_57 (fun H locs hP hS => ?_)
            refine lv_aload_n hx hb dX0_lend_60 rfl (lv_at hl 0 rfl) ?_
            refine lg_town C hO hP dX0_lend_61 ?_
            refine tgN_debt (t := 0) C hO (by decide) hP dX0_lend_64 ?_
            refine lv_iload_n hx hb dX0_lend_67 rfl (lv_at hl 1 rfl) ?_
            obtain ⟨v42, hv42, h⟩ := bd1_some h
            refine cc_ild C hP (hO.2.2.2 _ (tk_ 6 (by decide) (by decide))) (cg_t 6 (by decide) (by decide)) hv42 dX0_lend_68 ?_
            exact cc_viret hx hb hr hlk h hP hS dX0_lend_69
        · have h := if_some_t h c34
          refine lv_iconst (v := 1) hx hb dX0_lend_42 (by decide) ?_
          refine lv_goto (tgt := 47) hx hb dX0_lend_43 rfl ?_
          refine lv_iconst (v := 3) hx hb dX0_lend_47 (by decide) ?_
          obtain ⟨o45, st44, hv43, h⟩ := bd2_some h
          rcases o45 with _ | v43
          · rw [onx_none] at h
            refine k_L_needT C hO hP hS hv43 q402 (Nat.le_of_ble_eq_true rfl) hl.1 (Nat.le_of_ble_eq_true rfl) hcs dX0_lend_48 (fun H locs hP hS => ?_)
            refine cc_catch (pre := []) (a1 := 0) (a2 := 69) (hp := 70) (post := []) C hO hP q129 htab rfl rfl ?_
            refine lv_astore_n (lv' := [(3, .ref (ad 61)), (0, .ref (ad 60)), (1, .int x1), (2, .int x2)]) hx hb dX0_lend_70 rfl hl (by decide) rfl (fun ls hl => ?_)
            refine lv_aload_n hx hb dX0_lend_71 rfl (lv_at hl 1 rfl) ?_
            refine lv_aload_n hx hb dX0_lend_72 rfl (lv_at hl 0 rfl) ?_
            obtain ⟨v46, st47, hv46, h⟩ := bd2_some h
            refine k_L_finds C hO hP hS hv46 q410 (Nat.le_of_ble_eq_true rfl) hl.1 (Nat.le_of_ble_eq_true rfl) hcs dX0_lend_73 (fun H locs hP hS => ?_)
            exact cc_viret hx hb hr hlk h hP hS dX0_lend_76
          · rw [onx_some] at h
            refine k_L_needR C hO hP hS hv43 q402 (Nat.le_of_ble_eq_true rfl) hl.1 (Nat.le_of_ble_eq_true rfl) hcs dX0_lend_48 (fun H locs hP hS => ?_)
            refine lv_aload_n hx hb dX0_lend_51 rfl (lv_at hl 0 rfl) ?_
            refine lg_town C hO hP dX0_lend_52 ?_
            refine lv_iload_n hx hb dX0_lend_55 rfl (lv_at hl 1 rfl) ?_
            refine lv_iload_n hx hb dX0_lend_56 rfl (lv_at hl 2 rfl) ?_
            obtain ⟨st49, hv48, h⟩ := bd1_some h
            refine k_T_lends (t := 0) C hO (by decide) hP hS hv48 q750 (Nat.le_of_ble_eq_true rfl) hl.1 (Nat.le_of_ble_eq_true rfl) hcs dX0_lend_57 (fun H locs hP hS => ?_)
            refine lv_aload_n hx hb dX0_lend_60 rfl (lv_at hl 0 rfl) ?_
            refine lg_town C hO hP dX0_lend_61 ?_
            refine tgN_debt (t := 0) C hO (by decide) hP dX0_lend_64 ?_
            refine lv_iload_n hx hb dX0_lend_67 rfl (lv_at hl 1 rfl) ?_
            obtain ⟨v50, hv50, h⟩ := bd1_some h
            refine cc_ild C hP (hO.2.2.2 _ (tk_ 6 (by decide) (by decide))) (cg_t 6 (by decide) (by decide)) hv50 dX0_lend_68 ?_
            exact cc_viret hx hb hr hlk h hP hS dX0_lend_69
    · have h := if_some_f h c27
      refine lv_iconst (v := 1) hx hb dX0_lend_20 (by decide) ?_
      refine lv_goto (tgt := 25) hx hb dX0_lend_21 rfl ?_
      refine lv_iconst (v := 1) hx hb dX0_lend_25 (by decide) ?_
      obtain ⟨o53, st52, hv51, h⟩ := bd2_some h
      rcases o53 with _ | v51
      · rw [onx_none] at h
        refine k_L_needT C hO hP hS hv51 q402 (Nat.le_of_ble_eq_true rfl) hl.1 (Nat.le_of_ble_eq_true rfl) hcs dX0_lend_26 (fun H locs hP hS => ?_)
        refine cc_catch (pre := []) (a1 := 0) (a2 := 69) (hp := 70) (post := []) C hO hP q129 htab rfl rfl ?_
        refine lv_astore_n (lv' := [(3, .ref (ad 61)), (0, .ref (ad 60)), (1, .int x1), (2, .int x2)]) hx hb dX0_lend_70 rfl hl (by decide) rfl (fun ls hl => ?_)
        refine lv_aload_n hx hb dX0_lend_71 rfl (lv_at hl 1 rfl) ?_
        refine lv_aload_n hx hb dX0_lend_72 rfl (lv_at hl 0 rfl) ?_
        obtain ⟨v54, st55, hv54, h⟩ := bd2_some h
        refine k_L_finds C hO hP hS hv54 q410 (Nat.le_of_ble_eq_true rfl) hl.1 (Nat.le_of_ble_eq_true rfl) hcs dX0_lend_73 (fun H locs hP hS => ?_)
        exact cc_viret hx hb hr hlk h hP hS dX0_lend_76
      · rw [onx_some] at h
        refine k_L_needR C hO hP hS hv51 q402 (Nat.le_of_ble_eq_true rfl) hl.1 (Nat.le_of_ble_eq_true rfl) hcs dX0_lend_26 (fun H locs hP hS => ?_)
        refine lv_aload_n hx hb dX0_lend_29 rfl (lv_at hl 0 rfl) ?_
        refine lv_aload_n hx hb dX0_lend_30 rfl (lv_at hl 0 rfl) ?_
        refine lg_town C hO hP dX0_lend_31 ?_
        refine tgN_isBroken (t := 0) C hO (by decide) hP dX0_lend_34 ?_
        refine lv_iload_n hx hb dX0_lend_37 rfl (lv_at hl 1 rfl) ?_
        obtain ⟨v56, hv56, h⟩ := bd1_some h
        refine cc_zld C hP (hO.2.2.2 _ (tk_ 7 (by decide) (by decide))) (cg_t 7 (by decide) (by decide)) hv56 dX0_lend_38 ?_
        refine lv_if_ne (tgt := 46) hx hb dX0_lend_39 rfl (fun c57 => ?_) (fun c57 => ?_)
        · have h := if_some_f h c57
          refine lv_iconst (v := 0) hx hb dX0_lend_46 (by decide) ?_
          refine lv_iconst (v := 3) hx hb dX0_lend_47 (by decide) ?_
          obtain ⟨o60, st59, hv58, h⟩ := bd2_some h
          rcases o60 with _ | v58
          · rw [onx_none] at h
            refine k_L_needT C hO hP hS hv58 q402 (Nat.le_of_ble_eq_true rfl) hl.1 (Nat.le_of_ble_eq_true rfl) hcs dX0_lend_48 (fun H locs hP hS => ?_)
            refine cc_catch (pre := []) (a1 := 0) (a2 := 69) (hp := 70) (post := []) C hO hP q129 htab rfl rfl ?_
            refine lv_astore_n (lv' := [(3, .ref (ad 61)), (0, .ref (ad 60)), (1, .int x1), (2, .int x2)]) hx hb dX0_lend_70 rfl hl (by decide) rfl (fun ls hl => ?_)
            refine lv_aload_n hx hb dX0_lend_71 rfl (lv_at hl 1 rfl) ?_
            refine lv_aload_n hx hb dX0_lend_72 rfl (lv_at hl 0 rfl) ?_
            obtain ⟨v61, st62, hv61, h⟩ := bd2_some h
            refine k_L_finds C hO hP hS hv61 q410 (Nat.le_of_ble_eq_true rfl) hl.1 (Nat.le_of_ble_eq_true rfl) hcs dX0_lend_73 (fun H locs hP hS => ?_)
            exact cc_viret hx hb hr hlk h hP hS dX0_lend_76
          · rw [onx_some] at h
            refine k_L_needR C hO hP hS hv58 q402 (Nat.le_of_ble_eq_true rfl) hl.1 (Nat.le_of_ble_eq_true rfl) hcs dX0_lend_48 (fun H locs hP hS => ?_)
            refine lv_aload_n hx hb dX0_lend_51 rfl (lv_at hl 0 rfl) ?_
            refine lg_town C hO hP dX0_lend_52 ?_
            refine lv_iload_n hx hb dX0_lend_55 rfl (lv_at hl 1 rfl) ?_
            refine lv_iload_n hx hb dX0_lend_56 rfl (lv_at hl 2 rfl) ?_
            obtain ⟨st64, hv63, h⟩ := bd1_some h
            refine k_T_lends (t := 0) C hO (by decide) hP hS hv63 q750 (Nat.le_of_ble_eq_true rfl) hl.1 (Nat.le_of_ble_eq_true rfl) hcs dX0_lend_57 (fun H locs hP hS => ?_)
            refine lv_aload_n hx hb dX0_lend_60 rfl (lv_at hl 0 rfl) ?_
            refine lg_town C hO hP dX0_lend_61 ?_
            refine tgN_debt (t := 0) C hO (by decide) hP dX0_lend_64 ?_
            refine lv_iload_n hx hb dX0_lend_67 rfl (lv_at hl 1 rfl) ?_
            obtain ⟨v65, hv65, h⟩ := bd1_some h
            refine cc_ild C hP (hO.2.2.2 _ (tk_ 6 (by decide) (by decide))) (cg_t 6 (by decide) (by decide)) hv65 dX0_lend_68 ?_
            exact cc_viret hx hb hr hlk h hP hS dX0_lend_69
        · have h := if_some_t h c57
          refine lv_iconst (v := 1) hx hb dX0_lend_42 (by decide) ?_
          refine lv_goto (tgt := 47) hx hb dX0_lend_43 rfl ?_
          refine lv_iconst (v := 3) hx hb dX0_lend_47 (by decide) ?_
          obtain ⟨o68, st67, hv66, h⟩ := bd2_some h
          rcases o68 with _ | v66
          · rw [onx_none] at h
            refine k_L_needT C hO hP hS hv66 q402 (Nat.le_of_ble_eq_true rfl) hl.1 (Nat.le_of_ble_eq_true rfl) hcs dX0_lend_48 (fun H locs hP hS => ?_)
            refine cc_catch (pre := []) (a1 := 0) (a2 := 69) (hp := 70) (post := []) C hO hP q129 htab rfl rfl ?_
            refine lv_astore_n (lv' := [(3, .ref (ad 61)), (0, .ref (ad 60)), (1, .int x1), (2, .int x2)]) hx hb dX0_lend_70 rfl hl (by decide) rfl (fun ls hl => ?_)
            refine lv_aload_n hx hb dX0_lend_71 rfl (lv_at hl 1 rfl) ?_
            refine lv_aload_n hx hb dX0_lend_72 rfl (lv_at hl 0 rfl) ?_
            obtain ⟨v69, st70, hv69, h⟩ := bd2_some h
            refine k_L_finds C hO hP hS hv69 q410 (Nat.le_of_ble_eq_true rfl) hl.1 (Nat.le_of_ble_eq_true rfl) hcs dX0_lend_73 (fun H locs hP hS => ?_)
            exact cc_viret hx hb hr hlk h hP hS dX0_lend_76
          · rw [onx_some] at h
            refine k_L_needR C hO hP hS hv66 q402 (Nat.le_of_ble_eq_true rfl) hl.1 (Nat.le_of_ble_eq_true rfl) hcs dX0_lend_48 (fun H locs hP hS => ?_)
            refine lv_aload_n hx hb dX0_lend_51 rfl (lv_at hl 0 rfl) ?_
            refine lg_town C hO hP dX0_lend_52 ?_
            refine lv_iload_n hx hb dX0_lend_55 rfl (lv_at hl 1 rfl) ?_
            refine lv_iload_n hx hb dX0_lend_56 rfl (lv_at hl 2 rfl) ?_
            obtain ⟨st72, hv71, h⟩ := bd1_some h
            refine k_T_lends (t := 0) C hO (by decide) hP hS hv71 q750 (Nat.le_of_ble_eq_true rfl) hl.1 (Nat.le_of_ble_eq_true rfl) hcs dX0_lend_57 (fun H locs hP hS => ?_)
            refine lv_aload_n hx hb dX0_lend_60 rfl (lv_at hl 0 rfl) ?_
            refine lg_town C hO hP dX0_lend_61 ?_
            refine tgN_debt (t := 0) C hO (by decide) hP dX0_lend_64 ?_
            refine lv_iload_n hx hb dX0_lend_67 rfl (lv_at hl 1 rfl) ?_
            obtain ⟨v73, hv73, h⟩ := bd1_some h
            refine cc_ild C hP (hO.2.2.2 _ (tk_ 6 (by decide) (by decide))) (cg_t 6 (by decide) (by decide)) hv73 dX0_lend_68 ?_
            exact cc_viret hx hb hr hlk h hP hS dX0_lend_69
abbrev cX0_tells : ByteArray := prog_1_method_29_code
def yX0_tells : MethodName := ⟨RX0, "tells", "(II)I"⟩
theorem dX0_tells_0 : decode cX0_tells 0 = .ok (.aload_n 0, 1) := by decide +kernel
theorem dX0_tells_1 : decode cX0_tells 1 = .ok (.aload_n 0, 1) := by decide +kernel
theorem dX0_tells_2 : decode cX0_tells 2 = .ok (.iload_n 1, 1) := by decide +kernel
theorem dX0_tells_3 : decode cX0_tells 3 = .ok (.invokevirtual 160, 3) := by decide +kernel
theorem dX0_tells_6 : decode cX0_tells 6 = .ok (.ifCond .eq 15, 3) := by decide +kernel
theorem dX0_tells_9 : decode cX0_tells 9 = .ok (.aload_n 0, 1) := by decide +kernel
theorem dX0_tells_10 : decode cX0_tells 10 = .ok (.iload_n 2, 1) := by decide +kernel
theorem dX0_tells_11 : decode cX0_tells 11 = .ok (.invokevirtual 127, 3) := by decide +kernel
theorem dX0_tells_14 : decode cX0_tells 14 = .ok (.ifCond .eq 7, 3) := by decide +kernel
theorem dX0_tells_17 : decode cX0_tells 17 = .ok (.iconst 1, 1) := by decide +kernel
theorem dX0_tells_18 : decode cX0_tells 18 = .ok (.goto 4, 3) := by decide +kernel
theorem dX0_tells_21 : decode cX0_tells 21 = .ok (.iconst 0, 1) := by decide +kernel
theorem dX0_tells_22 : decode cX0_tells 22 = .ok (.iconst 1, 1) := by decide +kernel
theorem dX0_tells_23 : decode cX0_tells 23 = .ok (.invokevirtual 102, 3) := by decide +kernel
theorem dX0_tells_26 : decode cX0_tells 26 = .ok (.aload_n 0, 1) := by decide +kernel
theorem dX0_tells_27 : decode cX0_tells 27 = .ok (.aload_n 0, 1) := by decide +kernel
theorem dX0_tells_28 : decode cX0_tells 28 = .ok (.iload_n 1, 1) := by decide +kernel
theorem dX0_tells_29 : decode cX0_tells 29 = .ok (.iload_n 2, 1) := by decide +kernel
theorem dX0_tells_30 : decode cX0_tells 30 = .ok (.invokevirtual 207, 3) := by decide +kernel
theorem dX0_tells_33 : decode cX0_tells 33 = .ok (.iconst 3, 1) := by decide +kernel
theorem dX0_tells_34 : decode cX0_tells 34 = .ok (.invokevirtual 102, 3) := by decide +kernel
theorem dX0_tells_37 : decode cX0_tells 37 = .ok (.aload_n 0, 1) := by decide +kernel
theorem dX0_tells_38 : decode cX0_tells 38 = .ok (.getfield 46, 3) := by decide +kernel
theorem dX0_tells_41 : decode cX0_tells 41 = .ok (.iload_n 1, 1) := by decide +kernel
theorem dX0_tells_42 : decode cX0_tells 42 = .ok (.iload_n 2, 1) := by decide +kernel
theorem dX0_tells_43 : decode cX0_tells 43 = .ok (.invokevirtual 210, 3) := by decide +kernel
theorem dX0_tells_46 : decode cX0_tells 46 = .ok (.aload_n 0, 1) := by decide +kernel
theorem dX0_tells_47 : decode cX0_tells 47 = .ok (.getfield 46, 3) := by decide +kernel
theorem dX0_tells_50 : decode cX0_tells 50 = .ok (.getfield 150, 3) := by decide +kernel
theorem dX0_tells_53 : decode cX0_tells 53 = .ok (.iload_n 1, 1) := by decide +kernel
theorem dX0_tells_54 : decode cX0_tells 54 = .ok (.iaload, 1) := by decide +kernel
theorem dX0_tells_55 : decode cX0_tells 55 = .ok (.ireturn, 1) := by decide +kernel
theorem dX0_tells_56 : decode cX0_tells 56 = .ok (.astore_n 3, 1) := by decide +kernel
theorem dX0_tells_57 : decode cX0_tells 57 = .ok (.aload_n 0, 1) := by decide +kernel
theorem dX0_tells_58 : decode cX0_tells 58 = .ok (.aload_n 3, 1) := by decide +kernel
theorem dX0_tells_59 : decode cX0_tells 59 = .ok (.invokevirtual 123, 3) := by decide +kernel
theorem dX0_tells_62 : decode cX0_tells 62 = .ok (.ireturn, 1) := by decide +kernel
theorem q758 : (Jvm.Cond.methodLink "ChapterLoan" (207 : Nat) ({ cls := "ChapterLoan", name := "canTell", desc := "(II)Z" } : Jvm.MethodName)) ∈ lw_all := lw_g (lw_at lw_m3 194 rfl) rfl
theorem q763 : (Jvm.Cond.methodLink "ChapterLoan" (210 : Nat) ({ cls := "ChapterLoan$Town", name := "tells", desc := "(II)V" } : Jvm.MethodName)) ∈ lw_all := lw_g (lw_at lw_m3 199 rfl) rfl
theorem w_L_tells {l : Launch} {D : va_G} {cA : Nat → ClassId} {ks : List Nat} {ad : Nat → Nat} {A : Nat → Prop} (hO : klOk A ks ad) {st st' : CS} {N : Nat} {x1 : Int32} {x2 : Int32} {r0 : Int32} (h : L_tells N st x1 x2 = some (r0, st')) : Met l yX0_tells (wsW_ yX0_tells cX0_tells 4 (some .int) [(0, 55, 56, 8)]) (k2_rm 64 (40 * 64)) (cPre D cA ks ad A st [.ref (ad 60), .int x1, .int x2]) (cQ (some (.int r0)) D cA ks ad A st') 0 0 A := by
  refine cc_ofH (own := RX0) (by decide) rfl (Nat.le_of_ble_eq_true rfl) (fun p e s m below meth c R args ls C hr hlk htab hP hS hl hcs => ?_)
  have hx := C.1
  have hb := C.2.1
  have hown := C.2.2.2.1
  have hNst := C.2.2.2.2.2.2.2.1
  have hl : lv_has ls 4 [(0, .ref (ad 60)), (1, .int x1), (2, .int x2)] := hl
  rw [L_tells] at h
  refine lv_aload_n hx hb dX0_tells_0 rfl (lv_at hl 0 rfl) ?_
  refine lv_aload_n hx hb dX0_tells_1 rfl (lv_at hl 0 rfl) ?_
  refine lv_iload_n hx hb dX0_tells_2 rfl (lv_at hl 1 rfl) ?_
  obtain ⟨v1, hv1, h⟩ := bd1_some h
  refine k_L_isDebtor C hO hP hv1 q559 (Nat.le_of_ble_eq_true rfl) hS.1 hl.1 (Nat.le_of_ble_eq_true rfl) hcs dX0_tells_3 ?_
  refine lv_if_eq (tgt := 21) hx hb dX0_tells_6 rfl (fun c2 => ?_) (fun c2 => ?_)
  · have h := if_some_t h c2
    refine lv_iconst (v := 0) hx hb dX0_tells_21 (by decide) ?_
    refine lv_iconst (v := 1) hx hb dX0_tells_22 (by decide) ?_
    obtain ⟨o5, st4, hv3, h⟩ := bd2_some h
    rcases o5 with _ | v3
    · rw [onx_none] at h
      refine k_L_needT C hO hP hS hv3 q402 (Nat.le_of_ble_eq_true rfl) hl.1 (Nat.le_of_ble_eq_true rfl) hcs dX0_tells_23 (fun H locs hP hS => ?_)
      refine cc_catch (pre := []) (a1 := 0) (a2 := 55) (hp := 56) (post := []) C hO hP q129 htab rfl rfl ?_
      refine lv_astore_n (lv' := [(3, .ref (ad 61)), (0, .ref (ad 60)), (1, .int x1), (2, .int x2)]) hx hb dX0_tells_56 rfl hl (by decide) rfl (fun ls hl => ?_)
      refine lv_aload_n hx hb dX0_tells_57 rfl (lv_at hl 1 rfl) ?_
      refine lv_aload_n hx hb dX0_tells_58 rfl (lv_at hl 0 rfl) ?_
      obtain ⟨v6, st7, hv6, h⟩ := bd2_some h
      refine k_L_finds C hO hP hS hv6 q410 (Nat.le_of_ble_eq_true rfl) hl.1 (Nat.le_of_ble_eq_true rfl) hcs dX0_tells_59 (fun H locs hP hS => ?_)
      exact cc_viret hx hb hr hlk h hP hS dX0_tells_62
    · rw [onx_some] at h
      refine k_L_needR C hO hP hS hv3 q402 (Nat.le_of_ble_eq_true rfl) hl.1 (Nat.le_of_ble_eq_true rfl) hcs dX0_tells_23 (fun H locs hP hS => ?_)
      refine lv_aload_n hx hb dX0_tells_26 rfl (lv_at hl 0 rfl) ?_
      refine lv_aload_n hx hb dX0_tells_27 rfl (lv_at hl 0 rfl) ?_
      refine lv_iload_n hx hb dX0_tells_28 rfl (lv_at hl 1 rfl) ?_
      refine lv_iload_n hx hb dX0_tells_29 rfl (lv_at hl 2 rfl) ?_
      obtain ⟨v8, hv8, h⟩ := bd1_some h
      refine k_L_canTell C hO hP hv8 q758 (Nat.le_of_ble_eq_true rfl) hS.1 hl.1 (Nat.le_of_ble_eq_true rfl) hcs dX0_tells_30 ?_
      refine lv_iconst (v := 3) hx hb dX0_tells_33 (by decide) ?_
      obtain ⟨o11, st10, hv9, h⟩ := bd2_some h
      rcases o11 with _ | v9
      · rw [onx_none] at h
        refine k_L_needT C hO hP hS hv9 q402 (Nat.le_of_ble_eq_true rfl) hl.1 (Nat.le_of_ble_eq_true rfl) hcs dX0_tells_34 (fun H locs hP hS => ?_)
        refine cc_catch (pre := []) (a1 := 0) (a2 := 55) (hp := 56) (post := []) C hO hP q129 htab rfl rfl ?_
        refine lv_astore_n (lv' := [(3, .ref (ad 61)), (0, .ref (ad 60)), (1, .int x1), (2, .int x2)]) hx hb dX0_tells_56 rfl hl (by decide) rfl (fun ls hl => ?_)
        refine lv_aload_n hx hb dX0_tells_57 rfl (lv_at hl 1 rfl) ?_
        refine lv_aload_n hx hb dX0_tells_58 rfl (lv_at hl 0 rfl) ?_
        obtain ⟨v12, st13, hv12, h⟩ := bd2_some h
        refine k_L_finds C hO hP hS hv12 q410 (Nat.le_of_ble_eq_true rfl) hl.1 (Nat.le_of_ble_eq_true rfl) hcs dX0_tells_59 (fun H locs hP hS => ?_)
        exact cc_viret hx hb hr hlk h hP hS dX0_tells_62
      · rw [onx_some] at h
        refine k_L_needR C hO hP hS hv9 q402 (Nat.le_of_ble_eq_true rfl) hl.1 (Nat.le_of_ble_eq_true rfl) hcs dX0_tells_34 (fun H locs hP hS => ?_)
        refine lv_aload_n hx hb dX0_tells_37 rfl (lv_at hl 0 rfl) ?_
        refine lg_town C hO hP dX0_tells_38 ?_
        refine lv_iload_n hx hb dX0_tells_41 rfl (lv_at hl 1 rfl) ?_
        refine lv_iload_n hx hb dX0_tells_42 rfl (lv_at hl 2 rfl) ?_
        obtain ⟨st15, hv14, h⟩ := bd1_some h
        refine k_T_tells (t := 0) C hO (by decide) hP hS hv14 q763 (Nat.le_of_ble_eq_true rfl) hl.1 (Nat.le_of_ble_eq_true rfl) hcs dX0_tells_43 (fun H locs hP hS => ?_)
        refine lv_aload_n hx hb dX0_tells_46 rfl (lv_at hl 0 rfl) ?_
        refine lg_town C hO hP dX0_tells_47 ?_
        refine tgN_debt (t := 0) C hO (by decide) hP dX0_tells_50 ?_
        refine lv_iload_n hx hb dX0_tells_53 rfl (lv_at hl 1 rfl) ?_
        obtain ⟨v16, hv16, h⟩ := bd1_some h
        refine cc_ild C hP (hO.2.2.2 _ (tk_ 6 (by decide) (by decide))) (cg_t 6 (by decide) (by decide)) hv16 dX0_tells_54 ?_
        exact cc_viret hx hb hr hlk h hP hS dX0_tells_55
  · have h := if_some_f h c2
    refine lv_aload_n hx hb dX0_tells_9 rfl (lv_at hl 0 rfl) ?_
    refine lv_iload_n hx hb dX0_tells_10 rfl (lv_at hl 2 rfl) ?_
    obtain ⟨v17, hv17, h⟩ := bd1_some h
    refine k_L_isFact C hO hP hv17 q419 (Nat.le_of_ble_eq_true rfl) hS.1 hl.1 (Nat.le_of_ble_eq_true rfl) hcs dX0_tells_11 ?_
    refine lv_if_eq (tgt := 21) hx hb dX0_tells_14 rfl (fun c18 => ?_) (fun c18 => ?_)
    · have h := if_some_t h c18
      refine lv_iconst (v := 0) hx hb dX0_tells_21 (by decide) ?_
      refine lv_iconst (v := 1) hx hb dX0_tells_22 (by decide) ?_
      obtain ⟨o21, st20, hv19, h⟩ := bd2_some h
      rcases o21 with _ | v19
      · rw [onx_none] at h
        refine k_L_needT C hO hP hS hv19 q402 (Nat.le_of_ble_eq_true rfl) hl.1 (Nat.le_of_ble_eq_true rfl) hcs dX0_tells_23 (fun H locs hP hS => ?_)
        refine cc_catch (pre := []) (a1 := 0) (a2 := 55) (hp := 56) (post := []) C hO hP q129 htab rfl rfl ?_
        refine lv_astore_n (lv' := [(3, .ref (ad 61)), (0, .ref (ad 60)), (1, .int x1), (2, .int x2)]) hx hb dX0_tells_56 rfl hl (by decide) rfl (fun ls hl => ?_)
        refine lv_aload_n hx hb dX0_tells_57 rfl (lv_at hl 1 rfl) ?_
        refine lv_aload_n hx hb dX0_tells_58 rfl (lv_at hl 0 rfl) ?_
        obtain ⟨v22, st23, hv22, h⟩ := bd2_some h
        refine k_L_finds C hO hP hS hv22 q410 (Nat.le_of_ble_eq_true rfl) hl.1 (Nat.le_of_ble_eq_true rfl) hcs dX0_tells_59 (fun H locs hP hS => ?_)
        exact cc_viret hx hb hr hlk h hP hS dX0_tells_62
      · rw [onx_some] at h
        refine k_L_needR C hO hP hS hv19 q402 (Nat.le_of_ble_eq_true rfl) hl.1 (Nat.le_of_ble_eq_true rfl) hcs dX0_tells_23 (fun H locs hP hS => ?_)
        refine lv_aload_n hx hb dX0_tells_26 rfl (lv_at hl 0 rfl) ?_
        refine lv_aload_n hx hb dX0_tells_27 rfl (lv_at hl 0 rfl) ?_
        refine lv_iload_n hx hb dX0_tells_28 rfl (lv_at hl 1 rfl) ?_
        refine lv_iload_n hx hb dX0_tells_29 rfl (lv_at hl 2 rfl) ?_
        obtain ⟨v24, hv24, h⟩ := bd1_some h
        refine k_L_canTell C hO hP hv24 q758 (Nat.le_of_ble_eq_true rfl) hS.1 hl.1 (Nat.le_of_ble_eq_true rfl) hcs dX0_tells_30 ?_
        refine lv_iconst (v := 3) hx hb dX0_tells_33 (by decide) ?_
        obtain ⟨o27, st26, hv25, h⟩ := bd2_some h
        rcases o27 with _ | v25
        · rw [onx_none] at h
          refine k_L_needT C hO hP hS hv25 q402 (Nat.le_of_ble_eq_true rfl) hl.1 (Nat.le_of_ble_eq_true rfl) hcs dX0_tells_34 (fun H locs hP hS => ?_)
          refine cc_catch (pre := []) (a1 := 0) (a2 := 55) (hp := 56) (post := []) C hO hP q129 htab rfl rfl ?_
          refine lv_astore_n (lv' := [(3, .ref (ad 61)), (0, .ref (ad 60)), (1, .int x1), (2, .int x2)]) hx hb dX0_tells_56 rfl hl (by decide) rfl (fun ls hl => ?_)
          refine lv_aload_n hx hb dX0_tells_57 rfl (lv_at hl 1 rfl) ?_
          refine lv_aload_n hx hb dX0_tells_58 rfl (lv_at hl 0 rfl) ?_
          obtain ⟨v28, st29, hv28, h⟩ := bd2_some h
          refine k_L_finds C hO hP hS hv28 q410 (Nat.le_of_ble_eq_true rfl) hl.1 (Nat.le_of_ble_eq_true rfl) hcs dX0_tells_59 (fun H locs hP hS => ?_)
          exact cc_viret hx hb hr hlk h hP hS dX0_tells_62
        · rw [onx_some] at h
          refine k_L_needR C hO hP hS hv25 q402 (Nat.le_of_ble_eq_true rfl) hl.1 (Nat.le_of_ble_eq_true rfl) hcs dX0_tells_34 (fun H locs hP hS => ?_)
          refine lv_aload_n hx hb dX0_tells_37 rfl (lv_at hl 0 rfl) ?_
          refine lg_town C hO hP dX0_tells_38 ?_
          refine lv_iload_n hx hb dX0_tells_41 rfl (lv_at hl 1 rfl) ?_
          refine lv_iload_n hx hb dX0_tells_42 rfl (lv_at hl 2 rfl) ?_
          obtain ⟨st31, hv30, h⟩ := bd1_some h
          refine k_T_tells (t := 0) C hO (by decide) hP hS hv30 q763 (Nat.le_of_ble_eq_true rfl) hl.1 (Nat.le_of_ble_eq_true rfl) hcs dX0_tells_43 (fun H locs hP hS => ?_)
          refine lv_aload_n hx hb dX0_tells_46 rfl (lv_at hl 0 rfl) ?_
          refine lg_town C hO hP dX0_tells_47 ?_
          refine tgN_debt (t := 0) C hO (by decide) hP dX0_tells_50 ?_
          refine lv_iload_n hx hb dX0_tells_53 rfl (lv_at hl 1 rfl) ?_
          obtain ⟨v32, hv32, h⟩ := bd1_some h
          refine cc_ild C hP (hO.2.2.2 _ (tk_ 6 (by decide) (by decide))) (cg_t 6 (by decide) (by decide)) hv32 dX0_tells_54 ?_
          exact cc_viret hx hb hr hlk h hP hS dX0_tells_55
    · have h := if_some_f h c18
      refine lv_iconst (v := 1) hx hb dX0_tells_17 (by decide) ?_
      refine lv_goto (tgt := 22) hx hb dX0_tells_18 rfl ?_
      refine lv_iconst (v := 1) hx hb dX0_tells_22 (by decide) ?_
      obtain ⟨o35, st34, hv33, h⟩ := bd2_some h
      rcases o35 with _ | v33
      · rw [onx_none] at h
        refine k_L_needT C hO hP hS hv33 q402 (Nat.le_of_ble_eq_true rfl) hl.1 (Nat.le_of_ble_eq_true rfl) hcs dX0_tells_23 (fun H locs hP hS => ?_)
        refine cc_catch (pre := []) (a1 := 0) (a2 := 55) (hp := 56) (post := []) C hO hP q129 htab rfl rfl ?_
        refine lv_astore_n (lv' := [(3, .ref (ad 61)), (0, .ref (ad 60)), (1, .int x1), (2, .int x2)]) hx hb dX0_tells_56 rfl hl (by decide) rfl (fun ls hl => ?_)
        refine lv_aload_n hx hb dX0_tells_57 rfl (lv_at hl 1 rfl) ?_
        refine lv_aload_n hx hb dX0_tells_58 rfl (lv_at hl 0 rfl) ?_
        obtain ⟨v36, st37, hv36, h⟩ := bd2_some h
        refine k_L_finds C hO hP hS hv36 q410 (Nat.le_of_ble_eq_true rfl) hl.1 (Nat.le_of_ble_eq_true rfl) hcs dX0_tells_59 (fun H locs hP hS => ?_)
        exact cc_viret hx hb hr hlk h hP hS dX0_tells_62
      · rw [onx_some] at h
        refine k_L_needR C hO hP hS hv33 q402 (Nat.le_of_ble_eq_true rfl) hl.1 (Nat.le_of_ble_eq_true rfl) hcs dX0_tells_23 (fun H locs hP hS => ?_)
        refine lv_aload_n hx hb dX0_tells_26 rfl (lv_at hl 0 rfl) ?_
        refine lv_aload_n hx hb dX0_tells_27 rfl (lv_at hl 0 rfl) ?_
        refine lv_iload_n hx hb dX0_tells_28 rfl (lv_at hl 1 rfl) ?_
        refine lv_iload_n hx hb dX0_tells_29 rfl (lv_at hl 2 rfl) ?_
        obtain ⟨v38, hv38, h⟩ := bd1_some h
        refine k_L_canTell C hO hP hv38 q758 (Nat.le_of_ble_eq_true rfl) hS.1 hl.1 (Nat.le_of_ble_eq_true rfl) hcs dX0_tells_30 ?_
        refine lv_iconst (v := 3) hx hb dX0_tells_33 (by decide) ?_
        obtain ⟨o41, st40, hv39, h⟩ := bd2_some h
        rcases o41 with _ | v39
        · rw [onx_none] at h
          refine k_L_needT C hO hP hS hv39 q402 (Nat.le_of_ble_eq_true rfl) hl.1 (Nat.le_of_ble_eq_true rfl) hcs dX0_tells_34 (fun H locs hP hS => ?_)
          refine cc_catch (pre := []) (a1 := 0) (a2 := 55) (hp := 56) (post := []) C hO hP q129 htab rfl rfl ?_
          refine lv_astore_n (lv' := [(3, .ref (ad 61)), (0, .ref (ad 60)), (1, .int x1), (2, .int x2)]) hx hb dX0_tells_56 rfl hl (by decide) rfl (fun ls hl => ?_)
          refine lv_aload_n hx hb dX0_tells_57 rfl (lv_at hl 1 rfl) ?_
          refine lv_aload_n hx hb dX0_tells_58 rfl (lv_at hl 0 rfl) ?_
          obtain ⟨v42, st43, hv42, h⟩ := bd2_some h
          refine k_L_finds C hO hP hS hv42 q410 (Nat.le_of_ble_eq_true rfl) hl.1 (Nat.le_of_ble_eq_true rfl) hcs dX0_tells_59 (fun H locs hP hS => ?_)
          exact cc_viret hx hb hr hlk h hP hS dX0_tells_62
        · rw [onx_some] at h
          refine k_L_needR C hO hP hS hv39 q402 (Nat.le_of_ble_eq_true rfl) hl.1 (Nat.le_of_ble_eq_true rfl) hcs dX0_tells_34 (fun H locs hP hS => ?_)
          refine lv_aload_n hx hb dX0_tells_37 rfl (lv_at hl 0 rfl) ?_
          refine lg_town C hO hP dX0_tells_38 ?_
          refine lv_iload_n hx hb dX0_tells_41 rfl (lv_at hl 1 rfl) ?_
          refine lv_iload_n hx hb dX0_tells_42 rfl (lv_at hl 2 rfl) ?_
          obtain ⟨st45, hv44, h⟩ := bd1_some h
          refine k_T_tells (t := 0) C hO (by decide) hP hS hv44 q763 (Nat.le_of_ble_eq_true rfl) hl.1 (Nat.le_of_ble_eq_true rfl) hcs dX0_tells_43 (fun H locs hP hS => ?_)
          refine lv_aload_n hx hb dX0_tells_46 rfl (lv_at hl 0 rfl) ?_
          refine lg_town C hO hP dX0_tells_47 ?_
          refine tgN_debt (t := 0) C hO (by decide) hP dX0_tells_50 ?_
          refine lv_iload_n hx hb dX0_tells_53 rfl (lv_at hl 1 rfl) ?_
          obtain ⟨v46, hv46, h⟩ := bd1_some h
          refine cc_ild C hP (hO.2.2.2 _ (tk_ 6 (by decide) (by decide))) (cg_t 6 (by decide) (by decide)) hv46 dX0_tells_54 ?_
          exact cc_viret hx hb hr hlk h hP hS dX0_tells_55
abbrev cX0_pardon : ByteArray := prog_1_method_30_code
def yX0_pardon : MethodName := ⟨RX0, "pardon", "(I)I"⟩
theorem dX0_pardon_0 : decode cX0_pardon 0 = .ok (.aload_n 0, 1) := by decide +kernel
theorem dX0_pardon_1 : decode cX0_pardon 1 = .ok (.aload_n 0, 1) := by decide +kernel
theorem dX0_pardon_2 : decode cX0_pardon 2 = .ok (.iload_n 1, 1) := by decide +kernel
theorem dX0_pardon_3 : decode cX0_pardon 3 = .ok (.invokevirtual 160, 3) := by decide +kernel
theorem dX0_pardon_6 : decode cX0_pardon 6 = .ok (.iconst 1, 1) := by decide +kernel
theorem dX0_pardon_7 : decode cX0_pardon 7 = .ok (.invokevirtual 102, 3) := by decide +kernel
theorem dX0_pardon_10 : decode cX0_pardon 10 = .ok (.aload_n 0, 1) := by decide +kernel
theorem dX0_pardon_11 : decode cX0_pardon 11 = .ok (.aload_n 0, 1) := by decide +kernel
theorem dX0_pardon_12 : decode cX0_pardon 12 = .ok (.getfield 46, 3) := by decide +kernel
theorem dX0_pardon_15 : decode cX0_pardon 15 = .ok (.getfield 153, 3) := by decide +kernel
theorem dX0_pardon_18 : decode cX0_pardon 18 = .ok (.iload_n 1, 1) := by decide +kernel
theorem dX0_pardon_19 : decode cX0_pardon 19 = .ok (.baload, 1) := by decide +kernel
theorem dX0_pardon_20 : decode cX0_pardon 20 = .ok (.iconst 3, 1) := by decide +kernel
theorem dX0_pardon_21 : decode cX0_pardon 21 = .ok (.invokevirtual 102, 3) := by decide +kernel
theorem dX0_pardon_24 : decode cX0_pardon 24 = .ok (.aload_n 0, 1) := by decide +kernel
theorem dX0_pardon_25 : decode cX0_pardon 25 = .ok (.getfield 46, 3) := by decide +kernel
theorem dX0_pardon_28 : decode cX0_pardon 28 = .ok (.getfield 157, 3) := by decide +kernel
theorem dX0_pardon_31 : decode cX0_pardon 31 = .ok (.iload_n 1, 1) := by decide +kernel
theorem dX0_pardon_32 : decode cX0_pardon 32 = .ok (.iaload, 1) := by decide +kernel
theorem dX0_pardon_33 : decode cX0_pardon 33 = .ok (.istore_n 2, 1) := by decide +kernel
theorem dX0_pardon_34 : decode cX0_pardon 34 = .ok (.aload_n 0, 1) := by decide +kernel
theorem dX0_pardon_35 : decode cX0_pardon 35 = .ok (.getfield 46, 3) := by decide +kernel
theorem dX0_pardon_38 : decode cX0_pardon 38 = .ok (.getfield 153, 3) := by decide +kernel
theorem dX0_pardon_41 : decode cX0_pardon 41 = .ok (.iload_n 1, 1) := by decide +kernel
theorem dX0_pardon_42 : decode cX0_pardon 42 = .ok (.iconst 0, 1) := by decide +kernel
theorem dX0_pardon_43 : decode cX0_pardon 43 = .ok (.bastore, 1) := by decide +kernel
theorem dX0_pardon_44 : decode cX0_pardon 44 = .ok (.aload_n 0, 1) := by decide +kernel
theorem dX0_pardon_45 : decode cX0_pardon 45 = .ok (.getfield 46, 3) := by decide +kernel
theorem dX0_pardon_48 : decode cX0_pardon 48 = .ok (.getfield 150, 3) := by decide +kernel
theorem dX0_pardon_51 : decode cX0_pardon 51 = .ok (.iload_n 1, 1) := by decide +kernel
theorem dX0_pardon_52 : decode cX0_pardon 52 = .ok (.iconst 0, 1) := by decide +kernel
theorem dX0_pardon_53 : decode cX0_pardon 53 = .ok (.iastore, 1) := by decide +kernel
theorem dX0_pardon_54 : decode cX0_pardon 54 = .ok (.aload_n 0, 1) := by decide +kernel
theorem dX0_pardon_55 : decode cX0_pardon 55 = .ok (.getfield 46, 3) := by decide +kernel
theorem dX0_pardon_58 : decode cX0_pardon 58 = .ok (.getfield 157, 3) := by decide +kernel
theorem dX0_pardon_61 : decode cX0_pardon 61 = .ok (.iload_n 1, 1) := by decide +kernel
theorem dX0_pardon_62 : decode cX0_pardon 62 = .ok (.iconst 0, 1) := by decide +kernel
theorem dX0_pardon_63 : decode cX0_pardon 63 = .ok (.iastore, 1) := by decide +kernel
theorem dX0_pardon_64 : decode cX0_pardon 64 = .ok (.iload_n 2, 1) := by decide +kernel
theorem dX0_pardon_65 : decode cX0_pardon 65 = .ok (.ireturn, 1) := by decide +kernel
theorem dX0_pardon_66 : decode cX0_pardon 66 = .ok (.astore_n 2, 1) := by decide +kernel
theorem dX0_pardon_67 : decode cX0_pardon 67 = .ok (.aload_n 0, 1) := by decide +kernel
theorem dX0_pardon_68 : decode cX0_pardon 68 = .ok (.aload_n 2, 1) := by decide +kernel
theorem dX0_pardon_69 : decode cX0_pardon 69 = .ok (.invokevirtual 123, 3) := by decide +kernel
theorem dX0_pardon_72 : decode cX0_pardon 72 = .ok (.ireturn, 1) := by decide +kernel
theorem w_L_pardon {l : Launch} {D : va_G} {cA : Nat → ClassId} {ks : List Nat} {ad : Nat → Nat} {A : Nat → Prop} (hO : klOk A ks ad) {st st' : CS} {x1 : Int32} {r0 : Int32} (h : L_pardon st x1 = some (r0, st')) : Met l yX0_pardon (wsW_ yX0_pardon cX0_pardon 3 (some .int) [(0, 65, 66, 8)]) (k2_rm 2 (40 * 2)) (cPre D cA ks ad A st [.ref (ad 60), .int x1]) (cQ (some (.int r0)) D cA ks ad A st') 0 0 A := by
  refine cc_ofH (own := RX0) (by decide) rfl (Nat.le_of_ble_eq_true rfl) (fun p e s m below meth c R args ls C hr hlk htab hP hS hl hcs => ?_)
  have hx := C.1
  have hb := C.2.1
  have hown := C.2.2.2.1
  have hNst := C.2.2.2.2.2.2.2.1
  have hl : lv_has ls 3 [(0, .ref (ad 60)), (1, .int x1)] := hl
  rw [L_pardon] at h
  refine lv_aload_n hx hb dX0_pardon_0 rfl (lv_at hl 0 rfl) ?_
  refine lv_aload_n hx hb dX0_pardon_1 rfl (lv_at hl 0 rfl) ?_
  refine lv_iload_n hx hb dX0_pardon_2 rfl (lv_at hl 1 rfl) ?_
  obtain ⟨v1, hv1, h⟩ := bd1_some h
  refine k_L_isDebtor C hO hP hv1 q559 (Nat.le_of_ble_eq_true rfl) hS.1 hl.1 (Nat.le_of_ble_eq_true rfl) hcs dX0_pardon_3 ?_
  refine lv_iconst (v := 1) hx hb dX0_pardon_6 (by decide) ?_
  obtain ⟨o4, st3, hv2, h⟩ := bd2_some h
  rcases o4 with _ | v2
  · rw [onx_none] at h
    refine k_L_needT C hO hP hS hv2 q402 (Nat.le_of_ble_eq_true rfl) hl.1 (Nat.le_of_ble_eq_true rfl) hcs dX0_pardon_7 (fun H locs hP hS => ?_)
    refine cc_catch (pre := []) (a1 := 0) (a2 := 65) (hp := 66) (post := []) C hO hP q129 htab rfl rfl ?_
    refine lv_astore_n (lv' := [(2, .ref (ad 61)), (0, .ref (ad 60)), (1, .int x1)]) hx hb dX0_pardon_66 rfl hl (by decide) rfl (fun ls hl => ?_)
    refine lv_aload_n hx hb dX0_pardon_67 rfl (lv_at hl 1 rfl) ?_
    refine lv_aload_n hx hb dX0_pardon_68 rfl (lv_at hl 0 rfl) ?_
    obtain ⟨v5, st6, hv5, h⟩ := bd2_some h
    refine k_L_finds C hO hP hS hv5 q410 (Nat.le_of_ble_eq_true rfl) hl.1 (Nat.le_of_ble_eq_true rfl) hcs dX0_pardon_69 (fun H locs hP hS => ?_)
    exact cc_viret hx hb hr hlk h hP hS dX0_pardon_72
  · rw [onx_some] at h
    refine k_L_needR C hO hP hS hv2 q402 (Nat.le_of_ble_eq_true rfl) hl.1 (Nat.le_of_ble_eq_true rfl) hcs dX0_pardon_7 (fun H locs hP hS => ?_)
    refine lv_aload_n hx hb dX0_pardon_10 rfl (lv_at hl 0 rfl) ?_
    refine lv_aload_n hx hb dX0_pardon_11 rfl (lv_at hl 0 rfl) ?_
    refine lg_town C hO hP dX0_pardon_12 ?_
    refine tgN_isBroken (t := 0) C hO (by decide) hP dX0_pardon_15 ?_
    refine lv_iload_n hx hb dX0_pardon_18 rfl (lv_at hl 1 rfl) ?_
    obtain ⟨v7, hv7, h⟩ := bd1_some h
    refine cc_zld C hP (hO.2.2.2 _ (tk_ 7 (by decide) (by decide))) (cg_t 7 (by decide) (by decide)) hv7 dX0_pardon_19 ?_
    refine lv_iconst (v := 3) hx hb dX0_pardon_20 (by decide) ?_
    obtain ⟨o10, st9, hv8, h⟩ := bd2_some h
    rcases o10 with _ | v8
    · rw [onx_none] at h
      refine k_L_needT C hO hP hS hv8 q402 (Nat.le_of_ble_eq_true rfl) hl.1 (Nat.le_of_ble_eq_true rfl) hcs dX0_pardon_21 (fun H locs hP hS => ?_)
      refine cc_catch (pre := []) (a1 := 0) (a2 := 65) (hp := 66) (post := []) C hO hP q129 htab rfl rfl ?_
      refine lv_astore_n (lv' := [(2, .ref (ad 61)), (0, .ref (ad 60)), (1, .int x1)]) hx hb dX0_pardon_66 rfl hl (by decide) rfl (fun ls hl => ?_)
      refine lv_aload_n hx hb dX0_pardon_67 rfl (lv_at hl 1 rfl) ?_
      refine lv_aload_n hx hb dX0_pardon_68 rfl (lv_at hl 0 rfl) ?_
      obtain ⟨v11, st12, hv11, h⟩ := bd2_some h
      refine k_L_finds C hO hP hS hv11 q410 (Nat.le_of_ble_eq_true rfl) hl.1 (Nat.le_of_ble_eq_true rfl) hcs dX0_pardon_69 (fun H locs hP hS => ?_)
      exact cc_viret hx hb hr hlk h hP hS dX0_pardon_72
    · rw [onx_some] at h
      refine k_L_needR C hO hP hS hv8 q402 (Nat.le_of_ble_eq_true rfl) hl.1 (Nat.le_of_ble_eq_true rfl) hcs dX0_pardon_21 (fun H locs hP hS => ?_)
      refine lv_aload_n hx hb dX0_pardon_24 rfl (lv_at hl 0 rfl) ?_
      refine lg_town C hO hP dX0_pardon_25 ?_
      refine tgN_many (t := 0) C hO (by decide) hP dX0_pardon_28 ?_
      refine lv_iload_n hx hb dX0_pardon_31 rfl (lv_at hl 1 rfl) ?_
      obtain ⟨v13, hv13, h⟩ := bd1_some h
      refine cc_ild C hP (hO.2.2.2 _ (tk_ 8 (by decide) (by decide))) (cg_t 8 (by decide) (by decide)) hv13 dX0_pardon_32 ?_
      refine lv_istore_n (lv' := [(2, .int v13), (0, .ref (ad 60)), (1, .int x1)]) hx hb dX0_pardon_33 rfl hl (by decide) rfl (fun ls hl => ?_)
      refine lv_aload_n hx hb dX0_pardon_34 rfl (lv_at hl 1 rfl) ?_
      refine lg_town C hO hP dX0_pardon_35 ?_
      refine tgN_isBroken (t := 0) C hO (by decide) hP dX0_pardon_38 ?_
      refine lv_iload_n hx hb dX0_pardon_41 rfl (lv_at hl 2 rfl) ?_
      refine lv_iconst (v := 0) hx hb dX0_pardon_42 (by decide) ?_
      obtain ⟨b14, hb14, h⟩ := bd1_some h
      refine cc_zst C hO hP hS (hO.2.2.2 _ (tk_ 7 (by decide) (by decide))) (cg_t 7 (by decide) (by decide)) rfl hb14 (cg_At 7 (by decide) (by decide)) hP.2 dX0_pardon_43 (fun H locs hP hS => ?_)
      refine lv_aload_n hx hb dX0_pardon_44 rfl (lv_at hl 1 rfl) ?_
      refine lg_town C hO hP dX0_pardon_45 ?_
      refine tgN_debt (t := 0) C hO (by decide) hP dX0_pardon_48 ?_
      refine lv_iload_n hx hb dX0_pardon_51 rfl (lv_at hl 2 rfl) ?_
      refine lv_iconst (v := 0) hx hb dX0_pardon_52 (by decide) ?_
      obtain ⟨b15, hb15, h⟩ := bd1_some h
      refine cc_ist C hO hP hS (hO.2.2.2 _ (tk_ 6 (by decide) (by decide))) (cg_t 6 (by decide) (by decide)) hb15 (cg_At 6 (by decide) (by decide)) hP.2 dX0_pardon_53 (fun H locs hP hS => ?_)
      refine lv_aload_n hx hb dX0_pardon_54 rfl (lv_at hl 1 rfl) ?_
      refine lg_town C hO hP dX0_pardon_55 ?_
      refine tgN_many (t := 0) C hO (by decide) hP dX0_pardon_58 ?_
      refine lv_iload_n hx hb dX0_pardon_61 rfl (lv_at hl 2 rfl) ?_
      refine lv_iconst (v := 0) hx hb dX0_pardon_62 (by decide) ?_
      obtain ⟨b16, hb16, h⟩ := bd1_some h
      refine cc_ist C hO hP hS (hO.2.2.2 _ (tk_ 8 (by decide) (by decide))) (cg_t 8 (by decide) (by decide)) hb16 (cg_At 8 (by decide) (by decide)) hP.2 dX0_pardon_63 (fun H locs hP hS => ?_)
      refine lv_iload_n hx hb dX0_pardon_64 rfl (lv_at hl 0 rfl) ?_
      exact cc_viret hx hb hr hlk h hP hS dX0_pardon_65
abbrev cX0_weeks : ByteArray := prog_1_method_32_code
def yX0_weeks : MethodName := ⟨RX0, "weeks", "(I)I"⟩
theorem dX0_weeks_0 : decode cX0_weeks 0 = .ok (.aload_n 0, 1) := by decide +kernel
theorem dX0_weeks_1 : decode cX0_weeks 1 = .ok (.iload_n 1, 1) := by decide +kernel
theorem dX0_weeks_2 : decode cX0_weeks 2 = .ok (.invokevirtual 216, 3) := by decide +kernel
theorem dX0_weeks_5 : decode cX0_weeks 5 = .ok (.iconst 0, 1) := by decide +kernel
theorem dX0_weeks_6 : decode cX0_weeks 6 = .ok (.istore_n 2, 1) := by decide +kernel
theorem dX0_weeks_7 : decode cX0_weeks 7 = .ok (.iload_n 2, 1) := by decide +kernel
theorem dX0_weeks_8 : decode cX0_weeks 8 = .ok (.iload_n 1, 1) := by decide +kernel
theorem dX0_weeks_9 : decode cX0_weeks 9 = .ok (.if_icmp .ge 16, 3) := by decide +kernel
theorem dX0_weeks_12 : decode cX0_weeks 12 = .ok (.aload_n 0, 1) := by decide +kernel
theorem dX0_weeks_13 : decode cX0_weeks 13 = .ok (.getfield 46, 3) := by decide +kernel
theorem dX0_weeks_16 : decode cX0_weeks 16 = .ok (.invokevirtual 220, 3) := by decide +kernel
theorem dX0_weeks_19 : decode cX0_weeks 19 = .ok (.iinc 2 1, 3) := by decide +kernel
theorem dX0_weeks_22 : decode cX0_weeks 22 = .ok (.goto (-15), 3) := by decide +kernel
theorem dX0_weeks_25 : decode cX0_weeks 25 = .ok (.aload_n 0, 1) := by decide +kernel
theorem dX0_weeks_26 : decode cX0_weeks 26 = .ok (.getfield 46, 3) := by decide +kernel
theorem dX0_weeks_29 : decode cX0_weeks 29 = .ok (.invokevirtual 223, 3) := by decide +kernel
theorem dX0_weeks_32 : decode cX0_weeks 32 = .ok (.ireturn, 1) := by decide +kernel
theorem dX0_weeks_33 : decode cX0_weeks 33 = .ok (.astore_n 2, 1) := by decide +kernel
theorem dX0_weeks_34 : decode cX0_weeks 34 = .ok (.aload_n 0, 1) := by decide +kernel
theorem dX0_weeks_35 : decode cX0_weeks 35 = .ok (.aload_n 2, 1) := by decide +kernel
theorem dX0_weeks_36 : decode cX0_weeks 36 = .ok (.invokevirtual 123, 3) := by decide +kernel
theorem dX0_weeks_39 : decode cX0_weeks 39 = .ok (.ireturn, 1) := by decide +kernel
theorem q802 : (Jvm.Cond.methodLink "ChapterLoan" (216 : Nat) ({ cls := "ChapterLoan", name := "mustGo", desc := "(I)V" } : Jvm.MethodName)) ∈ lw_all := lw_g (lw_at lw_m3 238 rfl) rfl
theorem q806 : (Jvm.Cond.methodLink "ChapterLoan" (220 : Nat) ({ cls := "ChapterLoan$Town", name := "goes", desc := "()V" } : Jvm.MethodName)) ∈ lw_all := lw_g (lw_at lw_m4 2 rfl) rfl
theorem q829 : (Jvm.Cond.methodLink "ChapterLoan" (223 : Nat) ({ cls := "ChapterLoan$Town", name := "broken", desc := "()I" } : Jvm.MethodName)) ∈ lw_all := lw_g (lw_at lw_m4 25 rfl) rfl
theorem w_L_weeks {l : Launch} {D : va_G} {cA : Nat → ClassId} {ks : List Nat} {ad : Nat → Nat} {A : Nat → Prop} (hO : klOk A ks ad) {st st' : CS} {N : Nat} {x1 : Int32} {r0 : Int32} (h : L_weeks N st x1 = some (r0, st')) : Met l yX0_weeks (wsW_ yX0_weeks cX0_weeks 3 (some .int) [(0, 32, 33, 8)]) (k2_rm 66 (40 * 66)) (cPre D cA ks ad A st [.ref (ad 60), .int x1]) (cQ (some (.int r0)) D cA ks ad A st') 0 0 A := by
  refine cc_ofH (own := RX0) (by decide) rfl (Nat.le_of_ble_eq_true rfl) (fun p e s m below meth c R args ls C hr hlk htab hP hS hl hcs => ?_)
  have hx := C.1
  have hb := C.2.1
  have hown := C.2.2.2.1
  have hNst := C.2.2.2.2.2.2.2.1
  have hl : lv_has ls 3 [(0, .ref (ad 60)), (1, .int x1)] := hl
  have L7 : ∀ (x1 : Int32), ∀ (n : Nat) (st : CS) (x2 : Int32) (st2 : CS), L_weeks_L7 N x1 n st x2 = some st2 → ∀ (H : Heap) (locs : List Loc), cW D cA ks ad st H → va_S A s.heap H locs → ∀ ls : Array Slot, lv_has ls 3 [(0, .ref (ad 60)), (1, .int x1), (2, .int x2)] → (∀ (H : Heap) (locs : List Loc), cW D cA ks ad st2 H → va_S A s.heap H locs → ∀ ls : Array Slot, lv_has ls 3 [(0, .ref (ad 60))] → cWV p l e R s m args below meth c D cA ks ad A (some (.int r0)) st' H locs (F0 m 25 ls [])) → cWV p l e R s m args below meth c D cA ks ad A (some (.int r0)) st' H locs (F0 m 7 ls []) := by
    intro x1 n
    induction n with
    | zero =>
      intro st x2 st2 h
      exact non_some h
    | succ n ih =>
      intro st x2 st2 h H locs hP hS ls hl kx
      rw [L_weeks_L7] at h
      refine lv_iload_n hx hb dX0_weeks_7 rfl (lv_at hl 2 rfl) ?_
      refine lv_iload_n hx hb dX0_weeks_8 rfl (lv_at hl 1 rfl) ?_
      refine lv_icmp_ge (tgt := 25) hx hb dX0_weeks_9 rfl (fun c6 => ?_) (fun c6 => ?_)
      · have h := if_some_t h c6
        cases h
        exact kx _ _ hP hS ls (lv_sub hl [0] rfl)
      · have h := if_some_f h c6
        refine lv_aload_n hx hb dX0_weeks_12 rfl (lv_at hl 0 rfl) ?_
        refine lg_town C hO hP dX0_weeks_13 ?_
        obtain ⟨st8, hv7, h⟩ := bd1_some h
        refine k_T_goes (t := 0) C hO (by decide) hP hS hv7 q806 (Nat.le_of_ble_eq_true rfl) hl.1 (Nat.le_of_ble_eq_true rfl) hcs dX0_weeks_16 (fun H locs hP hS => ?_)
        refine lv_iinc (v := x2 + 1) (lv' := [(2, .int (x2 + 1)), (0, .ref (ad 60)), (1, .int x1)]) hx hb dX0_weeks_19 hl (k := 2) rfl rfl (by decide) rfl (fun ls hl => ?_)
        refine lv_goto (tgt := 7) hx hb dX0_weeks_22 rfl ?_
        exact ih st8 (x2 + 1) _ h _ _ hP hS ls (lv_sub hl [1, 2, 0] rfl) kx
  rw [L_weeks] at h
  refine lv_aload_n hx hb dX0_weeks_0 rfl (lv_at hl 0 rfl) ?_
  refine lv_iload_n hx hb dX0_weeks_1 rfl (lv_at hl 1 rfl) ?_
  obtain ⟨o3, st2, hv1, h⟩ := bd2_some h
  rcases o3 with _ | v1
  · rw [onx_none] at h
    refine k_L_mustGoT C hO hP hS hv1 q802 (Nat.le_of_ble_eq_true rfl) hl.1 (Nat.le_of_ble_eq_true rfl) hcs dX0_weeks_2 (fun H locs hP hS => ?_)
    refine cc_catch (pre := []) (a1 := 0) (a2 := 32) (hp := 33) (post := []) C hO hP q129 htab rfl rfl ?_
    refine lv_astore_n (lv' := [(2, .ref (ad 61)), (0, .ref (ad 60)), (1, .int x1)]) hx hb dX0_weeks_33 rfl hl (by decide) rfl (fun ls hl => ?_)
    refine lv_aload_n hx hb dX0_weeks_34 rfl (lv_at hl 1 rfl) ?_
    refine lv_aload_n hx hb dX0_weeks_35 rfl (lv_at hl 0 rfl) ?_
    obtain ⟨v4, st5, hv4, h⟩ := bd2_some h
    refine k_L_finds C hO hP hS hv4 q410 (Nat.le_of_ble_eq_true rfl) hl.1 (Nat.le_of_ble_eq_true rfl) hcs dX0_weeks_36 (fun H locs hP hS => ?_)
    exact cc_viret hx hb hr hlk h hP hS dX0_weeks_39
  · rw [onx_some] at h
    refine k_L_mustGoR C hO hP hS hv1 q802 (Nat.le_of_ble_eq_true rfl) hl.1 (Nat.le_of_ble_eq_true rfl) hcs dX0_weeks_2 (fun H locs hP hS => ?_)
    refine lv_iconst (v := 0) hx hb dX0_weeks_5 (by decide) ?_
    refine lv_istore_n (lv' := [(2, .int 0), (0, .ref (ad 60)), (1, .int x1)]) hx hb dX0_weeks_6 rfl hl (by decide) rfl (fun ls hl => ?_)
    obtain ⟨st9, hz11, h⟩ := bd1_some h
    refine L7 x1 N _ 0 _ hz11 _ _ hP hS ls (lv_sub hl [1, 2, 0] rfl) (fun H locs hP hS ls hl => ?_)
    refine lv_aload_n hx hb dX0_weeks_25 rfl (lv_at hl 0 rfl) ?_
    refine lg_town C hO hP dX0_weeks_26 ?_
    obtain ⟨v10, hv10, h⟩ := bd1_some h
    refine k_T_broken (t := 0) C hO (by decide) hP hv10 q829 (Nat.le_of_ble_eq_true rfl) hS.1 hl.1 (Nat.le_of_ble_eq_true rfl) hcs dX0_weeks_29 ?_
    exact cc_viret hx hb hr hlk h hP hS dX0_weeks_32
abbrev cX0_loose : ByteArray := prog_1_method_33_code
def yX0_loose : MethodName := ⟨RX0, "loose", "(I)I"⟩
theorem dX0_loose_0 : decode cX0_loose 0 = .ok (.aload_n 0, 1) := by decide +kernel
theorem dX0_loose_1 : decode cX0_loose 1 = .ok (.iload_n 1, 1) := by decide +kernel
theorem dX0_loose_2 : decode cX0_loose 2 = .ok (.invokevirtual 216, 3) := by decide +kernel
theorem dX0_loose_5 : decode cX0_loose 5 = .ok (.iconst 0, 1) := by decide +kernel
theorem dX0_loose_6 : decode cX0_loose 6 = .ok (.istore_n 2, 1) := by decide +kernel
theorem dX0_loose_7 : decode cX0_loose 7 = .ok (.iload_n 2, 1) := by decide +kernel
theorem dX0_loose_8 : decode cX0_loose 8 = .ok (.iload_n 1, 1) := by decide +kernel
theorem dX0_loose_9 : decode cX0_loose 9 = .ok (.if_icmp .ge 16, 3) := by decide +kernel
theorem dX0_loose_12 : decode cX0_loose 12 = .ok (.aload_n 0, 1) := by decide +kernel
theorem dX0_loose_13 : decode cX0_loose 13 = .ok (.getfield 46, 3) := by decide +kernel
theorem dX0_loose_16 : decode cX0_loose 16 = .ok (.invokevirtual 226, 3) := by decide +kernel
theorem dX0_loose_19 : decode cX0_loose 19 = .ok (.iinc 2 1, 3) := by decide +kernel
theorem dX0_loose_22 : decode cX0_loose 22 = .ok (.goto (-15), 3) := by decide +kernel
theorem dX0_loose_25 : decode cX0_loose 25 = .ok (.aload_n 0, 1) := by decide +kernel
theorem dX0_loose_26 : decode cX0_loose 26 = .ok (.getfield 46, 3) := by decide +kernel
theorem dX0_loose_29 : decode cX0_loose 29 = .ok (.invokevirtual 223, 3) := by decide +kernel
theorem dX0_loose_32 : decode cX0_loose 32 = .ok (.ireturn, 1) := by decide +kernel
theorem dX0_loose_33 : decode cX0_loose 33 = .ok (.astore_n 2, 1) := by decide +kernel
theorem dX0_loose_34 : decode cX0_loose 34 = .ok (.aload_n 0, 1) := by decide +kernel
theorem dX0_loose_35 : decode cX0_loose 35 = .ok (.aload_n 2, 1) := by decide +kernel
theorem dX0_loose_36 : decode cX0_loose 36 = .ok (.invokevirtual 123, 3) := by decide +kernel
theorem dX0_loose_39 : decode cX0_loose 39 = .ok (.ireturn, 1) := by decide +kernel
theorem q837 : (Jvm.Cond.methodLink "ChapterLoan" (226 : Nat) ({ cls := "ChapterLoan$Town", name := "goesLoose", desc := "()V" } : Jvm.MethodName)) ∈ lw_all := lw_g (lw_at lw_m4 33 rfl) rfl
theorem w_L_loose {l : Launch} {D : va_G} {cA : Nat → ClassId} {ks : List Nat} {ad : Nat → Nat} {A : Nat → Prop} (hO : klOk A ks ad) {st st' : CS} {N : Nat} {x1 : Int32} {r0 : Int32} (h : L_loose N st x1 = some (r0, st')) : Met l yX0_loose (wsW_ yX0_loose cX0_loose 3 (some .int) [(0, 32, 33, 8)]) (k2_rm 67 (40 * 67)) (cPre D cA ks ad A st [.ref (ad 60), .int x1]) (cQ (some (.int r0)) D cA ks ad A st') 0 0 A := by
  refine cc_ofH (own := RX0) (by decide) rfl (Nat.le_of_ble_eq_true rfl) (fun p e s m below meth c R args ls C hr hlk htab hP hS hl hcs => ?_)
  have hx := C.1
  have hb := C.2.1
  have hown := C.2.2.2.1
  have hNst := C.2.2.2.2.2.2.2.1
  have hl : lv_has ls 3 [(0, .ref (ad 60)), (1, .int x1)] := hl
  have L7 : ∀ (x1 : Int32), ∀ (n : Nat) (st : CS) (x2 : Int32) (st2 : CS), L_loose_L7 N x1 n st x2 = some st2 → ∀ (H : Heap) (locs : List Loc), cW D cA ks ad st H → va_S A s.heap H locs → ∀ ls : Array Slot, lv_has ls 3 [(0, .ref (ad 60)), (1, .int x1), (2, .int x2)] → (∀ (H : Heap) (locs : List Loc), cW D cA ks ad st2 H → va_S A s.heap H locs → ∀ ls : Array Slot, lv_has ls 3 [(0, .ref (ad 60))] → cWV p l e R s m args below meth c D cA ks ad A (some (.int r0)) st' H locs (F0 m 25 ls [])) → cWV p l e R s m args below meth c D cA ks ad A (some (.int r0)) st' H locs (F0 m 7 ls []) := by
    intro x1 n
    induction n with
    | zero =>
      intro st x2 st2 h
      exact non_some h
    | succ n ih =>
      intro st x2 st2 h H locs hP hS ls hl kx
      rw [L_loose_L7] at h
      refine lv_iload_n hx hb dX0_loose_7 rfl (lv_at hl 2 rfl) ?_
      refine lv_iload_n hx hb dX0_loose_8 rfl (lv_at hl 1 rfl) ?_
      refine lv_icmp_ge (tgt := 25) hx hb dX0_loose_9 rfl (fun c6 => ?_) (fun c6 => ?_)
      · have h := if_some_t h c6
        cases h
        exact kx _ _ hP hS ls (lv_sub hl [0] rfl)
      · have h := if_some_f h c6
        refine lv_aload_n hx hb dX0_loose_12 rfl (lv_at hl 0 rfl) ?_
        refine lg_town C hO hP dX0_loose_13 ?_
        obtain ⟨st8, hv7, h⟩ := bd1_some h
        refine k_T_goesLoose (t := 0) C hO (by decide) hP hS hv7 q837 (Nat.le_of_ble_eq_true rfl) hl.1 (Nat.le_of_ble_eq_true rfl) hcs dX0_loose_16 (fun H locs hP hS => ?_)
        refine lv_iinc (v := x2 + 1) (lv' := [(2, .int (x2 + 1)), (0, .ref (ad 60)), (1, .int x1)]) hx hb dX0_loose_19 hl (k := 2) rfl rfl (by decide) rfl (fun ls hl => ?_)
        refine lv_goto (tgt := 7) hx hb dX0_loose_22 rfl ?_
        exact ih st8 (x2 + 1) _ h _ _ hP hS ls (lv_sub hl [1, 2, 0] rfl) kx
  rw [L_loose] at h
  refine lv_aload_n hx hb dX0_loose_0 rfl (lv_at hl 0 rfl) ?_
  refine lv_iload_n hx hb dX0_loose_1 rfl (lv_at hl 1 rfl) ?_
  obtain ⟨o3, st2, hv1, h⟩ := bd2_some h
  rcases o3 with _ | v1
  · rw [onx_none] at h
    refine k_L_mustGoT C hO hP hS hv1 q802 (Nat.le_of_ble_eq_true rfl) hl.1 (Nat.le_of_ble_eq_true rfl) hcs dX0_loose_2 (fun H locs hP hS => ?_)
    refine cc_catch (pre := []) (a1 := 0) (a2 := 32) (hp := 33) (post := []) C hO hP q129 htab rfl rfl ?_
    refine lv_astore_n (lv' := [(2, .ref (ad 61)), (0, .ref (ad 60)), (1, .int x1)]) hx hb dX0_loose_33 rfl hl (by decide) rfl (fun ls hl => ?_)
    refine lv_aload_n hx hb dX0_loose_34 rfl (lv_at hl 1 rfl) ?_
    refine lv_aload_n hx hb dX0_loose_35 rfl (lv_at hl 0 rfl) ?_
    obtain ⟨v4, st5, hv4, h⟩ := bd2_some h
    refine k_L_finds C hO hP hS hv4 q410 (Nat.le_of_ble_eq_true rfl) hl.1 (Nat.le_of_ble_eq_true rfl) hcs dX0_loose_36 (fun H locs hP hS => ?_)
    exact cc_viret hx hb hr hlk h hP hS dX0_loose_39
  · rw [onx_some] at h
    refine k_L_mustGoR C hO hP hS hv1 q802 (Nat.le_of_ble_eq_true rfl) hl.1 (Nat.le_of_ble_eq_true rfl) hcs dX0_loose_2 (fun H locs hP hS => ?_)
    refine lv_iconst (v := 0) hx hb dX0_loose_5 (by decide) ?_
    refine lv_istore_n (lv' := [(2, .int 0), (0, .ref (ad 60)), (1, .int x1)]) hx hb dX0_loose_6 rfl hl (by decide) rfl (fun ls hl => ?_)
    obtain ⟨st9, hz11, h⟩ := bd1_some h
    refine L7 x1 N _ 0 _ hz11 _ _ hP hS ls (lv_sub hl [1, 2, 0] rfl) (fun H locs hP hS ls hl => ?_)
    refine lv_aload_n hx hb dX0_loose_25 rfl (lv_at hl 0 rfl) ?_
    refine lg_town C hO hP dX0_loose_26 ?_
    obtain ⟨v10, hv10, h⟩ := bd1_some h
    refine k_T_broken (t := 0) C hO (by decide) hP hv10 q829 (Nat.le_of_ble_eq_true rfl) hS.1 hl.1 (Nat.le_of_ble_eq_true rfl) hcs dX0_loose_29 ?_
    exact cc_viret hx hb hr hlk h hP hS dX0_loose_32
abbrev cX0_then : ByteArray := prog_1_method_34_code
def yX0_then : MethodName := ⟨RX0, "then", "(III)I"⟩
theorem dX0_then_0 : decode cX0_then 0 = .ok (.aload_n 0, 1) := by decide +kernel
theorem dX0_then_1 : decode cX0_then 1 = .ok (.iload_n 1, 1) := by decide +kernel
theorem dX0_then_2 : decode cX0_then 2 = .ok (.iconst 0, 1) := by decide +kernel
theorem dX0_then_3 : decode cX0_then 3 = .ok (.bipush 60, 2) := by decide +kernel
theorem dX0_then_5 : decode cX0_then 5 = .ok (.invokestatic 91, 3) := by decide +kernel
theorem dX0_then_8 : decode cX0_then 8 = .ok (.ifCond .eq 31, 3) := by decide +kernel
theorem dX0_then_11 : decode cX0_then 11 = .ok (.aload_n 0, 1) := by decide +kernel
theorem dX0_then_12 : decode cX0_then 12 = .ok (.iload_n 2, 1) := by decide +kernel
theorem dX0_then_13 : decode cX0_then 13 = .ok (.invokevirtual 160, 3) := by decide +kernel
theorem dX0_then_16 : decode cX0_then 16 = .ok (.ifCond .eq 23, 3) := by decide +kernel
theorem dX0_then_19 : decode cX0_then 19 = .ok (.iload_n 3, 1) := by decide +kernel
theorem dX0_then_20 : decode cX0_then 20 = .ok (.iconst 2, 1) := by decide +kernel
theorem dX0_then_21 : decode cX0_then 21 = .ok (.bipush 7, 2) := by decide +kernel
theorem dX0_then_23 : decode cX0_then 23 = .ok (.invokestatic 91, 3) := by decide +kernel
theorem dX0_then_26 : decode cX0_then 26 = .ok (.ifCond .eq 13, 3) := by decide +kernel
theorem dX0_then_29 : decode cX0_then 29 = .ok (.iload_n 3, 1) := by decide +kernel
theorem dX0_then_30 : decode cX0_then 30 = .ok (.bipush 6, 2) := by decide +kernel
theorem dX0_then_32 : decode cX0_then 32 = .ok (.if_icmp .eq 7, 3) := by decide +kernel
theorem dX0_then_35 : decode cX0_then 35 = .ok (.iconst 1, 1) := by decide +kernel
theorem dX0_then_36 : decode cX0_then 36 = .ok (.goto 4, 3) := by decide +kernel
theorem dX0_then_39 : decode cX0_then 39 = .ok (.iconst 0, 1) := by decide +kernel
theorem dX0_then_40 : decode cX0_then 40 = .ok (.iconst 1, 1) := by decide +kernel
theorem dX0_then_41 : decode cX0_then 41 = .ok (.invokevirtual 102, 3) := by decide +kernel
theorem dX0_then_44 : decode cX0_then 44 = .ok (.aload_n 0, 1) := by decide +kernel
theorem dX0_then_45 : decode cX0_then 45 = .ok (.getfield 53, 3) := by decide +kernel
theorem dX0_then_48 : decode cX0_then 48 = .ok (.aload_n 0, 1) := by decide +kernel
theorem dX0_then_49 : decode cX0_then 49 = .ok (.getfield 46, 3) := by decide +kernel
theorem dX0_then_52 : decode cX0_then 52 = .ok (.invokevirtual 229, 3) := by decide +kernel
theorem dX0_then_55 : decode cX0_then 55 = .ok (.pop, 1) := by decide +kernel
theorem dX0_then_56 : decode cX0_then 56 = .ok (.iconst 0, 1) := by decide +kernel
theorem dX0_then_57 : decode cX0_then 57 = .ok (.istore 4, 2) := by decide +kernel
theorem dX0_then_59 : decode cX0_then 59 = .ok (.iload 4, 2) := by decide +kernel
theorem dX0_then_61 : decode cX0_then 61 = .ok (.iload_n 1, 1) := by decide +kernel
theorem dX0_then_62 : decode cX0_then 62 = .ok (.if_icmp .ge 16, 3) := by decide +kernel
theorem dX0_then_65 : decode cX0_then 65 = .ok (.aload_n 0, 1) := by decide +kernel
theorem dX0_then_66 : decode cX0_then 66 = .ok (.getfield 53, 3) := by decide +kernel
theorem dX0_then_69 : decode cX0_then 69 = .ok (.invokevirtual 220, 3) := by decide +kernel
theorem dX0_then_72 : decode cX0_then 72 = .ok (.iinc 4 1, 3) := by decide +kernel
theorem dX0_then_75 : decode cX0_then 75 = .ok (.goto (-16), 3) := by decide +kernel
theorem dX0_then_78 : decode cX0_then 78 = .ok (.aload_n 0, 1) := by decide +kernel
theorem dX0_then_79 : decode cX0_then 79 = .ok (.getfield 53, 3) := by decide +kernel
theorem dX0_then_82 : decode cX0_then 82 = .ok (.iload_n 2, 1) := by decide +kernel
theorem dX0_then_83 : decode cX0_then 83 = .ok (.iload_n 3, 1) := by decide +kernel
theorem dX0_then_84 : decode cX0_then 84 = .ok (.invokestatic 186, 3) := by decide +kernel
theorem dX0_then_87 : decode cX0_then 87 = .ok (.ireturn, 1) := by decide +kernel
theorem dX0_then_88 : decode cX0_then 88 = .ok (.astore 4, 2) := by decide +kernel
theorem dX0_then_90 : decode cX0_then 90 = .ok (.aload_n 0, 1) := by decide +kernel
theorem dX0_then_91 : decode cX0_then 91 = .ok (.aload 4, 2) := by decide +kernel
theorem dX0_then_93 : decode cX0_then 93 = .ok (.invokevirtual 123, 3) := by decide +kernel
theorem dX0_then_96 : decode cX0_then 96 = .ok (.ireturn, 1) := by decide +kernel
theorem q700 : (Jvm.Cond.methodLink "ChapterLoan" (186 : Nat) ({ cls := "ChapterLoan", name := "isOn", desc := "(LChapterLoan$Town;II)I" } : Jvm.MethodName)) ∈ lw_all := lw_g (lw_at lw_m3 136 rfl) rfl
theorem q852 : (Jvm.Cond.methodLink "ChapterLoan" (229 : Nat) ({ cls := "ChapterLoan$Town", name := "become", desc := "(LChapterLoan$Town;)LChapterLoan$Town;" } : Jvm.MethodName)) ∈ lw_all := lw_g (lw_at lw_m4 48 rfl) rfl
theorem w_L_then {l : Launch} {D : va_G} {cA : Nat → ClassId} {ks : List Nat} {ad : Nat → Nat} {A : Nat → Prop} (hO : klOk A ks ad) {st st' : CS} {N : Nat} {x1 : Int32} {x2 : Int32} {x3 : Int32} {r0 : Int32} (h : L_then N st x1 x2 x3 = some (r0, st')) : Met l yX0_then (wsW_ yX0_then cX0_then 5 (some .int) [(0, 87, 88, 8)]) (k2_rm 66 (40 * 66)) (cPre D cA ks ad A st [.ref (ad 60), .int x1, .int x2, .int x3]) (cQ (some (.int r0)) D cA ks ad A st') 0 0 A := by
  refine cc_ofH (own := RX0) (by decide) rfl (Nat.le_of_ble_eq_true rfl) (fun p e s m below meth c R args ls C hr hlk htab hP hS hl hcs => ?_)
  have hx := C.1
  have hb := C.2.1
  have hown := C.2.2.2.1
  have hNst := C.2.2.2.2.2.2.2.1
  have hl : lv_has ls 5 [(0, .ref (ad 60)), (1, .int x1), (2, .int x2), (3, .int x3)] := hl
  have L59 : ∀ (x1 : Int32), ∀ (x2 : Int32), ∀ (x3 : Int32), ∀ (n : Nat) (st : CS) (x4 : Int32) (st2 : CS), L_then_L59 N x1 x2 x3 n st x4 = some st2 → ∀ (H : Heap) (locs : List Loc), cW D cA ks ad st H → va_S A s.heap H locs → ∀ ls : Array Slot, lv_has ls 5 [(0, .ref (ad 60)), (1, .int x1), (2, .int x2), (3, .int x3), (4, .int x4)] → (∀ (H : Heap) (locs : List Loc), cW D cA ks ad st2 H → va_S A s.heap H locs → ∀ ls : Array Slot, lv_has ls 5 [(0, .ref (ad 60)), (2, .int x2), (3, .int x3)] → cWV p l e R s m args below meth c D cA ks ad A (some (.int r0)) st' H locs (F0 m 78 ls [])) → cWV p l e R s m args below meth c D cA ks ad A (some (.int r0)) st' H locs (F0 m 59 ls []) := by
    intro x1 x2 x3 n
    induction n with
    | zero =>
      intro st x4 st2 h
      exact non_some h
    | succ n ih =>
      intro st x4 st2 h H locs hP hS ls hl kx
      rw [L_then_L59] at h
      refine lv_iload hx hb dX0_then_59 (lv_at hl 4 rfl) ?_
      refine lv_iload_n hx hb dX0_then_61 rfl (lv_at hl 1 rfl) ?_
      refine lv_icmp_ge (tgt := 78) hx hb dX0_then_62 rfl (fun c9 => ?_) (fun c9 => ?_)
      · have h := if_some_t h c9
        cases h
        exact kx _ _ hP hS ls (lv_sub hl [0, 2, 3] rfl)
      · have h := if_some_f h c9
        refine lv_aload_n hx hb dX0_then_65 rfl (lv_at hl 0 rfl) ?_
        refine lg_tried C hO hP dX0_then_66 ?_
        obtain ⟨st11, hv10, h⟩ := bd1_some h
        refine k_T_goes (t := 2) C hO (by decide) hP hS hv10 q806 (Nat.le_of_ble_eq_true rfl) hl.1 (Nat.le_of_ble_eq_true rfl) hcs dX0_then_69 (fun H locs hP hS => ?_)
        refine lv_iinc (v := x4 + 1) (lv' := [(4, .int (x4 + 1)), (0, .ref (ad 60)), (1, .int x1), (2, .int x2), (3, .int x3)]) hx hb dX0_then_72 hl (k := 4) rfl rfl (by decide) rfl (fun ls hl => ?_)
        refine lv_goto (tgt := 59) hx hb dX0_then_75 rfl ?_
        exact ih st11 (x4 + 1) _ h _ _ hP hS ls (lv_sub hl [1, 2, 3, 4, 0] rfl) kx
  rw [L_then] at h
  refine lv_aload_n hx hb dX0_then_0 rfl (lv_at hl 0 rfl) ?_
  refine lv_iload_n hx hb dX0_then_1 rfl (lv_at hl 1 rfl) ?_
  refine lv_iconst (v := 0) hx hb dX0_then_2 (by decide) ?_
  refine lv_bipush (v := 60) hx hb dX0_then_3 (by decide) ?_
  obtain ⟨v1, hv1, h⟩ := bd1_some h
  refine k_L_in hx hb C.2.2.1 hown C.2.2.2.2.1 C.2.2.2.2.2.1 q399 hv1 (Nat.le_of_ble_eq_true rfl) hl.1 (Nat.le_of_ble_eq_true rfl) hcs dX0_then_5 ?_
  refine lv_if_eq (tgt := 39) hx hb dX0_then_8 rfl (fun c2 => ?_) (fun c2 => ?_)
  · have h := if_some_t h c2
    refine lv_iconst (v := 0) hx hb dX0_then_39 (by decide) ?_
    refine lv_iconst (v := 1) hx hb dX0_then_40 (by decide) ?_
    obtain ⟨o5, st4, hv3, h⟩ := bd2_some h
    rcases o5 with _ | v3
    · rw [onx_none] at h
      refine k_L_needT C hO hP hS hv3 q402 (Nat.le_of_ble_eq_true rfl) hl.1 (Nat.le_of_ble_eq_true rfl) hcs dX0_then_41 (fun H locs hP hS => ?_)
      refine cc_catch (pre := []) (a1 := 0) (a2 := 87) (hp := 88) (post := []) C hO hP q129 htab rfl rfl ?_
      refine lv_astore (lv' := [(4, .ref (ad 61)), (0, .ref (ad 60)), (1, .int x1), (2, .int x2), (3, .int x3)]) hx hb dX0_then_88 hl (by decide) rfl (fun ls hl => ?_)
      refine lv_aload_n hx hb dX0_then_90 rfl (lv_at hl 1 rfl) ?_
      refine lv_aload hx hb dX0_then_91 (lv_at hl 0 rfl) ?_
      obtain ⟨v6, st7, hv6, h⟩ := bd2_some h
      refine k_L_finds C hO hP hS hv6 q410 (Nat.le_of_ble_eq_true rfl) hl.1 (Nat.le_of_ble_eq_true rfl) hcs dX0_then_93 (fun H locs hP hS => ?_)
      exact cc_viret hx hb hr hlk h hP hS dX0_then_96
    · rw [onx_some] at h
      refine k_L_needR C hO hP hS hv3 q402 (Nat.le_of_ble_eq_true rfl) hl.1 (Nat.le_of_ble_eq_true rfl) hcs dX0_then_41 (fun H locs hP hS => ?_)
      refine lv_aload_n hx hb dX0_then_44 rfl (lv_at hl 0 rfl) ?_
      refine lg_tried C hO hP dX0_then_45 ?_
      refine lv_aload_n hx hb dX0_then_48 rfl (lv_at hl 0 rfl) ?_
      refine lg_town C hO hP dX0_then_49 ?_
      obtain ⟨st8, hst8, h⟩ := bd1_some h
      refine k_T_become (t := 2) (u := 0) C hO (by decide) (by decide) hP hS hst8 q852 (Nat.le_of_ble_eq_true rfl) hl.1 (Nat.le_of_ble_eq_true rfl) hcs dX0_then_52 (fun H locs hP hS => ?_)
      refine lv_pop hx hb dX0_then_55 rfl ?_
      refine lv_iconst (v := 0) hx hb dX0_then_56 (by decide) ?_
      refine lv_istore (lv' := [(4, .int 0), (0, .ref (ad 60)), (1, .int x1), (2, .int x2), (3, .int x3)]) hx hb dX0_then_57 hl (by decide) rfl (fun ls hl => ?_)
      obtain ⟨st12, hz14, h⟩ := bd1_some h
      refine L59 x1 x2 x3 N _ 0 _ hz14 _ _ hP hS ls (lv_sub hl [1, 2, 3, 4, 0] rfl) (fun H locs hP hS ls hl => ?_)
      refine lv_aload_n hx hb dX0_then_78 rfl (lv_at hl 0 rfl) ?_
      refine lg_tried C hO hP dX0_then_79 ?_
      refine lv_iload_n hx hb dX0_then_82 rfl (lv_at hl 1 rfl) ?_
      refine lv_iload_n hx hb dX0_then_83 rfl (lv_at hl 2 rfl) ?_
      obtain ⟨v13, hv13, h⟩ := bd1_some h
      refine k_L_isOn (t := 2) C hO (by decide) hP hv13 q700 (Nat.le_of_ble_eq_true rfl) hS.1 hl.1 (Nat.le_of_ble_eq_true rfl) hcs dX0_then_84 ?_
      exact cc_viret hx hb hr hlk h hP hS dX0_then_87
  · have h := if_some_f h c2
    refine lv_aload_n hx hb dX0_then_11 rfl (lv_at hl 0 rfl) ?_
    refine lv_iload_n hx hb dX0_then_12 rfl (lv_at hl 2 rfl) ?_
    obtain ⟨v15, hv15, h⟩ := bd1_some h
    refine k_L_isDebtor C hO hP hv15 q559 (Nat.le_of_ble_eq_true rfl) hS.1 hl.1 (Nat.le_of_ble_eq_true rfl) hcs dX0_then_13 ?_
    refine lv_if_eq (tgt := 39) hx hb dX0_then_16 rfl (fun c16 => ?_) (fun c16 => ?_)
    · have h := if_some_t h c16
      refine lv_iconst (v := 0) hx hb dX0_then_39 (by decide) ?_
      refine lv_iconst (v := 1) hx hb dX0_then_40 (by decide) ?_
      obtain ⟨o19, st18, hv17, h⟩ := bd2_some h
      rcases o19 with _ | v17
      · rw [onx_none] at h
        refine k_L_needT C hO hP hS hv17 q402 (Nat.le_of_ble_eq_true rfl) hl.1 (Nat.le_of_ble_eq_true rfl) hcs dX0_then_41 (fun H locs hP hS => ?_)
        refine cc_catch (pre := []) (a1 := 0) (a2 := 87) (hp := 88) (post := []) C hO hP q129 htab rfl rfl ?_
        refine lv_astore (lv' := [(4, .ref (ad 61)), (0, .ref (ad 60)), (1, .int x1), (2, .int x2), (3, .int x3)]) hx hb dX0_then_88 hl (by decide) rfl (fun ls hl => ?_)
        refine lv_aload_n hx hb dX0_then_90 rfl (lv_at hl 1 rfl) ?_
        refine lv_aload hx hb dX0_then_91 (lv_at hl 0 rfl) ?_
        obtain ⟨v20, st21, hv20, h⟩ := bd2_some h
        refine k_L_finds C hO hP hS hv20 q410 (Nat.le_of_ble_eq_true rfl) hl.1 (Nat.le_of_ble_eq_true rfl) hcs dX0_then_93 (fun H locs hP hS => ?_)
        exact cc_viret hx hb hr hlk h hP hS dX0_then_96
      · rw [onx_some] at h
        refine k_L_needR C hO hP hS hv17 q402 (Nat.le_of_ble_eq_true rfl) hl.1 (Nat.le_of_ble_eq_true rfl) hcs dX0_then_41 (fun H locs hP hS => ?_)
        refine lv_aload_n hx hb dX0_then_44 rfl (lv_at hl 0 rfl) ?_
        refine lg_tried C hO hP dX0_then_45 ?_
        refine lv_aload_n hx hb dX0_then_48 rfl (lv_at hl 0 rfl) ?_
        refine lg_town C hO hP dX0_then_49 ?_
        obtain ⟨st22, hst22, h⟩ := bd1_some h
        refine k_T_become (t := 2) (u := 0) C hO (by decide) (by decide) hP hS hst22 q852 (Nat.le_of_ble_eq_true rfl) hl.1 (Nat.le_of_ble_eq_true rfl) hcs dX0_then_52 (fun H locs hP hS => ?_)
        refine lv_pop hx hb dX0_then_55 rfl ?_
        refine lv_iconst (v := 0) hx hb dX0_then_56 (by decide) ?_
        refine lv_istore (lv' := [(4, .int 0), (0, .ref (ad 60)), (1, .int x1), (2, .int x2), (3, .int x3)]) hx hb dX0_then_57 hl (by decide) rfl (fun ls hl => ?_)
        obtain ⟨st23, hz25, h⟩ := bd1_some h
        refine L59 x1 x2 x3 N _ 0 _ hz25 _ _ hP hS ls (lv_sub hl [1, 2, 3, 4, 0] rfl) (fun H locs hP hS ls hl => ?_)
        refine lv_aload_n hx hb dX0_then_78 rfl (lv_at hl 0 rfl) ?_
        refine lg_tried C hO hP dX0_then_79 ?_
        refine lv_iload_n hx hb dX0_then_82 rfl (lv_at hl 1 rfl) ?_
        refine lv_iload_n hx hb dX0_then_83 rfl (lv_at hl 2 rfl) ?_
        obtain ⟨v24, hv24, h⟩ := bd1_some h
        refine k_L_isOn (t := 2) C hO (by decide) hP hv24 q700 (Nat.le_of_ble_eq_true rfl) hS.1 hl.1 (Nat.le_of_ble_eq_true rfl) hcs dX0_then_84 ?_
        exact cc_viret hx hb hr hlk h hP hS dX0_then_87
    · have h := if_some_f h c16
      refine lv_iload_n hx hb dX0_then_19 rfl (lv_at hl 3 rfl) ?_
      refine lv_iconst (v := 2) hx hb dX0_then_20 (by decide) ?_
      refine lv_bipush (v := 7) hx hb dX0_then_21 (by decide) ?_
      obtain ⟨v26, hv26, h⟩ := bd1_some h
      refine k_L_in hx hb C.2.2.1 hown C.2.2.2.2.1 C.2.2.2.2.2.1 q399 hv26 (Nat.le_of_ble_eq_true rfl) hl.1 (Nat.le_of_ble_eq_true rfl) hcs dX0_then_23 ?_
      refine lv_if_eq (tgt := 39) hx hb dX0_then_26 rfl (fun c27 => ?_) (fun c27 => ?_)
      · have h := if_some_t h c27
        refine lv_iconst (v := 0) hx hb dX0_then_39 (by decide) ?_
        refine lv_iconst (v := 1) hx hb dX0_then_40 (by decide) ?_
        obtain ⟨o30, st29, hv28, h⟩ := bd2_some h
        rcases o30 with _ | v28
        · rw [onx_none] at h
          refine k_L_needT C hO hP hS hv28 q402 (Nat.le_of_ble_eq_true rfl) hl.1 (Nat.le_of_ble_eq_true rfl) hcs dX0_then_41 (fun H locs hP hS => ?_)
          refine cc_catch (pre := []) (a1 := 0) (a2 := 87) (hp := 88) (post := []) C hO hP q129 htab rfl rfl ?_
          refine lv_astore (lv' := [(4, .ref (ad 61)), (0, .ref (ad 60)), (1, .int x1), (2, .int x2), (3, .int x3)]) hx hb dX0_then_88 hl (by decide) rfl (fun ls hl => ?_)
          refine lv_aload_n hx hb dX0_then_90 rfl (lv_at hl 1 rfl) ?_
          refine lv_aload hx hb dX0_then_91 (lv_at hl 0 rfl) ?_
          obtain ⟨v31, st32, hv31, h⟩ := bd2_some h
          refine k_L_finds C hO hP hS hv31 q410 (Nat.le_of_ble_eq_true rfl) hl.1 (Nat.le_of_ble_eq_true rfl) hcs dX0_then_93 (fun H locs hP hS => ?_)
          exact cc_viret hx hb hr hlk h hP hS dX0_then_96
        · rw [onx_some] at h
          refine k_L_needR C hO hP hS hv28 q402 (Nat.le_of_ble_eq_true rfl) hl.1 (Nat.le_of_ble_eq_true rfl) hcs dX0_then_41 (fun H locs hP hS => ?_)
          refine lv_aload_n hx hb dX0_then_44 rfl (lv_at hl 0 rfl) ?_
          refine lg_tried C hO hP dX0_then_45 ?_
          refine lv_aload_n hx hb dX0_then_48 rfl (lv_at hl 0 rfl) ?_
          refine lg_town C hO hP dX0_then_49 ?_
          obtain ⟨st33, hst33, h⟩ := bd1_some h
          refine k_T_become (t := 2) (u := 0) C hO (by decide) (by decide) hP hS hst33 q852 (Nat.le_of_ble_eq_true rfl) hl.1 (Nat.le_of_ble_eq_true rfl) hcs dX0_then_52 (fun H locs hP hS => ?_)
          refine lv_pop hx hb dX0_then_55 rfl ?_
          refine lv_iconst (v := 0) hx hb dX0_then_56 (by decide) ?_
          refine lv_istore (lv' := [(4, .int 0), (0, .ref (ad 60)), (1, .int x1), (2, .int x2), (3, .int x3)]) hx hb dX0_then_57 hl (by decide) rfl (fun ls hl => ?_)
          obtain ⟨st34, hz36, h⟩ := bd1_some h
          refine L59 x1 x2 x3 N _ 0 _ hz36 _ _ hP hS ls (lv_sub hl [1, 2, 3, 4, 0] rfl) (fun H locs hP hS ls hl => ?_)
          refine lv_aload_n hx hb dX0_then_78 rfl (lv_at hl 0 rfl) ?_
          refine lg_tried C hO hP dX0_then_79 ?_
          refine lv_iload_n hx hb dX0_then_82 rfl (lv_at hl 1 rfl) ?_
          refine lv_iload_n hx hb dX0_then_83 rfl (lv_at hl 2 rfl) ?_
          obtain ⟨v35, hv35, h⟩ := bd1_some h
          refine k_L_isOn (t := 2) C hO (by decide) hP hv35 q700 (Nat.le_of_ble_eq_true rfl) hS.1 hl.1 (Nat.le_of_ble_eq_true rfl) hcs dX0_then_84 ?_
          exact cc_viret hx hb hr hlk h hP hS dX0_then_87
      · have h := if_some_f h c27
        refine lv_iload_n hx hb dX0_then_29 rfl (lv_at hl 3 rfl) ?_
        refine lv_bipush (v := 6) hx hb dX0_then_30 (by decide) ?_
        refine lv_icmp_eq (tgt := 39) hx hb dX0_then_32 rfl (fun c37 => ?_) (fun c37 => ?_)
        · have h := if_some_t h c37
          refine lv_iconst (v := 0) hx hb dX0_then_39 (by decide) ?_
          refine lv_iconst (v := 1) hx hb dX0_then_40 (by decide) ?_
          obtain ⟨o40, st39, hv38, h⟩ := bd2_some h
          rcases o40 with _ | v38
          · rw [onx_none] at h
            refine k_L_needT C hO hP hS hv38 q402 (Nat.le_of_ble_eq_true rfl) hl.1 (Nat.le_of_ble_eq_true rfl) hcs dX0_then_41 (fun H locs hP hS => ?_)
            refine cc_catch (pre := []) (a1 := 0) (a2 := 87) (hp := 88) (post := []) C hO hP q129 htab rfl rfl ?_
            refine lv_astore (lv' := [(4, .ref (ad 61)), (0, .ref (ad 60)), (1, .int x1), (2, .int x2), (3, .int x3)]) hx hb dX0_then_88 hl (by decide) rfl (fun ls hl => ?_)
            refine lv_aload_n hx hb dX0_then_90 rfl (lv_at hl 1 rfl) ?_
            refine lv_aload hx hb dX0_then_91 (lv_at hl 0 rfl) ?_
            obtain ⟨v41, st42, hv41, h⟩ := bd2_some h
            refine k_L_finds C hO hP hS hv41 q410 (Nat.le_of_ble_eq_true rfl) hl.1 (Nat.le_of_ble_eq_true rfl) hcs dX0_then_93 (fun H locs hP hS => ?_)
            exact cc_viret hx hb hr hlk h hP hS dX0_then_96
          · rw [onx_some] at h
            refine k_L_needR C hO hP hS hv38 q402 (Nat.le_of_ble_eq_true rfl) hl.1 (Nat.le_of_ble_eq_true rfl) hcs dX0_then_41 (fun H locs hP hS => ?_)
            refine lv_aload_n hx hb dX0_then_44 rfl (lv_at hl 0 rfl) ?_
            refine lg_tried C hO hP dX0_then_45 ?_
            refine lv_aload_n hx hb dX0_then_48 rfl (lv_at hl 0 rfl) ?_
            refine lg_town C hO hP dX0_then_49 ?_
            obtain ⟨st43, hst43, h⟩ := bd1_some h
            refine k_T_become (t := 2) (u := 0) C hO (by decide) (by decide) hP hS hst43 q852 (Nat.le_of_ble_eq_true rfl) hl.1 (Nat.le_of_ble_eq_true rfl) hcs dX0_then_52 (fun H locs hP hS => ?_)
            refine lv_pop hx hb dX0_then_55 rfl ?_
            refine lv_iconst (v := 0) hx hb dX0_then_56 (by decide) ?_
            refine lv_istore (lv' := [(4, .int 0), (0, .ref (ad 60)), (1, .int x1), (2, .int x2), (3, .int x3)]) hx hb dX0_then_57 hl (by decide) rfl (fun ls hl => ?_)
            obtain ⟨st44, hz46, h⟩ := bd1_some h
            refine L59 x1 x2 x3 N _ 0 _ hz46 _ _ hP hS ls (lv_sub hl [1, 2, 3, 4, 0] rfl) (fun H locs hP hS ls hl => ?_)
            refine lv_aload_n hx hb dX0_then_78 rfl (lv_at hl 0 rfl) ?_
            refine lg_tried C hO hP dX0_then_79 ?_
            refine lv_iload_n hx hb dX0_then_82 rfl (lv_at hl 1 rfl) ?_
            refine lv_iload_n hx hb dX0_then_83 rfl (lv_at hl 2 rfl) ?_
            obtain ⟨v45, hv45, h⟩ := bd1_some h
            refine k_L_isOn (t := 2) C hO (by decide) hP hv45 q700 (Nat.le_of_ble_eq_true rfl) hS.1 hl.1 (Nat.le_of_ble_eq_true rfl) hcs dX0_then_84 ?_
            exact cc_viret hx hb hr hlk h hP hS dX0_then_87
        · have h := if_some_f h c37
          refine lv_iconst (v := 1) hx hb dX0_then_35 (by decide) ?_
          refine lv_goto (tgt := 40) hx hb dX0_then_36 rfl ?_
          refine lv_iconst (v := 1) hx hb dX0_then_40 (by decide) ?_
          obtain ⟨o49, st48, hv47, h⟩ := bd2_some h
          rcases o49 with _ | v47
          · rw [onx_none] at h
            refine k_L_needT C hO hP hS hv47 q402 (Nat.le_of_ble_eq_true rfl) hl.1 (Nat.le_of_ble_eq_true rfl) hcs dX0_then_41 (fun H locs hP hS => ?_)
            refine cc_catch (pre := []) (a1 := 0) (a2 := 87) (hp := 88) (post := []) C hO hP q129 htab rfl rfl ?_
            refine lv_astore (lv' := [(4, .ref (ad 61)), (0, .ref (ad 60)), (1, .int x1), (2, .int x2), (3, .int x3)]) hx hb dX0_then_88 hl (by decide) rfl (fun ls hl => ?_)
            refine lv_aload_n hx hb dX0_then_90 rfl (lv_at hl 1 rfl) ?_
            refine lv_aload hx hb dX0_then_91 (lv_at hl 0 rfl) ?_
            obtain ⟨v50, st51, hv50, h⟩ := bd2_some h
            refine k_L_finds C hO hP hS hv50 q410 (Nat.le_of_ble_eq_true rfl) hl.1 (Nat.le_of_ble_eq_true rfl) hcs dX0_then_93 (fun H locs hP hS => ?_)
            exact cc_viret hx hb hr hlk h hP hS dX0_then_96
          · rw [onx_some] at h
            refine k_L_needR C hO hP hS hv47 q402 (Nat.le_of_ble_eq_true rfl) hl.1 (Nat.le_of_ble_eq_true rfl) hcs dX0_then_41 (fun H locs hP hS => ?_)
            refine lv_aload_n hx hb dX0_then_44 rfl (lv_at hl 0 rfl) ?_
            refine lg_tried C hO hP dX0_then_45 ?_
            refine lv_aload_n hx hb dX0_then_48 rfl (lv_at hl 0 rfl) ?_
            refine lg_town C hO hP dX0_then_49 ?_
            obtain ⟨st52, hst52, h⟩ := bd1_some h
            refine k_T_become (t := 2) (u := 0) C hO (by decide) (by decide) hP hS hst52 q852 (Nat.le_of_ble_eq_true rfl) hl.1 (Nat.le_of_ble_eq_true rfl) hcs dX0_then_52 (fun H locs hP hS => ?_)
            refine lv_pop hx hb dX0_then_55 rfl ?_
            refine lv_iconst (v := 0) hx hb dX0_then_56 (by decide) ?_
            refine lv_istore (lv' := [(4, .int 0), (0, .ref (ad 60)), (1, .int x1), (2, .int x2), (3, .int x3)]) hx hb dX0_then_57 hl (by decide) rfl (fun ls hl => ?_)
            obtain ⟨st53, hz55, h⟩ := bd1_some h
            refine L59 x1 x2 x3 N _ 0 _ hz55 _ _ hP hS ls (lv_sub hl [1, 2, 3, 4, 0] rfl) (fun H locs hP hS ls hl => ?_)
            refine lv_aload_n hx hb dX0_then_78 rfl (lv_at hl 0 rfl) ?_
            refine lg_tried C hO hP dX0_then_79 ?_
            refine lv_iload_n hx hb dX0_then_82 rfl (lv_at hl 1 rfl) ?_
            refine lv_iload_n hx hb dX0_then_83 rfl (lv_at hl 2 rfl) ?_
            obtain ⟨v54, hv54, h⟩ := bd1_some h
            refine k_L_isOn (t := 2) C hO (by decide) hP hv54 q700 (Nat.le_of_ble_eq_true rfl) hS.1 hl.1 (Nat.le_of_ble_eq_true rfl) hcs dX0_then_84 ?_
            exact cc_viret hx hb hr hlk h hP hS dX0_then_87
abbrev cX0_feed : ByteArray := prog_1_method_35_code
def yX0_feed : MethodName := ⟨RX0, "feed", "(JI)I"⟩
theorem dX0_feed_0 : decode cX0_feed 0 = .ok (.aload_n 0, 1) := by decide +kernel
theorem dX0_feed_1 : decode cX0_feed 1 = .ok (.iload_n 3, 1) := by decide +kernel
theorem dX0_feed_2 : decode cX0_feed 2 = .ok (.iconst 1, 1) := by decide +kernel
theorem dX0_feed_3 : decode cX0_feed 3 = .ok (.bipush 8, 2) := by decide +kernel
theorem dX0_feed_5 : decode cX0_feed 5 = .ok (.invokestatic 91, 3) := by decide +kernel
theorem dX0_feed_8 : decode cX0_feed 8 = .ok (.iconst 1, 1) := by decide +kernel
theorem dX0_feed_9 : decode cX0_feed 9 = .ok (.invokevirtual 102, 3) := by decide +kernel
theorem dX0_feed_12 : decode cX0_feed 12 = .ok (.aload_n 0, 1) := by decide +kernel
theorem dX0_feed_13 : decode cX0_feed 13 = .ok (.aload_n 0, 1) := by decide +kernel
theorem dX0_feed_14 : decode cX0_feed 14 = .ok (.getfield 46, 3) := by decide +kernel
theorem dX0_feed_17 : decode cX0_feed 17 = .ok (.getfield 233, 3) := by decide +kernel
theorem dX0_feed_20 : decode cX0_feed 20 = .ok (.iload_n 3, 1) := by decide +kernel
theorem dX0_feed_21 : decode cX0_feed 21 = .ok (.iadd, 1) := by decide +kernel
theorem dX0_feed_22 : decode cX0_feed 22 = .ok (.bipush 50, 2) := by decide +kernel
theorem dX0_feed_24 : decode cX0_feed 24 = .ok (.if_icmp .gt 7, 3) := by decide +kernel
theorem dX0_feed_27 : decode cX0_feed 27 = .ok (.iconst 1, 1) := by decide +kernel
theorem dX0_feed_28 : decode cX0_feed 28 = .ok (.goto 4, 3) := by decide +kernel
theorem dX0_feed_31 : decode cX0_feed 31 = .ok (.iconst 0, 1) := by decide +kernel
theorem dX0_feed_32 : decode cX0_feed 32 = .ok (.iconst 4, 1) := by decide +kernel
theorem dX0_feed_33 : decode cX0_feed 33 = .ok (.invokevirtual 102, 3) := by decide +kernel
theorem dX0_feed_36 : decode cX0_feed 36 = .ok (.iconst 0, 1) := by decide +kernel
theorem dX0_feed_37 : decode cX0_feed 37 = .ok (.istore 4, 2) := by decide +kernel
theorem dX0_feed_39 : decode cX0_feed 39 = .ok (.iload 4, 2) := by decide +kernel
theorem dX0_feed_41 : decode cX0_feed 41 = .ok (.iload_n 3, 1) := by decide +kernel
theorem dX0_feed_42 : decode cX0_feed 42 = .ok (.if_icmp .ge 46, 3) := by decide +kernel
theorem dX0_feed_45 : decode cX0_feed 45 = .ok (.aload_n 0, 1) := by decide +kernel
theorem dX0_feed_46 : decode cX0_feed 46 = .ok (.getfield 46, 3) := by decide +kernel
theorem dX0_feed_49 : decode cX0_feed 49 = .ok (.getfield 236, 3) := by decide +kernel
theorem dX0_feed_52 : decode cX0_feed 52 = .ok (.aload_n 0, 1) := by decide +kernel
theorem dX0_feed_53 : decode cX0_feed 53 = .ok (.getfield 46, 3) := by decide +kernel
theorem dX0_feed_56 : decode cX0_feed 56 = .ok (.getfield 233, 3) := by decide +kernel
theorem dX0_feed_59 : decode cX0_feed 59 = .ok (.lload_n 1, 1) := by decide +kernel
theorem dX0_feed_60 : decode cX0_feed 60 = .ok (.bipush 8, 2) := by decide +kernel
theorem dX0_feed_62 : decode cX0_feed 62 = .ok (.iload 4, 2) := by decide +kernel
theorem dX0_feed_64 : decode cX0_feed 64 = .ok (.imul, 1) := by decide +kernel
theorem dX0_feed_65 : decode cX0_feed 65 = .ok (.lshr, 1) := by decide +kernel
theorem dX0_feed_66 : decode cX0_feed 66 = .ok (.l2i, 1) := by decide +kernel
theorem dX0_feed_67 : decode cX0_feed 67 = .ok (.i2b, 1) := by decide +kernel
theorem dX0_feed_68 : decode cX0_feed 68 = .ok (.bastore, 1) := by decide +kernel
theorem dX0_feed_69 : decode cX0_feed 69 = .ok (.aload_n 0, 1) := by decide +kernel
theorem dX0_feed_70 : decode cX0_feed 70 = .ok (.getfield 46, 3) := by decide +kernel
theorem dX0_feed_73 : decode cX0_feed 73 = .ok (.dup, 1) := by decide +kernel
theorem dX0_feed_74 : decode cX0_feed 74 = .ok (.getfield 233, 3) := by decide +kernel
theorem dX0_feed_77 : decode cX0_feed 77 = .ok (.iconst 1, 1) := by decide +kernel
theorem dX0_feed_78 : decode cX0_feed 78 = .ok (.iadd, 1) := by decide +kernel
theorem dX0_feed_79 : decode cX0_feed 79 = .ok (.putfield 233, 3) := by decide +kernel
theorem dX0_feed_82 : decode cX0_feed 82 = .ok (.iinc 4 1, 3) := by decide +kernel
theorem dX0_feed_85 : decode cX0_feed 85 = .ok (.goto (-46), 3) := by decide +kernel
theorem dX0_feed_88 : decode cX0_feed 88 = .ok (.aload_n 0, 1) := by decide +kernel
theorem dX0_feed_89 : decode cX0_feed 89 = .ok (.getfield 46, 3) := by decide +kernel
theorem dX0_feed_92 : decode cX0_feed 92 = .ok (.getfield 233, 3) := by decide +kernel
theorem dX0_feed_95 : decode cX0_feed 95 = .ok (.ireturn, 1) := by decide +kernel
theorem dX0_feed_96 : decode cX0_feed 96 = .ok (.astore 4, 2) := by decide +kernel
theorem dX0_feed_98 : decode cX0_feed 98 = .ok (.aload_n 0, 1) := by decide +kernel
theorem dX0_feed_99 : decode cX0_feed 99 = .ok (.aload 4, 2) := by decide +kernel
theorem dX0_feed_101 : decode cX0_feed 101 = .ok (.invokevirtual 123, 3) := by decide +kernel
theorem dX0_feed_104 : decode cX0_feed 104 = .ok (.ireturn, 1) := by decide +kernel
theorem w_L_feed {l : Launch} {D : va_G} {cA : Nat → ClassId} {ks : List Nat} {ad : Nat → Nat} {A : Nat → Prop} (hO : klOk A ks ad) {st st' : CS} {N : Nat} {x1 : Int64} {x3 : Int32} {r0 : Int32} (h : L_feed N st x1 x3 = some (r0, st')) : Met l yX0_feed (wsW_ yX0_feed cX0_feed 5 (some .int) [(0, 95, 96, 8)]) (k2_rm 2 (40 * 2)) (cPre D cA ks ad A st [.ref (ad 60), .long x1, .int x3]) (cQ (some (.int r0)) D cA ks ad A st') 0 0 A := by
  refine cc_ofH (own := RX0) (by decide) rfl (Nat.le_of_ble_eq_true rfl) (fun p e s m below meth c R args ls C hr hlk htab hP hS hl hcs => ?_)
  have hx := C.1
  have hb := C.2.1
  have hown := C.2.2.2.1
  have hNst := C.2.2.2.2.2.2.2.1
  have hl : lv_has ls 5 [(0, .ref (ad 60)), (1, .long x1), (3, .int x3)] := hl
  have L39 : ∀ (x1 : Int64), ∀ (x3 : Int32), ∀ (n : Nat) (st : CS) (x4 : Int32) (st2 : CS), L_feed_L39 N x1 x3 n st x4 = some st2 → ∀ (H : Heap) (locs : List Loc), cW D cA ks ad st H → va_S A s.heap H locs → ∀ ls : Array Slot, lv_has ls 5 [(0, .ref (ad 60)), (1, .long x1), (3, .int x3), (4, .int x4)] → (∀ (H : Heap) (locs : List Loc), cW D cA ks ad st2 H → va_S A s.heap H locs → ∀ ls : Array Slot, lv_has ls 5 [(0, .ref (ad 60))] → cWV p l e R s m args below meth c D cA ks ad A (some (.int r0)) st' H locs (F0 m 88 ls [])) → cWV p l e R s m args below meth c D cA ks ad A (some (.int r0)) st' H locs (F0 m 39 ls []) := by
    intro x1 x3 n
    induction n with
    | zero =>
      intro st x4 st2 h
      exact non_some h
    | succ n ih =>
      intro st x4 st2 h H locs hP hS ls hl kx
      rw [L_feed_L39] at h
      refine lv_iload hx hb dX0_feed_39 (lv_at hl 3 rfl) ?_
      refine lv_iload_n hx hb dX0_feed_41 rfl (lv_at hl 2 rfl) ?_
      refine lv_icmp_ge (tgt := 88) hx hb dX0_feed_42 rfl (fun c13 => ?_) (fun c13 => ?_)
      · have h := if_some_t h c13
        cases h
        exact kx _ _ hP hS ls (lv_sub hl [0] rfl)
      · have h := if_some_f h c13
        refine lv_aload_n hx hb dX0_feed_45 rfl (lv_at hl 0 rfl) ?_
        refine lg_town C hO hP dX0_feed_46 ?_
        refine tgN_tape (t := 0) C hO (by decide) hP dX0_feed_49 ?_
        refine lv_aload_n hx hb dX0_feed_52 rfl (lv_at hl 0 rfl) ?_
        refine lg_town C hO hP dX0_feed_53 ?_
        refine tgN_taped (t := 0) C hO (by decide) hP dX0_feed_56 ?_
        refine lv_lload_n hx hb dX0_feed_59 rfl (lv_at hl 1 rfl) ?_
        refine lv_bipush (v := 8) hx hb dX0_feed_60 (by decide) ?_
        refine lv_iload hx hb dX0_feed_62 (lv_at hl 3 rfl) ?_
        refine lv_imul hx hb dX0_feed_64 ?_
        refine lv_lshr (v := x1 >>> ((8 * x4).toInt64 &&& 63)) hx hb dX0_feed_65 rfl ?_
        refine lv_l2i (v := (x1 >>> ((8 * x4).toInt64 &&& 63)).toInt32) hx hb dX0_feed_66 rfl ?_
        refine lv_i2b (v := ((x1 >>> ((8 * x4).toInt64 &&& 63)).toInt32).toInt8.toInt32) hx hb dX0_feed_67 rfl ?_
        obtain ⟨b14, hb14, h⟩ := bd1_some h
        refine cc_bst C hO hP hS (hO.2.2.2 _ (tk_ 14 (by decide) (by decide))) (cg_t 14 (by decide) (by decide)) hb14 (cg_At 14 (by decide) (by decide)) hP.2 dX0_feed_68 (fun H locs hP hS => ?_)
        refine lv_aload_n hx hb dX0_feed_69 rfl (lv_at hl 0 rfl) ?_
        refine lg_town C hO hP dX0_feed_70 ?_
        refine lv_dup hx hb dX0_feed_73 rfl ?_
        refine tgN_taped (t := 0) C hO (by decide) hP dX0_feed_74 ?_
        refine lv_iconst (v := 1) hx hb dX0_feed_77 (by decide) ?_
        refine lv_iadd hx hb dX0_feed_78 ?_
        refine tpN_taped (t := 0) C hO (by decide) hP hS dX0_feed_79 (fun H locs hP hS => ?_)
        refine lv_iinc (v := x4 + 1) (lv' := [(4, .int (x4 + 1)), (0, .ref (ad 60)), (1, .long x1), (3, .int x3)]) hx hb dX0_feed_82 hl (k := 3) rfl rfl (by decide) rfl (fun ls hl => ?_)
        refine lv_goto (tgt := 39) hx hb dX0_feed_85 rfl ?_
        exact ih (csF (csA st (20 * 0 + 14) b14) (20 * 0) 21 (((csA st (20 * 0 + 14) b14).1 (20 * 0) 21) + 1)) (x4 + 1) _ h _ _ hP hS ls (lv_sub hl [1, 2, 3, 0] rfl) kx
  rw [L_feed] at h
  refine lv_aload_n hx hb dX0_feed_0 rfl (lv_at hl 0 rfl) ?_
  refine lv_iload_n hx hb dX0_feed_1 rfl (lv_at hl 2 rfl) ?_
  refine lv_iconst (v := 1) hx hb dX0_feed_2 (by decide) ?_
  refine lv_bipush (v := 8) hx hb dX0_feed_3 (by decide) ?_
  obtain ⟨v1, hv1, h⟩ := bd1_some h
  refine k_L_in hx hb C.2.2.1 hown C.2.2.2.2.1 C.2.2.2.2.2.1 q399 hv1 (Nat.le_of_ble_eq_true rfl) hl.1 (Nat.le_of_ble_eq_true rfl) hcs dX0_feed_5 ?_
  refine lv_iconst (v := 1) hx hb dX0_feed_8 (by decide) ?_
  obtain ⟨o4, st3, hv2, h⟩ := bd2_some h
  rcases o4 with _ | v2
  · rw [onx_none] at h
    refine k_L_needT C hO hP hS hv2 q402 (Nat.le_of_ble_eq_true rfl) hl.1 (Nat.le_of_ble_eq_true rfl) hcs dX0_feed_9 (fun H locs hP hS => ?_)
    refine cc_catch (pre := []) (a1 := 0) (a2 := 95) (hp := 96) (post := []) C hO hP q129 htab rfl rfl ?_
    refine lv_astore (lv' := [(4, .ref (ad 61)), (0, .ref (ad 60)), (1, .long x1), (3, .int x3)]) hx hb dX0_feed_96 hl (by decide) rfl (fun ls hl => ?_)
    refine lv_aload_n hx hb dX0_feed_98 rfl (lv_at hl 1 rfl) ?_
    refine lv_aload hx hb dX0_feed_99 (lv_at hl 0 rfl) ?_
    obtain ⟨v5, st6, hv5, h⟩ := bd2_some h
    refine k_L_finds C hO hP hS hv5 q410 (Nat.le_of_ble_eq_true rfl) hl.1 (Nat.le_of_ble_eq_true rfl) hcs dX0_feed_101 (fun H locs hP hS => ?_)
    exact cc_viret hx hb hr hlk h hP hS dX0_feed_104
  · rw [onx_some] at h
    refine k_L_needR C hO hP hS hv2 q402 (Nat.le_of_ble_eq_true rfl) hl.1 (Nat.le_of_ble_eq_true rfl) hcs dX0_feed_9 (fun H locs hP hS => ?_)
    refine lv_aload_n hx hb dX0_feed_12 rfl (lv_at hl 0 rfl) ?_
    refine lv_aload_n hx hb dX0_feed_13 rfl (lv_at hl 0 rfl) ?_
    refine lg_town C hO hP dX0_feed_14 ?_
    refine tgN_taped (t := 0) C hO (by decide) hP dX0_feed_17 ?_
    refine lv_iload_n hx hb dX0_feed_20 rfl (lv_at hl 2 rfl) ?_
    refine lv_iadd hx hb dX0_feed_21 ?_
    refine lv_bipush (v := 50) hx hb dX0_feed_22 (by decide) ?_
    refine lv_icmp_gt (tgt := 31) hx hb dX0_feed_24 rfl (fun c7 => ?_) (fun c7 => ?_)
    · have h := if_some_t h c7
      refine lv_iconst (v := 0) hx hb dX0_feed_31 (by decide) ?_
      refine lv_iconst (v := 4) hx hb dX0_feed_32 (by decide) ?_
      obtain ⟨o10, st9, hv8, h⟩ := bd2_some h
      rcases o10 with _ | v8
      · rw [onx_none] at h
        refine k_L_needT C hO hP hS hv8 q402 (Nat.le_of_ble_eq_true rfl) hl.1 (Nat.le_of_ble_eq_true rfl) hcs dX0_feed_33 (fun H locs hP hS => ?_)
        refine cc_catch (pre := []) (a1 := 0) (a2 := 95) (hp := 96) (post := []) C hO hP q129 htab rfl rfl ?_
        refine lv_astore (lv' := [(4, .ref (ad 61)), (0, .ref (ad 60)), (1, .long x1), (3, .int x3)]) hx hb dX0_feed_96 hl (by decide) rfl (fun ls hl => ?_)
        refine lv_aload_n hx hb dX0_feed_98 rfl (lv_at hl 1 rfl) ?_
        refine lv_aload hx hb dX0_feed_99 (lv_at hl 0 rfl) ?_
        obtain ⟨v11, st12, hv11, h⟩ := bd2_some h
        refine k_L_finds C hO hP hS hv11 q410 (Nat.le_of_ble_eq_true rfl) hl.1 (Nat.le_of_ble_eq_true rfl) hcs dX0_feed_101 (fun H locs hP hS => ?_)
        exact cc_viret hx hb hr hlk h hP hS dX0_feed_104
      · rw [onx_some] at h
        refine k_L_needR C hO hP hS hv8 q402 (Nat.le_of_ble_eq_true rfl) hl.1 (Nat.le_of_ble_eq_true rfl) hcs dX0_feed_33 (fun H locs hP hS => ?_)
        refine lv_iconst (v := 0) hx hb dX0_feed_36 (by decide) ?_
        refine lv_istore (lv' := [(4, .int 0), (0, .ref (ad 60)), (1, .long x1), (3, .int x3)]) hx hb dX0_feed_37 hl (by decide) rfl (fun ls hl => ?_)
        obtain ⟨st15, hz16, h⟩ := bd1_some h
        refine L39 x1 x3 N _ 0 _ hz16 _ _ hP hS ls (lv_sub hl [1, 2, 3, 0] rfl) (fun H locs hP hS ls hl => ?_)
        refine lv_aload_n hx hb dX0_feed_88 rfl (lv_at hl 0 rfl) ?_
        refine lg_town C hO hP dX0_feed_89 ?_
        refine tgN_taped (t := 0) C hO (by decide) hP dX0_feed_92 ?_
        exact cc_viret hx hb hr hlk h hP hS dX0_feed_95
    · have h := if_some_f h c7
      refine lv_iconst (v := 1) hx hb dX0_feed_27 (by decide) ?_
      refine lv_goto (tgt := 32) hx hb dX0_feed_28 rfl ?_
      refine lv_iconst (v := 4) hx hb dX0_feed_32 (by decide) ?_
      obtain ⟨o19, st18, hv17, h⟩ := bd2_some h
      rcases o19 with _ | v17
      · rw [onx_none] at h
        refine k_L_needT C hO hP hS hv17 q402 (Nat.le_of_ble_eq_true rfl) hl.1 (Nat.le_of_ble_eq_true rfl) hcs dX0_feed_33 (fun H locs hP hS => ?_)
        refine cc_catch (pre := []) (a1 := 0) (a2 := 95) (hp := 96) (post := []) C hO hP q129 htab rfl rfl ?_
        refine lv_astore (lv' := [(4, .ref (ad 61)), (0, .ref (ad 60)), (1, .long x1), (3, .int x3)]) hx hb dX0_feed_96 hl (by decide) rfl (fun ls hl => ?_)
        refine lv_aload_n hx hb dX0_feed_98 rfl (lv_at hl 1 rfl) ?_
        refine lv_aload hx hb dX0_feed_99 (lv_at hl 0 rfl) ?_
        obtain ⟨v20, st21, hv20, h⟩ := bd2_some h
        refine k_L_finds C hO hP hS hv20 q410 (Nat.le_of_ble_eq_true rfl) hl.1 (Nat.le_of_ble_eq_true rfl) hcs dX0_feed_101 (fun H locs hP hS => ?_)
        exact cc_viret hx hb hr hlk h hP hS dX0_feed_104
      · rw [onx_some] at h
        refine k_L_needR C hO hP hS hv17 q402 (Nat.le_of_ble_eq_true rfl) hl.1 (Nat.le_of_ble_eq_true rfl) hcs dX0_feed_33 (fun H locs hP hS => ?_)
        refine lv_iconst (v := 0) hx hb dX0_feed_36 (by decide) ?_
        refine lv_istore (lv' := [(4, .int 0), (0, .ref (ad 60)), (1, .long x1), (3, .int x3)]) hx hb dX0_feed_37 hl (by decide) rfl (fun ls hl => ?_)
        obtain ⟨st22, hz23, h⟩ := bd1_some h
        refine L39 x1 x3 N _ 0 _ hz23 _ _ hP hS ls (lv_sub hl [1, 2, 3, 0] rfl) (fun H locs hP hS ls hl => ?_)
        refine lv_aload_n hx hb dX0_feed_88 rfl (lv_at hl 0 rfl) ?_
        refine lg_town C hO hP dX0_feed_89 ?_
        refine tgN_taped (t := 0) C hO (by decide) hP dX0_feed_92 ?_
        exact cc_viret hx hb hr hlk h hP hS dX0_feed_95
abbrev cX0_law : ByteArray := prog_1_method_37_code
def yX0_law : MethodName := ⟨RX0, "law", "(IIII)I"⟩
theorem dX0_law_0 : decode cX0_law 0 = .ok (.aload_n 0, 1) := by decide +kernel
theorem dX0_law_1 : decode cX0_law 1 = .ok (.iload_n 1, 1) := by decide +kernel
theorem dX0_law_2 : decode cX0_law 2 = .ok (.iconst 0, 1) := by decide +kernel
theorem dX0_law_3 : decode cX0_law 3 = .ok (.iconst 1, 1) := by decide +kernel
theorem dX0_law_4 : decode cX0_law 4 = .ok (.invokestatic 91, 3) := by decide +kernel
theorem dX0_law_7 : decode cX0_law 7 = .ok (.iconst 1, 1) := by decide +kernel
theorem dX0_law_8 : decode cX0_law 8 = .ok (.invokevirtual 102, 3) := by decide +kernel
theorem dX0_law_11 : decode cX0_law 11 = .ok (.iload_n 1, 1) := by decide +kernel
theorem dX0_law_12 : decode cX0_law 12 = .ok (.ifCond .ne 17, 3) := by decide +kernel
theorem dX0_law_15 : decode cX0_law 15 = .ok (.aload_n 0, 1) := by decide +kernel
theorem dX0_law_16 : decode cX0_law 16 = .ok (.getfield 46, 3) := by decide +kernel
theorem dX0_law_19 : decode cX0_law 19 = .ok (.iload_n 2, 1) := by decide +kernel
theorem dX0_law_20 : decode cX0_law 20 = .ok (.iload_n 3, 1) := by decide +kernel
theorem dX0_law_21 : decode cX0_law 21 = .ok (.iload 4, 2) := by decide +kernel
theorem dX0_law_23 : decode cX0_law 23 = .ok (.invokevirtual 262, 3) := by decide +kernel
theorem dX0_law_26 : decode cX0_law 26 = .ok (.goto 14, 3) := by decide +kernel
theorem dX0_law_29 : decode cX0_law 29 = .ok (.aload_n 0, 1) := by decide +kernel
theorem dX0_law_30 : decode cX0_law 30 = .ok (.getfield 46, 3) := by decide +kernel
theorem dX0_law_33 : decode cX0_law 33 = .ok (.iload_n 2, 1) := by decide +kernel
theorem dX0_law_34 : decode cX0_law 34 = .ok (.iload_n 3, 1) := by decide +kernel
theorem dX0_law_35 : decode cX0_law 35 = .ok (.iload 4, 2) := by decide +kernel
theorem dX0_law_37 : decode cX0_law 37 = .ok (.invokevirtual 266, 3) := by decide +kernel
theorem dX0_law_40 : decode cX0_law 40 = .ok (.ireturn, 1) := by decide +kernel
theorem dX0_law_41 : decode cX0_law 41 = .ok (.astore 5, 2) := by decide +kernel
theorem dX0_law_43 : decode cX0_law 43 = .ok (.aload_n 0, 1) := by decide +kernel
theorem dX0_law_44 : decode cX0_law 44 = .ok (.aload 5, 2) := by decide +kernel
theorem dX0_law_46 : decode cX0_law 46 = .ok (.invokevirtual 123, 3) := by decide +kernel
theorem dX0_law_49 : decode cX0_law 49 = .ok (.ireturn, 1) := by decide +kernel
theorem q1098 : (Jvm.Cond.methodLink "ChapterLoan" (262 : Nat) ({ cls := "ChapterLoan$Town", name := "payBy", desc := "(III)I" } : Jvm.MethodName)) ∈ lw_all := lw_g (lw_at lw_m5 54 rfl) rfl
theorem q1099 : (Jvm.Cond.methodLink "ChapterLoan" (266 : Nat) ({ cls := "ChapterLoan$Town", name := "trustBy", desc := "(III)I" } : Jvm.MethodName)) ∈ lw_all := lw_g (lw_at lw_m5 55 rfl) rfl
theorem w_L_law {l : Launch} {D : va_G} {cA : Nat → ClassId} {ks : List Nat} {ad : Nat → Nat} {A : Nat → Prop} (hO : klOk A ks ad) {st st' : CS} {x1 : Int32} {x2 : Int32} {x3 : Int32} {x4 : Int32} {r0 : Int32} (h : L_law st x1 x2 x3 x4 = some (r0, st')) : Met l yX0_law (wsW_ yX0_law cX0_law 6 (some .int) [(0, 40, 41, 8)]) (k2_rm 63 (40 * 63)) (cPre D cA ks ad A st [.ref (ad 60), .int x1, .int x2, .int x3, .int x4]) (cQ (some (.int r0)) D cA ks ad A st') 0 0 A := by
  refine cc_ofH (own := RX0) (by decide) rfl (Nat.le_of_ble_eq_true rfl) (fun p e s m below meth c R args ls C hr hlk htab hP hS hl hcs => ?_)
  have hx := C.1
  have hb := C.2.1
  have hown := C.2.2.2.1
  have hNst := C.2.2.2.2.2.2.2.1
  have hl : lv_has ls 6 [(0, .ref (ad 60)), (1, .int x1), (2, .int x2), (3, .int x3), (4, .int x4)] := hl
  rw [L_law] at h
  refine lv_aload_n hx hb dX0_law_0 rfl (lv_at hl 0 rfl) ?_
  refine lv_iload_n hx hb dX0_law_1 rfl (lv_at hl 1 rfl) ?_
  refine lv_iconst (v := 0) hx hb dX0_law_2 (by decide) ?_
  refine lv_iconst (v := 1) hx hb dX0_law_3 (by decide) ?_
  obtain ⟨v1, hv1, h⟩ := bd1_some h
  refine k_L_in hx hb C.2.2.1 hown C.2.2.2.2.1 C.2.2.2.2.2.1 q399 hv1 (Nat.le_of_ble_eq_true rfl) hl.1 (Nat.le_of_ble_eq_true rfl) hcs dX0_law_4 ?_
  refine lv_iconst (v := 1) hx hb dX0_law_7 (by decide) ?_
  obtain ⟨o4, st3, hv2, h⟩ := bd2_some h
  rcases o4 with _ | v2
  · rw [onx_none] at h
    refine k_L_needT C hO hP hS hv2 q402 (Nat.le_of_ble_eq_true rfl) hl.1 (Nat.le_of_ble_eq_true rfl) hcs dX0_law_8 (fun H locs hP hS => ?_)
    refine cc_catch (pre := []) (a1 := 0) (a2 := 40) (hp := 41) (post := []) C hO hP q129 htab rfl rfl ?_
    refine lv_astore (lv' := [(5, .ref (ad 61)), (0, .ref (ad 60)), (1, .int x1), (2, .int x2), (3, .int x3), (4, .int x4)]) hx hb dX0_law_41 hl (by decide) rfl (fun ls hl => ?_)
    refine lv_aload_n hx hb dX0_law_43 rfl (lv_at hl 1 rfl) ?_
    refine lv_aload hx hb dX0_law_44 (lv_at hl 0 rfl) ?_
    obtain ⟨v5, st6, hv5, h⟩ := bd2_some h
    refine k_L_finds C hO hP hS hv5 q410 (Nat.le_of_ble_eq_true rfl) hl.1 (Nat.le_of_ble_eq_true rfl) hcs dX0_law_46 (fun H locs hP hS => ?_)
    exact cc_viret hx hb hr hlk h hP hS dX0_law_49
  · rw [onx_some] at h
    refine k_L_needR C hO hP hS hv2 q402 (Nat.le_of_ble_eq_true rfl) hl.1 (Nat.le_of_ble_eq_true rfl) hcs dX0_law_8 (fun H locs hP hS => ?_)
    refine lv_iload_n hx hb dX0_law_11 rfl (lv_at hl 1 rfl) ?_
    refine lv_if_ne (tgt := 29) hx hb dX0_law_12 rfl (fun c7 => ?_) (fun c7 => ?_)
    · have h := if_some_f h c7
      refine lv_aload_n hx hb dX0_law_29 rfl (lv_at hl 0 rfl) ?_
      refine lg_town C hO hP dX0_law_30 ?_
      refine lv_iload_n hx hb dX0_law_33 rfl (lv_at hl 2 rfl) ?_
      refine lv_iload_n hx hb dX0_law_34 rfl (lv_at hl 3 rfl) ?_
      refine lv_iload hx hb dX0_law_35 (lv_at hl 4 rfl) ?_
      obtain ⟨v8, st9, hv8, h⟩ := bd2_some h
      refine k_T_trustBy (t := 0) C hO (by decide) hP hS hv8 q1099 (Nat.le_of_ble_eq_true rfl) hl.1 (Nat.le_of_ble_eq_true rfl) hcs dX0_law_37 (fun H locs hP hS => ?_)
      exact cc_viret hx hb hr hlk h hP hS dX0_law_40
    · have h := if_some_t h c7
      refine lv_aload_n hx hb dX0_law_15 rfl (lv_at hl 0 rfl) ?_
      refine lg_town C hO hP dX0_law_16 ?_
      refine lv_iload_n hx hb dX0_law_19 rfl (lv_at hl 2 rfl) ?_
      refine lv_iload_n hx hb dX0_law_20 rfl (lv_at hl 3 rfl) ?_
      refine lv_iload hx hb dX0_law_21 (lv_at hl 4 rfl) ?_
      obtain ⟨v10, st11, hv10, h⟩ := bd2_some h
      refine k_T_payBy (t := 0) C hO (by decide) hP hS hv10 q1098 (Nat.le_of_ble_eq_true rfl) hl.1 (Nat.le_of_ble_eq_true rfl) hcs dX0_law_23 (fun H locs hP hS => ?_)
      refine lv_goto (tgt := 40) hx hb dX0_law_26 rfl ?_
      exact cc_viret hx hb hr hlk h hP hS dX0_law_40
abbrev cX0_clashOf : ByteArray := prog_1_method_43_code
def yX0_clashOf : MethodName := ⟨RX0, "clashOf", "(I)I"⟩
theorem dX0_clashOf_0 : decode cX0_clashOf 0 = .ok (.aload_n 0, 1) := by decide +kernel
theorem dX0_clashOf_1 : decode cX0_clashOf 1 = .ok (.iload_n 1, 1) := by decide +kernel
theorem dX0_clashOf_2 : decode cX0_clashOf 2 = .ok (.iconst 0, 1) := by decide +kernel
theorem dX0_clashOf_3 : decode cX0_clashOf 3 = .ok (.iconst 1, 1) := by decide +kernel
theorem dX0_clashOf_4 : decode cX0_clashOf 4 = .ok (.aload_n 0, 1) := by decide +kernel
theorem dX0_clashOf_5 : decode cX0_clashOf 5 = .ok (.getfield 46, 3) := by decide +kernel
theorem dX0_clashOf_8 : decode cX0_clashOf 8 = .ok (.getfield 88, 3) := by decide +kernel
theorem dX0_clashOf_11 : decode cX0_clashOf 11 = .ok (.ishl, 1) := by decide +kernel
theorem dX0_clashOf_12 : decode cX0_clashOf 12 = .ok (.iconst 1, 1) := by decide +kernel
theorem dX0_clashOf_13 : decode cX0_clashOf 13 = .ok (.isub, 1) := by decide +kernel
theorem dX0_clashOf_14 : decode cX0_clashOf 14 = .ok (.invokestatic 91, 3) := by decide +kernel
theorem dX0_clashOf_17 : decode cX0_clashOf 17 = .ok (.iconst 1, 1) := by decide +kernel
theorem dX0_clashOf_18 : decode cX0_clashOf 18 = .ok (.invokevirtual 102, 3) := by decide +kernel
theorem dX0_clashOf_21 : decode cX0_clashOf 21 = .ok (.iconst (-1), 1) := by decide +kernel
theorem dX0_clashOf_22 : decode cX0_clashOf 22 = .ok (.istore_n 2, 1) := by decide +kernel
theorem dX0_clashOf_23 : decode cX0_clashOf 23 = .ok (.aload_n 0, 1) := by decide +kernel
theorem dX0_clashOf_24 : decode cX0_clashOf 24 = .ok (.getfield 46, 3) := by decide +kernel
theorem dX0_clashOf_27 : decode cX0_clashOf 27 = .ok (.getfield 88, 3) := by decide +kernel
theorem dX0_clashOf_30 : decode cX0_clashOf 30 = .ok (.iconst 1, 1) := by decide +kernel
theorem dX0_clashOf_31 : decode cX0_clashOf 31 = .ok (.isub, 1) := by decide +kernel
theorem dX0_clashOf_32 : decode cX0_clashOf 32 = .ok (.istore_n 3, 1) := by decide +kernel
theorem dX0_clashOf_33 : decode cX0_clashOf 33 = .ok (.iload_n 3, 1) := by decide +kernel
theorem dX0_clashOf_34 : decode cX0_clashOf 34 = .ok (.ifCond .lt 78, 3) := by decide +kernel
theorem dX0_clashOf_37 : decode cX0_clashOf 37 = .ok (.aload_n 0, 1) := by decide +kernel
theorem dX0_clashOf_38 : decode cX0_clashOf 38 = .ok (.getfield 46, 3) := by decide +kernel
theorem dX0_clashOf_41 : decode cX0_clashOf 41 = .ok (.getfield 88, 3) := by decide +kernel
theorem dX0_clashOf_44 : decode cX0_clashOf 44 = .ok (.iconst 1, 1) := by decide +kernel
theorem dX0_clashOf_45 : decode cX0_clashOf 45 = .ok (.isub, 1) := by decide +kernel
theorem dX0_clashOf_46 : decode cX0_clashOf 46 = .ok (.istore 4, 2) := by decide +kernel
theorem dX0_clashOf_48 : decode cX0_clashOf 48 = .ok (.iload 4, 2) := by decide +kernel
theorem dX0_clashOf_50 : decode cX0_clashOf 50 = .ok (.iload_n 3, 1) := by decide +kernel
theorem dX0_clashOf_51 : decode cX0_clashOf 51 = .ok (.if_icmp .le 55, 3) := by decide +kernel
theorem dX0_clashOf_54 : decode cX0_clashOf 54 = .ok (.iload_n 1, 1) := by decide +kernel
theorem dX0_clashOf_55 : decode cX0_clashOf 55 = .ok (.iload_n 3, 1) := by decide +kernel
theorem dX0_clashOf_56 : decode cX0_clashOf 56 = .ok (.invokestatic 135, 3) := by decide +kernel
theorem dX0_clashOf_59 : decode cX0_clashOf 59 = .ok (.ifCond .eq 39, 3) := by decide +kernel
theorem dX0_clashOf_62 : decode cX0_clashOf 62 = .ok (.iload_n 1, 1) := by decide +kernel
theorem dX0_clashOf_63 : decode cX0_clashOf 63 = .ok (.iload 4, 2) := by decide +kernel
theorem dX0_clashOf_65 : decode cX0_clashOf 65 = .ok (.invokestatic 135, 3) := by decide +kernel
theorem dX0_clashOf_68 : decode cX0_clashOf 68 = .ok (.ifCond .eq 30, 3) := by decide +kernel
theorem dX0_clashOf_71 : decode cX0_clashOf 71 = .ok (.aload_n 0, 1) := by decide +kernel
theorem dX0_clashOf_72 : decode cX0_clashOf 72 = .ok (.getfield 46, 3) := by decide +kernel
theorem dX0_clashOf_75 : decode cX0_clashOf 75 = .ok (.getfield 111, 3) := by decide +kernel
theorem dX0_clashOf_78 : decode cX0_clashOf 78 = .ok (.iload_n 3, 1) := by decide +kernel
theorem dX0_clashOf_79 : decode cX0_clashOf 79 = .ok (.iaload, 1) := by decide +kernel
theorem dX0_clashOf_80 : decode cX0_clashOf 80 = .ok (.iload 4, 2) := by decide +kernel
theorem dX0_clashOf_82 : decode cX0_clashOf 82 = .ok (.invokestatic 135, 3) := by decide +kernel
theorem dX0_clashOf_85 : decode cX0_clashOf 85 = .ok (.ifCond .eq 13, 3) := by decide +kernel
theorem dX0_clashOf_88 : decode cX0_clashOf 88 = .ok (.bipush 10, 2) := by decide +kernel
theorem dX0_clashOf_90 : decode cX0_clashOf 90 = .ok (.iload_n 3, 1) := by decide +kernel
theorem dX0_clashOf_91 : decode cX0_clashOf 91 = .ok (.imul, 1) := by decide +kernel
theorem dX0_clashOf_92 : decode cX0_clashOf 92 = .ok (.iload 4, 2) := by decide +kernel
theorem dX0_clashOf_94 : decode cX0_clashOf 94 = .ok (.iadd, 1) := by decide +kernel
theorem dX0_clashOf_95 : decode cX0_clashOf 95 = .ok (.goto 4, 3) := by decide +kernel
theorem dX0_clashOf_98 : decode cX0_clashOf 98 = .ok (.iload_n 2, 1) := by decide +kernel
theorem dX0_clashOf_99 : decode cX0_clashOf 99 = .ok (.istore_n 2, 1) := by decide +kernel
theorem dX0_clashOf_100 : decode cX0_clashOf 100 = .ok (.iinc 4 (-1), 3) := by decide +kernel
theorem dX0_clashOf_103 : decode cX0_clashOf 103 = .ok (.goto (-55), 3) := by decide +kernel
theorem dX0_clashOf_106 : decode cX0_clashOf 106 = .ok (.iinc 3 (-1), 3) := by decide +kernel
theorem dX0_clashOf_109 : decode cX0_clashOf 109 = .ok (.goto (-76), 3) := by decide +kernel
theorem dX0_clashOf_112 : decode cX0_clashOf 112 = .ok (.aload_n 0, 1) := by decide +kernel
theorem dX0_clashOf_113 : decode cX0_clashOf 113 = .ok (.iload_n 2, 1) := by decide +kernel
theorem dX0_clashOf_114 : decode cX0_clashOf 114 = .ok (.iconst (-1), 1) := by decide +kernel
theorem dX0_clashOf_115 : decode cX0_clashOf 115 = .ok (.if_icmp .eq 7, 3) := by decide +kernel
theorem dX0_clashOf_118 : decode cX0_clashOf 118 = .ok (.iconst 1, 1) := by decide +kernel
theorem dX0_clashOf_119 : decode cX0_clashOf 119 = .ok (.goto 4, 3) := by decide +kernel
theorem dX0_clashOf_122 : decode cX0_clashOf 122 = .ok (.iconst 0, 1) := by decide +kernel
theorem dX0_clashOf_123 : decode cX0_clashOf 123 = .ok (.iconst 2, 1) := by decide +kernel
theorem dX0_clashOf_124 : decode cX0_clashOf 124 = .ok (.invokevirtual 102, 3) := by decide +kernel
theorem dX0_clashOf_127 : decode cX0_clashOf 127 = .ok (.iload_n 2, 1) := by decide +kernel
theorem dX0_clashOf_128 : decode cX0_clashOf 128 = .ok (.ireturn, 1) := by decide +kernel
theorem dX0_clashOf_129 : decode cX0_clashOf 129 = .ok (.astore_n 2, 1) := by decide +kernel
theorem dX0_clashOf_130 : decode cX0_clashOf 130 = .ok (.aload_n 0, 1) := by decide +kernel
theorem dX0_clashOf_131 : decode cX0_clashOf 131 = .ok (.aload_n 2, 1) := by decide +kernel
theorem dX0_clashOf_132 : decode cX0_clashOf 132 = .ok (.invokevirtual 123, 3) := by decide +kernel
theorem dX0_clashOf_135 : decode cX0_clashOf 135 = .ok (.ireturn, 1) := by decide +kernel
theorem w_L_clashOf {l : Launch} {D : va_G} {cA : Nat → ClassId} {ks : List Nat} {ad : Nat → Nat} {A : Nat → Prop} (hO : klOk A ks ad) {st st' : CS} {N : Nat} {x1 : Int32} {r0 : Int32} (h : L_clashOf N st x1 = some (r0, st')) : Met l yX0_clashOf (wsW_ yX0_clashOf cX0_clashOf 5 (some .int) [(0, 128, 129, 8)]) (k2_rm 2 (40 * 2)) (cPre D cA ks ad A st [.ref (ad 60), .int x1]) (cQ (some (.int r0)) D cA ks ad A st') 0 0 A := by
  refine cc_ofH (own := RX0) (by decide) rfl (Nat.le_of_ble_eq_true rfl) (fun p e s m below meth c R args ls C hr hlk htab hP hS hl hcs => ?_)
  have hx := C.1
  have hb := C.2.1
  have hown := C.2.2.2.1
  have hNst := C.2.2.2.2.2.2.2.1
  have hl : lv_has ls 5 [(0, .ref (ad 60)), (1, .int x1)] := hl
  have L48 : ∀ (st : CS), ∀ (x1 : Int32), ∀ (x3 : Int32), ∀ (n : Nat) (x2 : Int32) (x4 : Int32) (z2 : Int32), L_clashOf_L48 N st x1 x3 n x2 x4 = some z2 → ∀ (H : Heap) (locs : List Loc), cW D cA ks ad st H → va_S A s.heap H locs → ∀ ls : Array Slot, lv_has ls 5 [(0, .ref (ad 60)), (1, .int x1), (2, .int x2), (3, .int x3), (4, .int x4)] → (∀ ls : Array Slot, lv_has ls 5 [(0, .ref (ad 60)), (1, .int x1), (2, .int z2), (3, .int x3)] → cWV p l e R s m args below meth c D cA ks ad A (some (.int r0)) st' H locs (F0 m 106 ls [])) → cWV p l e R s m args below meth c D cA ks ad A (some (.int r0)) st' H locs (F0 m 48 ls []) := by
    intro st x1 x3 n
    induction n with
    | zero =>
      intro x2 x4 z2 h
      exact non_some h
    | succ n ih =>
      intro x2 x4 z2 h H locs hP hS ls hl kx
      rw [L_clashOf_L48] at h
      refine lv_iload hx hb dX0_clashOf_48 (lv_at hl 4 rfl) ?_
      refine lv_iload_n hx hb dX0_clashOf_50 rfl (lv_at hl 3 rfl) ?_
      refine lv_icmp_le (tgt := 106) hx hb dX0_clashOf_51 rfl (fun c8 => ?_) (fun c8 => ?_)
      · have h := if_some_t h c8
        cases h
        exact kx ls (lv_sub hl [0, 1, 2, 3] rfl)
      · have h := if_some_f h c8
        refine lv_iload_n hx hb dX0_clashOf_54 rfl (lv_at hl 1 rfl) ?_
        refine lv_iload_n hx hb dX0_clashOf_55 rfl (lv_at hl 3 rfl) ?_
        obtain ⟨v9, hv9, h⟩ := bd1_some h
        refine k_L_isIn hx hb C.2.2.1 hown C.2.2.2.2.1 C.2.2.2.2.2.1 q439 hv9 (Nat.le_of_ble_eq_true rfl) hl.1 (Nat.le_of_ble_eq_true rfl) hcs dX0_clashOf_56 ?_
        refine lv_if_eq (tgt := 98) hx hb dX0_clashOf_59 rfl (fun c10 => ?_) (fun c10 => ?_)
        · have h := if_some_t h c10
          refine lv_iload_n hx hb dX0_clashOf_98 rfl (lv_at hl 2 rfl) ?_
          refine lv_istore_n (lv' := [(2, .int x2), (0, .ref (ad 60)), (1, .int x1), (3, .int x3), (4, .int x4)]) hx hb dX0_clashOf_99 rfl hl (by decide) rfl (fun ls hl => ?_)
          refine lv_iinc (v := x4 + (-1)) (lv' := [(4, .int (x4 + (-1))), (2, .int x2), (0, .ref (ad 60)), (1, .int x1), (3, .int x3)]) hx hb dX0_clashOf_100 hl (k := 4) rfl rfl (by decide) rfl (fun ls hl => ?_)
          refine lv_goto (tgt := 48) hx hb dX0_clashOf_103 rfl ?_
          exact ih x2 (x4 + (-1)) _ h _ _ hP hS ls (lv_sub hl [2, 3, 1, 4, 0] rfl) kx
        · have h := if_some_f h c10
          refine lv_iload_n hx hb dX0_clashOf_62 rfl (lv_at hl 1 rfl) ?_
          refine lv_iload hx hb dX0_clashOf_63 (lv_at hl 4 rfl) ?_
          obtain ⟨v11, hv11, h⟩ := bd1_some h
          refine k_L_isIn hx hb C.2.2.1 hown C.2.2.2.2.1 C.2.2.2.2.2.1 q439 hv11 (Nat.le_of_ble_eq_true rfl) hl.1 (Nat.le_of_ble_eq_true rfl) hcs dX0_clashOf_65 ?_
          refine lv_if_eq (tgt := 98) hx hb dX0_clashOf_68 rfl (fun c12 => ?_) (fun c12 => ?_)
          · have h := if_some_t h c12
            refine lv_iload_n hx hb dX0_clashOf_98 rfl (lv_at hl 2 rfl) ?_
            refine lv_istore_n (lv' := [(2, .int x2), (0, .ref (ad 60)), (1, .int x1), (3, .int x3), (4, .int x4)]) hx hb dX0_clashOf_99 rfl hl (by decide) rfl (fun ls hl => ?_)
            refine lv_iinc (v := x4 + (-1)) (lv' := [(4, .int (x4 + (-1))), (2, .int x2), (0, .ref (ad 60)), (1, .int x1), (3, .int x3)]) hx hb dX0_clashOf_100 hl (k := 4) rfl rfl (by decide) rfl (fun ls hl => ?_)
            refine lv_goto (tgt := 48) hx hb dX0_clashOf_103 rfl ?_
            exact ih x2 (x4 + (-1)) _ h _ _ hP hS ls (lv_sub hl [2, 3, 1, 4, 0] rfl) kx
          · have h := if_some_f h c12
            refine lv_aload_n hx hb dX0_clashOf_71 rfl (lv_at hl 0 rfl) ?_
            refine lg_town C hO hP dX0_clashOf_72 ?_
            refine tgN_clashes (t := 0) C hO (by decide) hP dX0_clashOf_75 ?_
            refine lv_iload_n hx hb dX0_clashOf_78 rfl (lv_at hl 3 rfl) ?_
            obtain ⟨v13, hv13, h⟩ := bd1_some h
            refine cc_ild C hP (hO.2.2.2 _ (tk_ 2 (by decide) (by decide))) (cg_t 2 (by decide) (by decide)) hv13 dX0_clashOf_79 ?_
            refine lv_iload hx hb dX0_clashOf_80 (lv_at hl 4 rfl) ?_
            obtain ⟨v14, hv14, h⟩ := bd1_some h
            refine k_L_isIn hx hb C.2.2.1 hown C.2.2.2.2.1 C.2.2.2.2.2.1 q439 hv14 (Nat.le_of_ble_eq_true rfl) hl.1 (Nat.le_of_ble_eq_true rfl) hcs dX0_clashOf_82 ?_
            refine lv_if_eq (tgt := 98) hx hb dX0_clashOf_85 rfl (fun c15 => ?_) (fun c15 => ?_)
            · have h := if_some_t h c15
              refine lv_iload_n hx hb dX0_clashOf_98 rfl (lv_at hl 2 rfl) ?_
              refine lv_istore_n (lv' := [(2, .int x2), (0, .ref (ad 60)), (1, .int x1), (3, .int x3), (4, .int x4)]) hx hb dX0_clashOf_99 rfl hl (by decide) rfl (fun ls hl => ?_)
              refine lv_iinc (v := x4 + (-1)) (lv' := [(4, .int (x4 + (-1))), (2, .int x2), (0, .ref (ad 60)), (1, .int x1), (3, .int x3)]) hx hb dX0_clashOf_100 hl (k := 4) rfl rfl (by decide) rfl (fun ls hl => ?_)
              refine lv_goto (tgt := 48) hx hb dX0_clashOf_103 rfl ?_
              exact ih x2 (x4 + (-1)) _ h _ _ hP hS ls (lv_sub hl [2, 3, 1, 4, 0] rfl) kx
            · have h := if_some_f h c15
              refine lv_bipush (v := 10) hx hb dX0_clashOf_88 (by decide) ?_
              refine lv_iload_n hx hb dX0_clashOf_90 rfl (lv_at hl 3 rfl) ?_
              refine lv_imul hx hb dX0_clashOf_91 ?_
              refine lv_iload hx hb dX0_clashOf_92 (lv_at hl 4 rfl) ?_
              refine lv_iadd hx hb dX0_clashOf_94 ?_
              refine lv_goto (tgt := 99) hx hb dX0_clashOf_95 rfl ?_
              refine lv_istore_n (lv' := [(2, .int ((10 * x3) + x4)), (0, .ref (ad 60)), (1, .int x1), (3, .int x3), (4, .int x4)]) hx hb dX0_clashOf_99 rfl hl (by decide) rfl (fun ls hl => ?_)
              refine lv_iinc (v := x4 + (-1)) (lv' := [(4, .int (x4 + (-1))), (2, .int ((10 * x3) + x4)), (0, .ref (ad 60)), (1, .int x1), (3, .int x3)]) hx hb dX0_clashOf_100 hl (k := 4) rfl rfl (by decide) rfl (fun ls hl => ?_)
              refine lv_goto (tgt := 48) hx hb dX0_clashOf_103 rfl ?_
              exact ih ((10 * x3) + x4) (x4 + (-1)) _ h _ _ hP hS ls (lv_sub hl [2, 3, 1, 4, 0] rfl) kx
  have L33 : ∀ (st : CS), ∀ (x1 : Int32), ∀ (n : Nat) (x2 : Int32) (x3 : Int32) (z2 : Int32), L_clashOf_L33 N st x1 n x2 x3 = some z2 → ∀ (H : Heap) (locs : List Loc), cW D cA ks ad st H → va_S A s.heap H locs → ∀ ls : Array Slot, lv_has ls 5 [(0, .ref (ad 60)), (1, .int x1), (2, .int x2), (3, .int x3)] → (∀ ls : Array Slot, lv_has ls 5 [(0, .ref (ad 60)), (2, .int z2)] → cWV p l e R s m args below meth c D cA ks ad A (some (.int r0)) st' H locs (F0 m 112 ls [])) → cWV p l e R s m args below meth c D cA ks ad A (some (.int r0)) st' H locs (F0 m 33 ls []) := by
    intro st x1 n
    induction n with
    | zero =>
      intro x2 x3 z2 h
      exact non_some h
    | succ n ih =>
      intro x2 x3 z2 h H locs hP hS ls hl kx
      rw [L_clashOf_L33] at h
      refine lv_iload_n hx hb dX0_clashOf_33 rfl (lv_at hl 3 rfl) ?_
      refine lv_if_lt (tgt := 112) hx hb dX0_clashOf_34 rfl (fun c7 => ?_) (fun c7 => ?_)
      · have h := if_some_t h c7
        cases h
        exact kx ls (lv_sub hl [0, 2] rfl)
      · have h := if_some_f h c7
        refine lv_aload_n hx hb dX0_clashOf_37 rfl (lv_at hl 0 rfl) ?_
        refine lg_town C hO hP dX0_clashOf_38 ?_
        refine tgN_facts (t := 0) C hO (by decide) hP dX0_clashOf_41 ?_
        refine lv_iconst (v := 1) hx hb dX0_clashOf_44 (by decide) ?_
        refine lv_isub hx hb dX0_clashOf_45 ?_
        refine lv_istore (lv' := [(4, .int ((st.1 (20 * 0) 0) - 1)), (0, .ref (ad 60)), (1, .int x1), (2, .int x2), (3, .int x3)]) hx hb dX0_clashOf_46 hl (by decide) rfl (fun ls hl => ?_)
        obtain ⟨z16, hz17, h⟩ := bd1_some h
        refine L48 st x1 x3 N x2 ((st.1 (20 * 0) 0) - 1) _ hz17 _ _ hP hS ls (lv_sub hl [1, 2, 3, 4, 0] rfl) (fun ls hl => ?_)
        refine lv_iinc (v := x3 + (-1)) (lv' := [(3, .int (x3 + (-1))), (0, .ref (ad 60)), (1, .int x1), (2, .int z16)]) hx hb dX0_clashOf_106 hl (k := 3) rfl rfl (by decide) rfl (fun ls hl => ?_)
        refine lv_goto (tgt := 33) hx hb dX0_clashOf_109 rfl ?_
        exact ih z16 (x3 + (-1)) _ h _ _ hP hS ls (lv_sub hl [1, 2, 3, 0] rfl) kx
  rw [L_clashOf] at h
  refine lv_aload_n hx hb dX0_clashOf_0 rfl (lv_at hl 0 rfl) ?_
  refine lv_iload_n hx hb dX0_clashOf_1 rfl (lv_at hl 1 rfl) ?_
  refine lv_iconst (v := 0) hx hb dX0_clashOf_2 (by decide) ?_
  refine lv_iconst (v := 1) hx hb dX0_clashOf_3 (by decide) ?_
  refine lv_aload_n hx hb dX0_clashOf_4 rfl (lv_at hl 0 rfl) ?_
  refine lg_town C hO hP dX0_clashOf_5 ?_
  refine tgN_facts (t := 0) C hO (by decide) hP dX0_clashOf_8 ?_
  refine lv_ishl hx hb dX0_clashOf_11 ?_
  refine lv_iconst (v := 1) hx hb dX0_clashOf_12 (by decide) ?_
  refine lv_isub hx hb dX0_clashOf_13 ?_
  obtain ⟨v1, hv1, h⟩ := bd1_some h
  refine k_L_in hx hb C.2.2.1 hown C.2.2.2.2.1 C.2.2.2.2.2.1 q399 hv1 (Nat.le_of_ble_eq_true rfl) hl.1 (Nat.le_of_ble_eq_true rfl) hcs dX0_clashOf_14 ?_
  refine lv_iconst (v := 1) hx hb dX0_clashOf_17 (by decide) ?_
  obtain ⟨o4, st3, hv2, h⟩ := bd2_some h
  rcases o4 with _ | v2
  · rw [onx_none] at h
    refine k_L_needT C hO hP hS hv2 q402 (Nat.le_of_ble_eq_true rfl) hl.1 (Nat.le_of_ble_eq_true rfl) hcs dX0_clashOf_18 (fun H locs hP hS => ?_)
    refine cc_catch (pre := []) (a1 := 0) (a2 := 128) (hp := 129) (post := []) C hO hP q129 htab rfl rfl ?_
    refine lv_astore_n (lv' := [(2, .ref (ad 61)), (0, .ref (ad 60)), (1, .int x1)]) hx hb dX0_clashOf_129 rfl hl (by decide) rfl (fun ls hl => ?_)
    refine lv_aload_n hx hb dX0_clashOf_130 rfl (lv_at hl 1 rfl) ?_
    refine lv_aload_n hx hb dX0_clashOf_131 rfl (lv_at hl 0 rfl) ?_
    obtain ⟨v5, st6, hv5, h⟩ := bd2_some h
    refine k_L_finds C hO hP hS hv5 q410 (Nat.le_of_ble_eq_true rfl) hl.1 (Nat.le_of_ble_eq_true rfl) hcs dX0_clashOf_132 (fun H locs hP hS => ?_)
    exact cc_viret hx hb hr hlk h hP hS dX0_clashOf_135
  · rw [onx_some] at h
    refine k_L_needR C hO hP hS hv2 q402 (Nat.le_of_ble_eq_true rfl) hl.1 (Nat.le_of_ble_eq_true rfl) hcs dX0_clashOf_18 (fun H locs hP hS => ?_)
    refine lv_iconst (v := (-1)) hx hb dX0_clashOf_21 (by decide) ?_
    refine lv_istore_n (lv' := [(2, .int (-1)), (0, .ref (ad 60)), (1, .int x1)]) hx hb dX0_clashOf_22 rfl hl (by decide) rfl (fun ls hl => ?_)
    refine lv_aload_n hx hb dX0_clashOf_23 rfl (lv_at hl 1 rfl) ?_
    refine lg_town C hO hP dX0_clashOf_24 ?_
    refine tgN_facts (t := 0) C hO (by decide) hP dX0_clashOf_27 ?_
    refine lv_iconst (v := 1) hx hb dX0_clashOf_30 (by decide) ?_
    refine lv_isub hx hb dX0_clashOf_31 ?_
    refine lv_istore_n (lv' := [(3, .int ((st3.1 (20 * 0) 0) - 1)), (2, .int (-1)), (0, .ref (ad 60)), (1, .int x1)]) hx hb dX0_clashOf_32 rfl hl (by decide) rfl (fun ls hl => ?_)
    obtain ⟨z18, hz30, h⟩ := bd1_some h
    refine L33 st3 x1 N (-1) ((st3.1 (20 * 0) 0) - 1) _ hz30 _ _ hP hS ls (lv_sub hl [2, 3, 1, 0] rfl) (fun ls hl => ?_)
    refine lv_aload_n hx hb dX0_clashOf_112 rfl (lv_at hl 0 rfl) ?_
    refine lv_iload_n hx hb dX0_clashOf_113 rfl (lv_at hl 1 rfl) ?_
    refine lv_iconst (v := (-1)) hx hb dX0_clashOf_114 (by decide) ?_
    refine lv_icmp_eq (tgt := 122) hx hb dX0_clashOf_115 rfl (fun c19 => ?_) (fun c19 => ?_)
    · have h := if_some_t h c19
      refine lv_iconst (v := 0) hx hb dX0_clashOf_122 (by decide) ?_
      refine lv_iconst (v := 2) hx hb dX0_clashOf_123 (by decide) ?_
      obtain ⟨o22, st21, hv20, h⟩ := bd2_some h
      rcases o22 with _ | v20
      · rw [onx_none] at h
        refine k_L_needT C hO hP hS hv20 q402 (Nat.le_of_ble_eq_true rfl) hl.1 (Nat.le_of_ble_eq_true rfl) hcs dX0_clashOf_124 (fun H locs hP hS => ?_)
        refine cc_catch (pre := []) (a1 := 0) (a2 := 128) (hp := 129) (post := []) C hO hP q129 htab rfl rfl ?_
        refine lv_astore_n (lv' := [(2, .ref (ad 61)), (0, .ref (ad 60))]) hx hb dX0_clashOf_129 rfl hl (by decide) rfl (fun ls hl => ?_)
        refine lv_aload_n hx hb dX0_clashOf_130 rfl (lv_at hl 1 rfl) ?_
        refine lv_aload_n hx hb dX0_clashOf_131 rfl (lv_at hl 0 rfl) ?_
        obtain ⟨v23, st24, hv23, h⟩ := bd2_some h
        refine k_L_finds C hO hP hS hv23 q410 (Nat.le_of_ble_eq_true rfl) hl.1 (Nat.le_of_ble_eq_true rfl) hcs dX0_clashOf_132 (fun H locs hP hS => ?_)
        exact cc_viret hx hb hr hlk h hP hS dX0_clashOf_135
      · rw [onx_some] at h
        refine k_L_needR C hO hP hS hv20 q402 (Nat.le_of_ble_eq_true rfl) hl.1 (Nat.le_of_ble_eq_true rfl) hcs dX0_clashOf_124 (fun H locs hP hS => ?_)
        refine lv_iload_n hx hb dX0_clashOf_127 rfl (lv_at hl 1 rfl) ?_
        exact cc_viret hx hb hr hlk h hP hS dX0_clashOf_128
    · have h := if_some_f h c19
      refine lv_iconst (v := 1) hx hb dX0_clashOf_118 (by decide) ?_
      refine lv_goto (tgt := 123) hx hb dX0_clashOf_119 rfl ?_
      refine lv_iconst (v := 2) hx hb dX0_clashOf_123 (by decide) ?_
      obtain ⟨o27, st26, hv25, h⟩ := bd2_some h
      rcases o27 with _ | v25
      · rw [onx_none] at h
        refine k_L_needT C hO hP hS hv25 q402 (Nat.le_of_ble_eq_true rfl) hl.1 (Nat.le_of_ble_eq_true rfl) hcs dX0_clashOf_124 (fun H locs hP hS => ?_)
        refine cc_catch (pre := []) (a1 := 0) (a2 := 128) (hp := 129) (post := []) C hO hP q129 htab rfl rfl ?_
        refine lv_astore_n (lv' := [(2, .ref (ad 61)), (0, .ref (ad 60))]) hx hb dX0_clashOf_129 rfl hl (by decide) rfl (fun ls hl => ?_)
        refine lv_aload_n hx hb dX0_clashOf_130 rfl (lv_at hl 1 rfl) ?_
        refine lv_aload_n hx hb dX0_clashOf_131 rfl (lv_at hl 0 rfl) ?_
        obtain ⟨v28, st29, hv28, h⟩ := bd2_some h
        refine k_L_finds C hO hP hS hv28 q410 (Nat.le_of_ble_eq_true rfl) hl.1 (Nat.le_of_ble_eq_true rfl) hcs dX0_clashOf_132 (fun H locs hP hS => ?_)
        exact cc_viret hx hb hr hlk h hP hS dX0_clashOf_135
      · rw [onx_some] at h
        refine k_L_needR C hO hP hS hv25 q402 (Nat.le_of_ble_eq_true rfl) hl.1 (Nat.le_of_ble_eq_true rfl) hcs dX0_clashOf_124 (fun H locs hP hS => ?_)
        refine lv_iload_n hx hb dX0_clashOf_127 rfl (lv_at hl 1 rfl) ?_
        exact cc_viret hx hb hr hlk h hP hS dX0_clashOf_128
abbrev cX0_joined : ByteArray := prog_1_method_44_code
def yX0_joined : MethodName := ⟨RX0, "joined", "(II)I"⟩
theorem dX0_joined_0 : decode cX0_joined 0 = .ok (.aload_n 0, 1) := by decide +kernel
theorem dX0_joined_1 : decode cX0_joined 1 = .ok (.aload_n 0, 1) := by decide +kernel
theorem dX0_joined_2 : decode cX0_joined 2 = .ok (.iload_n 1, 1) := by decide +kernel
theorem dX0_joined_3 : decode cX0_joined 3 = .ok (.invokevirtual 160, 3) := by decide +kernel
theorem dX0_joined_6 : decode cX0_joined 6 = .ok (.ifCond .eq 20, 3) := by decide +kernel
theorem dX0_joined_9 : decode cX0_joined 9 = .ok (.aload_n 0, 1) := by decide +kernel
theorem dX0_joined_10 : decode cX0_joined 10 = .ok (.iload_n 2, 1) := by decide +kernel
theorem dX0_joined_11 : decode cX0_joined 11 = .ok (.invokevirtual 160, 3) := by decide +kernel
theorem dX0_joined_14 : decode cX0_joined 14 = .ok (.ifCond .eq 12, 3) := by decide +kernel
theorem dX0_joined_17 : decode cX0_joined 17 = .ok (.iload_n 1, 1) := by decide +kernel
theorem dX0_joined_18 : decode cX0_joined 18 = .ok (.iload_n 2, 1) := by decide +kernel
theorem dX0_joined_19 : decode cX0_joined 19 = .ok (.if_icmp .eq 7, 3) := by decide +kernel
theorem dX0_joined_22 : decode cX0_joined 22 = .ok (.iconst 1, 1) := by decide +kernel
theorem dX0_joined_23 : decode cX0_joined 23 = .ok (.goto 4, 3) := by decide +kernel
theorem dX0_joined_26 : decode cX0_joined 26 = .ok (.iconst 0, 1) := by decide +kernel
theorem dX0_joined_27 : decode cX0_joined 27 = .ok (.iconst 1, 1) := by decide +kernel
theorem dX0_joined_28 : decode cX0_joined 28 = .ok (.invokevirtual 102, 3) := by decide +kernel
theorem dX0_joined_31 : decode cX0_joined 31 = .ok (.aload_n 0, 1) := by decide +kernel
theorem dX0_joined_32 : decode cX0_joined 32 = .ok (.getfield 46, 3) := by decide +kernel
theorem dX0_joined_35 : decode cX0_joined 35 = .ok (.iload_n 1, 1) := by decide +kernel
theorem dX0_joined_36 : decode cX0_joined 36 = .ok (.invokevirtual 131, 3) := by decide +kernel
theorem dX0_joined_39 : decode cX0_joined 39 = .ok (.istore_n 3, 1) := by decide +kernel
theorem dX0_joined_40 : decode cX0_joined 40 = .ok (.aload_n 0, 1) := by decide +kernel
theorem dX0_joined_41 : decode cX0_joined 41 = .ok (.getfield 46, 3) := by decide +kernel
theorem dX0_joined_44 : decode cX0_joined 44 = .ok (.iload_n 2, 1) := by decide +kernel
theorem dX0_joined_45 : decode cX0_joined 45 = .ok (.invokevirtual 131, 3) := by decide +kernel
theorem dX0_joined_48 : decode cX0_joined 48 = .ok (.istore 4, 2) := by decide +kernel
theorem dX0_joined_50 : decode cX0_joined 50 = .ok (.iconst 1, 1) := by decide +kernel
theorem dX0_joined_51 : decode cX0_joined 51 = .ok (.istore 5, 2) := by decide +kernel
theorem dX0_joined_53 : decode cX0_joined 53 = .ok (.iconst 0, 1) := by decide +kernel
theorem dX0_joined_54 : decode cX0_joined 54 = .ok (.istore 6, 2) := by decide +kernel
theorem dX0_joined_56 : decode cX0_joined 56 = .ok (.iload 6, 2) := by decide +kernel
theorem dX0_joined_58 : decode cX0_joined 58 = .ok (.aload_n 0, 1) := by decide +kernel
theorem dX0_joined_59 : decode cX0_joined 59 = .ok (.getfield 46, 3) := by decide +kernel
theorem dX0_joined_62 : decode cX0_joined 62 = .ok (.getfield 88, 3) := by decide +kernel
theorem dX0_joined_65 : decode cX0_joined 65 = .ok (.if_icmp .ge 44, 3) := by decide +kernel
theorem dX0_joined_68 : decode cX0_joined 68 = .ok (.iload 5, 2) := by decide +kernel
theorem dX0_joined_70 : decode cX0_joined 70 = .ok (.iload_n 3, 1) := by decide +kernel
theorem dX0_joined_71 : decode cX0_joined 71 = .ok (.iload 6, 2) := by decide +kernel
theorem dX0_joined_73 : decode cX0_joined 73 = .ok (.invokestatic 135, 3) := by decide +kernel
theorem dX0_joined_76 : decode cX0_joined 76 = .ok (.ifCond .eq 19, 3) := by decide +kernel
theorem dX0_joined_79 : decode cX0_joined 79 = .ok (.aload_n 0, 1) := by decide +kernel
theorem dX0_joined_80 : decode cX0_joined 80 = .ok (.getfield 46, 3) := by decide +kernel
theorem dX0_joined_83 : decode cX0_joined 83 = .ok (.getfield 111, 3) := by decide +kernel
theorem dX0_joined_86 : decode cX0_joined 86 = .ok (.iload 6, 2) := by decide +kernel
theorem dX0_joined_88 : decode cX0_joined 88 = .ok (.iaload, 1) := by decide +kernel
theorem dX0_joined_89 : decode cX0_joined 89 = .ok (.iload 4, 2) := by decide +kernel
theorem dX0_joined_91 : decode cX0_joined 91 = .ok (.iand, 1) := by decide +kernel
theorem dX0_joined_92 : decode cX0_joined 92 = .ok (.ifCond .ne 7, 3) := by decide +kernel
theorem dX0_joined_95 : decode cX0_joined 95 = .ok (.iconst 1, 1) := by decide +kernel
theorem dX0_joined_96 : decode cX0_joined 96 = .ok (.goto 4, 3) := by decide +kernel
theorem dX0_joined_99 : decode cX0_joined 99 = .ok (.iconst 0, 1) := by decide +kernel
theorem dX0_joined_100 : decode cX0_joined 100 = .ok (.iand, 1) := by decide +kernel
theorem dX0_joined_101 : decode cX0_joined 101 = .ok (.istore 5, 2) := by decide +kernel
theorem dX0_joined_103 : decode cX0_joined 103 = .ok (.iinc 6 1, 3) := by decide +kernel
theorem dX0_joined_106 : decode cX0_joined 106 = .ok (.goto (-50), 3) := by decide +kernel
theorem dX0_joined_109 : decode cX0_joined 109 = .ok (.aload_n 0, 1) := by decide +kernel
theorem dX0_joined_110 : decode cX0_joined 110 = .ok (.iload 5, 2) := by decide +kernel
theorem dX0_joined_112 : decode cX0_joined 112 = .ok (.iconst 2, 1) := by decide +kernel
theorem dX0_joined_113 : decode cX0_joined 113 = .ok (.invokevirtual 102, 3) := by decide +kernel
theorem dX0_joined_116 : decode cX0_joined 116 = .ok (.iload_n 3, 1) := by decide +kernel
theorem dX0_joined_117 : decode cX0_joined 117 = .ok (.iload 4, 2) := by decide +kernel
theorem dX0_joined_119 : decode cX0_joined 119 = .ok (.ior, 1) := by decide +kernel
theorem dX0_joined_120 : decode cX0_joined 120 = .ok (.ireturn, 1) := by decide +kernel
theorem dX0_joined_121 : decode cX0_joined 121 = .ok (.astore_n 3, 1) := by decide +kernel
theorem dX0_joined_122 : decode cX0_joined 122 = .ok (.aload_n 0, 1) := by decide +kernel
theorem dX0_joined_123 : decode cX0_joined 123 = .ok (.aload_n 3, 1) := by decide +kernel
theorem dX0_joined_124 : decode cX0_joined 124 = .ok (.invokevirtual 123, 3) := by decide +kernel
theorem dX0_joined_127 : decode cX0_joined 127 = .ok (.ireturn, 1) := by decide +kernel
theorem w_L_joined {l : Launch} {D : va_G} {cA : Nat → ClassId} {ks : List Nat} {ad : Nat → Nat} {A : Nat → Prop} (hO : klOk A ks ad) {st st' : CS} {N : Nat} {x1 : Int32} {x2 : Int32} {r0 : Int32} (h : L_joined N st x1 x2 = some (r0, st')) : Met l yX0_joined (wsW_ yX0_joined cX0_joined 7 (some .int) [(0, 120, 121, 8)]) (k2_rm 2 (40 * 2)) (cPre D cA ks ad A st [.ref (ad 60), .int x1, .int x2]) (cQ (some (.int r0)) D cA ks ad A st') 0 0 A := by
  refine cc_ofH (own := RX0) (by decide) rfl (Nat.le_of_ble_eq_true rfl) (fun p e s m below meth c R args ls C hr hlk htab hP hS hl hcs => ?_)
  have hx := C.1
  have hb := C.2.1
  have hown := C.2.2.2.1
  have hNst := C.2.2.2.2.2.2.2.1
  have hl : lv_has ls 7 [(0, .ref (ad 60)), (1, .int x1), (2, .int x2)] := hl
  have L56 : ∀ (st : CS), ∀ (x3 : Int32), ∀ (x4 : Int32), ∀ (n : Nat) (x5 : Int32) (x6 : Int32) (z5 : Int32), L_joined_L56 N st x3 x4 n x5 x6 = some z5 → ∀ (H : Heap) (locs : List Loc), cW D cA ks ad st H → va_S A s.heap H locs → ∀ ls : Array Slot, lv_has ls 7 [(0, .ref (ad 60)), (3, .int x3), (4, .int x4), (5, .int x5), (6, .int x6)] → (∀ ls : Array Slot, lv_has ls 7 [(0, .ref (ad 60)), (3, .int x3), (4, .int x4), (5, .int z5)] → cWV p l e R s m args below meth c D cA ks ad A (some (.int r0)) st' H locs (F0 m 109 ls [])) → cWV p l e R s m args below meth c D cA ks ad A (some (.int r0)) st' H locs (F0 m 56 ls []) := by
    intro st x3 x4 n
    induction n with
    | zero =>
      intro x5 x6 z5 h
      exact non_some h
    | succ n ih =>
      intro x5 x6 z5 h H locs hP hS ls hl kx
      rw [L_joined_L56] at h
      refine lv_iload hx hb dX0_joined_56 (lv_at hl 4 rfl) ?_
      refine lv_aload_n hx hb dX0_joined_58 rfl (lv_at hl 0 rfl) ?_
      refine lg_town C hO hP dX0_joined_59 ?_
      refine tgN_facts (t := 0) C hO (by decide) hP dX0_joined_62 ?_
      refine lv_icmp_ge (tgt := 109) hx hb dX0_joined_65 rfl (fun c10 => ?_) (fun c10 => ?_)
      · have h := if_some_t h c10
        cases h
        exact kx ls (lv_sub hl [0, 1, 2, 3] rfl)
      · have h := if_some_f h c10
        refine lv_iload hx hb dX0_joined_68 (lv_at hl 3 rfl) ?_
        refine lv_iload_n hx hb dX0_joined_70 rfl (lv_at hl 1 rfl) ?_
        refine lv_iload hx hb dX0_joined_71 (lv_at hl 4 rfl) ?_
        obtain ⟨v11, hv11, h⟩ := bd1_some h
        refine k_L_isIn hx hb C.2.2.1 hown C.2.2.2.2.1 C.2.2.2.2.2.1 q439 hv11 (Nat.le_of_ble_eq_true rfl) hl.1 (Nat.le_of_ble_eq_true rfl) hcs dX0_joined_73 ?_
        refine lv_if_eq (tgt := 95) hx hb dX0_joined_76 rfl (fun c12 => ?_) (fun c12 => ?_)
        · have h := if_some_t h c12
          refine lv_iconst (v := 1) hx hb dX0_joined_95 (by decide) ?_
          refine lv_goto (tgt := 100) hx hb dX0_joined_96 rfl ?_
          refine lv_iand hx hb dX0_joined_100 ?_
          refine lv_istore (lv' := [(5, .int (x5 &&& 1)), (0, .ref (ad 60)), (3, .int x3), (4, .int x4), (6, .int x6)]) hx hb dX0_joined_101 hl (by decide) rfl (fun ls hl => ?_)
          refine lv_iinc (v := x6 + 1) (lv' := [(6, .int (x6 + 1)), (5, .int (x5 &&& 1)), (0, .ref (ad 60)), (3, .int x3), (4, .int x4)]) hx hb dX0_joined_103 hl (k := 4) rfl rfl (by decide) rfl (fun ls hl => ?_)
          refine lv_goto (tgt := 56) hx hb dX0_joined_106 rfl ?_
          exact ih (x5 &&& 1) (x6 + 1) _ h _ _ hP hS ls (lv_sub hl [2, 3, 4, 1, 0] rfl) kx
        · have h := if_some_f h c12
          refine lv_aload_n hx hb dX0_joined_79 rfl (lv_at hl 0 rfl) ?_
          refine lg_town C hO hP dX0_joined_80 ?_
          refine tgN_clashes (t := 0) C hO (by decide) hP dX0_joined_83 ?_
          refine lv_iload hx hb dX0_joined_86 (lv_at hl 4 rfl) ?_
          obtain ⟨v13, hv13, h⟩ := bd1_some h
          refine cc_ild C hP (hO.2.2.2 _ (tk_ 2 (by decide) (by decide))) (cg_t 2 (by decide) (by decide)) hv13 dX0_joined_88 ?_
          refine lv_iload hx hb dX0_joined_89 (lv_at hl 2 rfl) ?_
          refine lv_iand hx hb dX0_joined_91 ?_
          refine lv_if_ne (tgt := 99) hx hb dX0_joined_92 rfl (fun c14 => ?_) (fun c14 => ?_)
          · have h := if_some_f h c14
            refine lv_iconst (v := 0) hx hb dX0_joined_99 (by decide) ?_
            refine lv_iand hx hb dX0_joined_100 ?_
            refine lv_istore (lv' := [(5, .int (x5 &&& 0)), (0, .ref (ad 60)), (3, .int x3), (4, .int x4), (6, .int x6)]) hx hb dX0_joined_101 hl (by decide) rfl (fun ls hl => ?_)
            refine lv_iinc (v := x6 + 1) (lv' := [(6, .int (x6 + 1)), (5, .int (x5 &&& 0)), (0, .ref (ad 60)), (3, .int x3), (4, .int x4)]) hx hb dX0_joined_103 hl (k := 4) rfl rfl (by decide) rfl (fun ls hl => ?_)
            refine lv_goto (tgt := 56) hx hb dX0_joined_106 rfl ?_
            exact ih (x5 &&& 0) (x6 + 1) _ h _ _ hP hS ls (lv_sub hl [2, 3, 4, 1, 0] rfl) kx
          · have h := if_some_t h c14
            refine lv_iconst (v := 1) hx hb dX0_joined_95 (by decide) ?_
            refine lv_goto (tgt := 100) hx hb dX0_joined_96 rfl ?_
            refine lv_iand hx hb dX0_joined_100 ?_
            refine lv_istore (lv' := [(5, .int (x5 &&& 1)), (0, .ref (ad 60)), (3, .int x3), (4, .int x4), (6, .int x6)]) hx hb dX0_joined_101 hl (by decide) rfl (fun ls hl => ?_)
            refine lv_iinc (v := x6 + 1) (lv' := [(6, .int (x6 + 1)), (5, .int (x5 &&& 1)), (0, .ref (ad 60)), (3, .int x3), (4, .int x4)]) hx hb dX0_joined_103 hl (k := 4) rfl rfl (by decide) rfl (fun ls hl => ?_)
            refine lv_goto (tgt := 56) hx hb dX0_joined_106 rfl ?_
            exact ih (x5 &&& 1) (x6 + 1) _ h _ _ hP hS ls (lv_sub hl [2, 3, 4, 1, 0] rfl) kx
  rw [L_joined] at h
  refine lv_aload_n hx hb dX0_joined_0 rfl (lv_at hl 0 rfl) ?_
  refine lv_aload_n hx hb dX0_joined_1 rfl (lv_at hl 0 rfl) ?_
  refine lv_iload_n hx hb dX0_joined_2 rfl (lv_at hl 1 rfl) ?_
  obtain ⟨v1, hv1, h⟩ := bd1_some h
  refine k_L_isDebtor C hO hP hv1 q559 (Nat.le_of_ble_eq_true rfl) hS.1 hl.1 (Nat.le_of_ble_eq_true rfl) hcs dX0_joined_3 ?_
  refine lv_if_eq (tgt := 26) hx hb dX0_joined_6 rfl (fun c2 => ?_) (fun c2 => ?_)
  · have h := if_some_t h c2
    refine lv_iconst (v := 0) hx hb dX0_joined_26 (by decide) ?_
    refine lv_iconst (v := 1) hx hb dX0_joined_27 (by decide) ?_
    obtain ⟨o5, st4, hv3, h⟩ := bd2_some h
    rcases o5 with _ | v3
    · rw [onx_none] at h
      refine k_L_needT C hO hP hS hv3 q402 (Nat.le_of_ble_eq_true rfl) hl.1 (Nat.le_of_ble_eq_true rfl) hcs dX0_joined_28 (fun H locs hP hS => ?_)
      refine cc_catch (pre := []) (a1 := 0) (a2 := 120) (hp := 121) (post := []) C hO hP q129 htab rfl rfl ?_
      refine lv_astore_n (lv' := [(3, .ref (ad 61)), (0, .ref (ad 60)), (1, .int x1), (2, .int x2)]) hx hb dX0_joined_121 rfl hl (by decide) rfl (fun ls hl => ?_)
      refine lv_aload_n hx hb dX0_joined_122 rfl (lv_at hl 1 rfl) ?_
      refine lv_aload_n hx hb dX0_joined_123 rfl (lv_at hl 0 rfl) ?_
      obtain ⟨v6, st7, hv6, h⟩ := bd2_some h
      refine k_L_finds C hO hP hS hv6 q410 (Nat.le_of_ble_eq_true rfl) hl.1 (Nat.le_of_ble_eq_true rfl) hcs dX0_joined_124 (fun H locs hP hS => ?_)
      exact cc_viret hx hb hr hlk h hP hS dX0_joined_127
    · rw [onx_some] at h
      refine k_L_needR C hO hP hS hv3 q402 (Nat.le_of_ble_eq_true rfl) hl.1 (Nat.le_of_ble_eq_true rfl) hcs dX0_joined_28 (fun H locs hP hS => ?_)
      refine lv_aload_n hx hb dX0_joined_31 rfl (lv_at hl 0 rfl) ?_
      refine lg_town C hO hP dX0_joined_32 ?_
      refine lv_iload_n hx hb dX0_joined_35 rfl (lv_at hl 1 rfl) ?_
      obtain ⟨v8, hv8, h⟩ := bd1_some h
      refine k_T_told (t := 0) C hO (by decide) hP hv8 q431 (Nat.le_of_ble_eq_true rfl) hS.1 hl.1 (Nat.le_of_ble_eq_true rfl) hcs dX0_joined_36 ?_
      refine lv_istore_n (lv' := [(3, .int v8), (0, .ref (ad 60)), (1, .int x1), (2, .int x2)]) hx hb dX0_joined_39 rfl hl (by decide) rfl (fun ls hl => ?_)
      refine lv_aload_n hx hb dX0_joined_40 rfl (lv_at hl 1 rfl) ?_
      refine lg_town C hO hP dX0_joined_41 ?_
      refine lv_iload_n hx hb dX0_joined_44 rfl (lv_at hl 3 rfl) ?_
      obtain ⟨v9, hv9, h⟩ := bd1_some h
      refine k_T_told (t := 0) C hO (by decide) hP hv9 q431 (Nat.le_of_ble_eq_true rfl) hS.1 hl.1 (Nat.le_of_ble_eq_true rfl) hcs dX0_joined_45 ?_
      refine lv_istore (lv' := [(4, .int v9), (3, .int v8), (0, .ref (ad 60)), (1, .int x1), (2, .int x2)]) hx hb dX0_joined_48 hl (by decide) rfl (fun ls hl => ?_)
      refine lv_iconst (v := 1) hx hb dX0_joined_50 (by decide) ?_
      refine lv_istore (lv' := [(5, .int 1), (4, .int v9), (3, .int v8), (0, .ref (ad 60)), (1, .int x1), (2, .int x2)]) hx hb dX0_joined_51 hl (by decide) rfl (fun ls hl => ?_)
      refine lv_iconst (v := 0) hx hb dX0_joined_53 (by decide) ?_
      refine lv_istore (lv' := [(6, .int 0), (5, .int 1), (4, .int v9), (3, .int v8), (0, .ref (ad 60)), (1, .int x1), (2, .int x2)]) hx hb dX0_joined_54 hl (by decide) rfl (fun ls hl => ?_)
      obtain ⟨z15, hz21, h⟩ := bd1_some h
      refine L56 st4 v8 v9 N 1 0 _ hz21 _ _ hP hS ls (lv_sub hl [4, 3, 2, 1, 0] rfl) (fun ls hl => ?_)
      refine lv_aload_n hx hb dX0_joined_109 rfl (lv_at hl 0 rfl) ?_
      refine lv_iload hx hb dX0_joined_110 (lv_at hl 3 rfl) ?_
      refine lv_iconst (v := 2) hx hb dX0_joined_112 (by decide) ?_
      obtain ⟨o18, st17, hv16, h⟩ := bd2_some h
      rcases o18 with _ | v16
      · rw [onx_none] at h
        refine k_L_needT C hO hP hS hv16 q402 (Nat.le_of_ble_eq_true rfl) hl.1 (Nat.le_of_ble_eq_true rfl) hcs dX0_joined_113 (fun H locs hP hS => ?_)
        refine cc_catch (pre := []) (a1 := 0) (a2 := 120) (hp := 121) (post := []) C hO hP q129 htab rfl rfl ?_
        refine lv_astore_n (lv' := [(3, .ref (ad 61)), (0, .ref (ad 60)), (4, .int v9), (5, .int z15)]) hx hb dX0_joined_121 rfl hl (by decide) rfl (fun ls hl => ?_)
        refine lv_aload_n hx hb dX0_joined_122 rfl (lv_at hl 1 rfl) ?_
        refine lv_aload_n hx hb dX0_joined_123 rfl (lv_at hl 0 rfl) ?_
        obtain ⟨v19, st20, hv19, h⟩ := bd2_some h
        refine k_L_finds C hO hP hS hv19 q410 (Nat.le_of_ble_eq_true rfl) hl.1 (Nat.le_of_ble_eq_true rfl) hcs dX0_joined_124 (fun H locs hP hS => ?_)
        exact cc_viret hx hb hr hlk h hP hS dX0_joined_127
      · rw [onx_some] at h
        refine k_L_needR C hO hP hS hv16 q402 (Nat.le_of_ble_eq_true rfl) hl.1 (Nat.le_of_ble_eq_true rfl) hcs dX0_joined_113 (fun H locs hP hS => ?_)
        refine lv_iload_n hx hb dX0_joined_116 rfl (lv_at hl 1 rfl) ?_
        refine lv_iload hx hb dX0_joined_117 (lv_at hl 2 rfl) ?_
        refine lv_ior hx hb dX0_joined_119 ?_
        exact cc_viret hx hb hr hlk h hP hS dX0_joined_120
  · have h := if_some_f h c2
    refine lv_aload_n hx hb dX0_joined_9 rfl (lv_at hl 0 rfl) ?_
    refine lv_iload_n hx hb dX0_joined_10 rfl (lv_at hl 2 rfl) ?_
    obtain ⟨v22, hv22, h⟩ := bd1_some h
    refine k_L_isDebtor C hO hP hv22 q559 (Nat.le_of_ble_eq_true rfl) hS.1 hl.1 (Nat.le_of_ble_eq_true rfl) hcs dX0_joined_11 ?_
    refine lv_if_eq (tgt := 26) hx hb dX0_joined_14 rfl (fun c23 => ?_) (fun c23 => ?_)
    · have h := if_some_t h c23
      refine lv_iconst (v := 0) hx hb dX0_joined_26 (by decide) ?_
      refine lv_iconst (v := 1) hx hb dX0_joined_27 (by decide) ?_
      obtain ⟨o26, st25, hv24, h⟩ := bd2_some h
      rcases o26 with _ | v24
      · rw [onx_none] at h
        refine k_L_needT C hO hP hS hv24 q402 (Nat.le_of_ble_eq_true rfl) hl.1 (Nat.le_of_ble_eq_true rfl) hcs dX0_joined_28 (fun H locs hP hS => ?_)
        refine cc_catch (pre := []) (a1 := 0) (a2 := 120) (hp := 121) (post := []) C hO hP q129 htab rfl rfl ?_
        refine lv_astore_n (lv' := [(3, .ref (ad 61)), (0, .ref (ad 60)), (1, .int x1), (2, .int x2)]) hx hb dX0_joined_121 rfl hl (by decide) rfl (fun ls hl => ?_)
        refine lv_aload_n hx hb dX0_joined_122 rfl (lv_at hl 1 rfl) ?_
        refine lv_aload_n hx hb dX0_joined_123 rfl (lv_at hl 0 rfl) ?_
        obtain ⟨v27, st28, hv27, h⟩ := bd2_some h
        refine k_L_finds C hO hP hS hv27 q410 (Nat.le_of_ble_eq_true rfl) hl.1 (Nat.le_of_ble_eq_true rfl) hcs dX0_joined_124 (fun H locs hP hS => ?_)
        exact cc_viret hx hb hr hlk h hP hS dX0_joined_127
      · rw [onx_some] at h
        refine k_L_needR C hO hP hS hv24 q402 (Nat.le_of_ble_eq_true rfl) hl.1 (Nat.le_of_ble_eq_true rfl) hcs dX0_joined_28 (fun H locs hP hS => ?_)
        refine lv_aload_n hx hb dX0_joined_31 rfl (lv_at hl 0 rfl) ?_
        refine lg_town C hO hP dX0_joined_32 ?_
        refine lv_iload_n hx hb dX0_joined_35 rfl (lv_at hl 1 rfl) ?_
        obtain ⟨v29, hv29, h⟩ := bd1_some h
        refine k_T_told (t := 0) C hO (by decide) hP hv29 q431 (Nat.le_of_ble_eq_true rfl) hS.1 hl.1 (Nat.le_of_ble_eq_true rfl) hcs dX0_joined_36 ?_
        refine lv_istore_n (lv' := [(3, .int v29), (0, .ref (ad 60)), (1, .int x1), (2, .int x2)]) hx hb dX0_joined_39 rfl hl (by decide) rfl (fun ls hl => ?_)
        refine lv_aload_n hx hb dX0_joined_40 rfl (lv_at hl 1 rfl) ?_
        refine lg_town C hO hP dX0_joined_41 ?_
        refine lv_iload_n hx hb dX0_joined_44 rfl (lv_at hl 3 rfl) ?_
        obtain ⟨v30, hv30, h⟩ := bd1_some h
        refine k_T_told (t := 0) C hO (by decide) hP hv30 q431 (Nat.le_of_ble_eq_true rfl) hS.1 hl.1 (Nat.le_of_ble_eq_true rfl) hcs dX0_joined_45 ?_
        refine lv_istore (lv' := [(4, .int v30), (3, .int v29), (0, .ref (ad 60)), (1, .int x1), (2, .int x2)]) hx hb dX0_joined_48 hl (by decide) rfl (fun ls hl => ?_)
        refine lv_iconst (v := 1) hx hb dX0_joined_50 (by decide) ?_
        refine lv_istore (lv' := [(5, .int 1), (4, .int v30), (3, .int v29), (0, .ref (ad 60)), (1, .int x1), (2, .int x2)]) hx hb dX0_joined_51 hl (by decide) rfl (fun ls hl => ?_)
        refine lv_iconst (v := 0) hx hb dX0_joined_53 (by decide) ?_
        refine lv_istore (lv' := [(6, .int 0), (5, .int 1), (4, .int v30), (3, .int v29), (0, .ref (ad 60)), (1, .int x1), (2, .int x2)]) hx hb dX0_joined_54 hl (by decide) rfl (fun ls hl => ?_)
        obtain ⟨z31, hz37, h⟩ := bd1_some h
        refine L56 st25 v29 v30 N 1 0 _ hz37 _ _ hP hS ls (lv_sub hl [4, 3, 2, 1, 0] rfl) (fun ls hl => ?_)
        refine lv_aload_n hx hb dX0_joined_109 rfl (lv_at hl 0 rfl) ?_
        refine lv_iload hx hb dX0_joined_110 (lv_at hl 3 rfl) ?_
        refine lv_iconst (v := 2) hx hb dX0_joined_112 (by decide) ?_
        obtain ⟨o34, st33, hv32, h⟩ := bd2_some h
        rcases o34 with _ | v32
        · rw [onx_none] at h
          refine k_L_needT C hO hP hS hv32 q402 (Nat.le_of_ble_eq_true rfl) hl.1 (Nat.le_of_ble_eq_true rfl) hcs dX0_joined_113 (fun H locs hP hS => ?_)
          refine cc_catch (pre := []) (a1 := 0) (a2 := 120) (hp := 121) (post := []) C hO hP q129 htab rfl rfl ?_
          refine lv_astore_n (lv' := [(3, .ref (ad 61)), (0, .ref (ad 60)), (4, .int v30), (5, .int z31)]) hx hb dX0_joined_121 rfl hl (by decide) rfl (fun ls hl => ?_)
          refine lv_aload_n hx hb dX0_joined_122 rfl (lv_at hl 1 rfl) ?_
          refine lv_aload_n hx hb dX0_joined_123 rfl (lv_at hl 0 rfl) ?_
          obtain ⟨v35, st36, hv35, h⟩ := bd2_some h
          refine k_L_finds C hO hP hS hv35 q410 (Nat.le_of_ble_eq_true rfl) hl.1 (Nat.le_of_ble_eq_true rfl) hcs dX0_joined_124 (fun H locs hP hS => ?_)
          exact cc_viret hx hb hr hlk h hP hS dX0_joined_127
        · rw [onx_some] at h
          refine k_L_needR C hO hP hS hv32 q402 (Nat.le_of_ble_eq_true rfl) hl.1 (Nat.le_of_ble_eq_true rfl) hcs dX0_joined_113 (fun H locs hP hS => ?_)
          refine lv_iload_n hx hb dX0_joined_116 rfl (lv_at hl 1 rfl) ?_
          refine lv_iload hx hb dX0_joined_117 (lv_at hl 2 rfl) ?_
          refine lv_ior hx hb dX0_joined_119 ?_
          exact cc_viret hx hb hr hlk h hP hS dX0_joined_120
    · have h := if_some_f h c23
      refine lv_iload_n hx hb dX0_joined_17 rfl (lv_at hl 1 rfl) ?_
      refine lv_iload_n hx hb dX0_joined_18 rfl (lv_at hl 2 rfl) ?_
      refine lv_icmp_eq (tgt := 26) hx hb dX0_joined_19 rfl (fun c38 => ?_) (fun c38 => ?_)
      · have h := if_some_t h c38
        refine lv_iconst (v := 0) hx hb dX0_joined_26 (by decide) ?_
        refine lv_iconst (v := 1) hx hb dX0_joined_27 (by decide) ?_
        obtain ⟨o41, st40, hv39, h⟩ := bd2_some h
        rcases o41 with _ | v39
        · rw [onx_none] at h
          refine k_L_needT C hO hP hS hv39 q402 (Nat.le_of_ble_eq_true rfl) hl.1 (Nat.le_of_ble_eq_true rfl) hcs dX0_joined_28 (fun H locs hP hS => ?_)
          refine cc_catch (pre := []) (a1 := 0) (a2 := 120) (hp := 121) (post := []) C hO hP q129 htab rfl rfl ?_
          refine lv_astore_n (lv' := [(3, .ref (ad 61)), (0, .ref (ad 60)), (1, .int x1), (2, .int x2)]) hx hb dX0_joined_121 rfl hl (by decide) rfl (fun ls hl => ?_)
          refine lv_aload_n hx hb dX0_joined_122 rfl (lv_at hl 1 rfl) ?_
          refine lv_aload_n hx hb dX0_joined_123 rfl (lv_at hl 0 rfl) ?_
          obtain ⟨v42, st43, hv42, h⟩ := bd2_some h
          refine k_L_finds C hO hP hS hv42 q410 (Nat.le_of_ble_eq_true rfl) hl.1 (Nat.le_of_ble_eq_true rfl) hcs dX0_joined_124 (fun H locs hP hS => ?_)
          exact cc_viret hx hb hr hlk h hP hS dX0_joined_127
        · rw [onx_some] at h
          refine k_L_needR C hO hP hS hv39 q402 (Nat.le_of_ble_eq_true rfl) hl.1 (Nat.le_of_ble_eq_true rfl) hcs dX0_joined_28 (fun H locs hP hS => ?_)
          refine lv_aload_n hx hb dX0_joined_31 rfl (lv_at hl 0 rfl) ?_
          refine lg_town C hO hP dX0_joined_32 ?_
          refine lv_iload_n hx hb dX0_joined_35 rfl (lv_at hl 1 rfl) ?_
          obtain ⟨v44, hv44, h⟩ := bd1_some h
          refine k_T_told (t := 0) C hO (by decide) hP hv44 q431 (Nat.le_of_ble_eq_true rfl) hS.1 hl.1 (Nat.le_of_ble_eq_true rfl) hcs dX0_joined_36 ?_
          refine lv_istore_n (lv' := [(3, .int v44), (0, .ref (ad 60)), (1, .int x1), (2, .int x2)]) hx hb dX0_joined_39 rfl hl (by decide) rfl (fun ls hl => ?_)
          refine lv_aload_n hx hb dX0_joined_40 rfl (lv_at hl 1 rfl) ?_
          refine lg_town C hO hP dX0_joined_41 ?_
          refine lv_iload_n hx hb dX0_joined_44 rfl (lv_at hl 3 rfl) ?_
          obtain ⟨v45, hv45, h⟩ := bd1_some h
          refine k_T_told (t := 0) C hO (by decide) hP hv45 q431 (Nat.le_of_ble_eq_true rfl) hS.1 hl.1 (Nat.le_of_ble_eq_true rfl) hcs dX0_joined_45 ?_
          refine lv_istore (lv' := [(4, .int v45), (3, .int v44), (0, .ref (ad 60)), (1, .int x1), (2, .int x2)]) hx hb dX0_joined_48 hl (by decide) rfl (fun ls hl => ?_)
          refine lv_iconst (v := 1) hx hb dX0_joined_50 (by decide) ?_
          refine lv_istore (lv' := [(5, .int 1), (4, .int v45), (3, .int v44), (0, .ref (ad 60)), (1, .int x1), (2, .int x2)]) hx hb dX0_joined_51 hl (by decide) rfl (fun ls hl => ?_)
          refine lv_iconst (v := 0) hx hb dX0_joined_53 (by decide) ?_
          refine lv_istore (lv' := [(6, .int 0), (5, .int 1), (4, .int v45), (3, .int v44), (0, .ref (ad 60)), (1, .int x1), (2, .int x2)]) hx hb dX0_joined_54 hl (by decide) rfl (fun ls hl => ?_)
          obtain ⟨z46, hz52, h⟩ := bd1_some h
          refine L56 st40 v44 v45 N 1 0 _ hz52 _ _ hP hS ls (lv_sub hl [4, 3, 2, 1, 0] rfl) (fun ls hl => ?_)
          refine lv_aload_n hx hb dX0_joined_109 rfl (lv_at hl 0 rfl) ?_
          refine lv_iload hx hb dX0_joined_110 (lv_at hl 3 rfl) ?_
          refine lv_iconst (v := 2) hx hb dX0_joined_112 (by decide) ?_
          obtain ⟨o49, st48, hv47, h⟩ := bd2_some h
          rcases o49 with _ | v47
          · rw [onx_none] at h
            refine k_L_needT C hO hP hS hv47 q402 (Nat.le_of_ble_eq_true rfl) hl.1 (Nat.le_of_ble_eq_true rfl) hcs dX0_joined_113 (fun H locs hP hS => ?_)
            refine cc_catch (pre := []) (a1 := 0) (a2 := 120) (hp := 121) (post := []) C hO hP q129 htab rfl rfl ?_
            refine lv_astore_n (lv' := [(3, .ref (ad 61)), (0, .ref (ad 60)), (4, .int v45), (5, .int z46)]) hx hb dX0_joined_121 rfl hl (by decide) rfl (fun ls hl => ?_)
            refine lv_aload_n hx hb dX0_joined_122 rfl (lv_at hl 1 rfl) ?_
            refine lv_aload_n hx hb dX0_joined_123 rfl (lv_at hl 0 rfl) ?_
            obtain ⟨v50, st51, hv50, h⟩ := bd2_some h
            refine k_L_finds C hO hP hS hv50 q410 (Nat.le_of_ble_eq_true rfl) hl.1 (Nat.le_of_ble_eq_true rfl) hcs dX0_joined_124 (fun H locs hP hS => ?_)
            exact cc_viret hx hb hr hlk h hP hS dX0_joined_127
          · rw [onx_some] at h
            refine k_L_needR C hO hP hS hv47 q402 (Nat.le_of_ble_eq_true rfl) hl.1 (Nat.le_of_ble_eq_true rfl) hcs dX0_joined_113 (fun H locs hP hS => ?_)
            refine lv_iload_n hx hb dX0_joined_116 rfl (lv_at hl 1 rfl) ?_
            refine lv_iload hx hb dX0_joined_117 (lv_at hl 2 rfl) ?_
            refine lv_ior hx hb dX0_joined_119 ?_
            exact cc_viret hx hb hr hlk h hP hS dX0_joined_120
      · have h := if_some_f h c38
        refine lv_iconst (v := 1) hx hb dX0_joined_22 (by decide) ?_
        refine lv_goto (tgt := 27) hx hb dX0_joined_23 rfl ?_
        refine lv_iconst (v := 1) hx hb dX0_joined_27 (by decide) ?_
        obtain ⟨o55, st54, hv53, h⟩ := bd2_some h
        rcases o55 with _ | v53
        · rw [onx_none] at h
          refine k_L_needT C hO hP hS hv53 q402 (Nat.le_of_ble_eq_true rfl) hl.1 (Nat.le_of_ble_eq_true rfl) hcs dX0_joined_28 (fun H locs hP hS => ?_)
          refine cc_catch (pre := []) (a1 := 0) (a2 := 120) (hp := 121) (post := []) C hO hP q129 htab rfl rfl ?_
          refine lv_astore_n (lv' := [(3, .ref (ad 61)), (0, .ref (ad 60)), (1, .int x1), (2, .int x2)]) hx hb dX0_joined_121 rfl hl (by decide) rfl (fun ls hl => ?_)
          refine lv_aload_n hx hb dX0_joined_122 rfl (lv_at hl 1 rfl) ?_
          refine lv_aload_n hx hb dX0_joined_123 rfl (lv_at hl 0 rfl) ?_
          obtain ⟨v56, st57, hv56, h⟩ := bd2_some h
          refine k_L_finds C hO hP hS hv56 q410 (Nat.le_of_ble_eq_true rfl) hl.1 (Nat.le_of_ble_eq_true rfl) hcs dX0_joined_124 (fun H locs hP hS => ?_)
          exact cc_viret hx hb hr hlk h hP hS dX0_joined_127
        · rw [onx_some] at h
          refine k_L_needR C hO hP hS hv53 q402 (Nat.le_of_ble_eq_true rfl) hl.1 (Nat.le_of_ble_eq_true rfl) hcs dX0_joined_28 (fun H locs hP hS => ?_)
          refine lv_aload_n hx hb dX0_joined_31 rfl (lv_at hl 0 rfl) ?_
          refine lg_town C hO hP dX0_joined_32 ?_
          refine lv_iload_n hx hb dX0_joined_35 rfl (lv_at hl 1 rfl) ?_
          obtain ⟨v58, hv58, h⟩ := bd1_some h
          refine k_T_told (t := 0) C hO (by decide) hP hv58 q431 (Nat.le_of_ble_eq_true rfl) hS.1 hl.1 (Nat.le_of_ble_eq_true rfl) hcs dX0_joined_36 ?_
          refine lv_istore_n (lv' := [(3, .int v58), (0, .ref (ad 60)), (1, .int x1), (2, .int x2)]) hx hb dX0_joined_39 rfl hl (by decide) rfl (fun ls hl => ?_)
          refine lv_aload_n hx hb dX0_joined_40 rfl (lv_at hl 1 rfl) ?_
          refine lg_town C hO hP dX0_joined_41 ?_
          refine lv_iload_n hx hb dX0_joined_44 rfl (lv_at hl 3 rfl) ?_
          obtain ⟨v59, hv59, h⟩ := bd1_some h
          refine k_T_told (t := 0) C hO (by decide) hP hv59 q431 (Nat.le_of_ble_eq_true rfl) hS.1 hl.1 (Nat.le_of_ble_eq_true rfl) hcs dX0_joined_45 ?_
          refine lv_istore (lv' := [(4, .int v59), (3, .int v58), (0, .ref (ad 60)), (1, .int x1), (2, .int x2)]) hx hb dX0_joined_48 hl (by decide) rfl (fun ls hl => ?_)
          refine lv_iconst (v := 1) hx hb dX0_joined_50 (by decide) ?_
          refine lv_istore (lv' := [(5, .int 1), (4, .int v59), (3, .int v58), (0, .ref (ad 60)), (1, .int x1), (2, .int x2)]) hx hb dX0_joined_51 hl (by decide) rfl (fun ls hl => ?_)
          refine lv_iconst (v := 0) hx hb dX0_joined_53 (by decide) ?_
          refine lv_istore (lv' := [(6, .int 0), (5, .int 1), (4, .int v59), (3, .int v58), (0, .ref (ad 60)), (1, .int x1), (2, .int x2)]) hx hb dX0_joined_54 hl (by decide) rfl (fun ls hl => ?_)
          obtain ⟨z60, hz66, h⟩ := bd1_some h
          refine L56 st54 v58 v59 N 1 0 _ hz66 _ _ hP hS ls (lv_sub hl [4, 3, 2, 1, 0] rfl) (fun ls hl => ?_)
          refine lv_aload_n hx hb dX0_joined_109 rfl (lv_at hl 0 rfl) ?_
          refine lv_iload hx hb dX0_joined_110 (lv_at hl 3 rfl) ?_
          refine lv_iconst (v := 2) hx hb dX0_joined_112 (by decide) ?_
          obtain ⟨o63, st62, hv61, h⟩ := bd2_some h
          rcases o63 with _ | v61
          · rw [onx_none] at h
            refine k_L_needT C hO hP hS hv61 q402 (Nat.le_of_ble_eq_true rfl) hl.1 (Nat.le_of_ble_eq_true rfl) hcs dX0_joined_113 (fun H locs hP hS => ?_)
            refine cc_catch (pre := []) (a1 := 0) (a2 := 120) (hp := 121) (post := []) C hO hP q129 htab rfl rfl ?_
            refine lv_astore_n (lv' := [(3, .ref (ad 61)), (0, .ref (ad 60)), (4, .int v59), (5, .int z60)]) hx hb dX0_joined_121 rfl hl (by decide) rfl (fun ls hl => ?_)
            refine lv_aload_n hx hb dX0_joined_122 rfl (lv_at hl 1 rfl) ?_
            refine lv_aload_n hx hb dX0_joined_123 rfl (lv_at hl 0 rfl) ?_
            obtain ⟨v64, st65, hv64, h⟩ := bd2_some h
            refine k_L_finds C hO hP hS hv64 q410 (Nat.le_of_ble_eq_true rfl) hl.1 (Nat.le_of_ble_eq_true rfl) hcs dX0_joined_124 (fun H locs hP hS => ?_)
            exact cc_viret hx hb hr hlk h hP hS dX0_joined_127
          · rw [onx_some] at h
            refine k_L_needR C hO hP hS hv61 q402 (Nat.le_of_ble_eq_true rfl) hl.1 (Nat.le_of_ble_eq_true rfl) hcs dX0_joined_113 (fun H locs hP hS => ?_)
            refine lv_iload_n hx hb dX0_joined_116 rfl (lv_at hl 1 rfl) ?_
            refine lv_iload hx hb dX0_joined_117 (lv_at hl 2 rfl) ?_
            refine lv_ior hx hb dX0_joined_119 ?_
            exact cc_viret hx hb hr hlk h hP hS dX0_joined_120
abbrev cX0_meeting : ByteArray := prog_1_method_49_code
def yX0_meeting : MethodName := ⟨RX0, "meeting", "(III)I"⟩
theorem dX0_meeting_0 : decode cX0_meeting 0 = .ok (.aload_n 0, 1) := by decide +kernel
theorem dX0_meeting_1 : decode cX0_meeting 1 = .ok (.iload_n 1, 1) := by decide +kernel
theorem dX0_meeting_2 : decode cX0_meeting 2 = .ok (.invokestatic 324, 3) := by decide +kernel
theorem dX0_meeting_5 : decode cX0_meeting 5 = .ok (.ifCond .eq 26, 3) := by decide +kernel
theorem dX0_meeting_8 : decode cX0_meeting 8 = .ok (.iload_n 2, 1) := by decide +kernel
theorem dX0_meeting_9 : decode cX0_meeting 9 = .ok (.invokestatic 327, 3) := by decide +kernel
theorem dX0_meeting_12 : decode cX0_meeting 12 = .ok (.ifCond .eq 19, 3) := by decide +kernel
theorem dX0_meeting_15 : decode cX0_meeting 15 = .ok (.iload_n 3, 1) := by decide +kernel
theorem dX0_meeting_16 : decode cX0_meeting 16 = .ok (.invokestatic 327, 3) := by decide +kernel
theorem dX0_meeting_19 : decode cX0_meeting 19 = .ok (.ifCond .eq 12, 3) := by decide +kernel
theorem dX0_meeting_22 : decode cX0_meeting 22 = .ok (.iload_n 2, 1) := by decide +kernel
theorem dX0_meeting_23 : decode cX0_meeting 23 = .ok (.iload_n 3, 1) := by decide +kernel
theorem dX0_meeting_24 : decode cX0_meeting 24 = .ok (.if_icmp .eq 7, 3) := by decide +kernel
theorem dX0_meeting_27 : decode cX0_meeting 27 = .ok (.iconst 1, 1) := by decide +kernel
theorem dX0_meeting_28 : decode cX0_meeting 28 = .ok (.goto 4, 3) := by decide +kernel
theorem dX0_meeting_31 : decode cX0_meeting 31 = .ok (.iconst 0, 1) := by decide +kernel
theorem dX0_meeting_32 : decode cX0_meeting 32 = .ok (.iconst 1, 1) := by decide +kernel
theorem dX0_meeting_33 : decode cX0_meeting 33 = .ok (.invokevirtual 102, 3) := by decide +kernel
theorem dX0_meeting_36 : decode cX0_meeting 36 = .ok (.aload_n 0, 1) := by decide +kernel
theorem dX0_meeting_37 : decode cX0_meeting 37 = .ok (.aload_n 0, 1) := by decide +kernel
theorem dX0_meeting_38 : decode cX0_meeting 38 = .ok (.getfield 46, 3) := by decide +kernel
theorem dX0_meeting_41 : decode cX0_meeting 41 = .ok (.getfield 330, 3) := by decide +kernel
theorem dX0_meeting_44 : decode cX0_meeting 44 = .ok (.bipush 12, 2) := by decide +kernel
theorem dX0_meeting_46 : decode cX0_meeting 46 = .ok (.if_icmp .ge 7, 3) := by decide +kernel
theorem dX0_meeting_49 : decode cX0_meeting 49 = .ok (.iconst 1, 1) := by decide +kernel
theorem dX0_meeting_50 : decode cX0_meeting 50 = .ok (.goto 4, 3) := by decide +kernel
theorem dX0_meeting_53 : decode cX0_meeting 53 = .ok (.iconst 0, 1) := by decide +kernel
theorem dX0_meeting_54 : decode cX0_meeting 54 = .ok (.iconst 4, 1) := by decide +kernel
theorem dX0_meeting_55 : decode cX0_meeting 55 = .ok (.invokevirtual 102, 3) := by decide +kernel
theorem dX0_meeting_58 : decode cX0_meeting 58 = .ok (.aload_n 0, 1) := by decide +kernel
theorem dX0_meeting_59 : decode cX0_meeting 59 = .ok (.getfield 46, 3) := by decide +kernel
theorem dX0_meeting_62 : decode cX0_meeting 62 = .ok (.getfield 330, 3) := by decide +kernel
theorem dX0_meeting_65 : decode cX0_meeting 65 = .ok (.istore 4, 2) := by decide +kernel
theorem dX0_meeting_67 : decode cX0_meeting 67 = .ok (.aload_n 0, 1) := by decide +kernel
theorem dX0_meeting_68 : decode cX0_meeting 68 = .ok (.getfield 46, 3) := by decide +kernel
theorem dX0_meeting_71 : decode cX0_meeting 71 = .ok (.getfield 333, 3) := by decide +kernel
theorem dX0_meeting_74 : decode cX0_meeting 74 = .ok (.iload 4, 2) := by decide +kernel
theorem dX0_meeting_76 : decode cX0_meeting 76 = .ok (.iload_n 1, 1) := by decide +kernel
theorem dX0_meeting_77 : decode cX0_meeting 77 = .ok (.iastore, 1) := by decide +kernel
theorem dX0_meeting_78 : decode cX0_meeting 78 = .ok (.aload_n 0, 1) := by decide +kernel
theorem dX0_meeting_79 : decode cX0_meeting 79 = .ok (.getfield 46, 3) := by decide +kernel
theorem dX0_meeting_82 : decode cX0_meeting 82 = .ok (.getfield 336, 3) := by decide +kernel
theorem dX0_meeting_85 : decode cX0_meeting 85 = .ok (.iload 4, 2) := by decide +kernel
theorem dX0_meeting_87 : decode cX0_meeting 87 = .ok (.iload_n 2, 1) := by decide +kernel
theorem dX0_meeting_88 : decode cX0_meeting 88 = .ok (.iastore, 1) := by decide +kernel
theorem dX0_meeting_89 : decode cX0_meeting 89 = .ok (.aload_n 0, 1) := by decide +kernel
theorem dX0_meeting_90 : decode cX0_meeting 90 = .ok (.getfield 46, 3) := by decide +kernel
theorem dX0_meeting_93 : decode cX0_meeting 93 = .ok (.getfield 339, 3) := by decide +kernel
theorem dX0_meeting_96 : decode cX0_meeting 96 = .ok (.iload 4, 2) := by decide +kernel
theorem dX0_meeting_98 : decode cX0_meeting 98 = .ok (.iload_n 3, 1) := by decide +kernel
theorem dX0_meeting_99 : decode cX0_meeting 99 = .ok (.iastore, 1) := by decide +kernel
theorem dX0_meeting_100 : decode cX0_meeting 100 = .ok (.aload_n 0, 1) := by decide +kernel
theorem dX0_meeting_101 : decode cX0_meeting 101 = .ok (.getfield 46, 3) := by decide +kernel
theorem dX0_meeting_104 : decode cX0_meeting 104 = .ok (.dup, 1) := by decide +kernel
theorem dX0_meeting_105 : decode cX0_meeting 105 = .ok (.getfield 330, 3) := by decide +kernel
theorem dX0_meeting_108 : decode cX0_meeting 108 = .ok (.iconst 1, 1) := by decide +kernel
theorem dX0_meeting_109 : decode cX0_meeting 109 = .ok (.iadd, 1) := by decide +kernel
theorem dX0_meeting_110 : decode cX0_meeting 110 = .ok (.putfield 330, 3) := by decide +kernel
theorem dX0_meeting_113 : decode cX0_meeting 113 = .ok (.iload 4, 2) := by decide +kernel
theorem dX0_meeting_115 : decode cX0_meeting 115 = .ok (.ireturn, 1) := by decide +kernel
theorem dX0_meeting_116 : decode cX0_meeting 116 = .ok (.astore 4, 2) := by decide +kernel
theorem dX0_meeting_118 : decode cX0_meeting 118 = .ok (.aload_n 0, 1) := by decide +kernel
theorem dX0_meeting_119 : decode cX0_meeting 119 = .ok (.aload 4, 2) := by decide +kernel
theorem dX0_meeting_121 : decode cX0_meeting 121 = .ok (.invokevirtual 123, 3) := by decide +kernel
theorem dX0_meeting_124 : decode cX0_meeting 124 = .ok (.ireturn, 1) := by decide +kernel
theorem q1183 : (Jvm.Cond.methodLink "ChapterLoan" (324 : Nat) ({ cls := "ChapterLoan", name := "isWeek", desc := "(I)Z" } : Jvm.MethodName)) ∈ lw_all := lw_g (lw_at lw_m5 139 rfl) rfl
theorem q1186 : (Jvm.Cond.methodLink "ChapterLoan" (327 : Nat) ({ cls := "ChapterLoan", name := "isFigure", desc := "(I)Z" } : Jvm.MethodName)) ∈ lw_all := lw_g (lw_at lw_m5 142 rfl) rfl
theorem w_L_meeting {l : Launch} {D : va_G} {cA : Nat → ClassId} {ks : List Nat} {ad : Nat → Nat} {A : Nat → Prop} (hO : klOk A ks ad) {st st' : CS} {x1 : Int32} {x2 : Int32} {x3 : Int32} {r0 : Int32} (h : L_meeting st x1 x2 x3 = some (r0, st')) : Met l yX0_meeting (wsW_ yX0_meeting cX0_meeting 5 (some .int) [(0, 115, 116, 8)]) (k2_rm 2 (40 * 2)) (cPre D cA ks ad A st [.ref (ad 60), .int x1, .int x2, .int x3]) (cQ (some (.int r0)) D cA ks ad A st') 0 0 A := by
  refine cc_ofH (own := RX0) (by decide) rfl (Nat.le_of_ble_eq_true rfl) (fun p e s m below meth c R args ls C hr hlk htab hP hS hl hcs => ?_)
  have hx := C.1
  have hb := C.2.1
  have hown := C.2.2.2.1
  have hNst := C.2.2.2.2.2.2.2.1
  have hl : lv_has ls 5 [(0, .ref (ad 60)), (1, .int x1), (2, .int x2), (3, .int x3)] := hl
  rw [L_meeting] at h
  refine lv_aload_n hx hb dX0_meeting_0 rfl (lv_at hl 0 rfl) ?_
  refine lv_iload_n hx hb dX0_meeting_1 rfl (lv_at hl 1 rfl) ?_
  obtain ⟨v1, hv1, h⟩ := bd1_some h
  refine k_L_isWeek hx hb C.2.2.1 hown C.2.2.2.2.1 C.2.2.2.2.2.1 q1183 hv1 (Nat.le_of_ble_eq_true rfl) hl.1 (Nat.le_of_ble_eq_true rfl) hcs dX0_meeting_2 ?_
  refine lv_if_eq (tgt := 31) hx hb dX0_meeting_5 rfl (fun c2 => ?_) (fun c2 => ?_)
  · have h := if_some_t h c2
    refine lv_iconst (v := 0) hx hb dX0_meeting_31 (by decide) ?_
    refine lv_iconst (v := 1) hx hb dX0_meeting_32 (by decide) ?_
    obtain ⟨o5, st4, hv3, h⟩ := bd2_some h
    rcases o5 with _ | v3
    · rw [onx_none] at h
      refine k_L_needT C hO hP hS hv3 q402 (Nat.le_of_ble_eq_true rfl) hl.1 (Nat.le_of_ble_eq_true rfl) hcs dX0_meeting_33 (fun H locs hP hS => ?_)
      refine cc_catch (pre := []) (a1 := 0) (a2 := 115) (hp := 116) (post := []) C hO hP q129 htab rfl rfl ?_
      refine lv_astore (lv' := [(4, .ref (ad 61)), (0, .ref (ad 60)), (1, .int x1), (2, .int x2), (3, .int x3)]) hx hb dX0_meeting_116 hl (by decide) rfl (fun ls hl => ?_)
      refine lv_aload_n hx hb dX0_meeting_118 rfl (lv_at hl 1 rfl) ?_
      refine lv_aload hx hb dX0_meeting_119 (lv_at hl 0 rfl) ?_
      obtain ⟨v6, st7, hv6, h⟩ := bd2_some h
      refine k_L_finds C hO hP hS hv6 q410 (Nat.le_of_ble_eq_true rfl) hl.1 (Nat.le_of_ble_eq_true rfl) hcs dX0_meeting_121 (fun H locs hP hS => ?_)
      exact cc_viret hx hb hr hlk h hP hS dX0_meeting_124
    · rw [onx_some] at h
      refine k_L_needR C hO hP hS hv3 q402 (Nat.le_of_ble_eq_true rfl) hl.1 (Nat.le_of_ble_eq_true rfl) hcs dX0_meeting_33 (fun H locs hP hS => ?_)
      refine lv_aload_n hx hb dX0_meeting_36 rfl (lv_at hl 0 rfl) ?_
      refine lv_aload_n hx hb dX0_meeting_37 rfl (lv_at hl 0 rfl) ?_
      refine lg_town C hO hP dX0_meeting_38 ?_
      refine tgN_meetings (t := 0) C hO (by decide) hP dX0_meeting_41 ?_
      refine lv_bipush (v := 12) hx hb dX0_meeting_44 (by decide) ?_
      refine lv_icmp_ge (tgt := 53) hx hb dX0_meeting_46 rfl (fun c8 => ?_) (fun c8 => ?_)
      · have h := if_some_t h c8
        refine lv_iconst (v := 0) hx hb dX0_meeting_53 (by decide) ?_
        refine lv_iconst (v := 4) hx hb dX0_meeting_54 (by decide) ?_
        obtain ⟨o11, st10, hv9, h⟩ := bd2_some h
        rcases o11 with _ | v9
        · rw [onx_none] at h
          refine k_L_needT C hO hP hS hv9 q402 (Nat.le_of_ble_eq_true rfl) hl.1 (Nat.le_of_ble_eq_true rfl) hcs dX0_meeting_55 (fun H locs hP hS => ?_)
          refine cc_catch (pre := []) (a1 := 0) (a2 := 115) (hp := 116) (post := []) C hO hP q129 htab rfl rfl ?_
          refine lv_astore (lv' := [(4, .ref (ad 61)), (0, .ref (ad 60)), (1, .int x1), (2, .int x2), (3, .int x3)]) hx hb dX0_meeting_116 hl (by decide) rfl (fun ls hl => ?_)
          refine lv_aload_n hx hb dX0_meeting_118 rfl (lv_at hl 1 rfl) ?_
          refine lv_aload hx hb dX0_meeting_119 (lv_at hl 0 rfl) ?_
          obtain ⟨v12, st13, hv12, h⟩ := bd2_some h
          refine k_L_finds C hO hP hS hv12 q410 (Nat.le_of_ble_eq_true rfl) hl.1 (Nat.le_of_ble_eq_true rfl) hcs dX0_meeting_121 (fun H locs hP hS => ?_)
          exact cc_viret hx hb hr hlk h hP hS dX0_meeting_124
        · rw [onx_some] at h
          refine k_L_needR C hO hP hS hv9 q402 (Nat.le_of_ble_eq_true rfl) hl.1 (Nat.le_of_ble_eq_true rfl) hcs dX0_meeting_55 (fun H locs hP hS => ?_)
          refine lv_aload_n hx hb dX0_meeting_58 rfl (lv_at hl 0 rfl) ?_
          refine lg_town C hO hP dX0_meeting_59 ?_
          refine tgN_meetings (t := 0) C hO (by decide) hP dX0_meeting_62 ?_
          refine lv_istore (lv' := [(4, .int (st10.1 (20 * 0) 14)), (0, .ref (ad 60)), (1, .int x1), (2, .int x2), (3, .int x3)]) hx hb dX0_meeting_65 hl (by decide) rfl (fun ls hl => ?_)
          refine lv_aload_n hx hb dX0_meeting_67 rfl (lv_at hl 1 rfl) ?_
          refine lg_town C hO hP dX0_meeting_68 ?_
          refine tgN_meetWeek (t := 0) C hO (by decide) hP dX0_meeting_71 ?_
          refine lv_iload hx hb dX0_meeting_74 (lv_at hl 0 rfl) ?_
          refine lv_iload_n hx hb dX0_meeting_76 rfl (lv_at hl 2 rfl) ?_
          obtain ⟨b14, hb14, h⟩ := bd1_some h
          refine cc_ist C hO hP hS (hO.2.2.2 _ (tk_ 11 (by decide) (by decide))) (cg_t 11 (by decide) (by decide)) hb14 (cg_At 11 (by decide) (by decide)) hP.2 dX0_meeting_77 (fun H locs hP hS => ?_)
          refine lv_aload_n hx hb dX0_meeting_78 rfl (lv_at hl 1 rfl) ?_
          refine lg_town C hO hP dX0_meeting_79 ?_
          refine tgN_meetOne (t := 0) C hO (by decide) hP dX0_meeting_82 ?_
          refine lv_iload hx hb dX0_meeting_85 (lv_at hl 0 rfl) ?_
          refine lv_iload_n hx hb dX0_meeting_87 rfl (lv_at hl 3 rfl) ?_
          obtain ⟨b15, hb15, h⟩ := bd1_some h
          refine cc_ist C hO hP hS (hO.2.2.2 _ (tk_ 12 (by decide) (by decide))) (cg_t 12 (by decide) (by decide)) hb15 (cg_At 12 (by decide) (by decide)) hP.2 dX0_meeting_88 (fun H locs hP hS => ?_)
          refine lv_aload_n hx hb dX0_meeting_89 rfl (lv_at hl 1 rfl) ?_
          refine lg_town C hO hP dX0_meeting_90 ?_
          refine tgN_meetOther (t := 0) C hO (by decide) hP dX0_meeting_93 ?_
          refine lv_iload hx hb dX0_meeting_96 (lv_at hl 0 rfl) ?_
          refine lv_iload_n hx hb dX0_meeting_98 rfl (lv_at hl 4 rfl) ?_
          obtain ⟨b16, hb16, h⟩ := bd1_some h
          refine cc_ist C hO hP hS (hO.2.2.2 _ (tk_ 13 (by decide) (by decide))) (cg_t 13 (by decide) (by decide)) hb16 (cg_At 13 (by decide) (by decide)) hP.2 dX0_meeting_99 (fun H locs hP hS => ?_)
          refine lv_aload_n hx hb dX0_meeting_100 rfl (lv_at hl 1 rfl) ?_
          refine lg_town C hO hP dX0_meeting_101 ?_
          refine lv_dup hx hb dX0_meeting_104 rfl ?_
          refine tgN_meetings (t := 0) C hO (by decide) hP dX0_meeting_105 ?_
          refine lv_iconst (v := 1) hx hb dX0_meeting_108 (by decide) ?_
          refine lv_iadd hx hb dX0_meeting_109 ?_
          refine tpN_meetings (t := 0) C hO (by decide) hP hS dX0_meeting_110 (fun H locs hP hS => ?_)
          refine lv_iload hx hb dX0_meeting_113 (lv_at hl 0 rfl) ?_
          exact cc_viret hx hb hr hlk h hP hS dX0_meeting_115
      · have h := if_some_f h c8
        refine lv_iconst (v := 1) hx hb dX0_meeting_49 (by decide) ?_
        refine lv_goto (tgt := 54) hx hb dX0_meeting_50 rfl ?_
        refine lv_iconst (v := 4) hx hb dX0_meeting_54 (by decide) ?_
        obtain ⟨o19, st18, hv17, h⟩ := bd2_some h
        rcases o19 with _ | v17
        · rw [onx_none] at h
          refine k_L_needT C hO hP hS hv17 q402 (Nat.le_of_ble_eq_true rfl) hl.1 (Nat.le_of_ble_eq_true rfl) hcs dX0_meeting_55 (fun H locs hP hS => ?_)
          refine cc_catch (pre := []) (a1 := 0) (a2 := 115) (hp := 116) (post := []) C hO hP q129 htab rfl rfl ?_
          refine lv_astore (lv' := [(4, .ref (ad 61)), (0, .ref (ad 60)), (1, .int x1), (2, .int x2), (3, .int x3)]) hx hb dX0_meeting_116 hl (by decide) rfl (fun ls hl => ?_)
          refine lv_aload_n hx hb dX0_meeting_118 rfl (lv_at hl 1 rfl) ?_
          refine lv_aload hx hb dX0_meeting_119 (lv_at hl 0 rfl) ?_
          obtain ⟨v20, st21, hv20, h⟩ := bd2_some h
          refine k_L_finds C hO hP hS hv20 q410 (Nat.le_of_ble_eq_true rfl) hl.1 (Nat.le_of_ble_eq_true rfl) hcs dX0_meeting_121 (fun H locs hP hS => ?_)
          exact cc_viret hx hb hr hlk h hP hS dX0_meeting_124
        · rw [onx_some] at h
          refine k_L_needR C hO hP hS hv17 q402 (Nat.le_of_ble_eq_true rfl) hl.1 (Nat.le_of_ble_eq_true rfl) hcs dX0_meeting_55 (fun H locs hP hS => ?_)
          refine lv_aload_n hx hb dX0_meeting_58 rfl (lv_at hl 0 rfl) ?_
          refine lg_town C hO hP dX0_meeting_59 ?_
          refine tgN_meetings (t := 0) C hO (by decide) hP dX0_meeting_62 ?_
          refine lv_istore (lv' := [(4, .int (st18.1 (20 * 0) 14)), (0, .ref (ad 60)), (1, .int x1), (2, .int x2), (3, .int x3)]) hx hb dX0_meeting_65 hl (by decide) rfl (fun ls hl => ?_)
          refine lv_aload_n hx hb dX0_meeting_67 rfl (lv_at hl 1 rfl) ?_
          refine lg_town C hO hP dX0_meeting_68 ?_
          refine tgN_meetWeek (t := 0) C hO (by decide) hP dX0_meeting_71 ?_
          refine lv_iload hx hb dX0_meeting_74 (lv_at hl 0 rfl) ?_
          refine lv_iload_n hx hb dX0_meeting_76 rfl (lv_at hl 2 rfl) ?_
          obtain ⟨b22, hb22, h⟩ := bd1_some h
          refine cc_ist C hO hP hS (hO.2.2.2 _ (tk_ 11 (by decide) (by decide))) (cg_t 11 (by decide) (by decide)) hb22 (cg_At 11 (by decide) (by decide)) hP.2 dX0_meeting_77 (fun H locs hP hS => ?_)
          refine lv_aload_n hx hb dX0_meeting_78 rfl (lv_at hl 1 rfl) ?_
          refine lg_town C hO hP dX0_meeting_79 ?_
          refine tgN_meetOne (t := 0) C hO (by decide) hP dX0_meeting_82 ?_
          refine lv_iload hx hb dX0_meeting_85 (lv_at hl 0 rfl) ?_
          refine lv_iload_n hx hb dX0_meeting_87 rfl (lv_at hl 3 rfl) ?_
          obtain ⟨b23, hb23, h⟩ := bd1_some h
          refine cc_ist C hO hP hS (hO.2.2.2 _ (tk_ 12 (by decide) (by decide))) (cg_t 12 (by decide) (by decide)) hb23 (cg_At 12 (by decide) (by decide)) hP.2 dX0_meeting_88 (fun H locs hP hS => ?_)
          refine lv_aload_n hx hb dX0_meeting_89 rfl (lv_at hl 1 rfl) ?_
          refine lg_town C hO hP dX0_meeting_90 ?_
          refine tgN_meetOther (t := 0) C hO (by decide) hP dX0_meeting_93 ?_
          refine lv_iload hx hb dX0_meeting_96 (lv_at hl 0 rfl) ?_
          refine lv_iload_n hx hb dX0_meeting_98 rfl (lv_at hl 4 rfl) ?_
          obtain ⟨b24, hb24, h⟩ := bd1_some h
          refine cc_ist C hO hP hS (hO.2.2.2 _ (tk_ 13 (by decide) (by decide))) (cg_t 13 (by decide) (by decide)) hb24 (cg_At 13 (by decide) (by decide)) hP.2 dX0_meeting_99 (fun H locs hP hS => ?_)
          refine lv_aload_n hx hb dX0_meeting_100 rfl (lv_at hl 1 rfl) ?_
          refine lg_town C hO hP dX0_meeting_101 ?_
          refine lv_dup hx hb dX0_meeting_104 rfl ?_
          refine tgN_meetings (t := 0) C hO (by decide) hP dX0_meeting_105 ?_
          refine lv_iconst (v := 1) hx hb dX0_meeting_108 (by decide) ?_
          refine lv_iadd hx hb dX0_meeting_109 ?_
          refine tpN_meetings (t := 0) C hO (by decide) hP hS dX0_meeting_110 (fun H locs hP hS => ?_)
          refine lv_iload hx hb dX0_meeting_113 (lv_at hl 0 rfl) ?_
          exact cc_viret hx hb hr hlk h hP hS dX0_meeting_115
  · have h := if_some_f h c2
    refine lv_iload_n hx hb dX0_meeting_8 rfl (lv_at hl 2 rfl) ?_
    obtain ⟨v25, hv25, h⟩ := bd1_some h
    refine k_L_isFigure hx hb C.2.2.1 hown C.2.2.2.2.1 C.2.2.2.2.2.1 q1186 hv25 (Nat.le_of_ble_eq_true rfl) hl.1 (Nat.le_of_ble_eq_true rfl) hcs dX0_meeting_9 ?_
    refine lv_if_eq (tgt := 31) hx hb dX0_meeting_12 rfl (fun c26 => ?_) (fun c26 => ?_)
    · have h := if_some_t h c26
      refine lv_iconst (v := 0) hx hb dX0_meeting_31 (by decide) ?_
      refine lv_iconst (v := 1) hx hb dX0_meeting_32 (by decide) ?_
      obtain ⟨o29, st28, hv27, h⟩ := bd2_some h
      rcases o29 with _ | v27
      · rw [onx_none] at h
        refine k_L_needT C hO hP hS hv27 q402 (Nat.le_of_ble_eq_true rfl) hl.1 (Nat.le_of_ble_eq_true rfl) hcs dX0_meeting_33 (fun H locs hP hS => ?_)
        refine cc_catch (pre := []) (a1 := 0) (a2 := 115) (hp := 116) (post := []) C hO hP q129 htab rfl rfl ?_
        refine lv_astore (lv' := [(4, .ref (ad 61)), (0, .ref (ad 60)), (1, .int x1), (2, .int x2), (3, .int x3)]) hx hb dX0_meeting_116 hl (by decide) rfl (fun ls hl => ?_)
        refine lv_aload_n hx hb dX0_meeting_118 rfl (lv_at hl 1 rfl) ?_
        refine lv_aload hx hb dX0_meeting_119 (lv_at hl 0 rfl) ?_
        obtain ⟨v30, st31, hv30, h⟩ := bd2_some h
        refine k_L_finds C hO hP hS hv30 q410 (Nat.le_of_ble_eq_true rfl) hl.1 (Nat.le_of_ble_eq_true rfl) hcs dX0_meeting_121 (fun H locs hP hS => ?_)
        exact cc_viret hx hb hr hlk h hP hS dX0_meeting_124
      · rw [onx_some] at h
        refine k_L_needR C hO hP hS hv27 q402 (Nat.le_of_ble_eq_true rfl) hl.1 (Nat.le_of_ble_eq_true rfl) hcs dX0_meeting_33 (fun H locs hP hS => ?_)
        refine lv_aload_n hx hb dX0_meeting_36 rfl (lv_at hl 0 rfl) ?_
        refine lv_aload_n hx hb dX0_meeting_37 rfl (lv_at hl 0 rfl) ?_
        refine lg_town C hO hP dX0_meeting_38 ?_
        refine tgN_meetings (t := 0) C hO (by decide) hP dX0_meeting_41 ?_
        refine lv_bipush (v := 12) hx hb dX0_meeting_44 (by decide) ?_
        refine lv_icmp_ge (tgt := 53) hx hb dX0_meeting_46 rfl (fun c32 => ?_) (fun c32 => ?_)
        · have h := if_some_t h c32
          refine lv_iconst (v := 0) hx hb dX0_meeting_53 (by decide) ?_
          refine lv_iconst (v := 4) hx hb dX0_meeting_54 (by decide) ?_
          obtain ⟨o35, st34, hv33, h⟩ := bd2_some h
          rcases o35 with _ | v33
          · rw [onx_none] at h
            refine k_L_needT C hO hP hS hv33 q402 (Nat.le_of_ble_eq_true rfl) hl.1 (Nat.le_of_ble_eq_true rfl) hcs dX0_meeting_55 (fun H locs hP hS => ?_)
            refine cc_catch (pre := []) (a1 := 0) (a2 := 115) (hp := 116) (post := []) C hO hP q129 htab rfl rfl ?_
            refine lv_astore (lv' := [(4, .ref (ad 61)), (0, .ref (ad 60)), (1, .int x1), (2, .int x2), (3, .int x3)]) hx hb dX0_meeting_116 hl (by decide) rfl (fun ls hl => ?_)
            refine lv_aload_n hx hb dX0_meeting_118 rfl (lv_at hl 1 rfl) ?_
            refine lv_aload hx hb dX0_meeting_119 (lv_at hl 0 rfl) ?_
            obtain ⟨v36, st37, hv36, h⟩ := bd2_some h
            refine k_L_finds C hO hP hS hv36 q410 (Nat.le_of_ble_eq_true rfl) hl.1 (Nat.le_of_ble_eq_true rfl) hcs dX0_meeting_121 (fun H locs hP hS => ?_)
            exact cc_viret hx hb hr hlk h hP hS dX0_meeting_124
          · rw [onx_some] at h
            refine k_L_needR C hO hP hS hv33 q402 (Nat.le_of_ble_eq_true rfl) hl.1 (Nat.le_of_ble_eq_true rfl) hcs dX0_meeting_55 (fun H locs hP hS => ?_)
            refine lv_aload_n hx hb dX0_meeting_58 rfl (lv_at hl 0 rfl) ?_
            refine lg_town C hO hP dX0_meeting_59 ?_
            refine tgN_meetings (t := 0) C hO (by decide) hP dX0_meeting_62 ?_
            refine lv_istore (lv' := [(4, .int (st34.1 (20 * 0) 14)), (0, .ref (ad 60)), (1, .int x1), (2, .int x2), (3, .int x3)]) hx hb dX0_meeting_65 hl (by decide) rfl (fun ls hl => ?_)
            refine lv_aload_n hx hb dX0_meeting_67 rfl (lv_at hl 1 rfl) ?_
            refine lg_town C hO hP dX0_meeting_68 ?_
            refine tgN_meetWeek (t := 0) C hO (by decide) hP dX0_meeting_71 ?_
            refine lv_iload hx hb dX0_meeting_74 (lv_at hl 0 rfl) ?_
            refine lv_iload_n hx hb dX0_meeting_76 rfl (lv_at hl 2 rfl) ?_
            obtain ⟨b38, hb38, h⟩ := bd1_some h
            refine cc_ist C hO hP hS (hO.2.2.2 _ (tk_ 11 (by decide) (by decide))) (cg_t 11 (by decide) (by decide)) hb38 (cg_At 11 (by decide) (by decide)) hP.2 dX0_meeting_77 (fun H locs hP hS => ?_)
            refine lv_aload_n hx hb dX0_meeting_78 rfl (lv_at hl 1 rfl) ?_
            refine lg_town C hO hP dX0_meeting_79 ?_
            refine tgN_meetOne (t := 0) C hO (by decide) hP dX0_meeting_82 ?_
            refine lv_iload hx hb dX0_meeting_85 (lv_at hl 0 rfl) ?_
            refine lv_iload_n hx hb dX0_meeting_87 rfl (lv_at hl 3 rfl) ?_
            obtain ⟨b39, hb39, h⟩ := bd1_some h
            refine cc_ist C hO hP hS (hO.2.2.2 _ (tk_ 12 (by decide) (by decide))) (cg_t 12 (by decide) (by decide)) hb39 (cg_At 12 (by decide) (by decide)) hP.2 dX0_meeting_88 (fun H locs hP hS => ?_)
            refine lv_aload_n hx hb dX0_meeting_89 rfl (lv_at hl 1 rfl) ?_
            refine lg_town C hO hP dX0_meeting_90 ?_
            refine tgN_meetOther (t := 0) C hO (by decide) hP dX0_meeting_93 ?_
            refine lv_iload hx hb dX0_meeting_96 (lv_at hl 0 rfl) ?_
            refine lv_iload_n hx hb dX0_meeting_98 rfl (lv_at hl 4 rfl) ?_
            obtain ⟨b40, hb40, h⟩ := bd1_some h
            refine cc_ist C hO hP hS (hO.2.2.2 _ (tk_ 13 (by decide) (by decide))) (cg_t 13 (by decide) (by decide)) hb40 (cg_At 13 (by decide) (by decide)) hP.2 dX0_meeting_99 (fun H locs hP hS => ?_)
            refine lv_aload_n hx hb dX0_meeting_100 rfl (lv_at hl 1 rfl) ?_
            refine lg_town C hO hP dX0_meeting_101 ?_
            refine lv_dup hx hb dX0_meeting_104 rfl ?_
            refine tgN_meetings (t := 0) C hO (by decide) hP dX0_meeting_105 ?_
            refine lv_iconst (v := 1) hx hb dX0_meeting_108 (by decide) ?_
            refine lv_iadd hx hb dX0_meeting_109 ?_
            refine tpN_meetings (t := 0) C hO (by decide) hP hS dX0_meeting_110 (fun H locs hP hS => ?_)
            refine lv_iload hx hb dX0_meeting_113 (lv_at hl 0 rfl) ?_
            exact cc_viret hx hb hr hlk h hP hS dX0_meeting_115
        · have h := if_some_f h c32
          refine lv_iconst (v := 1) hx hb dX0_meeting_49 (by decide) ?_
          refine lv_goto (tgt := 54) hx hb dX0_meeting_50 rfl ?_
          refine lv_iconst (v := 4) hx hb dX0_meeting_54 (by decide) ?_
          obtain ⟨o43, st42, hv41, h⟩ := bd2_some h
          rcases o43 with _ | v41
          · rw [onx_none] at h
            refine k_L_needT C hO hP hS hv41 q402 (Nat.le_of_ble_eq_true rfl) hl.1 (Nat.le_of_ble_eq_true rfl) hcs dX0_meeting_55 (fun H locs hP hS => ?_)
            refine cc_catch (pre := []) (a1 := 0) (a2 := 115) (hp := 116) (post := []) C hO hP q129 htab rfl rfl ?_
            refine lv_astore (lv' := [(4, .ref (ad 61)), (0, .ref (ad 60)), (1, .int x1), (2, .int x2), (3, .int x3)]) hx hb dX0_meeting_116 hl (by decide) rfl (fun ls hl => ?_)
            refine lv_aload_n hx hb dX0_meeting_118 rfl (lv_at hl 1 rfl) ?_
            refine lv_aload hx hb dX0_meeting_119 (lv_at hl 0 rfl) ?_
            obtain ⟨v44, st45, hv44, h⟩ := bd2_some h
            refine k_L_finds C hO hP hS hv44 q410 (Nat.le_of_ble_eq_true rfl) hl.1 (Nat.le_of_ble_eq_true rfl) hcs dX0_meeting_121 (fun H locs hP hS => ?_)
            exact cc_viret hx hb hr hlk h hP hS dX0_meeting_124
          · rw [onx_some] at h
            refine k_L_needR C hO hP hS hv41 q402 (Nat.le_of_ble_eq_true rfl) hl.1 (Nat.le_of_ble_eq_true rfl) hcs dX0_meeting_55 (fun H locs hP hS => ?_)
            refine lv_aload_n hx hb dX0_meeting_58 rfl (lv_at hl 0 rfl) ?_
            refine lg_town C hO hP dX0_meeting_59 ?_
            refine tgN_meetings (t := 0) C hO (by decide) hP dX0_meeting_62 ?_
            refine lv_istore (lv' := [(4, .int (st42.1 (20 * 0) 14)), (0, .ref (ad 60)), (1, .int x1), (2, .int x2), (3, .int x3)]) hx hb dX0_meeting_65 hl (by decide) rfl (fun ls hl => ?_)
            refine lv_aload_n hx hb dX0_meeting_67 rfl (lv_at hl 1 rfl) ?_
            refine lg_town C hO hP dX0_meeting_68 ?_
            refine tgN_meetWeek (t := 0) C hO (by decide) hP dX0_meeting_71 ?_
            refine lv_iload hx hb dX0_meeting_74 (lv_at hl 0 rfl) ?_
            refine lv_iload_n hx hb dX0_meeting_76 rfl (lv_at hl 2 rfl) ?_
            obtain ⟨b46, hb46, h⟩ := bd1_some h
            refine cc_ist C hO hP hS (hO.2.2.2 _ (tk_ 11 (by decide) (by decide))) (cg_t 11 (by decide) (by decide)) hb46 (cg_At 11 (by decide) (by decide)) hP.2 dX0_meeting_77 (fun H locs hP hS => ?_)
            refine lv_aload_n hx hb dX0_meeting_78 rfl (lv_at hl 1 rfl) ?_
            refine lg_town C hO hP dX0_meeting_79 ?_
            refine tgN_meetOne (t := 0) C hO (by decide) hP dX0_meeting_82 ?_
            refine lv_iload hx hb dX0_meeting_85 (lv_at hl 0 rfl) ?_
            refine lv_iload_n hx hb dX0_meeting_87 rfl (lv_at hl 3 rfl) ?_
            obtain ⟨b47, hb47, h⟩ := bd1_some h
            refine cc_ist C hO hP hS (hO.2.2.2 _ (tk_ 12 (by decide) (by decide))) (cg_t 12 (by decide) (by decide)) hb47 (cg_At 12 (by decide) (by decide)) hP.2 dX0_meeting_88 (fun H locs hP hS => ?_)
            refine lv_aload_n hx hb dX0_meeting_89 rfl (lv_at hl 1 rfl) ?_
            refine lg_town C hO hP dX0_meeting_90 ?_
            refine tgN_meetOther (t := 0) C hO (by decide) hP dX0_meeting_93 ?_
            refine lv_iload hx hb dX0_meeting_96 (lv_at hl 0 rfl) ?_
            refine lv_iload_n hx hb dX0_meeting_98 rfl (lv_at hl 4 rfl) ?_
            obtain ⟨b48, hb48, h⟩ := bd1_some h
            refine cc_ist C hO hP hS (hO.2.2.2 _ (tk_ 13 (by decide) (by decide))) (cg_t 13 (by decide) (by decide)) hb48 (cg_At 13 (by decide) (by decide)) hP.2 dX0_meeting_99 (fun H locs hP hS => ?_)
            refine lv_aload_n hx hb dX0_meeting_100 rfl (lv_at hl 1 rfl) ?_
            refine lg_town C hO hP dX0_meeting_101 ?_
            refine lv_dup hx hb dX0_meeting_104 rfl ?_
            refine tgN_meetings (t := 0) C hO (by decide) hP dX0_meeting_105 ?_
            refine lv_iconst (v := 1) hx hb dX0_meeting_108 (by decide) ?_
            refine lv_iadd hx hb dX0_meeting_109 ?_
            refine tpN_meetings (t := 0) C hO (by decide) hP hS dX0_meeting_110 (fun H locs hP hS => ?_)
            refine lv_iload hx hb dX0_meeting_113 (lv_at hl 0 rfl) ?_
            exact cc_viret hx hb hr hlk h hP hS dX0_meeting_115
    · have h := if_some_f h c26
      refine lv_iload_n hx hb dX0_meeting_15 rfl (lv_at hl 3 rfl) ?_
      obtain ⟨v49, hv49, h⟩ := bd1_some h
      refine k_L_isFigure hx hb C.2.2.1 hown C.2.2.2.2.1 C.2.2.2.2.2.1 q1186 hv49 (Nat.le_of_ble_eq_true rfl) hl.1 (Nat.le_of_ble_eq_true rfl) hcs dX0_meeting_16 ?_
      refine lv_if_eq (tgt := 31) hx hb dX0_meeting_19 rfl (fun c50 => ?_) (fun c50 => ?_)
      · have h := if_some_t h c50
        refine lv_iconst (v := 0) hx hb dX0_meeting_31 (by decide) ?_
        refine lv_iconst (v := 1) hx hb dX0_meeting_32 (by decide) ?_
        obtain ⟨o53, st52, hv51, h⟩ := bd2_some h
        rcases o53 with _ | v51
        · rw [onx_none] at h
          refine k_L_needT C hO hP hS hv51 q402 (Nat.le_of_ble_eq_true rfl) hl.1 (Nat.le_of_ble_eq_true rfl) hcs dX0_meeting_33 (fun H locs hP hS => ?_)
          refine cc_catch (pre := []) (a1 := 0) (a2 := 115) (hp := 116) (post := []) C hO hP q129 htab rfl rfl ?_
          refine lv_astore (lv' := [(4, .ref (ad 61)), (0, .ref (ad 60)), (1, .int x1), (2, .int x2), (3, .int x3)]) hx hb dX0_meeting_116 hl (by decide) rfl (fun ls hl => ?_)
          refine lv_aload_n hx hb dX0_meeting_118 rfl (lv_at hl 1 rfl) ?_
          refine lv_aload hx hb dX0_meeting_119 (lv_at hl 0 rfl) ?_
          obtain ⟨v54, st55, hv54, h⟩ := bd2_some h
          refine k_L_finds C hO hP hS hv54 q410 (Nat.le_of_ble_eq_true rfl) hl.1 (Nat.le_of_ble_eq_true rfl) hcs dX0_meeting_121 (fun H locs hP hS => ?_)
          exact cc_viret hx hb hr hlk h hP hS dX0_meeting_124
        · rw [onx_some] at h
          refine k_L_needR C hO hP hS hv51 q402 (Nat.le_of_ble_eq_true rfl) hl.1 (Nat.le_of_ble_eq_true rfl) hcs dX0_meeting_33 (fun H locs hP hS => ?_)
          refine lv_aload_n hx hb dX0_meeting_36 rfl (lv_at hl 0 rfl) ?_
          refine lv_aload_n hx hb dX0_meeting_37 rfl (lv_at hl 0 rfl) ?_
          refine lg_town C hO hP dX0_meeting_38 ?_
          refine tgN_meetings (t := 0) C hO (by decide) hP dX0_meeting_41 ?_
          refine lv_bipush (v := 12) hx hb dX0_meeting_44 (by decide) ?_
          refine lv_icmp_ge (tgt := 53) hx hb dX0_meeting_46 rfl (fun c56 => ?_) (fun c56 => ?_)
          · have h := if_some_t h c56
            refine lv_iconst (v := 0) hx hb dX0_meeting_53 (by decide) ?_
            refine lv_iconst (v := 4) hx hb dX0_meeting_54 (by decide) ?_
            obtain ⟨o59, st58, hv57, h⟩ := bd2_some h
            rcases o59 with _ | v57
            · rw [onx_none] at h
              refine k_L_needT C hO hP hS hv57 q402 (Nat.le_of_ble_eq_true rfl) hl.1 (Nat.le_of_ble_eq_true rfl) hcs dX0_meeting_55 (fun H locs hP hS => ?_)
              refine cc_catch (pre := []) (a1 := 0) (a2 := 115) (hp := 116) (post := []) C hO hP q129 htab rfl rfl ?_
              refine lv_astore (lv' := [(4, .ref (ad 61)), (0, .ref (ad 60)), (1, .int x1), (2, .int x2), (3, .int x3)]) hx hb dX0_meeting_116 hl (by decide) rfl (fun ls hl => ?_)
              refine lv_aload_n hx hb dX0_meeting_118 rfl (lv_at hl 1 rfl) ?_
              refine lv_aload hx hb dX0_meeting_119 (lv_at hl 0 rfl) ?_
              obtain ⟨v60, st61, hv60, h⟩ := bd2_some h
              refine k_L_finds C hO hP hS hv60 q410 (Nat.le_of_ble_eq_true rfl) hl.1 (Nat.le_of_ble_eq_true rfl) hcs dX0_meeting_121 (fun H locs hP hS => ?_)
              exact cc_viret hx hb hr hlk h hP hS dX0_meeting_124
            · rw [onx_some] at h
              refine k_L_needR C hO hP hS hv57 q402 (Nat.le_of_ble_eq_true rfl) hl.1 (Nat.le_of_ble_eq_true rfl) hcs dX0_meeting_55 (fun H locs hP hS => ?_)
              refine lv_aload_n hx hb dX0_meeting_58 rfl (lv_at hl 0 rfl) ?_
              refine lg_town C hO hP dX0_meeting_59 ?_
              refine tgN_meetings (t := 0) C hO (by decide) hP dX0_meeting_62 ?_
              refine lv_istore (lv' := [(4, .int (st58.1 (20 * 0) 14)), (0, .ref (ad 60)), (1, .int x1), (2, .int x2), (3, .int x3)]) hx hb dX0_meeting_65 hl (by decide) rfl (fun ls hl => ?_)
              refine lv_aload_n hx hb dX0_meeting_67 rfl (lv_at hl 1 rfl) ?_
              refine lg_town C hO hP dX0_meeting_68 ?_
              refine tgN_meetWeek (t := 0) C hO (by decide) hP dX0_meeting_71 ?_
              refine lv_iload hx hb dX0_meeting_74 (lv_at hl 0 rfl) ?_
              refine lv_iload_n hx hb dX0_meeting_76 rfl (lv_at hl 2 rfl) ?_
              obtain ⟨b62, hb62, h⟩ := bd1_some h
              refine cc_ist C hO hP hS (hO.2.2.2 _ (tk_ 11 (by decide) (by decide))) (cg_t 11 (by decide) (by decide)) hb62 (cg_At 11 (by decide) (by decide)) hP.2 dX0_meeting_77 (fun H locs hP hS => ?_)
              refine lv_aload_n hx hb dX0_meeting_78 rfl (lv_at hl 1 rfl) ?_
              refine lg_town C hO hP dX0_meeting_79 ?_
              refine tgN_meetOne (t := 0) C hO (by decide) hP dX0_meeting_82 ?_
              refine lv_iload hx hb dX0_meeting_85 (lv_at hl 0 rfl) ?_
              refine lv_iload_n hx hb dX0_meeting_87 rfl (lv_at hl 3 rfl) ?_
              obtain ⟨b63, hb63, h⟩ := bd1_some h
              refine cc_ist C hO hP hS (hO.2.2.2 _ (tk_ 12 (by decide) (by decide))) (cg_t 12 (by decide) (by decide)) hb63 (cg_At 12 (by decide) (by decide)) hP.2 dX0_meeting_88 (fun H locs hP hS => ?_)
              refine lv_aload_n hx hb dX0_meeting_89 rfl (lv_at hl 1 rfl) ?_
              refine lg_town C hO hP dX0_meeting_90 ?_
              refine tgN_meetOther (t := 0) C hO (by decide) hP dX0_meeting_93 ?_
              refine lv_iload hx hb dX0_meeting_96 (lv_at hl 0 rfl) ?_
              refine lv_iload_n hx hb dX0_meeting_98 rfl (lv_at hl 4 rfl) ?_
              obtain ⟨b64, hb64, h⟩ := bd1_some h
              refine cc_ist C hO hP hS (hO.2.2.2 _ (tk_ 13 (by decide) (by decide))) (cg_t 13 (by decide) (by decide)) hb64 (cg_At 13 (by decide) (by decide)) hP.2 dX0_meeting_99 (fun H locs hP hS => ?_)
              refine lv_aload_n hx hb dX0_meeting_100 rfl (lv_at hl 1 rfl) ?_
              refine lg_town C hO hP dX0_meeting_101 ?_
              refine lv_dup hx hb dX0_meeting_104 rfl ?_
              refine tgN_meetings (t := 0) C hO (by decide) hP dX0_meeting_105 ?_
              refine lv_iconst (v := 1) hx hb dX0_meeting_108 (by decide) ?_
              refine lv_iadd hx hb dX0_meeting_109 ?_
              refine tpN_meetings (t := 0) C hO (by decide) hP hS dX0_meeting_110 (fun H locs hP hS => ?_)
              refine lv_iload hx hb dX0_meeting_113 (lv_at hl 0 rfl) ?_
              exact cc_viret hx hb hr hlk h hP hS dX0_meeting_115
          · have h := if_some_f h c56
            refine lv_iconst (v := 1) hx hb dX0_meeting_49 (by decide) ?_
            refine lv_goto (tgt := 54) hx hb dX0_meeting_50 rfl ?_
            refine lv_iconst (v := 4) hx hb dX0_meeting_54 (by decide) ?_
            obtain ⟨o67, st66, hv65, h⟩ := bd2_some h
            rcases o67 with _ | v65
            · rw [onx_none] at h
              refine k_L_needT C hO hP hS hv65 q402 (Nat.le_of_ble_eq_true rfl) hl.1 (Nat.le_of_ble_eq_true rfl) hcs dX0_meeting_55 (fun H locs hP hS => ?_)
              refine cc_catch (pre := []) (a1 := 0) (a2 := 115) (hp := 116) (post := []) C hO hP q129 htab rfl rfl ?_
              refine lv_astore (lv' := [(4, .ref (ad 61)), (0, .ref (ad 60)), (1, .int x1), (2, .int x2), (3, .int x3)]) hx hb dX0_meeting_116 hl (by decide) rfl (fun ls hl => ?_)
              refine lv_aload_n hx hb dX0_meeting_118 rfl (lv_at hl 1 rfl) ?_
              refine lv_aload hx hb dX0_meeting_119 (lv_at hl 0 rfl) ?_
              obtain ⟨v68, st69, hv68, h⟩ := bd2_some h
              refine k_L_finds C hO hP hS hv68 q410 (Nat.le_of_ble_eq_true rfl) hl.1 (Nat.le_of_ble_eq_true rfl) hcs dX0_meeting_121 (fun H locs hP hS => ?_)
              exact cc_viret hx hb hr hlk h hP hS dX0_meeting_124
            · rw [onx_some] at h
              refine k_L_needR C hO hP hS hv65 q402 (Nat.le_of_ble_eq_true rfl) hl.1 (Nat.le_of_ble_eq_true rfl) hcs dX0_meeting_55 (fun H locs hP hS => ?_)
              refine lv_aload_n hx hb dX0_meeting_58 rfl (lv_at hl 0 rfl) ?_
              refine lg_town C hO hP dX0_meeting_59 ?_
              refine tgN_meetings (t := 0) C hO (by decide) hP dX0_meeting_62 ?_
              refine lv_istore (lv' := [(4, .int (st66.1 (20 * 0) 14)), (0, .ref (ad 60)), (1, .int x1), (2, .int x2), (3, .int x3)]) hx hb dX0_meeting_65 hl (by decide) rfl (fun ls hl => ?_)
              refine lv_aload_n hx hb dX0_meeting_67 rfl (lv_at hl 1 rfl) ?_
              refine lg_town C hO hP dX0_meeting_68 ?_
              refine tgN_meetWeek (t := 0) C hO (by decide) hP dX0_meeting_71 ?_
              refine lv_iload hx hb dX0_meeting_74 (lv_at hl 0 rfl) ?_
              refine lv_iload_n hx hb dX0_meeting_76 rfl (lv_at hl 2 rfl) ?_
              obtain ⟨b70, hb70, h⟩ := bd1_some h
              refine cc_ist C hO hP hS (hO.2.2.2 _ (tk_ 11 (by decide) (by decide))) (cg_t 11 (by decide) (by decide)) hb70 (cg_At 11 (by decide) (by decide)) hP.2 dX0_meeting_77 (fun H locs hP hS => ?_)
              refine lv_aload_n hx hb dX0_meeting_78 rfl (lv_at hl 1 rfl) ?_
              refine lg_town C hO hP dX0_meeting_79 ?_
              refine tgN_meetOne (t := 0) C hO (by decide) hP dX0_meeting_82 ?_
              refine lv_iload hx hb dX0_meeting_85 (lv_at hl 0 rfl) ?_
              refine lv_iload_n hx hb dX0_meeting_87 rfl (lv_at hl 3 rfl) ?_
              obtain ⟨b71, hb71, h⟩ := bd1_some h
              refine cc_ist C hO hP hS (hO.2.2.2 _ (tk_ 12 (by decide) (by decide))) (cg_t 12 (by decide) (by decide)) hb71 (cg_At 12 (by decide) (by decide)) hP.2 dX0_meeting_88 (fun H locs hP hS => ?_)
              refine lv_aload_n hx hb dX0_meeting_89 rfl (lv_at hl 1 rfl) ?_
              refine lg_town C hO hP dX0_meeting_90 ?_
              refine tgN_meetOther (t := 0) C hO (by decide) hP dX0_meeting_93 ?_
              refine lv_iload hx hb dX0_meeting_96 (lv_at hl 0 rfl) ?_
              refine lv_iload_n hx hb dX0_meeting_98 rfl (lv_at hl 4 rfl) ?_
              obtain ⟨b72, hb72, h⟩ := bd1_some h
              refine cc_ist C hO hP hS (hO.2.2.2 _ (tk_ 13 (by decide) (by decide))) (cg_t 13 (by decide) (by decide)) hb72 (cg_At 13 (by decide) (by decide)) hP.2 dX0_meeting_99 (fun H locs hP hS => ?_)
              refine lv_aload_n hx hb dX0_meeting_100 rfl (lv_at hl 1 rfl) ?_
              refine lg_town C hO hP dX0_meeting_101 ?_
              refine lv_dup hx hb dX0_meeting_104 rfl ?_
              refine tgN_meetings (t := 0) C hO (by decide) hP dX0_meeting_105 ?_
              refine lv_iconst (v := 1) hx hb dX0_meeting_108 (by decide) ?_
              refine lv_iadd hx hb dX0_meeting_109 ?_
              refine tpN_meetings (t := 0) C hO (by decide) hP hS dX0_meeting_110 (fun H locs hP hS => ?_)
              refine lv_iload hx hb dX0_meeting_113 (lv_at hl 0 rfl) ?_
              exact cc_viret hx hb hr hlk h hP hS dX0_meeting_115
      · have h := if_some_f h c50
        refine lv_iload_n hx hb dX0_meeting_22 rfl (lv_at hl 2 rfl) ?_
        refine lv_iload_n hx hb dX0_meeting_23 rfl (lv_at hl 3 rfl) ?_
        refine lv_icmp_eq (tgt := 31) hx hb dX0_meeting_24 rfl (fun c73 => ?_) (fun c73 => ?_)
        · have h := if_some_t h c73
          refine lv_iconst (v := 0) hx hb dX0_meeting_31 (by decide) ?_
          refine lv_iconst (v := 1) hx hb dX0_meeting_32 (by decide) ?_
          obtain ⟨o76, st75, hv74, h⟩ := bd2_some h
          rcases o76 with _ | v74
          · rw [onx_none] at h
            refine k_L_needT C hO hP hS hv74 q402 (Nat.le_of_ble_eq_true rfl) hl.1 (Nat.le_of_ble_eq_true rfl) hcs dX0_meeting_33 (fun H locs hP hS => ?_)
            refine cc_catch (pre := []) (a1 := 0) (a2 := 115) (hp := 116) (post := []) C hO hP q129 htab rfl rfl ?_
            refine lv_astore (lv' := [(4, .ref (ad 61)), (0, .ref (ad 60)), (1, .int x1), (2, .int x2), (3, .int x3)]) hx hb dX0_meeting_116 hl (by decide) rfl (fun ls hl => ?_)
            refine lv_aload_n hx hb dX0_meeting_118 rfl (lv_at hl 1 rfl) ?_
            refine lv_aload hx hb dX0_meeting_119 (lv_at hl 0 rfl) ?_
            obtain ⟨v77, st78, hv77, h⟩ := bd2_some h
            refine k_L_finds C hO hP hS hv77 q410 (Nat.le_of_ble_eq_true rfl) hl.1 (Nat.le_of_ble_eq_true rfl) hcs dX0_meeting_121 (fun H locs hP hS => ?_)
            exact cc_viret hx hb hr hlk h hP hS dX0_meeting_124
          · rw [onx_some] at h
            refine k_L_needR C hO hP hS hv74 q402 (Nat.le_of_ble_eq_true rfl) hl.1 (Nat.le_of_ble_eq_true rfl) hcs dX0_meeting_33 (fun H locs hP hS => ?_)
            refine lv_aload_n hx hb dX0_meeting_36 rfl (lv_at hl 0 rfl) ?_
            refine lv_aload_n hx hb dX0_meeting_37 rfl (lv_at hl 0 rfl) ?_
            refine lg_town C hO hP dX0_meeting_38 ?_
            refine tgN_meetings (t := 0) C hO (by decide) hP dX0_meeting_41 ?_
            refine lv_bipush (v := 12) hx hb dX0_meeting_44 (by decide) ?_
            refine lv_icmp_ge (tgt := 53) hx hb dX0_meeting_46 rfl (fun c79 => ?_) (fun c79 => ?_)
            · have h := if_some_t h c79
              refine lv_iconst (v := 0) hx hb dX0_meeting_53 (by decide) ?_
              refine lv_iconst (v := 4) hx hb dX0_meeting_54 (by decide) ?_
              obtain ⟨o82, st81, hv80, h⟩ := bd2_some h
              rcases o82 with _ | v80
              · rw [onx_none] at h
                refine k_L_needT C hO hP hS hv80 q402 (Nat.le_of_ble_eq_true rfl) hl.1 (Nat.le_of_ble_eq_true rfl) hcs dX0_meeting_55 (fun H locs hP hS => ?_)
                refine cc_catch (pre := []) (a1 := 0) (a2 := 115) (hp := 116) (post := []) C hO hP q129 htab rfl rfl ?_
                refine lv_astore (lv' := [(4, .ref (ad 61)), (0, .ref (ad 60)), (1, .int x1), (2, .int x2), (3, .int x3)]) hx hb dX0_meeting_116 hl (by decide) rfl (fun ls hl => ?_)
                refine lv_aload_n hx hb dX0_meeting_118 rfl (lv_at hl 1 rfl) ?_
                refine lv_aload hx hb dX0_meeting_119 (lv_at hl 0 rfl) ?_
                obtain ⟨v83, st84, hv83, h⟩ := bd2_some h
                refine k_L_finds C hO hP hS hv83 q410 (Nat.le_of_ble_eq_true rfl) hl.1 (Nat.le_of_ble_eq_true rfl) hcs dX0_meeting_121 (fun H locs hP hS => ?_)
                exact cc_viret hx hb hr hlk h hP hS dX0_meeting_124
              · rw [onx_some] at h
                refine k_L_needR C hO hP hS hv80 q402 (Nat.le_of_ble_eq_true rfl) hl.1 (Nat.le_of_ble_eq_true rfl) hcs dX0_meeting_55 (fun H locs hP hS => ?_)
                refine lv_aload_n hx hb dX0_meeting_58 rfl (lv_at hl 0 rfl) ?_
                refine lg_town C hO hP dX0_meeting_59 ?_
                refine tgN_meetings (t := 0) C hO (by decide) hP dX0_meeting_62 ?_
                refine lv_istore (lv' := [(4, .int (st81.1 (20 * 0) 14)), (0, .ref (ad 60)), (1, .int x1), (2, .int x2), (3, .int x3)]) hx hb dX0_meeting_65 hl (by decide) rfl (fun ls hl => ?_)
                refine lv_aload_n hx hb dX0_meeting_67 rfl (lv_at hl 1 rfl) ?_
                refine lg_town C hO hP dX0_meeting_68 ?_
                refine tgN_meetWeek (t := 0) C hO (by decide) hP dX0_meeting_71 ?_
                refine lv_iload hx hb dX0_meeting_74 (lv_at hl 0 rfl) ?_
                refine lv_iload_n hx hb dX0_meeting_76 rfl (lv_at hl 2 rfl) ?_
                obtain ⟨b85, hb85, h⟩ := bd1_some h
                refine cc_ist C hO hP hS (hO.2.2.2 _ (tk_ 11 (by decide) (by decide))) (cg_t 11 (by decide) (by decide)) hb85 (cg_At 11 (by decide) (by decide)) hP.2 dX0_meeting_77 (fun H locs hP hS => ?_)
                refine lv_aload_n hx hb dX0_meeting_78 rfl (lv_at hl 1 rfl) ?_
                refine lg_town C hO hP dX0_meeting_79 ?_
                refine tgN_meetOne (t := 0) C hO (by decide) hP dX0_meeting_82 ?_
                refine lv_iload hx hb dX0_meeting_85 (lv_at hl 0 rfl) ?_
                refine lv_iload_n hx hb dX0_meeting_87 rfl (lv_at hl 3 rfl) ?_
                obtain ⟨b86, hb86, h⟩ := bd1_some h
                refine cc_ist C hO hP hS (hO.2.2.2 _ (tk_ 12 (by decide) (by decide))) (cg_t 12 (by decide) (by decide)) hb86 (cg_At 12 (by decide) (by decide)) hP.2 dX0_meeting_88 (fun H locs hP hS => ?_)
                refine lv_aload_n hx hb dX0_meeting_89 rfl (lv_at hl 1 rfl) ?_
                refine lg_town C hO hP dX0_meeting_90 ?_
                refine tgN_meetOther (t := 0) C hO (by decide) hP dX0_meeting_93 ?_
                refine lv_iload hx hb dX0_meeting_96 (lv_at hl 0 rfl) ?_
                refine lv_iload_n hx hb dX0_meeting_98 rfl (lv_at hl 4 rfl) ?_
                obtain ⟨b87, hb87, h⟩ := bd1_some h
                refine cc_ist C hO hP hS (hO.2.2.2 _ (tk_ 13 (by decide) (by decide))) (cg_t 13 (by decide) (by decide)) hb87 (cg_At 13 (by decide) (by decide)) hP.2 dX0_meeting_99 (fun H locs hP hS => ?_)
                refine lv_aload_n hx hb dX0_meeting_100 rfl (lv_at hl 1 rfl) ?_
                refine lg_town C hO hP dX0_meeting_101 ?_
                refine lv_dup hx hb dX0_meeting_104 rfl ?_
                refine tgN_meetings (t := 0) C hO (by decide) hP dX0_meeting_105 ?_
                refine lv_iconst (v := 1) hx hb dX0_meeting_108 (by decide) ?_
                refine lv_iadd hx hb dX0_meeting_109 ?_
                refine tpN_meetings (t := 0) C hO (by decide) hP hS dX0_meeting_110 (fun H locs hP hS => ?_)
                refine lv_iload hx hb dX0_meeting_113 (lv_at hl 0 rfl) ?_
                exact cc_viret hx hb hr hlk h hP hS dX0_meeting_115
            · have h := if_some_f h c79
              refine lv_iconst (v := 1) hx hb dX0_meeting_49 (by decide) ?_
              refine lv_goto (tgt := 54) hx hb dX0_meeting_50 rfl ?_
              refine lv_iconst (v := 4) hx hb dX0_meeting_54 (by decide) ?_
              obtain ⟨o90, st89, hv88, h⟩ := bd2_some h
              rcases o90 with _ | v88
              · rw [onx_none] at h
                refine k_L_needT C hO hP hS hv88 q402 (Nat.le_of_ble_eq_true rfl) hl.1 (Nat.le_of_ble_eq_true rfl) hcs dX0_meeting_55 (fun H locs hP hS => ?_)
                refine cc_catch (pre := []) (a1 := 0) (a2 := 115) (hp := 116) (post := []) C hO hP q129 htab rfl rfl ?_
                refine lv_astore (lv' := [(4, .ref (ad 61)), (0, .ref (ad 60)), (1, .int x1), (2, .int x2), (3, .int x3)]) hx hb dX0_meeting_116 hl (by decide) rfl (fun ls hl => ?_)
                refine lv_aload_n hx hb dX0_meeting_118 rfl (lv_at hl 1 rfl) ?_
                refine lv_aload hx hb dX0_meeting_119 (lv_at hl 0 rfl) ?_
                obtain ⟨v91, st92, hv91, h⟩ := bd2_some h
                refine k_L_finds C hO hP hS hv91 q410 (Nat.le_of_ble_eq_true rfl) hl.1 (Nat.le_of_ble_eq_true rfl) hcs dX0_meeting_121 (fun H locs hP hS => ?_)
                exact cc_viret hx hb hr hlk h hP hS dX0_meeting_124
              · rw [onx_some] at h
                refine k_L_needR C hO hP hS hv88 q402 (Nat.le_of_ble_eq_true rfl) hl.1 (Nat.le_of_ble_eq_true rfl) hcs dX0_meeting_55 (fun H locs hP hS => ?_)
                refine lv_aload_n hx hb dX0_meeting_58 rfl (lv_at hl 0 rfl) ?_
                refine lg_town C hO hP dX0_meeting_59 ?_
                refine tgN_meetings (t := 0) C hO (by decide) hP dX0_meeting_62 ?_
                refine lv_istore (lv' := [(4, .int (st89.1 (20 * 0) 14)), (0, .ref (ad 60)), (1, .int x1), (2, .int x2), (3, .int x3)]) hx hb dX0_meeting_65 hl (by decide) rfl (fun ls hl => ?_)
                refine lv_aload_n hx hb dX0_meeting_67 rfl (lv_at hl 1 rfl) ?_
                refine lg_town C hO hP dX0_meeting_68 ?_
                refine tgN_meetWeek (t := 0) C hO (by decide) hP dX0_meeting_71 ?_
                refine lv_iload hx hb dX0_meeting_74 (lv_at hl 0 rfl) ?_
                refine lv_iload_n hx hb dX0_meeting_76 rfl (lv_at hl 2 rfl) ?_
                obtain ⟨b93, hb93, h⟩ := bd1_some h
                refine cc_ist C hO hP hS (hO.2.2.2 _ (tk_ 11 (by decide) (by decide))) (cg_t 11 (by decide) (by decide)) hb93 (cg_At 11 (by decide) (by decide)) hP.2 dX0_meeting_77 (fun H locs hP hS => ?_)
                refine lv_aload_n hx hb dX0_meeting_78 rfl (lv_at hl 1 rfl) ?_
                refine lg_town C hO hP dX0_meeting_79 ?_
                refine tgN_meetOne (t := 0) C hO (by decide) hP dX0_meeting_82 ?_
                refine lv_iload hx hb dX0_meeting_85 (lv_at hl 0 rfl) ?_
                refine lv_iload_n hx hb dX0_meeting_87 rfl (lv_at hl 3 rfl) ?_
                obtain ⟨b94, hb94, h⟩ := bd1_some h
                refine cc_ist C hO hP hS (hO.2.2.2 _ (tk_ 12 (by decide) (by decide))) (cg_t 12 (by decide) (by decide)) hb94 (cg_At 12 (by decide) (by decide)) hP.2 dX0_meeting_88 (fun H locs hP hS => ?_)
                refine lv_aload_n hx hb dX0_meeting_89 rfl (lv_at hl 1 rfl) ?_
                refine lg_town C hO hP dX0_meeting_90 ?_
                refine tgN_meetOther (t := 0) C hO (by decide) hP dX0_meeting_93 ?_
                refine lv_iload hx hb dX0_meeting_96 (lv_at hl 0 rfl) ?_
                refine lv_iload_n hx hb dX0_meeting_98 rfl (lv_at hl 4 rfl) ?_
                obtain ⟨b95, hb95, h⟩ := bd1_some h
                refine cc_ist C hO hP hS (hO.2.2.2 _ (tk_ 13 (by decide) (by decide))) (cg_t 13 (by decide) (by decide)) hb95 (cg_At 13 (by decide) (by decide)) hP.2 dX0_meeting_99 (fun H locs hP hS => ?_)
                refine lv_aload_n hx hb dX0_meeting_100 rfl (lv_at hl 1 rfl) ?_
                refine lg_town C hO hP dX0_meeting_101 ?_
                refine lv_dup hx hb dX0_meeting_104 rfl ?_
                refine tgN_meetings (t := 0) C hO (by decide) hP dX0_meeting_105 ?_
                refine lv_iconst (v := 1) hx hb dX0_meeting_108 (by decide) ?_
                refine lv_iadd hx hb dX0_meeting_109 ?_
                refine tpN_meetings (t := 0) C hO (by decide) hP hS dX0_meeting_110 (fun H locs hP hS => ?_)
                refine lv_iload hx hb dX0_meeting_113 (lv_at hl 0 rfl) ?_
                exact cc_viret hx hb hr hlk h hP hS dX0_meeting_115
        · have h := if_some_f h c73
          refine lv_iconst (v := 1) hx hb dX0_meeting_27 (by decide) ?_
          refine lv_goto (tgt := 32) hx hb dX0_meeting_28 rfl ?_
          refine lv_iconst (v := 1) hx hb dX0_meeting_32 (by decide) ?_
          obtain ⟨o98, st97, hv96, h⟩ := bd2_some h
          rcases o98 with _ | v96
          · rw [onx_none] at h
            refine k_L_needT C hO hP hS hv96 q402 (Nat.le_of_ble_eq_true rfl) hl.1 (Nat.le_of_ble_eq_true rfl) hcs dX0_meeting_33 (fun H locs hP hS => ?_)
            refine cc_catch (pre := []) (a1 := 0) (a2 := 115) (hp := 116) (post := []) C hO hP q129 htab rfl rfl ?_
            refine lv_astore (lv' := [(4, .ref (ad 61)), (0, .ref (ad 60)), (1, .int x1), (2, .int x2), (3, .int x3)]) hx hb dX0_meeting_116 hl (by decide) rfl (fun ls hl => ?_)
            refine lv_aload_n hx hb dX0_meeting_118 rfl (lv_at hl 1 rfl) ?_
            refine lv_aload hx hb dX0_meeting_119 (lv_at hl 0 rfl) ?_
            obtain ⟨v99, st100, hv99, h⟩ := bd2_some h
            refine k_L_finds C hO hP hS hv99 q410 (Nat.le_of_ble_eq_true rfl) hl.1 (Nat.le_of_ble_eq_true rfl) hcs dX0_meeting_121 (fun H locs hP hS => ?_)
            exact cc_viret hx hb hr hlk h hP hS dX0_meeting_124
          · rw [onx_some] at h
            refine k_L_needR C hO hP hS hv96 q402 (Nat.le_of_ble_eq_true rfl) hl.1 (Nat.le_of_ble_eq_true rfl) hcs dX0_meeting_33 (fun H locs hP hS => ?_)
            refine lv_aload_n hx hb dX0_meeting_36 rfl (lv_at hl 0 rfl) ?_
            refine lv_aload_n hx hb dX0_meeting_37 rfl (lv_at hl 0 rfl) ?_
            refine lg_town C hO hP dX0_meeting_38 ?_
            refine tgN_meetings (t := 0) C hO (by decide) hP dX0_meeting_41 ?_
            refine lv_bipush (v := 12) hx hb dX0_meeting_44 (by decide) ?_
            refine lv_icmp_ge (tgt := 53) hx hb dX0_meeting_46 rfl (fun c101 => ?_) (fun c101 => ?_)
            · have h := if_some_t h c101
              refine lv_iconst (v := 0) hx hb dX0_meeting_53 (by decide) ?_
              refine lv_iconst (v := 4) hx hb dX0_meeting_54 (by decide) ?_
              obtain ⟨o104, st103, hv102, h⟩ := bd2_some h
              rcases o104 with _ | v102
              · rw [onx_none] at h
                refine k_L_needT C hO hP hS hv102 q402 (Nat.le_of_ble_eq_true rfl) hl.1 (Nat.le_of_ble_eq_true rfl) hcs dX0_meeting_55 (fun H locs hP hS => ?_)
                refine cc_catch (pre := []) (a1 := 0) (a2 := 115) (hp := 116) (post := []) C hO hP q129 htab rfl rfl ?_
                refine lv_astore (lv' := [(4, .ref (ad 61)), (0, .ref (ad 60)), (1, .int x1), (2, .int x2), (3, .int x3)]) hx hb dX0_meeting_116 hl (by decide) rfl (fun ls hl => ?_)
                refine lv_aload_n hx hb dX0_meeting_118 rfl (lv_at hl 1 rfl) ?_
                refine lv_aload hx hb dX0_meeting_119 (lv_at hl 0 rfl) ?_
                obtain ⟨v105, st106, hv105, h⟩ := bd2_some h
                refine k_L_finds C hO hP hS hv105 q410 (Nat.le_of_ble_eq_true rfl) hl.1 (Nat.le_of_ble_eq_true rfl) hcs dX0_meeting_121 (fun H locs hP hS => ?_)
                exact cc_viret hx hb hr hlk h hP hS dX0_meeting_124
              · rw [onx_some] at h
                refine k_L_needR C hO hP hS hv102 q402 (Nat.le_of_ble_eq_true rfl) hl.1 (Nat.le_of_ble_eq_true rfl) hcs dX0_meeting_55 (fun H locs hP hS => ?_)
                refine lv_aload_n hx hb dX0_meeting_58 rfl (lv_at hl 0 rfl) ?_
                refine lg_town C hO hP dX0_meeting_59 ?_
                refine tgN_meetings (t := 0) C hO (by decide) hP dX0_meeting_62 ?_
                refine lv_istore (lv' := [(4, .int (st103.1 (20 * 0) 14)), (0, .ref (ad 60)), (1, .int x1), (2, .int x2), (3, .int x3)]) hx hb dX0_meeting_65 hl (by decide) rfl (fun ls hl => ?_)
                refine lv_aload_n hx hb dX0_meeting_67 rfl (lv_at hl 1 rfl) ?_
                refine lg_town C hO hP dX0_meeting_68 ?_
                refine tgN_meetWeek (t := 0) C hO (by decide) hP dX0_meeting_71 ?_
                refine lv_iload hx hb dX0_meeting_74 (lv_at hl 0 rfl) ?_
                refine lv_iload_n hx hb dX0_meeting_76 rfl (lv_at hl 2 rfl) ?_
                obtain ⟨b107, hb107, h⟩ := bd1_some h
                refine cc_ist C hO hP hS (hO.2.2.2 _ (tk_ 11 (by decide) (by decide))) (cg_t 11 (by decide) (by decide)) hb107 (cg_At 11 (by decide) (by decide)) hP.2 dX0_meeting_77 (fun H locs hP hS => ?_)
                refine lv_aload_n hx hb dX0_meeting_78 rfl (lv_at hl 1 rfl) ?_
                refine lg_town C hO hP dX0_meeting_79 ?_
                refine tgN_meetOne (t := 0) C hO (by decide) hP dX0_meeting_82 ?_
                refine lv_iload hx hb dX0_meeting_85 (lv_at hl 0 rfl) ?_
                refine lv_iload_n hx hb dX0_meeting_87 rfl (lv_at hl 3 rfl) ?_
                obtain ⟨b108, hb108, h⟩ := bd1_some h
                refine cc_ist C hO hP hS (hO.2.2.2 _ (tk_ 12 (by decide) (by decide))) (cg_t 12 (by decide) (by decide)) hb108 (cg_At 12 (by decide) (by decide)) hP.2 dX0_meeting_88 (fun H locs hP hS => ?_)
                refine lv_aload_n hx hb dX0_meeting_89 rfl (lv_at hl 1 rfl) ?_
                refine lg_town C hO hP dX0_meeting_90 ?_
                refine tgN_meetOther (t := 0) C hO (by decide) hP dX0_meeting_93 ?_
                refine lv_iload hx hb dX0_meeting_96 (lv_at hl 0 rfl) ?_
                refine lv_iload_n hx hb dX0_meeting_98 rfl (lv_at hl 4 rfl) ?_
                obtain ⟨b109, hb109, h⟩ := bd1_some h
                refine cc_ist C hO hP hS (hO.2.2.2 _ (tk_ 13 (by decide) (by decide))) (cg_t 13 (by decide) (by decide)) hb109 (cg_At 13 (by decide) (by decide)) hP.2 dX0_meeting_99 (fun H locs hP hS => ?_)
                refine lv_aload_n hx hb dX0_meeting_100 rfl (lv_at hl 1 rfl) ?_
                refine lg_town C hO hP dX0_meeting_101 ?_
                refine lv_dup hx hb dX0_meeting_104 rfl ?_
                refine tgN_meetings (t := 0) C hO (by decide) hP dX0_meeting_105 ?_
                refine lv_iconst (v := 1) hx hb dX0_meeting_108 (by decide) ?_
                refine lv_iadd hx hb dX0_meeting_109 ?_
                refine tpN_meetings (t := 0) C hO (by decide) hP hS dX0_meeting_110 (fun H locs hP hS => ?_)
                refine lv_iload hx hb dX0_meeting_113 (lv_at hl 0 rfl) ?_
                exact cc_viret hx hb hr hlk h hP hS dX0_meeting_115
            · have h := if_some_f h c101
              refine lv_iconst (v := 1) hx hb dX0_meeting_49 (by decide) ?_
              refine lv_goto (tgt := 54) hx hb dX0_meeting_50 rfl ?_
              refine lv_iconst (v := 4) hx hb dX0_meeting_54 (by decide) ?_
              obtain ⟨o112, st111, hv110, h⟩ := bd2_some h
              rcases o112 with _ | v110
              · rw [onx_none] at h
                refine k_L_needT C hO hP hS hv110 q402 (Nat.le_of_ble_eq_true rfl) hl.1 (Nat.le_of_ble_eq_true rfl) hcs dX0_meeting_55 (fun H locs hP hS => ?_)
                refine cc_catch (pre := []) (a1 := 0) (a2 := 115) (hp := 116) (post := []) C hO hP q129 htab rfl rfl ?_
                refine lv_astore (lv' := [(4, .ref (ad 61)), (0, .ref (ad 60)), (1, .int x1), (2, .int x2), (3, .int x3)]) hx hb dX0_meeting_116 hl (by decide) rfl (fun ls hl => ?_)
                refine lv_aload_n hx hb dX0_meeting_118 rfl (lv_at hl 1 rfl) ?_
                refine lv_aload hx hb dX0_meeting_119 (lv_at hl 0 rfl) ?_
                obtain ⟨v113, st114, hv113, h⟩ := bd2_some h
                refine k_L_finds C hO hP hS hv113 q410 (Nat.le_of_ble_eq_true rfl) hl.1 (Nat.le_of_ble_eq_true rfl) hcs dX0_meeting_121 (fun H locs hP hS => ?_)
                exact cc_viret hx hb hr hlk h hP hS dX0_meeting_124
              · rw [onx_some] at h
                refine k_L_needR C hO hP hS hv110 q402 (Nat.le_of_ble_eq_true rfl) hl.1 (Nat.le_of_ble_eq_true rfl) hcs dX0_meeting_55 (fun H locs hP hS => ?_)
                refine lv_aload_n hx hb dX0_meeting_58 rfl (lv_at hl 0 rfl) ?_
                refine lg_town C hO hP dX0_meeting_59 ?_
                refine tgN_meetings (t := 0) C hO (by decide) hP dX0_meeting_62 ?_
                refine lv_istore (lv' := [(4, .int (st111.1 (20 * 0) 14)), (0, .ref (ad 60)), (1, .int x1), (2, .int x2), (3, .int x3)]) hx hb dX0_meeting_65 hl (by decide) rfl (fun ls hl => ?_)
                refine lv_aload_n hx hb dX0_meeting_67 rfl (lv_at hl 1 rfl) ?_
                refine lg_town C hO hP dX0_meeting_68 ?_
                refine tgN_meetWeek (t := 0) C hO (by decide) hP dX0_meeting_71 ?_
                refine lv_iload hx hb dX0_meeting_74 (lv_at hl 0 rfl) ?_
                refine lv_iload_n hx hb dX0_meeting_76 rfl (lv_at hl 2 rfl) ?_
                obtain ⟨b115, hb115, h⟩ := bd1_some h
                refine cc_ist C hO hP hS (hO.2.2.2 _ (tk_ 11 (by decide) (by decide))) (cg_t 11 (by decide) (by decide)) hb115 (cg_At 11 (by decide) (by decide)) hP.2 dX0_meeting_77 (fun H locs hP hS => ?_)
                refine lv_aload_n hx hb dX0_meeting_78 rfl (lv_at hl 1 rfl) ?_
                refine lg_town C hO hP dX0_meeting_79 ?_
                refine tgN_meetOne (t := 0) C hO (by decide) hP dX0_meeting_82 ?_
                refine lv_iload hx hb dX0_meeting_85 (lv_at hl 0 rfl) ?_
                refine lv_iload_n hx hb dX0_meeting_87 rfl (lv_at hl 3 rfl) ?_
                obtain ⟨b116, hb116, h⟩ := bd1_some h
                refine cc_ist C hO hP hS (hO.2.2.2 _ (tk_ 12 (by decide) (by decide))) (cg_t 12 (by decide) (by decide)) hb116 (cg_At 12 (by decide) (by decide)) hP.2 dX0_meeting_88 (fun H locs hP hS => ?_)
                refine lv_aload_n hx hb dX0_meeting_89 rfl (lv_at hl 1 rfl) ?_
                refine lg_town C hO hP dX0_meeting_90 ?_
                refine tgN_meetOther (t := 0) C hO (by decide) hP dX0_meeting_93 ?_
                refine lv_iload hx hb dX0_meeting_96 (lv_at hl 0 rfl) ?_
                refine lv_iload_n hx hb dX0_meeting_98 rfl (lv_at hl 4 rfl) ?_
                obtain ⟨b117, hb117, h⟩ := bd1_some h
                refine cc_ist C hO hP hS (hO.2.2.2 _ (tk_ 13 (by decide) (by decide))) (cg_t 13 (by decide) (by decide)) hb117 (cg_At 13 (by decide) (by decide)) hP.2 dX0_meeting_99 (fun H locs hP hS => ?_)
                refine lv_aload_n hx hb dX0_meeting_100 rfl (lv_at hl 1 rfl) ?_
                refine lg_town C hO hP dX0_meeting_101 ?_
                refine lv_dup hx hb dX0_meeting_104 rfl ?_
                refine tgN_meetings (t := 0) C hO (by decide) hP dX0_meeting_105 ?_
                refine lv_iconst (v := 1) hx hb dX0_meeting_108 (by decide) ?_
                refine lv_iadd hx hb dX0_meeting_109 ?_
                refine tpN_meetings (t := 0) C hO (by decide) hP hS dX0_meeting_110 (fun H locs hP hS => ?_)
                refine lv_iload hx hb dX0_meeting_113 (lv_at hl 0 rfl) ?_
                exact cc_viret hx hb hr hlk h hP hS dX0_meeting_115
abbrev cX0_seed : ByteArray := prog_1_method_55_code
def yX0_seed : MethodName := ⟨RX0, "seed", "(I)I"⟩
theorem dX0_seed_0 : decode cX0_seed 0 = .ok (.aload_n 0, 1) := by decide +kernel
theorem dX0_seed_1 : decode cX0_seed 1 = .ok (.getfield 46, 3) := by decide +kernel
theorem dX0_seed_4 : decode cX0_seed 4 = .ok (.getfield 351, 3) := by decide +kernel
theorem dX0_seed_7 : decode cX0_seed 7 = .ok (.istore_n 2, 1) := by decide +kernel
theorem dX0_seed_8 : decode cX0_seed 8 = .ok (.aload_n 0, 1) := by decide +kernel
theorem dX0_seed_9 : decode cX0_seed 9 = .ok (.getfield 46, 3) := by decide +kernel
theorem dX0_seed_12 : decode cX0_seed 12 = .ok (.iload_n 1, 1) := by decide +kernel
theorem dX0_seed_13 : decode cX0_seed 13 = .ok (.putfield 351, 3) := by decide +kernel
theorem dX0_seed_16 : decode cX0_seed 16 = .ok (.iload_n 2, 1) := by decide +kernel
theorem dX0_seed_17 : decode cX0_seed 17 = .ok (.ireturn, 1) := by decide +kernel
theorem w_L_seed {l : Launch} {D : va_G} {cA : Nat → ClassId} {ks : List Nat} {ad : Nat → Nat} {A : Nat → Prop} (hO : klOk A ks ad) {st st' : CS} {x1 : Int32} {r0 : Int32} (h : L_seed st x1 = some (r0, st')) : cV l yX0_seed cX0_seed 3 (some .int) 0 D cA ks ad A st [.ref (ad 60), .int x1] (some (.int r0)) st' := by
  refine cc_ofV (own := RX0) (by decide) rfl (Nat.le_of_ble_eq_true rfl) (fun p e s m below meth c R args ls C hr hlk hP hS hl hcs => ?_)
  have hx := C.1
  have hb := C.2.1
  have hown := C.2.2.2.1
  have hNst := C.2.2.2.2.2.2.2.1
  have hl : lv_has ls 3 [(0, .ref (ad 60)), (1, .int x1)] := hl
  rw [L_seed] at h
  refine lv_aload_n hx hb dX0_seed_0 rfl (lv_at hl 0 rfl) ?_
  refine lg_town C hO hP dX0_seed_1 ?_
  refine tgN_z (t := 0) C hO (by decide) hP dX0_seed_4 ?_
  refine lv_istore_n (lv' := [(2, .int (st.1 (20 * 0) 19)), (0, .ref (ad 60)), (1, .int x1)]) hx hb dX0_seed_7 rfl hl (by decide) rfl (fun ls hl => ?_)
  refine lv_aload_n hx hb dX0_seed_8 rfl (lv_at hl 1 rfl) ?_
  refine lg_town C hO hP dX0_seed_9 ?_
  refine lv_iload_n hx hb dX0_seed_12 rfl (lv_at hl 2 rfl) ?_
  refine tpN_z (t := 0) C hO (by decide) hP hS dX0_seed_13 (fun H locs hP hS => ?_)
  refine lv_iload_n hx hb dX0_seed_16 rfl (lv_at hl 0 rfl) ?_
  exact cc_viret hx hb hr hlk h hP hS dX0_seed_17
theorem q1216 : (Jvm.Cond.code ({ cls := "ChapterLoan", name := "seed", desc := "(I)I" } : Jvm.MethodName) prog_1_method_55_code (3 : Nat) (Option.some Jvm.ClassFile.FieldType.int)) ∈ lw_all := lw_g (lw_at lw_m5 172 rfl) rfl
theorem q1214 : (Jvm.Cond.instanceMethod ({ cls := "ChapterLoan", name := "seed", desc := "(I)I" } : Jvm.MethodName)) ∈ lw_all := lw_g (lw_at lw_m5 170 rfl) rfl
theorem q1215 : (Jvm.Cond.selects "ChapterLoan" ({ cls := "ChapterLoan", name := "seed", desc := "(I)I" } : Jvm.MethodName) ({ cls := "ChapterLoan", name := "seed", desc := "(I)I" } : Jvm.MethodName)) ∈ lw_all := lw_g (lw_at lw_m5 171 rfl) rfl
theorem k_L_seed {a0 : Int32} {v : Int32} {st' : CS} (C : cC p R d s m args c cc nL RX0 D cA A) (hO : klOk A ks ad) (hP : cW D cA ks ad st H) (hS : va_S A s.heap H locs) (h : L_seed st a0 = some (v, st')) (hl : Cond.methodLink RX0 index yX0_seed ∈ lw_all) (hd : 0 + 1 ≤ d) (hsz : ls.size = nL) (hW : (rest.map fun v => v.category).sum ≤ 8) (hcs : cells ≤ R.cells ∧ slots ≤ R.slots) (hdg : decode cc pc = .ok (.invokevirtual index, 3)) (kk : ∀ (H1 : Heap) (locs1 : List Loc), cW D cA ks ad st' H1 → va_S A s.heap H1 locs1 → W p l e R s m args below meth c H1 locs1 cells slots Q (F0 m (pc + 3) ls (.int v :: rest))) : W p l e R s m args below meth c H locs cells slots Q (F0 m pc ls (.int a0 :: .ref (ad 60) :: rest)) :=
  cc_cV (As := [.int a0]) C hP hS (w_L_seed hO h) (cwV 1 C.2.2.2.2.1 (lw_V hl q1214 q1215 q85 q1216) rfl rfl rfl (by decide +kernel) (mr_ C.2.2.2.2.2.1 hd (by decide))) (cc_recv C hP (hO.2.2.2 60 (by decide)) rfl (q := (RX0, TX0, 13)) rfl) rfl hsz rfl hW hdg hcs kk
abbrev cX0_trace : ByteArray := prog_1_method_57_code
def yX0_trace : MethodName := ⟨RX0, "trace", "(I)I"⟩
theorem dX0_trace_0 : decode cX0_trace 0 = .ok (.aload_n 0, 1) := by decide +kernel
theorem dX0_trace_1 : decode cX0_trace 1 = .ok (.iload_n 1, 1) := by decide +kernel
theorem dX0_trace_2 : decode cX0_trace 2 = .ok (.iconst 0, 1) := by decide +kernel
theorem dX0_trace_3 : decode cX0_trace 3 = .ok (.aload_n 0, 1) := by decide +kernel
theorem dX0_trace_4 : decode cX0_trace 4 = .ok (.getfield 59, 3) := by decide +kernel
theorem dX0_trace_7 : decode cX0_trace 7 = .ok (.getfield 354, 3) := by decide +kernel
theorem dX0_trace_10 : decode cX0_trace 10 = .ok (.iconst 1, 1) := by decide +kernel
theorem dX0_trace_11 : decode cX0_trace 11 = .ok (.isub, 1) := by decide +kernel
theorem dX0_trace_12 : decode cX0_trace 12 = .ok (.invokestatic 91, 3) := by decide +kernel
theorem dX0_trace_15 : decode cX0_trace 15 = .ok (.iconst 2, 1) := by decide +kernel
theorem dX0_trace_16 : decode cX0_trace 16 = .ok (.invokevirtual 102, 3) := by decide +kernel
theorem dX0_trace_19 : decode cX0_trace 19 = .ok (.aload_n 0, 1) := by decide +kernel
theorem dX0_trace_20 : decode cX0_trace 20 = .ok (.getfield 59, 3) := by decide +kernel
theorem dX0_trace_23 : decode cX0_trace 23 = .ok (.getfield 374, 3) := by decide +kernel
theorem dX0_trace_26 : decode cX0_trace 26 = .ok (.iload_n 1, 1) := by decide +kernel
theorem dX0_trace_27 : decode cX0_trace 27 = .ok (.iaload, 1) := by decide +kernel
theorem dX0_trace_28 : decode cX0_trace 28 = .ok (.ireturn, 1) := by decide +kernel
theorem dX0_trace_29 : decode cX0_trace 29 = .ok (.astore_n 2, 1) := by decide +kernel
theorem dX0_trace_30 : decode cX0_trace 30 = .ok (.aload_n 0, 1) := by decide +kernel
theorem dX0_trace_31 : decode cX0_trace 31 = .ok (.aload_n 2, 1) := by decide +kernel
theorem dX0_trace_32 : decode cX0_trace 32 = .ok (.invokevirtual 123, 3) := by decide +kernel
theorem dX0_trace_35 : decode cX0_trace 35 = .ok (.ireturn, 1) := by decide +kernel
theorem w_L_trace {l : Launch} {D : va_G} {cA : Nat → ClassId} {ks : List Nat} {ad : Nat → Nat} {A : Nat → Prop} (hO : klOk A ks ad) {st st' : CS} {x1 : Int32} {r0 : Int32} (h : L_trace st x1 = some (r0, st')) : Met l yX0_trace (wsW_ yX0_trace cX0_trace 3 (some .int) [(0, 28, 29, 8)]) (k2_rm 2 (40 * 2)) (cPre D cA ks ad A st [.ref (ad 60), .int x1]) (cQ (some (.int r0)) D cA ks ad A st') 0 0 A := by
  refine cc_ofH (own := RX0) (by decide) rfl (Nat.le_of_ble_eq_true rfl) (fun p e s m below meth c R args ls C hr hlk htab hP hS hl hcs => ?_)
  have hx := C.1
  have hb := C.2.1
  have hown := C.2.2.2.1
  have hNst := C.2.2.2.2.2.2.2.1
  have hl : lv_has ls 3 [(0, .ref (ad 60)), (1, .int x1)] := hl
  rw [L_trace] at h
  refine lv_aload_n hx hb dX0_trace_0 rfl (lv_at hl 0 rfl) ?_
  refine lv_iload_n hx hb dX0_trace_1 rfl (lv_at hl 1 rfl) ?_
  refine lv_iconst (v := 0) hx hb dX0_trace_2 (by decide) ?_
  refine lv_aload_n hx hb dX0_trace_3 rfl (lv_at hl 0 rfl) ?_
  refine lg_trace C hO hP dX0_trace_4 ?_
  refine trg_many C hO hP dX0_trace_7 ?_
  refine lv_iconst (v := 1) hx hb dX0_trace_10 (by decide) ?_
  refine lv_isub hx hb dX0_trace_11 ?_
  obtain ⟨v1, hv1, h⟩ := bd1_some h
  refine k_L_in hx hb C.2.2.1 hown C.2.2.2.2.1 C.2.2.2.2.2.1 q399 hv1 (Nat.le_of_ble_eq_true rfl) hl.1 (Nat.le_of_ble_eq_true rfl) hcs dX0_trace_12 ?_
  refine lv_iconst (v := 2) hx hb dX0_trace_15 (by decide) ?_
  obtain ⟨o4, st3, hv2, h⟩ := bd2_some h
  rcases o4 with _ | v2
  · rw [onx_none] at h
    refine k_L_needT C hO hP hS hv2 q402 (Nat.le_of_ble_eq_true rfl) hl.1 (Nat.le_of_ble_eq_true rfl) hcs dX0_trace_16 (fun H locs hP hS => ?_)
    refine cc_catch (pre := []) (a1 := 0) (a2 := 28) (hp := 29) (post := []) C hO hP q129 htab rfl rfl ?_
    refine lv_astore_n (lv' := [(2, .ref (ad 61)), (0, .ref (ad 60)), (1, .int x1)]) hx hb dX0_trace_29 rfl hl (by decide) rfl (fun ls hl => ?_)
    refine lv_aload_n hx hb dX0_trace_30 rfl (lv_at hl 1 rfl) ?_
    refine lv_aload_n hx hb dX0_trace_31 rfl (lv_at hl 0 rfl) ?_
    obtain ⟨v5, st6, hv5, h⟩ := bd2_some h
    refine k_L_finds C hO hP hS hv5 q410 (Nat.le_of_ble_eq_true rfl) hl.1 (Nat.le_of_ble_eq_true rfl) hcs dX0_trace_32 (fun H locs hP hS => ?_)
    exact cc_viret hx hb hr hlk h hP hS dX0_trace_35
  · rw [onx_some] at h
    refine k_L_needR C hO hP hS hv2 q402 (Nat.le_of_ble_eq_true rfl) hl.1 (Nat.le_of_ble_eq_true rfl) hcs dX0_trace_16 (fun H locs hP hS => ?_)
    refine lv_aload_n hx hb dX0_trace_19 rfl (lv_at hl 0 rfl) ?_
    refine lg_trace C hO hP dX0_trace_20 ?_
    refine trg_ran C hO hP dX0_trace_23 ?_
    refine lv_iload_n hx hb dX0_trace_26 rfl (lv_at hl 1 rfl) ?_
    obtain ⟨v7, hv7, h⟩ := bd1_some h
    refine cc_ild C hP (hO.2.2.2 _ (by decide)) rfl hv7 dX0_trace_27 ?_
    exact cc_viret hx hb hr hlk h hP hS dX0_trace_28
abbrev cX0_image : ByteArray := prog_1_method_63_code
def yX0_image : MethodName := ⟨RX0, "image", "()I"⟩
theorem dX0_image_0 : decode cX0_image 0 = .ok (.aload_n 0, 1) := by decide +kernel
theorem dX0_image_1 : decode cX0_image 1 = .ok (.getfield 50, 3) := by decide +kernel
theorem dX0_image_4 : decode cX0_image 4 = .ok (.aload_n 0, 1) := by decide +kernel
theorem dX0_image_5 : decode cX0_image 5 = .ok (.getfield 46, 3) := by decide +kernel
theorem dX0_image_8 : decode cX0_image 8 = .ok (.invokevirtual 229, 3) := by decide +kernel
theorem dX0_image_11 : decode cX0_image 11 = .ok (.astore_n 1, 1) := by decide +kernel
theorem dX0_image_12 : decode cX0_image 12 = .ok (.aload_n 0, 1) := by decide +kernel
theorem dX0_image_13 : decode cX0_image 13 = .ok (.dup, 1) := by decide +kernel
theorem dX0_image_14 : decode cX0_image 14 = .ok (.getfield 399, 3) := by decide +kernel
theorem dX0_image_17 : decode cX0_image 17 = .ok (.iconst 1, 1) := by decide +kernel
theorem dX0_image_18 : decode cX0_image 18 = .ok (.iadd, 1) := by decide +kernel
theorem dX0_image_19 : decode cX0_image 19 = .ok (.putfield 399, 3) := by decide +kernel
theorem dX0_image_22 : decode cX0_image 22 = .ok (.aload_n 0, 1) := by decide +kernel
theorem dX0_image_23 : decode cX0_image 23 = .ok (.getfield 399, 3) := by decide +kernel
theorem dX0_image_26 : decode cX0_image 26 = .ok (.ireturn, 1) := by decide +kernel
theorem w_L_image {l : Launch} {D : va_G} {cA : Nat → ClassId} {ks : List Nat} {ad : Nat → Nat} {A : Nat → Prop} (hO : klOk A ks ad) {st st' : CS} {r0 : Int32} (h : L_image st = some (r0, st')) : cV l yX0_image cX0_image 2 (some .int) 6 D cA ks ad A st [.ref (ad 60)] (some (.int r0)) st' := by
  refine cc_ofV (own := RX0) (by decide) rfl (Nat.le_of_ble_eq_true rfl) (fun p e s m below meth c R args ls C hr hlk hP hS hl hcs => ?_)
  have hx := C.1
  have hb := C.2.1
  have hown := C.2.2.2.1
  have hNst := C.2.2.2.2.2.2.2.1
  have hl : lv_has ls 2 [(0, .ref (ad 60))] := hl
  rw [L_image] at h
  refine lv_aload_n hx hb dX0_image_0 rfl (lv_at hl 0 rfl) ?_
  refine lg_image C hO hP dX0_image_1 ?_
  refine lv_aload_n hx hb dX0_image_4 rfl (lv_at hl 0 rfl) ?_
  refine lg_town C hO hP dX0_image_5 ?_
  obtain ⟨st1, hst1, h⟩ := bd1_some h
  refine k_T_become (t := 1) (u := 0) C hO (by decide) (by decide) hP hS hst1 q852 (Nat.le_of_ble_eq_true rfl) hl.1 (Nat.le_of_ble_eq_true rfl) hcs dX0_image_8 (fun H locs hP hS => ?_)
  refine lv_astore_n (lv' := [(1, .ref (ad (20 * 1))), (0, .ref (ad 60))]) hx hb dX0_image_11 rfl hl (by decide) rfl (fun ls hl => ?_)
  refine lv_aload_n hx hb dX0_image_12 rfl (lv_at hl 1 rfl) ?_
  refine lv_dup hx hb dX0_image_13 rfl ?_
  refine lg_images C hO hP dX0_image_14 ?_
  refine lv_iconst (v := 1) hx hb dX0_image_17 (by decide) ?_
  refine lv_iadd hx hb dX0_image_18 ?_
  refine lp_images C hO hP hS dX0_image_19 (fun H locs hP hS => ?_)
  refine lv_aload_n hx hb dX0_image_22 rfl (lv_at hl 1 rfl) ?_
  refine lg_images C hO hP dX0_image_23 ?_
  exact cc_viret hx hb hr hlk h hP hS dX0_image_26
theorem q1487 : (Jvm.Cond.code ({ cls := "ChapterLoan", name := "image", desc := "()I" } : Jvm.MethodName) prog_1_method_63_code (2 : Nat) (Option.some Jvm.ClassFile.FieldType.int)) ∈ lw_all := lw_g (lw_at lw_m6 203 rfl) rfl
theorem q1485 : (Jvm.Cond.instanceMethod ({ cls := "ChapterLoan", name := "image", desc := "()I" } : Jvm.MethodName)) ∈ lw_all := lw_g (lw_at lw_m6 201 rfl) rfl
theorem q1486 : (Jvm.Cond.selects "ChapterLoan" ({ cls := "ChapterLoan", name := "image", desc := "()I" } : Jvm.MethodName) ({ cls := "ChapterLoan", name := "image", desc := "()I" } : Jvm.MethodName)) ∈ lw_all := lw_g (lw_at lw_m6 202 rfl) rfl
theorem k_L_image {v : Int32} {st' : CS} (C : cC p R d s m args c cc nL RX0 D cA A) (hO : klOk A ks ad) (hP : cW D cA ks ad st H) (hS : va_S A s.heap H locs) (h : L_image st = some (v, st')) (hl : Cond.methodLink RX0 index yX0_image ∈ lw_all) (hd : 6 + 1 ≤ d) (hsz : ls.size = nL) (hW : (rest.map fun v => v.category).sum ≤ 8) (hcs : cells ≤ R.cells ∧ slots ≤ R.slots) (hdg : decode cc pc = .ok (.invokevirtual index, 3)) (kk : ∀ (H1 : Heap) (locs1 : List Loc), cW D cA ks ad st' H1 → va_S A s.heap H1 locs1 → W p l e R s m args below meth c H1 locs1 cells slots Q (F0 m (pc + 3) ls (.int v :: rest))) : W p l e R s m args below meth c H locs cells slots Q (F0 m pc ls (.ref (ad 60) :: rest)) :=
  cc_cV (As := []) C hP hS (w_L_image hO h) (cwV 0 C.2.2.2.2.1 (lw_V hl q1485 q1486 q85 q1487) rfl rfl rfl (by decide +kernel) (mr_ C.2.2.2.2.2.1 hd (by decide))) (cc_recv C hP (hO.2.2.2 60 (by decide)) rfl (q := (RX0, TX0, 13)) rfl) rfl hsz rfl hW hdg hcs kk
abbrev cX0_restore : ByteArray := prog_1_method_64_code
def yX0_restore : MethodName := ⟨RX0, "restore", "()I"⟩
theorem dX0_restore_0 : decode cX0_restore 0 = .ok (.aload_n 0, 1) := by decide +kernel
theorem dX0_restore_1 : decode cX0_restore 1 = .ok (.aload_n 0, 1) := by decide +kernel
theorem dX0_restore_2 : decode cX0_restore 2 = .ok (.getfield 399, 3) := by decide +kernel
theorem dX0_restore_5 : decode cX0_restore 5 = .ok (.ifCond .le 7, 3) := by decide +kernel
theorem dX0_restore_8 : decode cX0_restore 8 = .ok (.iconst 1, 1) := by decide +kernel
theorem dX0_restore_9 : decode cX0_restore 9 = .ok (.goto 4, 3) := by decide +kernel
theorem dX0_restore_12 : decode cX0_restore 12 = .ok (.iconst 0, 1) := by decide +kernel
theorem dX0_restore_13 : decode cX0_restore 13 = .ok (.iconst 2, 1) := by decide +kernel
theorem dX0_restore_14 : decode cX0_restore 14 = .ok (.invokevirtual 102, 3) := by decide +kernel
theorem dX0_restore_17 : decode cX0_restore 17 = .ok (.aload_n 0, 1) := by decide +kernel
theorem dX0_restore_18 : decode cX0_restore 18 = .ok (.getfield 46, 3) := by decide +kernel
theorem dX0_restore_21 : decode cX0_restore 21 = .ok (.aload_n 0, 1) := by decide +kernel
theorem dX0_restore_22 : decode cX0_restore 22 = .ok (.getfield 50, 3) := by decide +kernel
theorem dX0_restore_25 : decode cX0_restore 25 = .ok (.invokevirtual 229, 3) := by decide +kernel
theorem dX0_restore_28 : decode cX0_restore 28 = .ok (.getfield 213, 3) := by decide +kernel
theorem dX0_restore_31 : decode cX0_restore 31 = .ok (.ireturn, 1) := by decide +kernel
theorem dX0_restore_32 : decode cX0_restore 32 = .ok (.astore_n 1, 1) := by decide +kernel
theorem dX0_restore_33 : decode cX0_restore 33 = .ok (.aload_n 0, 1) := by decide +kernel
theorem dX0_restore_34 : decode cX0_restore 34 = .ok (.aload_n 1, 1) := by decide +kernel
theorem dX0_restore_35 : decode cX0_restore 35 = .ok (.invokevirtual 123, 3) := by decide +kernel
theorem dX0_restore_38 : decode cX0_restore 38 = .ok (.ireturn, 1) := by decide +kernel
theorem w_L_restore {l : Launch} {D : va_G} {cA : Nat → ClassId} {ks : List Nat} {ad : Nat → Nat} {A : Nat → Prop} (hO : klOk A ks ad) {st st' : CS} {r0 : Int32} (h : L_restore st = some (r0, st')) : Met l yX0_restore (wsW_ yX0_restore cX0_restore 2 (some .int) [(0, 31, 32, 8)]) (k2_rm 6 (40 * 6)) (cPre D cA ks ad A st [.ref (ad 60)]) (cQ (some (.int r0)) D cA ks ad A st') 0 0 A := by
  refine cc_ofH (own := RX0) (by decide) rfl (Nat.le_of_ble_eq_true rfl) (fun p e s m below meth c R args ls C hr hlk htab hP hS hl hcs => ?_)
  have hx := C.1
  have hb := C.2.1
  have hown := C.2.2.2.1
  have hNst := C.2.2.2.2.2.2.2.1
  have hl : lv_has ls 2 [(0, .ref (ad 60))] := hl
  rw [L_restore] at h
  refine lv_aload_n hx hb dX0_restore_0 rfl (lv_at hl 0 rfl) ?_
  refine lv_aload_n hx hb dX0_restore_1 rfl (lv_at hl 0 rfl) ?_
  refine lg_images C hO hP dX0_restore_2 ?_
  refine lv_if_le (tgt := 12) hx hb dX0_restore_5 rfl (fun c1 => ?_) (fun c1 => ?_)
  · have h := if_some_t h c1
    refine lv_iconst (v := 0) hx hb dX0_restore_12 (by decide) ?_
    refine lv_iconst (v := 2) hx hb dX0_restore_13 (by decide) ?_
    obtain ⟨o4, st3, hv2, h⟩ := bd2_some h
    rcases o4 with _ | v2
    · rw [onx_none] at h
      refine k_L_needT C hO hP hS hv2 q402 (Nat.le_of_ble_eq_true rfl) hl.1 (Nat.le_of_ble_eq_true rfl) hcs dX0_restore_14 (fun H locs hP hS => ?_)
      refine cc_catch (pre := []) (a1 := 0) (a2 := 31) (hp := 32) (post := []) C hO hP q129 htab rfl rfl ?_
      refine lv_astore_n (lv' := [(1, .ref (ad 61)), (0, .ref (ad 60))]) hx hb dX0_restore_32 rfl hl (by decide) rfl (fun ls hl => ?_)
      refine lv_aload_n hx hb dX0_restore_33 rfl (lv_at hl 1 rfl) ?_
      refine lv_aload_n hx hb dX0_restore_34 rfl (lv_at hl 0 rfl) ?_
      obtain ⟨v5, st6, hv5, h⟩ := bd2_some h
      refine k_L_finds C hO hP hS hv5 q410 (Nat.le_of_ble_eq_true rfl) hl.1 (Nat.le_of_ble_eq_true rfl) hcs dX0_restore_35 (fun H locs hP hS => ?_)
      exact cc_viret hx hb hr hlk h hP hS dX0_restore_38
    · rw [onx_some] at h
      refine k_L_needR C hO hP hS hv2 q402 (Nat.le_of_ble_eq_true rfl) hl.1 (Nat.le_of_ble_eq_true rfl) hcs dX0_restore_14 (fun H locs hP hS => ?_)
      refine lv_aload_n hx hb dX0_restore_17 rfl (lv_at hl 0 rfl) ?_
      refine lg_town C hO hP dX0_restore_18 ?_
      refine lv_aload_n hx hb dX0_restore_21 rfl (lv_at hl 0 rfl) ?_
      refine lg_image C hO hP dX0_restore_22 ?_
      obtain ⟨st7, hst7, h⟩ := bd1_some h
      refine k_T_become (t := 0) (u := 1) C hO (by decide) (by decide) hP hS hst7 q852 (Nat.le_of_ble_eq_true rfl) hl.1 (Nat.le_of_ble_eq_true rfl) hcs dX0_restore_25 (fun H locs hP hS => ?_)
      refine tgN_week (t := 0) C hO (by decide) hP dX0_restore_28 ?_
      exact cc_viret hx hb hr hlk h hP hS dX0_restore_31
  · have h := if_some_f h c1
    refine lv_iconst (v := 1) hx hb dX0_restore_8 (by decide) ?_
    refine lv_goto (tgt := 13) hx hb dX0_restore_9 rfl ?_
    refine lv_iconst (v := 2) hx hb dX0_restore_13 (by decide) ?_
    obtain ⟨o10, st9, hv8, h⟩ := bd2_some h
    rcases o10 with _ | v8
    · rw [onx_none] at h
      refine k_L_needT C hO hP hS hv8 q402 (Nat.le_of_ble_eq_true rfl) hl.1 (Nat.le_of_ble_eq_true rfl) hcs dX0_restore_14 (fun H locs hP hS => ?_)
      refine cc_catch (pre := []) (a1 := 0) (a2 := 31) (hp := 32) (post := []) C hO hP q129 htab rfl rfl ?_
      refine lv_astore_n (lv' := [(1, .ref (ad 61)), (0, .ref (ad 60))]) hx hb dX0_restore_32 rfl hl (by decide) rfl (fun ls hl => ?_)
      refine lv_aload_n hx hb dX0_restore_33 rfl (lv_at hl 1 rfl) ?_
      refine lv_aload_n hx hb dX0_restore_34 rfl (lv_at hl 0 rfl) ?_
      obtain ⟨v11, st12, hv11, h⟩ := bd2_some h
      refine k_L_finds C hO hP hS hv11 q410 (Nat.le_of_ble_eq_true rfl) hl.1 (Nat.le_of_ble_eq_true rfl) hcs dX0_restore_35 (fun H locs hP hS => ?_)
      exact cc_viret hx hb hr hlk h hP hS dX0_restore_38
    · rw [onx_some] at h
      refine k_L_needR C hO hP hS hv8 q402 (Nat.le_of_ble_eq_true rfl) hl.1 (Nat.le_of_ble_eq_true rfl) hcs dX0_restore_14 (fun H locs hP hS => ?_)
      refine lv_aload_n hx hb dX0_restore_17 rfl (lv_at hl 0 rfl) ?_
      refine lg_town C hO hP dX0_restore_18 ?_
      refine lv_aload_n hx hb dX0_restore_21 rfl (lv_at hl 0 rfl) ?_
      refine lg_image C hO hP dX0_restore_22 ?_
      obtain ⟨st13, hst13, h⟩ := bd1_some h
      refine k_T_become (t := 0) (u := 1) C hO (by decide) (by decide) hP hS hst13 q852 (Nat.le_of_ble_eq_true rfl) hl.1 (Nat.le_of_ble_eq_true rfl) hcs dX0_restore_25 (fun H locs hP hS => ?_)
      refine tgN_week (t := 0) C hO (by decide) hP dX0_restore_28 ?_
      exact cc_viret hx hb hr hlk h hP hS dX0_restore_31
abbrev cX0_tell : ByteArray := prog_1_method_65_code
def yX0_tell : MethodName := ⟨RX0, "tell", "(I)I"⟩
theorem dX0_tell_0 : decode cX0_tell 0 = .ok (.aload_n 0, 1) := by decide +kernel
theorem dX0_tell_1 : decode cX0_tell 1 = .ok (.aload_n 0, 1) := by decide +kernel
theorem dX0_tell_2 : decode cX0_tell 2 = .ok (.getfield 46, 3) := by decide +kernel
theorem dX0_tell_5 : decode cX0_tell 5 = .ok (.getfield 402, 3) := by decide +kernel
theorem dX0_tell_8 : decode cX0_tell 8 = .ok (.bipush 20, 2) := by decide +kernel
theorem dX0_tell_10 : decode cX0_tell 10 = .ok (.if_icmp .ge 7, 3) := by decide +kernel
theorem dX0_tell_13 : decode cX0_tell 13 = .ok (.iconst 1, 1) := by decide +kernel
theorem dX0_tell_14 : decode cX0_tell 14 = .ok (.goto 4, 3) := by decide +kernel
theorem dX0_tell_17 : decode cX0_tell 17 = .ok (.iconst 0, 1) := by decide +kernel
theorem dX0_tell_18 : decode cX0_tell 18 = .ok (.iconst 4, 1) := by decide +kernel
theorem dX0_tell_19 : decode cX0_tell 19 = .ok (.invokevirtual 102, 3) := by decide +kernel
theorem dX0_tell_22 : decode cX0_tell 22 = .ok (.aload_n 0, 1) := by decide +kernel
theorem dX0_tell_23 : decode cX0_tell 23 = .ok (.getfield 46, 3) := by decide +kernel
theorem dX0_tell_26 : decode cX0_tell 26 = .ok (.getfield 405, 3) := by decide +kernel
theorem dX0_tell_29 : decode cX0_tell 29 = .ok (.aload_n 0, 1) := by decide +kernel
theorem dX0_tell_30 : decode cX0_tell 30 = .ok (.getfield 46, 3) := by decide +kernel
theorem dX0_tell_33 : decode cX0_tell 33 = .ok (.getfield 402, 3) := by decide +kernel
theorem dX0_tell_36 : decode cX0_tell 36 = .ok (.iload_n 1, 1) := by decide +kernel
theorem dX0_tell_37 : decode cX0_tell 37 = .ok (.iastore, 1) := by decide +kernel
theorem dX0_tell_38 : decode cX0_tell 38 = .ok (.aload_n 0, 1) := by decide +kernel
theorem dX0_tell_39 : decode cX0_tell 39 = .ok (.getfield 46, 3) := by decide +kernel
theorem dX0_tell_42 : decode cX0_tell 42 = .ok (.dup, 1) := by decide +kernel
theorem dX0_tell_43 : decode cX0_tell 43 = .ok (.getfield 402, 3) := by decide +kernel
theorem dX0_tell_46 : decode cX0_tell 46 = .ok (.iconst 1, 1) := by decide +kernel
theorem dX0_tell_47 : decode cX0_tell 47 = .ok (.iadd, 1) := by decide +kernel
theorem dX0_tell_48 : decode cX0_tell 48 = .ok (.putfield 402, 3) := by decide +kernel
theorem dX0_tell_51 : decode cX0_tell 51 = .ok (.aload_n 0, 1) := by decide +kernel
theorem dX0_tell_52 : decode cX0_tell 52 = .ok (.getfield 46, 3) := by decide +kernel
theorem dX0_tell_55 : decode cX0_tell 55 = .ok (.getfield 402, 3) := by decide +kernel
theorem dX0_tell_58 : decode cX0_tell 58 = .ok (.ireturn, 1) := by decide +kernel
theorem dX0_tell_59 : decode cX0_tell 59 = .ok (.astore_n 2, 1) := by decide +kernel
theorem dX0_tell_60 : decode cX0_tell 60 = .ok (.aload_n 0, 1) := by decide +kernel
theorem dX0_tell_61 : decode cX0_tell 61 = .ok (.aload_n 2, 1) := by decide +kernel
theorem dX0_tell_62 : decode cX0_tell 62 = .ok (.invokevirtual 123, 3) := by decide +kernel
theorem dX0_tell_65 : decode cX0_tell 65 = .ok (.ireturn, 1) := by decide +kernel
theorem w_L_tell {l : Launch} {D : va_G} {cA : Nat → ClassId} {ks : List Nat} {ad : Nat → Nat} {A : Nat → Prop} (hO : klOk A ks ad) {st st' : CS} {x1 : Int32} {r0 : Int32} (h : L_tell st x1 = some (r0, st')) : Met l yX0_tell (wsW_ yX0_tell cX0_tell 3 (some .int) [(0, 58, 59, 8)]) (k2_rm 2 (40 * 2)) (cPre D cA ks ad A st [.ref (ad 60), .int x1]) (cQ (some (.int r0)) D cA ks ad A st') 0 0 A := by
  refine cc_ofH (own := RX0) (by decide) rfl (Nat.le_of_ble_eq_true rfl) (fun p e s m below meth c R args ls C hr hlk htab hP hS hl hcs => ?_)
  have hx := C.1
  have hb := C.2.1
  have hown := C.2.2.2.1
  have hNst := C.2.2.2.2.2.2.2.1
  have hl : lv_has ls 3 [(0, .ref (ad 60)), (1, .int x1)] := hl
  rw [L_tell] at h
  refine lv_aload_n hx hb dX0_tell_0 rfl (lv_at hl 0 rfl) ?_
  refine lv_aload_n hx hb dX0_tell_1 rfl (lv_at hl 0 rfl) ?_
  refine lg_town C hO hP dX0_tell_2 ?_
  refine tgN_waits (t := 0) C hO (by decide) hP dX0_tell_5 ?_
  refine lv_bipush (v := 20) hx hb dX0_tell_8 (by decide) ?_
  refine lv_icmp_ge (tgt := 17) hx hb dX0_tell_10 rfl (fun c1 => ?_) (fun c1 => ?_)
  · have h := if_some_t h c1
    refine lv_iconst (v := 0) hx hb dX0_tell_17 (by decide) ?_
    refine lv_iconst (v := 4) hx hb dX0_tell_18 (by decide) ?_
    obtain ⟨o4, st3, hv2, h⟩ := bd2_some h
    rcases o4 with _ | v2
    · rw [onx_none] at h
      refine k_L_needT C hO hP hS hv2 q402 (Nat.le_of_ble_eq_true rfl) hl.1 (Nat.le_of_ble_eq_true rfl) hcs dX0_tell_19 (fun H locs hP hS => ?_)
      refine cc_catch (pre := []) (a1 := 0) (a2 := 58) (hp := 59) (post := []) C hO hP q129 htab rfl rfl ?_
      refine lv_astore_n (lv' := [(2, .ref (ad 61)), (0, .ref (ad 60)), (1, .int x1)]) hx hb dX0_tell_59 rfl hl (by decide) rfl (fun ls hl => ?_)
      refine lv_aload_n hx hb dX0_tell_60 rfl (lv_at hl 1 rfl) ?_
      refine lv_aload_n hx hb dX0_tell_61 rfl (lv_at hl 0 rfl) ?_
      obtain ⟨v5, st6, hv5, h⟩ := bd2_some h
      refine k_L_finds C hO hP hS hv5 q410 (Nat.le_of_ble_eq_true rfl) hl.1 (Nat.le_of_ble_eq_true rfl) hcs dX0_tell_62 (fun H locs hP hS => ?_)
      exact cc_viret hx hb hr hlk h hP hS dX0_tell_65
    · rw [onx_some] at h
      refine k_L_needR C hO hP hS hv2 q402 (Nat.le_of_ble_eq_true rfl) hl.1 (Nat.le_of_ble_eq_true rfl) hcs dX0_tell_19 (fun H locs hP hS => ?_)
      refine lv_aload_n hx hb dX0_tell_22 rfl (lv_at hl 0 rfl) ?_
      refine lg_town C hO hP dX0_tell_23 ?_
      refine tgN_waiting (t := 0) C hO (by decide) hP dX0_tell_26 ?_
      refine lv_aload_n hx hb dX0_tell_29 rfl (lv_at hl 0 rfl) ?_
      refine lg_town C hO hP dX0_tell_30 ?_
      refine tgN_waits (t := 0) C hO (by decide) hP dX0_tell_33 ?_
      refine lv_iload_n hx hb dX0_tell_36 rfl (lv_at hl 1 rfl) ?_
      obtain ⟨b7, hb7, h⟩ := bd1_some h
      refine cc_ist C hO hP hS (hO.2.2.2 _ (tk_ 15 (by decide) (by decide))) (cg_t 15 (by decide) (by decide)) hb7 (cg_At 15 (by decide) (by decide)) hP.2 dX0_tell_37 (fun H locs hP hS => ?_)
      refine lv_aload_n hx hb dX0_tell_38 rfl (lv_at hl 0 rfl) ?_
      refine lg_town C hO hP dX0_tell_39 ?_
      refine lv_dup hx hb dX0_tell_42 rfl ?_
      refine tgN_waits (t := 0) C hO (by decide) hP dX0_tell_43 ?_
      refine lv_iconst (v := 1) hx hb dX0_tell_46 (by decide) ?_
      refine lv_iadd hx hb dX0_tell_47 ?_
      refine tpN_waits (t := 0) C hO (by decide) hP hS dX0_tell_48 (fun H locs hP hS => ?_)
      refine lv_aload_n hx hb dX0_tell_51 rfl (lv_at hl 0 rfl) ?_
      refine lg_town C hO hP dX0_tell_52 ?_
      refine tgN_waits (t := 0) C hO (by decide) hP dX0_tell_55 ?_
      exact cc_viret hx hb hr hlk h hP hS dX0_tell_58
  · have h := if_some_f h c1
    refine lv_iconst (v := 1) hx hb dX0_tell_13 (by decide) ?_
    refine lv_goto (tgt := 18) hx hb dX0_tell_14 rfl ?_
    refine lv_iconst (v := 4) hx hb dX0_tell_18 (by decide) ?_
    obtain ⟨o10, st9, hv8, h⟩ := bd2_some h
    rcases o10 with _ | v8
    · rw [onx_none] at h
      refine k_L_needT C hO hP hS hv8 q402 (Nat.le_of_ble_eq_true rfl) hl.1 (Nat.le_of_ble_eq_true rfl) hcs dX0_tell_19 (fun H locs hP hS => ?_)
      refine cc_catch (pre := []) (a1 := 0) (a2 := 58) (hp := 59) (post := []) C hO hP q129 htab rfl rfl ?_
      refine lv_astore_n (lv' := [(2, .ref (ad 61)), (0, .ref (ad 60)), (1, .int x1)]) hx hb dX0_tell_59 rfl hl (by decide) rfl (fun ls hl => ?_)
      refine lv_aload_n hx hb dX0_tell_60 rfl (lv_at hl 1 rfl) ?_
      refine lv_aload_n hx hb dX0_tell_61 rfl (lv_at hl 0 rfl) ?_
      obtain ⟨v11, st12, hv11, h⟩ := bd2_some h
      refine k_L_finds C hO hP hS hv11 q410 (Nat.le_of_ble_eq_true rfl) hl.1 (Nat.le_of_ble_eq_true rfl) hcs dX0_tell_62 (fun H locs hP hS => ?_)
      exact cc_viret hx hb hr hlk h hP hS dX0_tell_65
    · rw [onx_some] at h
      refine k_L_needR C hO hP hS hv8 q402 (Nat.le_of_ble_eq_true rfl) hl.1 (Nat.le_of_ble_eq_true rfl) hcs dX0_tell_19 (fun H locs hP hS => ?_)
      refine lv_aload_n hx hb dX0_tell_22 rfl (lv_at hl 0 rfl) ?_
      refine lg_town C hO hP dX0_tell_23 ?_
      refine tgN_waiting (t := 0) C hO (by decide) hP dX0_tell_26 ?_
      refine lv_aload_n hx hb dX0_tell_29 rfl (lv_at hl 0 rfl) ?_
      refine lg_town C hO hP dX0_tell_30 ?_
      refine tgN_waits (t := 0) C hO (by decide) hP dX0_tell_33 ?_
      refine lv_iload_n hx hb dX0_tell_36 rfl (lv_at hl 1 rfl) ?_
      obtain ⟨b13, hb13, h⟩ := bd1_some h
      refine cc_ist C hO hP hS (hO.2.2.2 _ (tk_ 15 (by decide) (by decide))) (cg_t 15 (by decide) (by decide)) hb13 (cg_At 15 (by decide) (by decide)) hP.2 dX0_tell_37 (fun H locs hP hS => ?_)
      refine lv_aload_n hx hb dX0_tell_38 rfl (lv_at hl 0 rfl) ?_
      refine lg_town C hO hP dX0_tell_39 ?_
      refine lv_dup hx hb dX0_tell_42 rfl ?_
      refine tgN_waits (t := 0) C hO (by decide) hP dX0_tell_43 ?_
      refine lv_iconst (v := 1) hx hb dX0_tell_46 (by decide) ?_
      refine lv_iadd hx hb dX0_tell_47 ?_
      refine tpN_waits (t := 0) C hO (by decide) hP hS dX0_tell_48 (fun H locs hP hS => ?_)
      refine lv_aload_n hx hb dX0_tell_51 rfl (lv_at hl 0 rfl) ?_
      refine lg_town C hO hP dX0_tell_52 ?_
      refine tgN_waits (t := 0) C hO (by decide) hP dX0_tell_55 ?_
      exact cc_viret hx hb hr hlk h hP hS dX0_tell_58
abbrev cX0_check : ByteArray := prog_1_method_66_code
def yX0_check : MethodName := ⟨RX0, "check", "()I"⟩
theorem dX0_check_0 : decode cX0_check 0 = .ok (.aload_n 0, 1) := by decide +kernel
theorem dX0_check_1 : decode cX0_check 1 = .ok (.getfield 46, 3) := by decide +kernel
theorem dX0_check_4 : decode cX0_check 4 = .ok (.getfield 402, 3) := by decide +kernel
theorem dX0_check_7 : decode cX0_check 7 = .ok (.istore_n 1, 1) := by decide +kernel
theorem dX0_check_8 : decode cX0_check 8 = .ok (.aload_n 0, 1) := by decide +kernel
theorem dX0_check_9 : decode cX0_check 9 = .ok (.getfield 46, 3) := by decide +kernel
theorem dX0_check_12 : decode cX0_check 12 = .ok (.iconst 0, 1) := by decide +kernel
theorem dX0_check_13 : decode cX0_check 13 = .ok (.putfield 402, 3) := by decide +kernel
theorem dX0_check_16 : decode cX0_check 16 = .ok (.aload_n 0, 1) := by decide +kernel
theorem dX0_check_17 : decode cX0_check 17 = .ok (.getfield 53, 3) := by decide +kernel
theorem dX0_check_20 : decode cX0_check 20 = .ok (.aload_n 0, 1) := by decide +kernel
theorem dX0_check_21 : decode cX0_check 21 = .ok (.getfield 46, 3) := by decide +kernel
theorem dX0_check_24 : decode cX0_check 24 = .ok (.invokevirtual 229, 3) := by decide +kernel
theorem dX0_check_27 : decode cX0_check 27 = .ok (.pop, 1) := by decide +kernel
theorem dX0_check_28 : decode cX0_check 28 = .ok (.iconst 0, 1) := by decide +kernel
theorem dX0_check_29 : decode cX0_check 29 = .ok (.istore_n 2, 1) := by decide +kernel
theorem dX0_check_30 : decode cX0_check 30 = .ok (.iconst 1, 1) := by decide +kernel
theorem dX0_check_31 : decode cX0_check 31 = .ok (.istore_n 3, 1) := by decide +kernel
theorem dX0_check_32 : decode cX0_check 32 = .ok (.iload_n 2, 1) := by decide +kernel
theorem dX0_check_33 : decode cX0_check 33 = .ok (.iload_n 1, 1) := by decide +kernel
theorem dX0_check_34 : decode cX0_check 34 = .ok (.if_icmp .ge 54, 3) := by decide +kernel
theorem dX0_check_37 : decode cX0_check 37 = .ok (.iload_n 3, 1) := by decide +kernel
theorem dX0_check_38 : decode cX0_check 38 = .ok (.ifCond .eq 50, 3) := by decide +kernel
theorem dX0_check_41 : decode cX0_check 41 = .ok (.aload_n 0, 1) := by decide +kernel
theorem dX0_check_42 : decode cX0_check 42 = .ok (.getfield 53, 3) := by decide +kernel
theorem dX0_check_45 : decode cX0_check 45 = .ok (.invokevirtual 220, 3) := by decide +kernel
theorem dX0_check_48 : decode cX0_check 48 = .ok (.aload_n 0, 1) := by decide +kernel
theorem dX0_check_49 : decode cX0_check 49 = .ok (.getfield 46, 3) := by decide +kernel
theorem dX0_check_52 : decode cX0_check 52 = .ok (.getfield 405, 3) := by decide +kernel
theorem dX0_check_55 : decode cX0_check 55 = .ok (.iload_n 2, 1) := by decide +kernel
theorem dX0_check_56 : decode cX0_check 56 = .ok (.iaload, 1) := by decide +kernel
theorem dX0_check_57 : decode cX0_check 57 = .ok (.aload_n 0, 1) := by decide +kernel
theorem dX0_check_58 : decode cX0_check 58 = .ok (.getfield 53, 3) := by decide +kernel
theorem dX0_check_61 : decode cX0_check 61 = .ok (.invokevirtual 408, 3) := by decide +kernel
theorem dX0_check_64 : decode cX0_check 64 = .ok (.if_icmp .ne 7, 3) := by decide +kernel
theorem dX0_check_67 : decode cX0_check 67 = .ok (.iconst 1, 1) := by decide +kernel
theorem dX0_check_68 : decode cX0_check 68 = .ok (.goto 4, 3) := by decide +kernel
theorem dX0_check_71 : decode cX0_check 71 = .ok (.iconst 0, 1) := by decide +kernel
theorem dX0_check_72 : decode cX0_check 72 = .ok (.istore_n 3, 1) := by decide +kernel
theorem dX0_check_73 : decode cX0_check 73 = .ok (.iload_n 2, 1) := by decide +kernel
theorem dX0_check_74 : decode cX0_check 74 = .ok (.iload_n 3, 1) := by decide +kernel
theorem dX0_check_75 : decode cX0_check 75 = .ok (.ifCond .eq 7, 3) := by decide +kernel
theorem dX0_check_78 : decode cX0_check 78 = .ok (.iconst 1, 1) := by decide +kernel
theorem dX0_check_79 : decode cX0_check 79 = .ok (.goto 4, 3) := by decide +kernel
theorem dX0_check_82 : decode cX0_check 82 = .ok (.iconst 0, 1) := by decide +kernel
theorem dX0_check_83 : decode cX0_check 83 = .ok (.iadd, 1) := by decide +kernel
theorem dX0_check_84 : decode cX0_check 84 = .ok (.istore_n 2, 1) := by decide +kernel
theorem dX0_check_85 : decode cX0_check 85 = .ok (.goto (-53), 3) := by decide +kernel
theorem dX0_check_88 : decode cX0_check 88 = .ok (.iload_n 3, 1) := by decide +kernel
theorem dX0_check_89 : decode cX0_check 89 = .ok (.ifCond .eq 7, 3) := by decide +kernel
theorem dX0_check_92 : decode cX0_check 92 = .ok (.iconst 0, 1) := by decide +kernel
theorem dX0_check_93 : decode cX0_check 93 = .ok (.goto 6, 3) := by decide +kernel
theorem dX0_check_96 : decode cX0_check 96 = .ok (.iconst 1, 1) := by decide +kernel
theorem dX0_check_97 : decode cX0_check 97 = .ok (.iload_n 2, 1) := by decide +kernel
theorem dX0_check_98 : decode cX0_check 98 = .ok (.iadd, 1) := by decide +kernel
theorem dX0_check_99 : decode cX0_check 99 = .ok (.ireturn, 1) := by decide +kernel
theorem q1500 : (Jvm.Cond.methodLink "ChapterLoan" (408 : Nat) ({ cls := "ChapterLoan$Town", name := "debts", desc := "()I" } : Jvm.MethodName)) ∈ lw_all := lw_g (lw_at lw_m6 216 rfl) rfl
theorem w_L_check {l : Launch} {D : va_G} {cA : Nat → ClassId} {ks : List Nat} {ad : Nat → Nat} {A : Nat → Prop} (hO : klOk A ks ad) {st st' : CS} {N : Nat} {r0 : Int32} (h : L_check N st = some (r0, st')) : cV l yX0_check cX0_check 4 (some .int) 66 D cA ks ad A st [.ref (ad 60)] (some (.int r0)) st' := by
  refine cc_ofV (own := RX0) (by decide) rfl (Nat.le_of_ble_eq_true rfl) (fun p e s m below meth c R args ls C hr hlk hP hS hl hcs => ?_)
  have hx := C.1
  have hb := C.2.1
  have hown := C.2.2.2.1
  have hNst := C.2.2.2.2.2.2.2.1
  have hl : lv_has ls 4 [(0, .ref (ad 60))] := hl
  have L32 : ∀ (x1 : Int32), ∀ (n : Nat) (st : CS) (x2 : Int32) (x3 : Int32) (st2 : CS) (z2 : Int32) (z3 : Int32), L_check_L32 N x1 n st x2 x3 = some (st2, z2, z3) → ∀ (H : Heap) (locs : List Loc), cW D cA ks ad st H → va_S A s.heap H locs → ∀ ls : Array Slot, lv_has ls 4 [(0, .ref (ad 60)), (1, .int x1), (2, .int x2), (3, .int x3)] → (∀ (H : Heap) (locs : List Loc), cW D cA ks ad st2 H → va_S A s.heap H locs → ∀ ls : Array Slot, lv_has ls 4 [(2, .int z2), (3, .int z3)] → cWV p l e R s m args below meth c D cA ks ad A (some (.int r0)) st' H locs (F0 m 88 ls [])) → cWV p l e R s m args below meth c D cA ks ad A (some (.int r0)) st' H locs (F0 m 32 ls []) := by
    intro x1 n
    induction n with
    | zero =>
      intro st x2 x3 st2 z2 z3 h
      exact non_some h
    | succ n ih =>
      intro st x2 x3 st2 z2 z3 h H locs hP hS ls hl kx
      rw [L_check_L32] at h
      refine lv_iload_n hx hb dX0_check_32 rfl (lv_at hl 2 rfl) ?_
      refine lv_iload_n hx hb dX0_check_33 rfl (lv_at hl 1 rfl) ?_
      refine lv_icmp_ge (tgt := 88) hx hb dX0_check_34 rfl (fun c2 => ?_) (fun c2 => ?_)
      · have h := if_some_t h c2
        cases h
        exact kx _ _ hP hS ls (lv_sub hl [2, 3] rfl)
      · have h := if_some_f h c2
        refine lv_iload_n hx hb dX0_check_37 rfl (lv_at hl 3 rfl) ?_
        refine lv_if_eq (tgt := 88) hx hb dX0_check_38 rfl (fun c3 => ?_) (fun c3 => ?_)
        · have h := if_some_t h c3
          cases h
          exact kx _ _ hP hS ls (lv_sub hl [2, 3] rfl)
        · have h := if_some_f h c3
          refine lv_aload_n hx hb dX0_check_41 rfl (lv_at hl 0 rfl) ?_
          refine lg_tried C hO hP dX0_check_42 ?_
          obtain ⟨st5, hv4, h⟩ := bd1_some h
          refine k_T_goes (t := 2) C hO (by decide) hP hS hv4 q806 (Nat.le_of_ble_eq_true rfl) hl.1 (Nat.le_of_ble_eq_true rfl) hcs dX0_check_45 (fun H locs hP hS => ?_)
          refine lv_aload_n hx hb dX0_check_48 rfl (lv_at hl 0 rfl) ?_
          refine lg_town C hO hP dX0_check_49 ?_
          refine tgN_waiting (t := 0) C hO (by decide) hP dX0_check_52 ?_
          refine lv_iload_n hx hb dX0_check_55 rfl (lv_at hl 2 rfl) ?_
          obtain ⟨v6, hv6, h⟩ := bd1_some h
          refine cc_ild C hP (hO.2.2.2 _ (tk_ 15 (by decide) (by decide))) (cg_t 15 (by decide) (by decide)) hv6 dX0_check_56 ?_
          refine lv_aload_n hx hb dX0_check_57 rfl (lv_at hl 0 rfl) ?_
          refine lg_tried C hO hP dX0_check_58 ?_
          obtain ⟨v7, hv7, h⟩ := bd1_some h
          refine k_T_debts (t := 2) C hO (by decide) hP hv7 q1500 (Nat.le_of_ble_eq_true rfl) hS.1 hl.1 (Nat.le_of_ble_eq_true rfl) hcs dX0_check_61 ?_
          refine lv_icmp_ne (tgt := 71) hx hb dX0_check_64 rfl (fun c8 => ?_) (fun c8 => ?_)
          · have h := if_some_f h c8
            refine lv_iconst (v := 0) hx hb dX0_check_71 (by decide) ?_
            refine lv_istore_n (lv' := [(3, .int 0), (0, .ref (ad 60)), (1, .int x1), (2, .int x2)]) hx hb dX0_check_72 rfl hl (by decide) rfl (fun ls hl => ?_)
            refine lv_iload_n hx hb dX0_check_73 rfl (lv_at hl 3 rfl) ?_
            refine lv_iload_n hx hb dX0_check_74 rfl (lv_at hl 0 rfl) ?_
            refine lv_if_eq (tgt := 82) hx hb dX0_check_75 rfl (fun _ => ?_) (fun c => absurd c (by decide))
            refine lv_iconst (v := 0) hx hb dX0_check_82 (by decide) ?_
            refine lv_iadd hx hb dX0_check_83 ?_
            refine lv_istore_n (lv' := [(2, .int (x2 + 0)), (3, .int 0), (0, .ref (ad 60)), (1, .int x1)]) hx hb dX0_check_84 rfl hl (by decide) rfl (fun ls hl => ?_)
            refine lv_goto (tgt := 32) hx hb dX0_check_85 rfl ?_
            exact ih st5 (x2 + 0) 0 _ _ _ h _ _ hP hS ls (lv_sub hl [2, 3, 0, 1] rfl) kx
          · have h := if_some_t h c8
            refine lv_iconst (v := 1) hx hb dX0_check_67 (by decide) ?_
            refine lv_goto (tgt := 72) hx hb dX0_check_68 rfl ?_
            refine lv_istore_n (lv' := [(3, .int 1), (0, .ref (ad 60)), (1, .int x1), (2, .int x2)]) hx hb dX0_check_72 rfl hl (by decide) rfl (fun ls hl => ?_)
            refine lv_iload_n hx hb dX0_check_73 rfl (lv_at hl 3 rfl) ?_
            refine lv_iload_n hx hb dX0_check_74 rfl (lv_at hl 0 rfl) ?_
            refine lv_if_eq (tgt := 82) hx hb dX0_check_75 rfl (fun c => absurd c (by decide)) (fun _ => ?_)
            refine lv_iconst (v := 1) hx hb dX0_check_78 (by decide) ?_
            refine lv_goto (tgt := 83) hx hb dX0_check_79 rfl ?_
            refine lv_iadd hx hb dX0_check_83 ?_
            refine lv_istore_n (lv' := [(2, .int (x2 + 1)), (3, .int 1), (0, .ref (ad 60)), (1, .int x1)]) hx hb dX0_check_84 rfl hl (by decide) rfl (fun ls hl => ?_)
            refine lv_goto (tgt := 32) hx hb dX0_check_85 rfl ?_
            exact ih st5 (x2 + 1) 1 _ _ _ h _ _ hP hS ls (lv_sub hl [2, 3, 0, 1] rfl) kx
  rw [L_check] at h
  refine lv_aload_n hx hb dX0_check_0 rfl (lv_at hl 0 rfl) ?_
  refine lg_town C hO hP dX0_check_1 ?_
  refine tgN_waits (t := 0) C hO (by decide) hP dX0_check_4 ?_
  refine lv_istore_n (lv' := [(1, .int (st.1 (20 * 0) 23)), (0, .ref (ad 60))]) hx hb dX0_check_7 rfl hl (by decide) rfl (fun ls hl => ?_)
  refine lv_aload_n hx hb dX0_check_8 rfl (lv_at hl 1 rfl) ?_
  refine lg_town C hO hP dX0_check_9 ?_
  refine lv_iconst (v := 0) hx hb dX0_check_12 (by decide) ?_
  refine tpN_waits (t := 0) C hO (by decide) hP hS dX0_check_13 (fun H locs hP hS => ?_)
  refine lv_aload_n hx hb dX0_check_16 rfl (lv_at hl 1 rfl) ?_
  refine lg_tried C hO hP dX0_check_17 ?_
  refine lv_aload_n hx hb dX0_check_20 rfl (lv_at hl 1 rfl) ?_
  refine lg_town C hO hP dX0_check_21 ?_
  obtain ⟨st1, hst1, h⟩ := bd1_some h
  refine k_T_become (t := 2) (u := 0) C hO (by decide) (by decide) hP hS hst1 q852 (Nat.le_of_ble_eq_true rfl) hl.1 (Nat.le_of_ble_eq_true rfl) hcs dX0_check_24 (fun H locs hP hS => ?_)
  refine lv_pop hx hb dX0_check_27 rfl ?_
  refine lv_iconst (v := 0) hx hb dX0_check_28 (by decide) ?_
  refine lv_istore_n (lv' := [(2, .int 0), (1, .int (st.1 (20 * 0) 23)), (0, .ref (ad 60))]) hx hb dX0_check_29 rfl hl (by decide) rfl (fun ls hl => ?_)
  refine lv_iconst (v := 1) hx hb dX0_check_30 (by decide) ?_
  refine lv_istore_n (lv' := [(3, .int 1), (2, .int 0), (1, .int (st.1 (20 * 0) 23)), (0, .ref (ad 60))]) hx hb dX0_check_31 rfl hl (by decide) rfl (fun ls hl => ?_)
  obtain ⟨st9, z10, z11, hz13, h⟩ := bd3_some h
  refine L32 (st.1 (20 * 0) 23) N _ 0 1 _ _ _ hz13 _ _ hP hS ls (lv_sub hl [3, 2, 1, 0] rfl) (fun H locs hP hS ls hl => ?_)
  refine lv_iload_n hx hb dX0_check_88 rfl (lv_at hl 1 rfl) ?_
  refine lv_if_eq (tgt := 96) hx hb dX0_check_89 rfl (fun c12 => ?_) (fun c12 => ?_)
  · have h := if_some_t h c12
    refine lv_iconst (v := 1) hx hb dX0_check_96 (by decide) ?_
    refine lv_iload_n hx hb dX0_check_97 rfl (lv_at hl 0 rfl) ?_
    refine lv_iadd hx hb dX0_check_98 ?_
    exact cc_viret hx hb hr hlk h hP hS dX0_check_99
  · have h := if_some_f h c12
    refine lv_iconst (v := 0) hx hb dX0_check_92 (by decide) ?_
    refine lv_goto (tgt := 99) hx hb dX0_check_93 rfl ?_
    exact cc_viret hx hb hr hlk h hP hS dX0_check_99
theorem q1499 : (Jvm.Cond.code ({ cls := "ChapterLoan", name := "check", desc := "()I" } : Jvm.MethodName) prog_1_method_66_code (4 : Nat) (Option.some Jvm.ClassFile.FieldType.int)) ∈ lw_all := lw_g (lw_at lw_m6 215 rfl) rfl
theorem q1497 : (Jvm.Cond.instanceMethod ({ cls := "ChapterLoan", name := "check", desc := "()I" } : Jvm.MethodName)) ∈ lw_all := lw_g (lw_at lw_m6 213 rfl) rfl
theorem q1498 : (Jvm.Cond.selects "ChapterLoan" ({ cls := "ChapterLoan", name := "check", desc := "()I" } : Jvm.MethodName) ({ cls := "ChapterLoan", name := "check", desc := "()I" } : Jvm.MethodName)) ∈ lw_all := lw_g (lw_at lw_m6 214 rfl) rfl
theorem k_L_check {N : Nat} {v : Int32} {st' : CS} (C : cC p R d s m args c cc nL RX0 D cA A) (hO : klOk A ks ad) (hP : cW D cA ks ad st H) (hS : va_S A s.heap H locs) (h : L_check N st = some (v, st')) (hl : Cond.methodLink RX0 index yX0_check ∈ lw_all) (hd : 66 + 1 ≤ d) (hsz : ls.size = nL) (hW : (rest.map fun v => v.category).sum ≤ 8) (hcs : cells ≤ R.cells ∧ slots ≤ R.slots) (hdg : decode cc pc = .ok (.invokevirtual index, 3)) (kk : ∀ (H1 : Heap) (locs1 : List Loc), cW D cA ks ad st' H1 → va_S A s.heap H1 locs1 → W p l e R s m args below meth c H1 locs1 cells slots Q (F0 m (pc + 3) ls (.int v :: rest))) : W p l e R s m args below meth c H locs cells slots Q (F0 m pc ls (.ref (ad 60) :: rest)) :=
  cc_cV (As := []) C hP hS (w_L_check hO h) (cwV 0 C.2.2.2.2.1 (lw_V hl q1497 q1498 q85 q1499) rfl rfl rfl (by decide +kernel) (mr_ C.2.2.2.2.2.1 hd (by decide))) (cc_recv C hP (hO.2.2.2 60 (by decide)) rfl (q := (RX0, TX0, 13)) rfl) rfl hsz rfl hW hdg hcs kk
abbrev cX0_count : ByteArray := prog_1_method_67_code
def yX0_count : MethodName := ⟨RX0, "count", "(I)I"⟩
theorem dX0_count_0 : decode cX0_count 0 = .ok (.aload_n 0, 1) := by decide +kernel
theorem dX0_count_1 : decode cX0_count 1 = .ok (.iload_n 1, 1) := by decide +kernel
theorem dX0_count_2 : decode cX0_count 2 = .ok (.iconst 0, 1) := by decide +kernel
theorem dX0_count_3 : decode cX0_count 3 = .ok (.bipush 9, 2) := by decide +kernel
theorem dX0_count_5 : decode cX0_count 5 = .ok (.invokestatic 91, 3) := by decide +kernel
theorem dX0_count_8 : decode cX0_count 8 = .ok (.iconst 1, 1) := by decide +kernel
theorem dX0_count_9 : decode cX0_count 9 = .ok (.invokevirtual 102, 3) := by decide +kernel
theorem dX0_count_12 : decode cX0_count 12 = .ok (.iload_n 1, 1) := by decide +kernel
theorem dX0_count_13 : decode cX0_count 13 = .ok (.tableswitch 123 0 8 #[51, 59, 67, 75, 83, 91, 99, 107, 115], 51) := by decide +kernel
theorem dX0_count_64 : decode cX0_count 64 = .ok (.aload_n 0, 1) := by decide +kernel
theorem dX0_count_65 : decode cX0_count 65 = .ok (.getfield 46, 3) := by decide +kernel
theorem dX0_count_68 : decode cX0_count 68 = .ok (.getfield 88, 3) := by decide +kernel
theorem dX0_count_71 : decode cX0_count 71 = .ok (.ireturn, 1) := by decide +kernel
theorem dX0_count_72 : decode cX0_count 72 = .ok (.aload_n 0, 1) := by decide +kernel
theorem dX0_count_73 : decode cX0_count 73 = .ok (.getfield 46, 3) := by decide +kernel
theorem dX0_count_76 : decode cX0_count 76 = .ok (.getfield 95, 3) := by decide +kernel
theorem dX0_count_79 : decode cX0_count 79 = .ok (.ireturn, 1) := by decide +kernel
theorem dX0_count_80 : decode cX0_count 80 = .ok (.aload_n 0, 1) := by decide +kernel
theorem dX0_count_81 : decode cX0_count 81 = .ok (.getfield 46, 3) := by decide +kernel
theorem dX0_count_84 : decode cX0_count 84 = .ok (.getfield 213, 3) := by decide +kernel
theorem dX0_count_87 : decode cX0_count 87 = .ok (.ireturn, 1) := by decide +kernel
theorem dX0_count_88 : decode cX0_count 88 = .ok (.aload_n 0, 1) := by decide +kernel
theorem dX0_count_89 : decode cX0_count 89 = .ok (.getfield 46, 3) := by decide +kernel
theorem dX0_count_92 : decode cX0_count 92 = .ok (.getfield 330, 3) := by decide +kernel
theorem dX0_count_95 : decode cX0_count 95 = .ok (.ireturn, 1) := by decide +kernel
theorem dX0_count_96 : decode cX0_count 96 = .ok (.aload_n 0, 1) := by decide +kernel
theorem dX0_count_97 : decode cX0_count 97 = .ok (.getfield 46, 3) := by decide +kernel
theorem dX0_count_100 : decode cX0_count 100 = .ok (.invokevirtual 408, 3) := by decide +kernel
theorem dX0_count_103 : decode cX0_count 103 = .ok (.ireturn, 1) := by decide +kernel
theorem dX0_count_104 : decode cX0_count 104 = .ok (.aload_n 0, 1) := by decide +kernel
theorem dX0_count_105 : decode cX0_count 105 = .ok (.getfield 46, 3) := by decide +kernel
theorem dX0_count_108 : decode cX0_count 108 = .ok (.invokevirtual 223, 3) := by decide +kernel
theorem dX0_count_111 : decode cX0_count 111 = .ok (.ireturn, 1) := by decide +kernel
theorem dX0_count_112 : decode cX0_count 112 = .ok (.aload_n 0, 1) := by decide +kernel
theorem dX0_count_113 : decode cX0_count 113 = .ok (.getfield 46, 3) := by decide +kernel
theorem dX0_count_116 : decode cX0_count 116 = .ok (.getfield 233, 3) := by decide +kernel
theorem dX0_count_119 : decode cX0_count 119 = .ok (.ireturn, 1) := by decide +kernel
theorem dX0_count_120 : decode cX0_count 120 = .ok (.aload_n 0, 1) := by decide +kernel
theorem dX0_count_121 : decode cX0_count 121 = .ok (.getfield 46, 3) := by decide +kernel
theorem dX0_count_124 : decode cX0_count 124 = .ok (.getfield 402, 3) := by decide +kernel
theorem dX0_count_127 : decode cX0_count 127 = .ok (.ireturn, 1) := by decide +kernel
theorem dX0_count_128 : decode cX0_count 128 = .ok (.aload_n 0, 1) := by decide +kernel
theorem dX0_count_129 : decode cX0_count 129 = .ok (.getfield 59, 3) := by decide +kernel
theorem dX0_count_132 : decode cX0_count 132 = .ok (.getfield 354, 3) := by decide +kernel
theorem dX0_count_135 : decode cX0_count 135 = .ok (.ireturn, 1) := by decide +kernel
theorem dX0_count_136 : decode cX0_count 136 = .ok (.aload_n 0, 1) := by decide +kernel
theorem dX0_count_137 : decode cX0_count 137 = .ok (.getfield 46, 3) := by decide +kernel
theorem dX0_count_140 : decode cX0_count 140 = .ok (.getfield 351, 3) := by decide +kernel
theorem dX0_count_143 : decode cX0_count 143 = .ok (.ireturn, 1) := by decide +kernel
theorem dX0_count_144 : decode cX0_count 144 = .ok (.astore_n 2, 1) := by decide +kernel
theorem dX0_count_145 : decode cX0_count 145 = .ok (.aload_n 0, 1) := by decide +kernel
theorem dX0_count_146 : decode cX0_count 146 = .ok (.aload_n 2, 1) := by decide +kernel
theorem dX0_count_147 : decode cX0_count 147 = .ok (.invokevirtual 123, 3) := by decide +kernel
theorem dX0_count_150 : decode cX0_count 150 = .ok (.ireturn, 1) := by decide +kernel
theorem w_L_count {l : Launch} {D : va_G} {cA : Nat → ClassId} {ks : List Nat} {ad : Nat → Nat} {A : Nat → Prop} (hO : klOk A ks ad) {st st' : CS} {N : Nat} {x1 : Int32} {r0 : Int32} (h : L_count N st x1 = some (r0, st')) : Met l yX0_count (wsW_ yX0_count cX0_count 3 (some .int) [(0, 71, 144, 8), (72, 79, 144, 8), (80, 87, 144, 8), (88, 95, 144, 8), (96, 103, 144, 8), (104, 111, 144, 8), (112, 119, 144, 8), (120, 127, 144, 8), (128, 135, 144, 8), (136, 143, 144, 8)]) (k2_rm 2 (40 * 2)) (cPre D cA ks ad A st [.ref (ad 60), .int x1]) (cQ (some (.int r0)) D cA ks ad A st') 0 0 A := by
  refine cc_ofH (own := RX0) (by decide) rfl (Nat.le_of_ble_eq_true rfl) (fun p e s m below meth c R args ls C hr hlk htab hP hS hl hcs => ?_)
  have hx := C.1
  have hb := C.2.1
  have hown := C.2.2.2.1
  have hNst := C.2.2.2.2.2.2.2.1
  have hl : lv_has ls 3 [(0, .ref (ad 60)), (1, .int x1)] := hl
  rw [L_count] at h
  refine lv_aload_n hx hb dX0_count_0 rfl (lv_at hl 0 rfl) ?_
  refine lv_iload_n hx hb dX0_count_1 rfl (lv_at hl 1 rfl) ?_
  refine lv_iconst (v := 0) hx hb dX0_count_2 (by decide) ?_
  refine lv_bipush (v := 9) hx hb dX0_count_3 (by decide) ?_
  obtain ⟨v1, hv1, h⟩ := bd1_some h
  refine k_L_in hx hb C.2.2.1 hown C.2.2.2.2.1 C.2.2.2.2.2.1 q399 hv1 (Nat.le_of_ble_eq_true rfl) hl.1 (Nat.le_of_ble_eq_true rfl) hcs dX0_count_5 ?_
  refine lv_iconst (v := 1) hx hb dX0_count_8 (by decide) ?_
  obtain ⟨o4, st3, hv2, h⟩ := bd2_some h
  rcases o4 with _ | v2
  · rw [onx_none] at h
    refine k_L_needT C hO hP hS hv2 q402 (Nat.le_of_ble_eq_true rfl) hl.1 (Nat.le_of_ble_eq_true rfl) hcs dX0_count_9 (fun H locs hP hS => ?_)
    refine cc_catch (pre := []) (a1 := 0) (a2 := 71) (hp := 144) (post := [(72, 79, 144, 8), (80, 87, 144, 8), (88, 95, 144, 8), (96, 103, 144, 8), (104, 111, 144, 8), (112, 119, 144, 8), (120, 127, 144, 8), (128, 135, 144, 8), (136, 143, 144, 8)]) C hO hP q129 htab rfl rfl ?_
    refine lv_astore_n (lv' := [(2, .ref (ad 61)), (0, .ref (ad 60)), (1, .int x1)]) hx hb dX0_count_144 rfl hl (by decide) rfl (fun ls hl => ?_)
    refine lv_aload_n hx hb dX0_count_145 rfl (lv_at hl 1 rfl) ?_
    refine lv_aload_n hx hb dX0_count_146 rfl (lv_at hl 0 rfl) ?_
    obtain ⟨v5, st6, hv5, h⟩ := bd2_some h
    refine k_L_finds C hO hP hS hv5 q410 (Nat.le_of_ble_eq_true rfl) hl.1 (Nat.le_of_ble_eq_true rfl) hcs dX0_count_147 (fun H locs hP hS => ?_)
    exact cc_viret hx hb hr hlk h hP hS dX0_count_150
  · rw [onx_some] at h
    refine k_L_needR C hO hP hS hv2 q402 (Nat.le_of_ble_eq_true rfl) hl.1 (Nat.le_of_ble_eq_true rfl) hcs dX0_count_9 (fun H locs hP hS => ?_)
    refine lv_iload_n hx hb dX0_count_12 rfl (lv_at hl 1 rfl) ?_
    by_cases c7 : x1 = 0
    · have h := if_some_t h c7
      refine lv_tableIn (tgt := 64) hx hb dX0_count_13 (by rw [c7]; decide) (by rw [c7]; decide) (by rw [c7]; rfl) (by decide) ?_
      refine lv_aload_n hx hb dX0_count_64 rfl (lv_at hl 0 rfl) ?_
      refine lg_town C hO hP dX0_count_65 ?_
      refine tgN_facts (t := 0) C hO (by decide) hP dX0_count_68 ?_
      exact cc_viret hx hb hr hlk h hP hS dX0_count_71
    · have h := if_some_f h c7
      by_cases c8 : x1 = 1
      · have h := if_some_t h c8
        refine lv_tableIn (tgt := 72) hx hb dX0_count_13 (by rw [c8]; decide) (by rw [c8]; decide) (by rw [c8]; rfl) (by decide) ?_
        refine lv_aload_n hx hb dX0_count_72 rfl (lv_at hl 0 rfl) ?_
        refine lg_town C hO hP dX0_count_73 ?_
        refine tgN_debtors (t := 0) C hO (by decide) hP dX0_count_76 ?_
        exact cc_viret hx hb hr hlk h hP hS dX0_count_79
      · have h := if_some_f h c8
        by_cases c9 : x1 = 2
        · have h := if_some_t h c9
          refine lv_tableIn (tgt := 80) hx hb dX0_count_13 (by rw [c9]; decide) (by rw [c9]; decide) (by rw [c9]; rfl) (by decide) ?_
          refine lv_aload_n hx hb dX0_count_80 rfl (lv_at hl 0 rfl) ?_
          refine lg_town C hO hP dX0_count_81 ?_
          refine tgN_week (t := 0) C hO (by decide) hP dX0_count_84 ?_
          exact cc_viret hx hb hr hlk h hP hS dX0_count_87
        · have h := if_some_f h c9
          by_cases c10 : x1 = 3
          · have h := if_some_t h c10
            refine lv_tableIn (tgt := 88) hx hb dX0_count_13 (by rw [c10]; decide) (by rw [c10]; decide) (by rw [c10]; rfl) (by decide) ?_
            refine lv_aload_n hx hb dX0_count_88 rfl (lv_at hl 0 rfl) ?_
            refine lg_town C hO hP dX0_count_89 ?_
            refine tgN_meetings (t := 0) C hO (by decide) hP dX0_count_92 ?_
            exact cc_viret hx hb hr hlk h hP hS dX0_count_95
          · have h := if_some_f h c10
            by_cases c11 : x1 = 4
            · have h := if_some_t h c11
              refine lv_tableIn (tgt := 96) hx hb dX0_count_13 (by rw [c11]; decide) (by rw [c11]; decide) (by rw [c11]; rfl) (by decide) ?_
              refine lv_aload_n hx hb dX0_count_96 rfl (lv_at hl 0 rfl) ?_
              refine lg_town C hO hP dX0_count_97 ?_
              obtain ⟨v12, hv12, h⟩ := bd1_some h
              refine k_T_debts (t := 0) C hO (by decide) hP hv12 q1500 (Nat.le_of_ble_eq_true rfl) hS.1 hl.1 (Nat.le_of_ble_eq_true rfl) hcs dX0_count_100 ?_
              exact cc_viret hx hb hr hlk h hP hS dX0_count_103
            · have h := if_some_f h c11
              by_cases c13 : x1 = 5
              · have h := if_some_t h c13
                refine lv_tableIn (tgt := 104) hx hb dX0_count_13 (by rw [c13]; decide) (by rw [c13]; decide) (by rw [c13]; rfl) (by decide) ?_
                refine lv_aload_n hx hb dX0_count_104 rfl (lv_at hl 0 rfl) ?_
                refine lg_town C hO hP dX0_count_105 ?_
                obtain ⟨v14, hv14, h⟩ := bd1_some h
                refine k_T_broken (t := 0) C hO (by decide) hP hv14 q829 (Nat.le_of_ble_eq_true rfl) hS.1 hl.1 (Nat.le_of_ble_eq_true rfl) hcs dX0_count_108 ?_
                exact cc_viret hx hb hr hlk h hP hS dX0_count_111
              · have h := if_some_f h c13
                by_cases c15 : x1 = 6
                · have h := if_some_t h c15
                  refine lv_tableIn (tgt := 112) hx hb dX0_count_13 (by rw [c15]; decide) (by rw [c15]; decide) (by rw [c15]; rfl) (by decide) ?_
                  refine lv_aload_n hx hb dX0_count_112 rfl (lv_at hl 0 rfl) ?_
                  refine lg_town C hO hP dX0_count_113 ?_
                  refine tgN_taped (t := 0) C hO (by decide) hP dX0_count_116 ?_
                  exact cc_viret hx hb hr hlk h hP hS dX0_count_119
                · have h := if_some_f h c15
                  by_cases c16 : x1 = 7
                  · have h := if_some_t h c16
                    refine lv_tableIn (tgt := 120) hx hb dX0_count_13 (by rw [c16]; decide) (by rw [c16]; decide) (by rw [c16]; rfl) (by decide) ?_
                    refine lv_aload_n hx hb dX0_count_120 rfl (lv_at hl 0 rfl) ?_
                    refine lg_town C hO hP dX0_count_121 ?_
                    refine tgN_waits (t := 0) C hO (by decide) hP dX0_count_124 ?_
                    exact cc_viret hx hb hr hlk h hP hS dX0_count_127
                  · have h := if_some_f h c16
                    by_cases c17 : x1 = 8
                    · have h := if_some_t h c17
                      refine lv_tableIn (tgt := 128) hx hb dX0_count_13 (by rw [c17]; decide) (by rw [c17]; decide) (by rw [c17]; rfl) (by decide) ?_
                      refine lv_aload_n hx hb dX0_count_128 rfl (lv_at hl 0 rfl) ?_
                      refine lg_trace C hO hP dX0_count_129 ?_
                      refine trg_many C hO hP dX0_count_132 ?_
                      exact cc_viret hx hb hr hlk h hP hS dX0_count_135
                    · have h := if_some_f h c17
                      refine lv_tableOut (tgt := 136) hx hb dX0_count_13 ?_ (by decide) ?_
                      · have := lv_neT c7 (show (0 : Int32).toInt = 0 by decide)
                        have := lv_neT c8 (show (1 : Int32).toInt = 1 by decide)
                        have := lv_neT c9 (show (2 : Int32).toInt = 2 by decide)
                        have := lv_neT c10 (show (3 : Int32).toInt = 3 by decide)
                        have := lv_neT c11 (show (4 : Int32).toInt = 4 by decide)
                        have := lv_neT c13 (show (5 : Int32).toInt = 5 by decide)
                        have := lv_neT c15 (show (6 : Int32).toInt = 6 by decide)
                        have := lv_neT c16 (show (7 : Int32).toInt = 7 by decide)
                        have := lv_neT c17 (show (8 : Int32).toInt = 8 by decide)
                        omega
                      · refine lv_aload_n hx hb dX0_count_136 rfl (lv_at hl 0 rfl) ?_
                        refine lg_town C hO hP dX0_count_137 ?_
                        refine tgN_z (t := 0) C hO (by decide) hP dX0_count_140 ?_
                        exact cc_viret hx hb hr hlk h hP hS dX0_count_143
abbrev cX0_told : ByteArray := prog_1_method_68_code
def yX0_told : MethodName := ⟨RX0, "told", "(I)I"⟩
theorem dX0_told_0 : decode cX0_told 0 = .ok (.aload_n 0, 1) := by decide +kernel
theorem dX0_told_1 : decode cX0_told 1 = .ok (.iload_n 1, 1) := by decide +kernel
theorem dX0_told_2 : decode cX0_told 2 = .ok (.iconst 1, 1) := by decide +kernel
theorem dX0_told_3 : decode cX0_told 3 = .ok (.iconst 5, 1) := by decide +kernel
theorem dX0_told_4 : decode cX0_told 4 = .ok (.invokestatic 91, 3) := by decide +kernel
theorem dX0_told_7 : decode cX0_told 7 = .ok (.iconst 1, 1) := by decide +kernel
theorem dX0_told_8 : decode cX0_told 8 = .ok (.invokevirtual 102, 3) := by decide +kernel
theorem dX0_told_11 : decode cX0_told 11 = .ok (.aload_n 0, 1) := by decide +kernel
theorem dX0_told_12 : decode cX0_told 12 = .ok (.getfield 63, 3) := by decide +kernel
theorem dX0_told_15 : decode cX0_told 15 = .ok (.iload_n 1, 1) := by decide +kernel
theorem dX0_told_16 : decode cX0_told 16 = .ok (.iaload, 1) := by decide +kernel
theorem dX0_told_17 : decode cX0_told 17 = .ok (.ireturn, 1) := by decide +kernel
theorem dX0_told_18 : decode cX0_told 18 = .ok (.astore_n 2, 1) := by decide +kernel
theorem dX0_told_19 : decode cX0_told 19 = .ok (.aload_n 0, 1) := by decide +kernel
theorem dX0_told_20 : decode cX0_told 20 = .ok (.aload_n 2, 1) := by decide +kernel
theorem dX0_told_21 : decode cX0_told 21 = .ok (.invokevirtual 123, 3) := by decide +kernel
theorem dX0_told_24 : decode cX0_told 24 = .ok (.ireturn, 1) := by decide +kernel
theorem w_L_told {l : Launch} {D : va_G} {cA : Nat → ClassId} {ks : List Nat} {ad : Nat → Nat} {A : Nat → Prop} (hO : klOk A ks ad) {st st' : CS} {x1 : Int32} {r0 : Int32} (h : L_told st x1 = some (r0, st')) : Met l yX0_told (wsW_ yX0_told cX0_told 3 (some .int) [(0, 17, 18, 8)]) (k2_rm 2 (40 * 2)) (cPre D cA ks ad A st [.ref (ad 60), .int x1]) (cQ (some (.int r0)) D cA ks ad A st') 0 0 A := by
  refine cc_ofH (own := RX0) (by decide) rfl (Nat.le_of_ble_eq_true rfl) (fun p e s m below meth c R args ls C hr hlk htab hP hS hl hcs => ?_)
  have hx := C.1
  have hb := C.2.1
  have hown := C.2.2.2.1
  have hNst := C.2.2.2.2.2.2.2.1
  have hl : lv_has ls 3 [(0, .ref (ad 60)), (1, .int x1)] := hl
  rw [L_told] at h
  refine lv_aload_n hx hb dX0_told_0 rfl (lv_at hl 0 rfl) ?_
  refine lv_iload_n hx hb dX0_told_1 rfl (lv_at hl 1 rfl) ?_
  refine lv_iconst (v := 1) hx hb dX0_told_2 (by decide) ?_
  refine lv_iconst (v := 5) hx hb dX0_told_3 (by decide) ?_
  obtain ⟨v1, hv1, h⟩ := bd1_some h
  refine k_L_in hx hb C.2.2.1 hown C.2.2.2.2.1 C.2.2.2.2.2.1 q399 hv1 (Nat.le_of_ble_eq_true rfl) hl.1 (Nat.le_of_ble_eq_true rfl) hcs dX0_told_4 ?_
  refine lv_iconst (v := 1) hx hb dX0_told_7 (by decide) ?_
  obtain ⟨o4, st3, hv2, h⟩ := bd2_some h
  rcases o4 with _ | v2
  · rw [onx_none] at h
    refine k_L_needT C hO hP hS hv2 q402 (Nat.le_of_ble_eq_true rfl) hl.1 (Nat.le_of_ble_eq_true rfl) hcs dX0_told_8 (fun H locs hP hS => ?_)
    refine cc_catch (pre := []) (a1 := 0) (a2 := 17) (hp := 18) (post := []) C hO hP q129 htab rfl rfl ?_
    refine lv_astore_n (lv' := [(2, .ref (ad 61)), (0, .ref (ad 60)), (1, .int x1)]) hx hb dX0_told_18 rfl hl (by decide) rfl (fun ls hl => ?_)
    refine lv_aload_n hx hb dX0_told_19 rfl (lv_at hl 1 rfl) ?_
    refine lv_aload_n hx hb dX0_told_20 rfl (lv_at hl 0 rfl) ?_
    obtain ⟨v5, st6, hv5, h⟩ := bd2_some h
    refine k_L_finds C hO hP hS hv5 q410 (Nat.le_of_ble_eq_true rfl) hl.1 (Nat.le_of_ble_eq_true rfl) hcs dX0_told_21 (fun H locs hP hS => ?_)
    exact cc_viret hx hb hr hlk h hP hS dX0_told_24
  · rw [onx_some] at h
    refine k_L_needR C hO hP hS hv2 q402 (Nat.le_of_ble_eq_true rfl) hl.1 (Nat.le_of_ble_eq_true rfl) hcs dX0_told_8 (fun H locs hP hS => ?_)
    refine lv_aload_n hx hb dX0_told_11 rfl (lv_at hl 0 rfl) ?_
    refine lg_errors C hO hP dX0_told_12 ?_
    refine lv_iload_n hx hb dX0_told_15 rfl (lv_at hl 1 rfl) ?_
    obtain ⟨v7, hv7, h⟩ := bd1_some h
    refine cc_ild C hP (hO.2.2.2 _ (by decide)) rfl hv7 dX0_told_16 ?_
    exact cc_viret hx hb hr hlk h hP hS dX0_told_17
abbrev cX0_freeBy : ByteArray := prog_1_method_45_code
def yX0_freeBy : MethodName := ⟨RX0, "freeBy", "(II)I"⟩
theorem dX0_freeBy_0 : decode cX0_freeBy 0 = .ok (.aload_n 0, 1) := by decide +kernel
theorem dX0_freeBy_1 : decode cX0_freeBy 1 = .ok (.getfield 53, 3) := by decide +kernel
theorem dX0_freeBy_4 : decode cX0_freeBy 4 = .ok (.aload_n 0, 1) := by decide +kernel
theorem dX0_freeBy_5 : decode cX0_freeBy 5 = .ok (.getfield 46, 3) := by decide +kernel
theorem dX0_freeBy_8 : decode cX0_freeBy 8 = .ok (.invokevirtual 229, 3) := by decide +kernel
theorem dX0_freeBy_11 : decode cX0_freeBy 11 = .ok (.pop, 1) := by decide +kernel
theorem dX0_freeBy_12 : decode cX0_freeBy 12 = .ok (.aload_n 0, 1) := by decide +kernel
theorem dX0_freeBy_13 : decode cX0_freeBy 13 = .ok (.getfield 53, 3) := by decide +kernel
theorem dX0_freeBy_16 : decode cX0_freeBy 16 = .ok (.iload_n 1, 1) := by decide +kernel
theorem dX0_freeBy_17 : decode cX0_freeBy 17 = .ok (.putfield 298, 3) := by decide +kernel
theorem dX0_freeBy_20 : decode cX0_freeBy 20 = .ok (.aload_n 0, 1) := by decide +kernel
theorem dX0_freeBy_21 : decode cX0_freeBy 21 = .ok (.getfield 53, 3) := by decide +kernel
theorem dX0_freeBy_24 : decode cX0_freeBy 24 = .ok (.iload_n 2, 1) := by decide +kernel
theorem dX0_freeBy_25 : decode cX0_freeBy 25 = .ok (.putfield 301, 3) := by decide +kernel
theorem dX0_freeBy_28 : decode cX0_freeBy 28 = .ok (.iconst 0, 1) := by decide +kernel
theorem dX0_freeBy_29 : decode cX0_freeBy 29 = .ok (.istore_n 3, 1) := by decide +kernel
theorem dX0_freeBy_30 : decode cX0_freeBy 30 = .ok (.iload_n 3, 1) := by decide +kernel
theorem dX0_freeBy_31 : decode cX0_freeBy 31 = .ok (.bipush 60, 2) := by decide +kernel
theorem dX0_freeBy_33 : decode cX0_freeBy 33 = .ok (.if_icmp .ge 28, 3) := by decide +kernel
theorem dX0_freeBy_36 : decode cX0_freeBy 36 = .ok (.aload_n 0, 1) := by decide +kernel
theorem dX0_freeBy_37 : decode cX0_freeBy 37 = .ok (.getfield 53, 3) := by decide +kernel
theorem dX0_freeBy_40 : decode cX0_freeBy 40 = .ok (.getfield 150, 3) := by decide +kernel
theorem dX0_freeBy_43 : decode cX0_freeBy 43 = .ok (.iload_n 1, 1) := by decide +kernel
theorem dX0_freeBy_44 : decode cX0_freeBy 44 = .ok (.iaload, 1) := by decide +kernel
theorem dX0_freeBy_45 : decode cX0_freeBy 45 = .ok (.ifCond .le 16, 3) := by decide +kernel
theorem dX0_freeBy_48 : decode cX0_freeBy 48 = .ok (.aload_n 0, 1) := by decide +kernel
theorem dX0_freeBy_49 : decode cX0_freeBy 49 = .ok (.getfield 53, 3) := by decide +kernel
theorem dX0_freeBy_52 : decode cX0_freeBy 52 = .ok (.invokevirtual 220, 3) := by decide +kernel
theorem dX0_freeBy_55 : decode cX0_freeBy 55 = .ok (.iinc 3 1, 3) := by decide +kernel
theorem dX0_freeBy_58 : decode cX0_freeBy 58 = .ok (.goto (-28), 3) := by decide +kernel
theorem dX0_freeBy_61 : decode cX0_freeBy 61 = .ok (.aload_n 0, 1) := by decide +kernel
theorem dX0_freeBy_62 : decode cX0_freeBy 62 = .ok (.getfield 53, 3) := by decide +kernel
theorem dX0_freeBy_65 : decode cX0_freeBy 65 = .ok (.getfield 150, 3) := by decide +kernel
theorem dX0_freeBy_68 : decode cX0_freeBy 68 = .ok (.iload_n 1, 1) := by decide +kernel
theorem dX0_freeBy_69 : decode cX0_freeBy 69 = .ok (.iaload, 1) := by decide +kernel
theorem dX0_freeBy_70 : decode cX0_freeBy 70 = .ok (.ifCond .ne 7, 3) := by decide +kernel
theorem dX0_freeBy_73 : decode cX0_freeBy 73 = .ok (.iload_n 3, 1) := by decide +kernel
theorem dX0_freeBy_74 : decode cX0_freeBy 74 = .ok (.goto 4, 3) := by decide +kernel
theorem dX0_freeBy_77 : decode cX0_freeBy 77 = .ok (.iconst (-1), 1) := by decide +kernel
theorem dX0_freeBy_78 : decode cX0_freeBy 78 = .ok (.ireturn, 1) := by decide +kernel
theorem w_L_freeBy {l : Launch} {D : va_G} {cA : Nat → ClassId} {ks : List Nat} {ad : Nat → Nat} {A : Nat → Prop} (hO : klOk A ks ad) {st st' : CS} {N : Nat} {x1 : Int32} {x2 : Int32} {r0 : Int32} (h : L_freeBy N st x1 x2 = some (r0, st')) : cV l yX0_freeBy cX0_freeBy 4 (some .int) 66 D cA ks ad A st [.ref (ad 60), .int x1, .int x2] (some (.int r0)) st' := by
  refine cc_ofV (own := RX0) (by decide) rfl (Nat.le_of_ble_eq_true rfl) (fun p e s m below meth c R args ls C hr hlk hP hS hl hcs => ?_)
  have hx := C.1
  have hb := C.2.1
  have hown := C.2.2.2.1
  have hNst := C.2.2.2.2.2.2.2.1
  have hl : lv_has ls 4 [(0, .ref (ad 60)), (1, .int x1), (2, .int x2)] := hl
  have L30 : ∀ (x1 : Int32), ∀ (n : Nat) (st : CS) (x3 : Int32) (st2 : CS) (z3 : Int32), L_freeBy_L30 N x1 n st x3 = some (st2, z3) → ∀ (H : Heap) (locs : List Loc), cW D cA ks ad st H → va_S A s.heap H locs → ∀ ls : Array Slot, lv_has ls 4 [(0, .ref (ad 60)), (1, .int x1), (3, .int x3)] → (∀ (H : Heap) (locs : List Loc), cW D cA ks ad st2 H → va_S A s.heap H locs → ∀ ls : Array Slot, lv_has ls 4 [(0, .ref (ad 60)), (1, .int x1), (3, .int z3)] → cWV p l e R s m args below meth c D cA ks ad A (some (.int r0)) st' H locs (F0 m 61 ls [])) → cWV p l e R s m args below meth c D cA ks ad A (some (.int r0)) st' H locs (F0 m 30 ls []) := by
    intro x1 n
    induction n with
    | zero =>
      intro st x3 st2 z3 h
      exact non_some h
    | succ n ih =>
      intro st x3 st2 z3 h H locs hP hS ls hl kx
      rw [L_freeBy_L30] at h
      refine lv_iload_n hx hb dX0_freeBy_30 rfl (lv_at hl 2 rfl) ?_
      refine lv_bipush (v := 60) hx hb dX0_freeBy_31 (by decide) ?_
      refine lv_icmp_ge (tgt := 61) hx hb dX0_freeBy_33 rfl (fun c2 => ?_) (fun c2 => ?_)
      · have h := if_some_t h c2
        cases h
        exact kx _ _ hP hS ls (lv_sub hl [0, 1, 2] rfl)
      · have h := if_some_f h c2
        refine lv_aload_n hx hb dX0_freeBy_36 rfl (lv_at hl 0 rfl) ?_
        refine lg_tried C hO hP dX0_freeBy_37 ?_
        refine tgN_debt (t := 2) C hO (by decide) hP dX0_freeBy_40 ?_
        refine lv_iload_n hx hb dX0_freeBy_43 rfl (lv_at hl 1 rfl) ?_
        obtain ⟨v3, hv3, h⟩ := bd1_some h
        refine cc_ild C hP (hO.2.2.2 _ (tk_ 6 (by decide) (by decide))) (cg_t 6 (by decide) (by decide)) hv3 dX0_freeBy_44 ?_
        refine lv_if_le (tgt := 61) hx hb dX0_freeBy_45 rfl (fun c4 => ?_) (fun c4 => ?_)
        · have h := if_some_t h c4
          cases h
          exact kx _ _ hP hS ls (lv_sub hl [0, 1, 2] rfl)
        · have h := if_some_f h c4
          refine lv_aload_n hx hb dX0_freeBy_48 rfl (lv_at hl 0 rfl) ?_
          refine lg_tried C hO hP dX0_freeBy_49 ?_
          obtain ⟨st6, hv5, h⟩ := bd1_some h
          refine k_T_goes (t := 2) C hO (by decide) hP hS hv5 q806 (Nat.le_of_ble_eq_true rfl) hl.1 (Nat.le_of_ble_eq_true rfl) hcs dX0_freeBy_52 (fun H locs hP hS => ?_)
          refine lv_iinc (v := x3 + 1) (lv' := [(3, .int (x3 + 1)), (0, .ref (ad 60)), (1, .int x1)]) hx hb dX0_freeBy_55 hl (k := 2) rfl rfl (by decide) rfl (fun ls hl => ?_)
          refine lv_goto (tgt := 30) hx hb dX0_freeBy_58 rfl ?_
          exact ih st6 (x3 + 1) _ _ h _ _ hP hS ls (lv_sub hl [1, 2, 0] rfl) kx
  rw [L_freeBy] at h
  refine lv_aload_n hx hb dX0_freeBy_0 rfl (lv_at hl 0 rfl) ?_
  refine lg_tried C hO hP dX0_freeBy_1 ?_
  refine lv_aload_n hx hb dX0_freeBy_4 rfl (lv_at hl 0 rfl) ?_
  refine lg_town C hO hP dX0_freeBy_5 ?_
  obtain ⟨st1, hst1, h⟩ := bd1_some h
  refine k_T_become (t := 2) (u := 0) C hO (by decide) (by decide) hP hS hst1 q852 (Nat.le_of_ble_eq_true rfl) hl.1 (Nat.le_of_ble_eq_true rfl) hcs dX0_freeBy_8 (fun H locs hP hS => ?_)
  refine lv_pop hx hb dX0_freeBy_11 rfl ?_
  refine lv_aload_n hx hb dX0_freeBy_12 rfl (lv_at hl 0 rfl) ?_
  refine lg_tried C hO hP dX0_freeBy_13 ?_
  refine lv_iload_n hx hb dX0_freeBy_16 rfl (lv_at hl 1 rfl) ?_
  refine tpN_ratedOne (t := 2) C hO (by decide) hP hS dX0_freeBy_17 (fun H locs hP hS => ?_)
  refine lv_aload_n hx hb dX0_freeBy_20 rfl (lv_at hl 0 rfl) ?_
  refine lg_tried C hO hP dX0_freeBy_21 ?_
  refine lv_iload_n hx hb dX0_freeBy_24 rfl (lv_at hl 2 rfl) ?_
  refine tpN_rate (t := 2) C hO (by decide) hP hS dX0_freeBy_25 (fun H locs hP hS => ?_)
  refine lv_iconst (v := 0) hx hb dX0_freeBy_28 (by decide) ?_
  refine lv_istore_n (lv' := [(3, .int 0), (0, .ref (ad 60)), (1, .int x1), (2, .int x2)]) hx hb dX0_freeBy_29 rfl hl (by decide) rfl (fun ls hl => ?_)
  obtain ⟨st7, z8, hz11, h⟩ := bd2_some h
  refine L30 x1 N _ 0 _ _ hz11 _ _ hP hS ls (lv_sub hl [1, 2, 0] rfl) (fun H locs hP hS ls hl => ?_)
  refine lv_aload_n hx hb dX0_freeBy_61 rfl (lv_at hl 0 rfl) ?_
  refine lg_tried C hO hP dX0_freeBy_62 ?_
  refine tgN_debt (t := 2) C hO (by decide) hP dX0_freeBy_65 ?_
  refine lv_iload_n hx hb dX0_freeBy_68 rfl (lv_at hl 1 rfl) ?_
  obtain ⟨v9, hv9, h⟩ := bd1_some h
  refine cc_ild C hP (hO.2.2.2 _ (tk_ 6 (by decide) (by decide))) (cg_t 6 (by decide) (by decide)) hv9 dX0_freeBy_69 ?_
  refine lv_if_ne (tgt := 77) hx hb dX0_freeBy_70 rfl (fun c10 => ?_) (fun c10 => ?_)
  · have h := if_some_f h c10
    refine lv_iconst (v := (-1)) hx hb dX0_freeBy_77 (by decide) ?_
    exact cc_viret hx hb hr hlk h hP hS dX0_freeBy_78
  · have h := if_some_t h c10
    refine lv_iload_n hx hb dX0_freeBy_73 rfl (lv_at hl 2 rfl) ?_
    refine lv_goto (tgt := 78) hx hb dX0_freeBy_74 rfl ?_
    exact cc_viret hx hb hr hlk h hP hS dX0_freeBy_78
theorem q1138 : (Jvm.Cond.code ({ cls := "ChapterLoan", name := "freeBy", desc := "(II)I" } : Jvm.MethodName) prog_1_method_45_code (4 : Nat) (Option.some Jvm.ClassFile.FieldType.int)) ∈ lw_all := lw_g (lw_at lw_m5 94 rfl) rfl
theorem q1137 : (Jvm.Cond.instanceMethod ({ cls := "ChapterLoan", name := "freeBy", desc := "(II)I" } : Jvm.MethodName)) ∈ lw_all := lw_g (lw_at lw_m5 93 rfl) rfl
theorem k_L_freeBy {N : Nat} {a0 : Int32} {a1 : Int32} {v : Int32} {st' : CS} (C : cC p R d s m args c cc nL RX0 D cA A) (hO : klOk A ks ad) (hP : cW D cA ks ad st H) (hS : va_S A s.heap H locs) (h : L_freeBy N st a0 a1 = some (v, st')) (hl : Cond.methodLink RX0 index yX0_freeBy ∈ lw_all) (hd : 66 + 1 ≤ d) (hsz : ls.size = nL) (hW : (rest.map fun v => v.category).sum ≤ 8) (hcs : cells ≤ R.cells ∧ slots ≤ R.slots) (hdg : decode cc pc = .ok (.invokevirtual index, 3)) (kk : ∀ (H1 : Heap) (locs1 : List Loc), cW D cA ks ad st' H1 → va_S A s.heap H1 locs1 → W p l e R s m args below meth c H1 locs1 cells slots Q (F0 m (pc + 3) ls (.int v :: rest))) : W p l e R s m args below meth c H locs cells slots Q (F0 m pc ls (.int a1 :: .int a0 :: .ref (ad 60) :: rest)) :=
  cc_cV (As := [.int a0, .int a1]) C hP hS (w_L_freeBy hO h) (cwV 2 C.2.2.2.2.1 (lw_V hl q1137 qs25 q85 q1138) rfl rfl rfl (by decide +kernel) (mr_ C.2.2.2.2.2.1 hd (by decide))) (cc_recv C hP (hO.2.2.2 60 (by decide)) rfl (q := (RX0, TX0, 13)) rfl) rfl hsz rfl hW hdg hcs kk
abbrev cX0_rated : ByteArray := prog_1_method_46_code
def yX0_rated : MethodName := ⟨RX0, "rated", "(III)I"⟩
theorem dX0_rated_0 : decode cX0_rated 0 = .ok (.aload_n 0, 1) := by decide +kernel
theorem dX0_rated_1 : decode cX0_rated 1 = .ok (.aload_n 0, 1) := by decide +kernel
theorem dX0_rated_2 : decode cX0_rated 2 = .ok (.iload_n 1, 1) := by decide +kernel
theorem dX0_rated_3 : decode cX0_rated 3 = .ok (.invokevirtual 160, 3) := by decide +kernel
theorem dX0_rated_6 : decode cX0_rated 6 = .ok (.ifCond .eq 25, 3) := by decide +kernel
theorem dX0_rated_9 : decode cX0_rated 9 = .ok (.iload_n 2, 1) := by decide +kernel
theorem dX0_rated_10 : decode cX0_rated 10 = .ok (.iconst 1, 1) := by decide +kernel
theorem dX0_rated_11 : decode cX0_rated 11 = .ok (.iconst 4, 1) := by decide +kernel
theorem dX0_rated_12 : decode cX0_rated 12 = .ok (.invokestatic 91, 3) := by decide +kernel
theorem dX0_rated_15 : decode cX0_rated 15 = .ok (.ifCond .eq 16, 3) := by decide +kernel
theorem dX0_rated_18 : decode cX0_rated 18 = .ok (.iload_n 3, 1) := by decide +kernel
theorem dX0_rated_19 : decode cX0_rated 19 = .ok (.iconst 0, 1) := by decide +kernel
theorem dX0_rated_20 : decode cX0_rated 20 = .ok (.iconst 1, 1) := by decide +kernel
theorem dX0_rated_21 : decode cX0_rated 21 = .ok (.invokestatic 91, 3) := by decide +kernel
theorem dX0_rated_24 : decode cX0_rated 24 = .ok (.ifCond .eq 7, 3) := by decide +kernel
theorem dX0_rated_27 : decode cX0_rated 27 = .ok (.iconst 1, 1) := by decide +kernel
theorem dX0_rated_28 : decode cX0_rated 28 = .ok (.goto 4, 3) := by decide +kernel
theorem dX0_rated_31 : decode cX0_rated 31 = .ok (.iconst 0, 1) := by decide +kernel
theorem dX0_rated_32 : decode cX0_rated 32 = .ok (.iconst 1, 1) := by decide +kernel
theorem dX0_rated_33 : decode cX0_rated 33 = .ok (.invokevirtual 102, 3) := by decide +kernel
theorem dX0_rated_36 : decode cX0_rated 36 = .ok (.aload_n 0, 1) := by decide +kernel
theorem dX0_rated_37 : decode cX0_rated 37 = .ok (.iload_n 1, 1) := by decide +kernel
theorem dX0_rated_38 : decode cX0_rated 38 = .ok (.iload_n 2, 1) := by decide +kernel
theorem dX0_rated_39 : decode cX0_rated 39 = .ok (.invokevirtual 304, 3) := by decide +kernel
theorem dX0_rated_42 : decode cX0_rated 42 = .ok (.istore 4, 2) := by decide +kernel
theorem dX0_rated_44 : decode cX0_rated 44 = .ok (.iload_n 2, 1) := by decide +kernel
theorem dX0_rated_45 : decode cX0_rated 45 = .ok (.istore 5, 2) := by decide +kernel
theorem dX0_rated_47 : decode cX0_rated 47 = .ok (.iconst 4, 1) := by decide +kernel
theorem dX0_rated_48 : decode cX0_rated 48 = .ok (.istore 6, 2) := by decide +kernel
theorem dX0_rated_50 : decode cX0_rated 50 = .ok (.iload 6, 2) := by decide +kernel
theorem dX0_rated_52 : decode cX0_rated 52 = .ok (.ifCond .le 77, 3) := by decide +kernel
theorem dX0_rated_55 : decode cX0_rated 55 = .ok (.iload_n 3, 1) := by decide +kernel
theorem dX0_rated_56 : decode cX0_rated 56 = .ok (.iconst 1, 1) := by decide +kernel
theorem dX0_rated_57 : decode cX0_rated 57 = .ok (.if_icmp .ne 72, 3) := by decide +kernel
theorem dX0_rated_60 : decode cX0_rated 60 = .ok (.aload_n 0, 1) := by decide +kernel
theorem dX0_rated_61 : decode cX0_rated 61 = .ok (.iload_n 1, 1) := by decide +kernel
theorem dX0_rated_62 : decode cX0_rated 62 = .ok (.iload 6, 2) := by decide +kernel
theorem dX0_rated_64 : decode cX0_rated 64 = .ok (.invokevirtual 304, 3) := by decide +kernel
theorem dX0_rated_67 : decode cX0_rated 67 = .ok (.istore 7, 2) := by decide +kernel
theorem dX0_rated_69 : decode cX0_rated 69 = .ok (.iload 7, 2) := by decide +kernel
theorem dX0_rated_71 : decode cX0_rated 71 = .ok (.iconst (-1), 1) := by decide +kernel
theorem dX0_rated_72 : decode cX0_rated 72 = .ok (.if_icmp .eq 20, 3) := by decide +kernel
theorem dX0_rated_75 : decode cX0_rated 75 = .ok (.iload 4, 2) := by decide +kernel
theorem dX0_rated_77 : decode cX0_rated 77 = .ok (.iconst (-1), 1) := by decide +kernel
theorem dX0_rated_78 : decode cX0_rated 78 = .ok (.if_icmp .eq 10, 3) := by decide +kernel
theorem dX0_rated_81 : decode cX0_rated 81 = .ok (.iload 7, 2) := by decide +kernel
theorem dX0_rated_83 : decode cX0_rated 83 = .ok (.iload 4, 2) := by decide +kernel
theorem dX0_rated_85 : decode cX0_rated 85 = .ok (.if_icmp .gt 7, 3) := by decide +kernel
theorem dX0_rated_88 : decode cX0_rated 88 = .ok (.iconst 1, 1) := by decide +kernel
theorem dX0_rated_89 : decode cX0_rated 89 = .ok (.goto 4, 3) := by decide +kernel
theorem dX0_rated_92 : decode cX0_rated 92 = .ok (.iconst 0, 1) := by decide +kernel
theorem dX0_rated_93 : decode cX0_rated 93 = .ok (.istore 8, 2) := by decide +kernel
theorem dX0_rated_95 : decode cX0_rated 95 = .ok (.iload 8, 2) := by decide +kernel
theorem dX0_rated_97 : decode cX0_rated 97 = .ok (.ifCond .eq 8, 3) := by decide +kernel
theorem dX0_rated_100 : decode cX0_rated 100 = .ok (.iload 6, 2) := by decide +kernel
theorem dX0_rated_102 : decode cX0_rated 102 = .ok (.goto 5, 3) := by decide +kernel
theorem dX0_rated_105 : decode cX0_rated 105 = .ok (.iload 5, 2) := by decide +kernel
theorem dX0_rated_107 : decode cX0_rated 107 = .ok (.istore 5, 2) := by decide +kernel
theorem dX0_rated_109 : decode cX0_rated 109 = .ok (.iload 8, 2) := by decide +kernel
theorem dX0_rated_111 : decode cX0_rated 111 = .ok (.ifCond .eq 8, 3) := by decide +kernel
theorem dX0_rated_114 : decode cX0_rated 114 = .ok (.iload 7, 2) := by decide +kernel
theorem dX0_rated_116 : decode cX0_rated 116 = .ok (.goto 5, 3) := by decide +kernel
theorem dX0_rated_119 : decode cX0_rated 119 = .ok (.iload 4, 2) := by decide +kernel
theorem dX0_rated_121 : decode cX0_rated 121 = .ok (.istore 4, 2) := by decide +kernel
theorem dX0_rated_123 : decode cX0_rated 123 = .ok (.iinc 6 (-1), 3) := by decide +kernel
theorem dX0_rated_126 : decode cX0_rated 126 = .ok (.goto (-76), 3) := by decide +kernel
theorem dX0_rated_129 : decode cX0_rated 129 = .ok (.aload_n 0, 1) := by decide +kernel
theorem dX0_rated_130 : decode cX0_rated 130 = .ok (.iload 4, 2) := by decide +kernel
theorem dX0_rated_132 : decode cX0_rated 132 = .ok (.iconst (-1), 1) := by decide +kernel
theorem dX0_rated_133 : decode cX0_rated 133 = .ok (.if_icmp .eq 7, 3) := by decide +kernel
theorem dX0_rated_136 : decode cX0_rated 136 = .ok (.iconst 1, 1) := by decide +kernel
theorem dX0_rated_137 : decode cX0_rated 137 = .ok (.goto 4, 3) := by decide +kernel
theorem dX0_rated_140 : decode cX0_rated 140 = .ok (.iconst 0, 1) := by decide +kernel
theorem dX0_rated_141 : decode cX0_rated 141 = .ok (.iconst 2, 1) := by decide +kernel
theorem dX0_rated_142 : decode cX0_rated 142 = .ok (.invokevirtual 102, 3) := by decide +kernel
theorem dX0_rated_145 : decode cX0_rated 145 = .ok (.iload_n 3, 1) := by decide +kernel
theorem dX0_rated_146 : decode cX0_rated 146 = .ok (.ifCond .ne 8, 3) := by decide +kernel
theorem dX0_rated_149 : decode cX0_rated 149 = .ok (.iload 4, 2) := by decide +kernel
theorem dX0_rated_151 : decode cX0_rated 151 = .ok (.goto 5, 3) := by decide +kernel
theorem dX0_rated_154 : decode cX0_rated 154 = .ok (.iload 5, 2) := by decide +kernel
theorem dX0_rated_156 : decode cX0_rated 156 = .ok (.ireturn, 1) := by decide +kernel
theorem dX0_rated_157 : decode cX0_rated 157 = .ok (.astore 4, 2) := by decide +kernel
theorem dX0_rated_159 : decode cX0_rated 159 = .ok (.aload_n 0, 1) := by decide +kernel
theorem dX0_rated_160 : decode cX0_rated 160 = .ok (.aload 4, 2) := by decide +kernel
theorem dX0_rated_162 : decode cX0_rated 162 = .ok (.invokevirtual 123, 3) := by decide +kernel
theorem dX0_rated_165 : decode cX0_rated 165 = .ok (.ireturn, 1) := by decide +kernel
theorem q1135 : (Jvm.Cond.methodLink "ChapterLoan" (304 : Nat) ({ cls := "ChapterLoan", name := "freeBy", desc := "(II)I" } : Jvm.MethodName)) ∈ lw_all := lw_g (lw_at lw_m5 91 rfl) rfl
theorem w_L_rated {l : Launch} {D : va_G} {cA : Nat → ClassId} {ks : List Nat} {ad : Nat → Nat} {A : Nat → Prop} (hO : klOk A ks ad) {st st' : CS} {N : Nat} {x1 : Int32} {x2 : Int32} {x3 : Int32} {r0 : Int32} (h : L_rated N st x1 x2 x3 = some (r0, st')) : Met l yX0_rated (wsW_ yX0_rated cX0_rated 9 (some .int) [(0, 156, 157, 8)]) (k2_rm 67 (40 * 67)) (cPre D cA ks ad A st [.ref (ad 60), .int x1, .int x2, .int x3]) (cQ (some (.int r0)) D cA ks ad A st') 0 0 A := by
  refine cc_ofH (own := RX0) (by decide) rfl (Nat.le_of_ble_eq_true rfl) (fun p e s m below meth c R args ls C hr hlk htab hP hS hl hcs => ?_)
  have hx := C.1
  have hb := C.2.1
  have hown := C.2.2.2.1
  have hNst := C.2.2.2.2.2.2.2.1
  have hl : lv_has ls 9 [(0, .ref (ad 60)), (1, .int x1), (2, .int x2), (3, .int x3)] := hl
  have L50 : ∀ (x1 : Int32), ∀ (x3 : Int32), ∀ (n : Nat) (st : CS) (x4 : Int32) (x5 : Int32) (x6 : Int32) (st2 : CS) (z4 : Int32) (z5 : Int32), L_rated_L50 N x1 x3 n st x4 x5 x6 = some (st2, z4, z5) → ∀ (H : Heap) (locs : List Loc), cW D cA ks ad st H → va_S A s.heap H locs → ∀ ls : Array Slot, lv_has ls 9 [(0, .ref (ad 60)), (1, .int x1), (3, .int x3), (4, .int x4), (5, .int x5), (6, .int x6)] → (∀ (H : Heap) (locs : List Loc), cW D cA ks ad st2 H → va_S A s.heap H locs → ∀ ls : Array Slot, lv_has ls 9 [(0, .ref (ad 60)), (3, .int x3), (4, .int z4), (5, .int z5)] → cWV p l e R s m args below meth c D cA ks ad A (some (.int r0)) st' H locs (F0 m 129 ls [])) → cWV p l e R s m args below meth c D cA ks ad A (some (.int r0)) st' H locs (F0 m 50 ls []) := by
    intro x1 x3 n
    induction n with
    | zero =>
      intro st x4 x5 x6 st2 z4 z5 h
      exact non_some h
    | succ n ih =>
      intro st x4 x5 x6 st2 z4 z5 h H locs hP hS ls hl kx
      rw [L_rated_L50] at h
      refine lv_iload hx hb dX0_rated_50 (lv_at hl 5 rfl) ?_
      refine lv_if_le (tgt := 129) hx hb dX0_rated_52 rfl (fun c10 => ?_) (fun c10 => ?_)
      · have h := if_some_t h c10
        cases h
        exact kx _ _ hP hS ls (lv_sub hl [0, 2, 3, 4] rfl)
      · have h := if_some_f h c10
        refine lv_iload_n hx hb dX0_rated_55 rfl (lv_at hl 2 rfl) ?_
        refine lv_iconst (v := 1) hx hb dX0_rated_56 (by decide) ?_
        refine lv_icmp_ne (tgt := 129) hx hb dX0_rated_57 rfl (fun c11 => ?_) (fun c11 => ?_)
        · have h := if_some_f h c11
          cases h
          exact kx _ _ hP hS ls (lv_sub hl [0, 2, 3, 4] rfl)
        · have h := if_some_t h c11
          refine lv_aload_n hx hb dX0_rated_60 rfl (lv_at hl 0 rfl) ?_
          refine lv_iload_n hx hb dX0_rated_61 rfl (lv_at hl 1 rfl) ?_
          refine lv_iload hx hb dX0_rated_62 (lv_at hl 5 rfl) ?_
          obtain ⟨v12, st13, hv12, h⟩ := bd2_some h
          refine k_L_freeBy C hO hP hS hv12 q1135 (Nat.le_of_ble_eq_true rfl) hl.1 (Nat.le_of_ble_eq_true rfl) hcs dX0_rated_64 (fun H locs hP hS => ?_)
          refine lv_istore (lv' := [(7, .int v12), (0, .ref (ad 60)), (1, .int x1), (3, .int x3), (4, .int x4), (5, .int x5), (6, .int x6)]) hx hb dX0_rated_67 hl (by decide) rfl (fun ls hl => ?_)
          refine lv_iload hx hb dX0_rated_69 (lv_at hl 0 rfl) ?_
          refine lv_iconst (v := (-1)) hx hb dX0_rated_71 (by decide) ?_
          refine lv_icmp_eq (tgt := 92) hx hb dX0_rated_72 rfl (fun c14 => ?_) (fun c14 => ?_)
          · have h := if_some_t h c14
            refine lv_iconst (v := 0) hx hb dX0_rated_92 (by decide) ?_
            refine lv_istore (lv' := [(8, .int 0), (7, .int v12), (0, .ref (ad 60)), (1, .int x1), (3, .int x3), (4, .int x4), (5, .int x5), (6, .int x6)]) hx hb dX0_rated_93 hl (by decide) rfl (fun ls hl => ?_)
            refine lv_iload hx hb dX0_rated_95 (lv_at hl 0 rfl) ?_
            refine lv_if_eq (tgt := 105) hx hb dX0_rated_97 rfl (fun _ => ?_) (fun c => absurd c (by decide))
            refine lv_iload hx hb dX0_rated_105 (lv_at hl 6 rfl) ?_
            refine lv_istore (lv' := [(5, .int x5), (8, .int 0), (7, .int v12), (0, .ref (ad 60)), (1, .int x1), (3, .int x3), (4, .int x4), (6, .int x6)]) hx hb dX0_rated_107 hl (by decide) rfl (fun ls hl => ?_)
            refine lv_iload hx hb dX0_rated_109 (lv_at hl 1 rfl) ?_
            refine lv_if_eq (tgt := 119) hx hb dX0_rated_111 rfl (fun _ => ?_) (fun c => absurd c (by decide))
            refine lv_iload hx hb dX0_rated_119 (lv_at hl 6 rfl) ?_
            refine lv_istore (lv' := [(4, .int x4), (5, .int x5), (8, .int 0), (7, .int v12), (0, .ref (ad 60)), (1, .int x1), (3, .int x3), (6, .int x6)]) hx hb dX0_rated_121 hl (by decide) rfl (fun ls hl => ?_)
            refine lv_iinc (v := x6 + (-1)) (lv' := [(6, .int (x6 + (-1))), (4, .int x4), (5, .int x5), (8, .int 0), (7, .int v12), (0, .ref (ad 60)), (1, .int x1), (3, .int x3)]) hx hb dX0_rated_123 hl (k := 7) rfl rfl (by decide) rfl (fun ls hl => ?_)
            refine lv_goto (tgt := 50) hx hb dX0_rated_126 rfl ?_
            exact ih st13 x4 x5 (x6 + (-1)) _ _ _ h _ _ hP hS ls (lv_sub hl [5, 6, 7, 1, 2, 0] rfl) kx
          · have h := if_some_f h c14
            refine lv_iload hx hb dX0_rated_75 (lv_at hl 4 rfl) ?_
            refine lv_iconst (v := (-1)) hx hb dX0_rated_77 (by decide) ?_
            refine lv_icmp_eq (tgt := 88) hx hb dX0_rated_78 rfl (fun c15 => ?_) (fun c15 => ?_)
            · have h := if_some_t h c15
              refine lv_iconst (v := 1) hx hb dX0_rated_88 (by decide) ?_
              refine lv_goto (tgt := 93) hx hb dX0_rated_89 rfl ?_
              refine lv_istore (lv' := [(8, .int 1), (7, .int v12), (0, .ref (ad 60)), (1, .int x1), (3, .int x3), (4, .int x4), (5, .int x5), (6, .int x6)]) hx hb dX0_rated_93 hl (by decide) rfl (fun ls hl => ?_)
              refine lv_iload hx hb dX0_rated_95 (lv_at hl 0 rfl) ?_
              refine lv_if_eq (tgt := 105) hx hb dX0_rated_97 rfl (fun c => absurd c (by decide)) (fun _ => ?_)
              refine lv_iload hx hb dX0_rated_100 (lv_at hl 7 rfl) ?_
              refine lv_goto (tgt := 107) hx hb dX0_rated_102 rfl ?_
              refine lv_istore (lv' := [(5, .int x6), (8, .int 1), (7, .int v12), (0, .ref (ad 60)), (1, .int x1), (3, .int x3), (4, .int x4), (6, .int x6)]) hx hb dX0_rated_107 hl (by decide) rfl (fun ls hl => ?_)
              refine lv_iload hx hb dX0_rated_109 (lv_at hl 1 rfl) ?_
              refine lv_if_eq (tgt := 119) hx hb dX0_rated_111 rfl (fun c => absurd c (by decide)) (fun _ => ?_)
              refine lv_iload hx hb dX0_rated_114 (lv_at hl 2 rfl) ?_
              refine lv_goto (tgt := 121) hx hb dX0_rated_116 rfl ?_
              refine lv_istore (lv' := [(4, .int v12), (5, .int x6), (8, .int 1), (7, .int v12), (0, .ref (ad 60)), (1, .int x1), (3, .int x3), (6, .int x6)]) hx hb dX0_rated_121 hl (by decide) rfl (fun ls hl => ?_)
              refine lv_iinc (v := x6 + (-1)) (lv' := [(6, .int (x6 + (-1))), (4, .int v12), (5, .int x6), (8, .int 1), (7, .int v12), (0, .ref (ad 60)), (1, .int x1), (3, .int x3)]) hx hb dX0_rated_123 hl (k := 7) rfl rfl (by decide) rfl (fun ls hl => ?_)
              refine lv_goto (tgt := 50) hx hb dX0_rated_126 rfl ?_
              exact ih st13 v12 x6 (x6 + (-1)) _ _ _ h _ _ hP hS ls (lv_sub hl [5, 6, 7, 1, 2, 0] rfl) kx
            · have h := if_some_f h c15
              refine lv_iload hx hb dX0_rated_81 (lv_at hl 0 rfl) ?_
              refine lv_iload hx hb dX0_rated_83 (lv_at hl 4 rfl) ?_
              refine lv_icmp_gt (tgt := 92) hx hb dX0_rated_85 rfl (fun c16 => ?_) (fun c16 => ?_)
              · have h := if_some_t h c16
                refine lv_iconst (v := 0) hx hb dX0_rated_92 (by decide) ?_
                refine lv_istore (lv' := [(8, .int 0), (7, .int v12), (0, .ref (ad 60)), (1, .int x1), (3, .int x3), (4, .int x4), (5, .int x5), (6, .int x6)]) hx hb dX0_rated_93 hl (by decide) rfl (fun ls hl => ?_)
                refine lv_iload hx hb dX0_rated_95 (lv_at hl 0 rfl) ?_
                refine lv_if_eq (tgt := 105) hx hb dX0_rated_97 rfl (fun _ => ?_) (fun c => absurd c (by decide))
                refine lv_iload hx hb dX0_rated_105 (lv_at hl 6 rfl) ?_
                refine lv_istore (lv' := [(5, .int x5), (8, .int 0), (7, .int v12), (0, .ref (ad 60)), (1, .int x1), (3, .int x3), (4, .int x4), (6, .int x6)]) hx hb dX0_rated_107 hl (by decide) rfl (fun ls hl => ?_)
                refine lv_iload hx hb dX0_rated_109 (lv_at hl 1 rfl) ?_
                refine lv_if_eq (tgt := 119) hx hb dX0_rated_111 rfl (fun _ => ?_) (fun c => absurd c (by decide))
                refine lv_iload hx hb dX0_rated_119 (lv_at hl 6 rfl) ?_
                refine lv_istore (lv' := [(4, .int x4), (5, .int x5), (8, .int 0), (7, .int v12), (0, .ref (ad 60)), (1, .int x1), (3, .int x3), (6, .int x6)]) hx hb dX0_rated_121 hl (by decide) rfl (fun ls hl => ?_)
                refine lv_iinc (v := x6 + (-1)) (lv' := [(6, .int (x6 + (-1))), (4, .int x4), (5, .int x5), (8, .int 0), (7, .int v12), (0, .ref (ad 60)), (1, .int x1), (3, .int x3)]) hx hb dX0_rated_123 hl (k := 7) rfl rfl (by decide) rfl (fun ls hl => ?_)
                refine lv_goto (tgt := 50) hx hb dX0_rated_126 rfl ?_
                exact ih st13 x4 x5 (x6 + (-1)) _ _ _ h _ _ hP hS ls (lv_sub hl [5, 6, 7, 1, 2, 0] rfl) kx
              · have h := if_some_f h c16
                refine lv_iconst (v := 1) hx hb dX0_rated_88 (by decide) ?_
                refine lv_goto (tgt := 93) hx hb dX0_rated_89 rfl ?_
                refine lv_istore (lv' := [(8, .int 1), (7, .int v12), (0, .ref (ad 60)), (1, .int x1), (3, .int x3), (4, .int x4), (5, .int x5), (6, .int x6)]) hx hb dX0_rated_93 hl (by decide) rfl (fun ls hl => ?_)
                refine lv_iload hx hb dX0_rated_95 (lv_at hl 0 rfl) ?_
                refine lv_if_eq (tgt := 105) hx hb dX0_rated_97 rfl (fun c => absurd c (by decide)) (fun _ => ?_)
                refine lv_iload hx hb dX0_rated_100 (lv_at hl 7 rfl) ?_
                refine lv_goto (tgt := 107) hx hb dX0_rated_102 rfl ?_
                refine lv_istore (lv' := [(5, .int x6), (8, .int 1), (7, .int v12), (0, .ref (ad 60)), (1, .int x1), (3, .int x3), (4, .int x4), (6, .int x6)]) hx hb dX0_rated_107 hl (by decide) rfl (fun ls hl => ?_)
                refine lv_iload hx hb dX0_rated_109 (lv_at hl 1 rfl) ?_
                refine lv_if_eq (tgt := 119) hx hb dX0_rated_111 rfl (fun c => absurd c (by decide)) (fun _ => ?_)
                refine lv_iload hx hb dX0_rated_114 (lv_at hl 2 rfl) ?_
                refine lv_goto (tgt := 121) hx hb dX0_rated_116 rfl ?_
                refine lv_istore (lv' := [(4, .int v12), (5, .int x6), (8, .int 1), (7, .int v12), (0, .ref (ad 60)), (1, .int x1), (3, .int x3), (6, .int x6)]) hx hb dX0_rated_121 hl (by decide) rfl (fun ls hl => ?_)
                refine lv_iinc (v := x6 + (-1)) (lv' := [(6, .int (x6 + (-1))), (4, .int v12), (5, .int x6), (8, .int 1), (7, .int v12), (0, .ref (ad 60)), (1, .int x1), (3, .int x3)]) hx hb dX0_rated_123 hl (k := 7) rfl rfl (by decide) rfl (fun ls hl => ?_)
                refine lv_goto (tgt := 50) hx hb dX0_rated_126 rfl ?_
                exact ih st13 v12 x6 (x6 + (-1)) _ _ _ h _ _ hP hS ls (lv_sub hl [5, 6, 7, 1, 2, 0] rfl) kx
  rw [L_rated] at h
  refine lv_aload_n hx hb dX0_rated_0 rfl (lv_at hl 0 rfl) ?_
  refine lv_aload_n hx hb dX0_rated_1 rfl (lv_at hl 0 rfl) ?_
  refine lv_iload_n hx hb dX0_rated_2 rfl (lv_at hl 1 rfl) ?_
  obtain ⟨v1, hv1, h⟩ := bd1_some h
  refine k_L_isDebtor C hO hP hv1 q559 (Nat.le_of_ble_eq_true rfl) hS.1 hl.1 (Nat.le_of_ble_eq_true rfl) hcs dX0_rated_3 ?_
  refine lv_if_eq (tgt := 31) hx hb dX0_rated_6 rfl (fun c2 => ?_) (fun c2 => ?_)
  · have h := if_some_t h c2
    refine lv_iconst (v := 0) hx hb dX0_rated_31 (by decide) ?_
    refine lv_iconst (v := 1) hx hb dX0_rated_32 (by decide) ?_
    obtain ⟨o5, st4, hv3, h⟩ := bd2_some h
    rcases o5 with _ | v3
    · rw [onx_none] at h
      refine k_L_needT C hO hP hS hv3 q402 (Nat.le_of_ble_eq_true rfl) hl.1 (Nat.le_of_ble_eq_true rfl) hcs dX0_rated_33 (fun H locs hP hS => ?_)
      refine cc_catch (pre := []) (a1 := 0) (a2 := 156) (hp := 157) (post := []) C hO hP q129 htab rfl rfl ?_
      refine lv_astore (lv' := [(4, .ref (ad 61)), (0, .ref (ad 60)), (1, .int x1), (2, .int x2), (3, .int x3)]) hx hb dX0_rated_157 hl (by decide) rfl (fun ls hl => ?_)
      refine lv_aload_n hx hb dX0_rated_159 rfl (lv_at hl 1 rfl) ?_
      refine lv_aload hx hb dX0_rated_160 (lv_at hl 0 rfl) ?_
      obtain ⟨v6, st7, hv6, h⟩ := bd2_some h
      refine k_L_finds C hO hP hS hv6 q410 (Nat.le_of_ble_eq_true rfl) hl.1 (Nat.le_of_ble_eq_true rfl) hcs dX0_rated_162 (fun H locs hP hS => ?_)
      exact cc_viret hx hb hr hlk h hP hS dX0_rated_165
    · rw [onx_some] at h
      refine k_L_needR C hO hP hS hv3 q402 (Nat.le_of_ble_eq_true rfl) hl.1 (Nat.le_of_ble_eq_true rfl) hcs dX0_rated_33 (fun H locs hP hS => ?_)
      refine lv_aload_n hx hb dX0_rated_36 rfl (lv_at hl 0 rfl) ?_
      refine lv_iload_n hx hb dX0_rated_37 rfl (lv_at hl 1 rfl) ?_
      refine lv_iload_n hx hb dX0_rated_38 rfl (lv_at hl 2 rfl) ?_
      obtain ⟨v8, st9, hv8, h⟩ := bd2_some h
      refine k_L_freeBy C hO hP hS hv8 q1135 (Nat.le_of_ble_eq_true rfl) hl.1 (Nat.le_of_ble_eq_true rfl) hcs dX0_rated_39 (fun H locs hP hS => ?_)
      refine lv_istore (lv' := [(4, .int v8), (0, .ref (ad 60)), (1, .int x1), (2, .int x2), (3, .int x3)]) hx hb dX0_rated_42 hl (by decide) rfl (fun ls hl => ?_)
      refine lv_iload_n hx hb dX0_rated_44 rfl (lv_at hl 3 rfl) ?_
      refine lv_istore (lv' := [(5, .int x2), (4, .int v8), (0, .ref (ad 60)), (1, .int x1), (2, .int x2), (3, .int x3)]) hx hb dX0_rated_45 hl (by decide) rfl (fun ls hl => ?_)
      refine lv_iconst (v := 4) hx hb dX0_rated_47 (by decide) ?_
      refine lv_istore (lv' := [(6, .int 4), (5, .int x2), (4, .int v8), (0, .ref (ad 60)), (1, .int x1), (2, .int x2), (3, .int x3)]) hx hb dX0_rated_48 hl (by decide) rfl (fun ls hl => ?_)
      obtain ⟨st17, z18, z19, hz33, h⟩ := bd3_some h
      refine L50 x1 x3 N _ v8 x2 4 _ _ _ hz33 _ _ hP hS ls (lv_sub hl [3, 4, 6, 2, 1, 0] rfl) (fun H locs hP hS ls hl => ?_)
      refine lv_aload_n hx hb dX0_rated_129 rfl (lv_at hl 0 rfl) ?_
      refine lv_iload hx hb dX0_rated_130 (lv_at hl 2 rfl) ?_
      refine lv_iconst (v := (-1)) hx hb dX0_rated_132 (by decide) ?_
      refine lv_icmp_eq (tgt := 140) hx hb dX0_rated_133 rfl (fun c20 => ?_) (fun c20 => ?_)
      · have h := if_some_t h c20
        refine lv_iconst (v := 0) hx hb dX0_rated_140 (by decide) ?_
        refine lv_iconst (v := 2) hx hb dX0_rated_141 (by decide) ?_
        obtain ⟨o23, st22, hv21, h⟩ := bd2_some h
        rcases o23 with _ | v21
        · rw [onx_none] at h
          refine k_L_needT C hO hP hS hv21 q402 (Nat.le_of_ble_eq_true rfl) hl.1 (Nat.le_of_ble_eq_true rfl) hcs dX0_rated_142 (fun H locs hP hS => ?_)
          refine cc_catch (pre := []) (a1 := 0) (a2 := 156) (hp := 157) (post := []) C hO hP q129 htab rfl rfl ?_
          refine lv_astore (lv' := [(4, .ref (ad 61)), (0, .ref (ad 60)), (3, .int x3), (5, .int z19)]) hx hb dX0_rated_157 hl (by decide) rfl (fun ls hl => ?_)
          refine lv_aload_n hx hb dX0_rated_159 rfl (lv_at hl 1 rfl) ?_
          refine lv_aload hx hb dX0_rated_160 (lv_at hl 0 rfl) ?_
          obtain ⟨v24, st25, hv24, h⟩ := bd2_some h
          refine k_L_finds C hO hP hS hv24 q410 (Nat.le_of_ble_eq_true rfl) hl.1 (Nat.le_of_ble_eq_true rfl) hcs dX0_rated_162 (fun H locs hP hS => ?_)
          exact cc_viret hx hb hr hlk h hP hS dX0_rated_165
        · rw [onx_some] at h
          refine k_L_needR C hO hP hS hv21 q402 (Nat.le_of_ble_eq_true rfl) hl.1 (Nat.le_of_ble_eq_true rfl) hcs dX0_rated_142 (fun H locs hP hS => ?_)
          refine lv_iload_n hx hb dX0_rated_145 rfl (lv_at hl 1 rfl) ?_
          refine lv_if_ne (tgt := 154) hx hb dX0_rated_146 rfl (fun c26 => ?_) (fun c26 => ?_)
          · have h := if_some_f h c26
            refine lv_iload hx hb dX0_rated_154 (lv_at hl 3 rfl) ?_
            exact cc_viret hx hb hr hlk h hP hS dX0_rated_156
          · have h := if_some_t h c26
            refine lv_iload hx hb dX0_rated_149 (lv_at hl 2 rfl) ?_
            refine lv_goto (tgt := 156) hx hb dX0_rated_151 rfl ?_
            exact cc_viret hx hb hr hlk h hP hS dX0_rated_156
      · have h := if_some_f h c20
        refine lv_iconst (v := 1) hx hb dX0_rated_136 (by decide) ?_
        refine lv_goto (tgt := 141) hx hb dX0_rated_137 rfl ?_
        refine lv_iconst (v := 2) hx hb dX0_rated_141 (by decide) ?_
        obtain ⟨o29, st28, hv27, h⟩ := bd2_some h
        rcases o29 with _ | v27
        · rw [onx_none] at h
          refine k_L_needT C hO hP hS hv27 q402 (Nat.le_of_ble_eq_true rfl) hl.1 (Nat.le_of_ble_eq_true rfl) hcs dX0_rated_142 (fun H locs hP hS => ?_)
          refine cc_catch (pre := []) (a1 := 0) (a2 := 156) (hp := 157) (post := []) C hO hP q129 htab rfl rfl ?_
          refine lv_astore (lv' := [(4, .ref (ad 61)), (0, .ref (ad 60)), (3, .int x3), (5, .int z19)]) hx hb dX0_rated_157 hl (by decide) rfl (fun ls hl => ?_)
          refine lv_aload_n hx hb dX0_rated_159 rfl (lv_at hl 1 rfl) ?_
          refine lv_aload hx hb dX0_rated_160 (lv_at hl 0 rfl) ?_
          obtain ⟨v30, st31, hv30, h⟩ := bd2_some h
          refine k_L_finds C hO hP hS hv30 q410 (Nat.le_of_ble_eq_true rfl) hl.1 (Nat.le_of_ble_eq_true rfl) hcs dX0_rated_162 (fun H locs hP hS => ?_)
          exact cc_viret hx hb hr hlk h hP hS dX0_rated_165
        · rw [onx_some] at h
          refine k_L_needR C hO hP hS hv27 q402 (Nat.le_of_ble_eq_true rfl) hl.1 (Nat.le_of_ble_eq_true rfl) hcs dX0_rated_142 (fun H locs hP hS => ?_)
          refine lv_iload_n hx hb dX0_rated_145 rfl (lv_at hl 1 rfl) ?_
          refine lv_if_ne (tgt := 154) hx hb dX0_rated_146 rfl (fun c32 => ?_) (fun c32 => ?_)
          · have h := if_some_f h c32
            refine lv_iload hx hb dX0_rated_154 (lv_at hl 3 rfl) ?_
            exact cc_viret hx hb hr hlk h hP hS dX0_rated_156
          · have h := if_some_t h c32
            refine lv_iload hx hb dX0_rated_149 (lv_at hl 2 rfl) ?_
            refine lv_goto (tgt := 156) hx hb dX0_rated_151 rfl ?_
            exact cc_viret hx hb hr hlk h hP hS dX0_rated_156
  · have h := if_some_f h c2
    refine lv_iload_n hx hb dX0_rated_9 rfl (lv_at hl 2 rfl) ?_
    refine lv_iconst (v := 1) hx hb dX0_rated_10 (by decide) ?_
    refine lv_iconst (v := 4) hx hb dX0_rated_11 (by decide) ?_
    obtain ⟨v34, hv34, h⟩ := bd1_some h
    refine k_L_in hx hb C.2.2.1 hown C.2.2.2.2.1 C.2.2.2.2.2.1 q399 hv34 (Nat.le_of_ble_eq_true rfl) hl.1 (Nat.le_of_ble_eq_true rfl) hcs dX0_rated_12 ?_
    refine lv_if_eq (tgt := 31) hx hb dX0_rated_15 rfl (fun c35 => ?_) (fun c35 => ?_)
    · have h := if_some_t h c35
      refine lv_iconst (v := 0) hx hb dX0_rated_31 (by decide) ?_
      refine lv_iconst (v := 1) hx hb dX0_rated_32 (by decide) ?_
      obtain ⟨o38, st37, hv36, h⟩ := bd2_some h
      rcases o38 with _ | v36
      · rw [onx_none] at h
        refine k_L_needT C hO hP hS hv36 q402 (Nat.le_of_ble_eq_true rfl) hl.1 (Nat.le_of_ble_eq_true rfl) hcs dX0_rated_33 (fun H locs hP hS => ?_)
        refine cc_catch (pre := []) (a1 := 0) (a2 := 156) (hp := 157) (post := []) C hO hP q129 htab rfl rfl ?_
        refine lv_astore (lv' := [(4, .ref (ad 61)), (0, .ref (ad 60)), (1, .int x1), (2, .int x2), (3, .int x3)]) hx hb dX0_rated_157 hl (by decide) rfl (fun ls hl => ?_)
        refine lv_aload_n hx hb dX0_rated_159 rfl (lv_at hl 1 rfl) ?_
        refine lv_aload hx hb dX0_rated_160 (lv_at hl 0 rfl) ?_
        obtain ⟨v39, st40, hv39, h⟩ := bd2_some h
        refine k_L_finds C hO hP hS hv39 q410 (Nat.le_of_ble_eq_true rfl) hl.1 (Nat.le_of_ble_eq_true rfl) hcs dX0_rated_162 (fun H locs hP hS => ?_)
        exact cc_viret hx hb hr hlk h hP hS dX0_rated_165
      · rw [onx_some] at h
        refine k_L_needR C hO hP hS hv36 q402 (Nat.le_of_ble_eq_true rfl) hl.1 (Nat.le_of_ble_eq_true rfl) hcs dX0_rated_33 (fun H locs hP hS => ?_)
        refine lv_aload_n hx hb dX0_rated_36 rfl (lv_at hl 0 rfl) ?_
        refine lv_iload_n hx hb dX0_rated_37 rfl (lv_at hl 1 rfl) ?_
        refine lv_iload_n hx hb dX0_rated_38 rfl (lv_at hl 2 rfl) ?_
        obtain ⟨v41, st42, hv41, h⟩ := bd2_some h
        refine k_L_freeBy C hO hP hS hv41 q1135 (Nat.le_of_ble_eq_true rfl) hl.1 (Nat.le_of_ble_eq_true rfl) hcs dX0_rated_39 (fun H locs hP hS => ?_)
        refine lv_istore (lv' := [(4, .int v41), (0, .ref (ad 60)), (1, .int x1), (2, .int x2), (3, .int x3)]) hx hb dX0_rated_42 hl (by decide) rfl (fun ls hl => ?_)
        refine lv_iload_n hx hb dX0_rated_44 rfl (lv_at hl 3 rfl) ?_
        refine lv_istore (lv' := [(5, .int x2), (4, .int v41), (0, .ref (ad 60)), (1, .int x1), (2, .int x2), (3, .int x3)]) hx hb dX0_rated_45 hl (by decide) rfl (fun ls hl => ?_)
        refine lv_iconst (v := 4) hx hb dX0_rated_47 (by decide) ?_
        refine lv_istore (lv' := [(6, .int 4), (5, .int x2), (4, .int v41), (0, .ref (ad 60)), (1, .int x1), (2, .int x2), (3, .int x3)]) hx hb dX0_rated_48 hl (by decide) rfl (fun ls hl => ?_)
        obtain ⟨st43, z44, z45, hz59, h⟩ := bd3_some h
        refine L50 x1 x3 N _ v41 x2 4 _ _ _ hz59 _ _ hP hS ls (lv_sub hl [3, 4, 6, 2, 1, 0] rfl) (fun H locs hP hS ls hl => ?_)
        refine lv_aload_n hx hb dX0_rated_129 rfl (lv_at hl 0 rfl) ?_
        refine lv_iload hx hb dX0_rated_130 (lv_at hl 2 rfl) ?_
        refine lv_iconst (v := (-1)) hx hb dX0_rated_132 (by decide) ?_
        refine lv_icmp_eq (tgt := 140) hx hb dX0_rated_133 rfl (fun c46 => ?_) (fun c46 => ?_)
        · have h := if_some_t h c46
          refine lv_iconst (v := 0) hx hb dX0_rated_140 (by decide) ?_
          refine lv_iconst (v := 2) hx hb dX0_rated_141 (by decide) ?_
          obtain ⟨o49, st48, hv47, h⟩ := bd2_some h
          rcases o49 with _ | v47
          · rw [onx_none] at h
            refine k_L_needT C hO hP hS hv47 q402 (Nat.le_of_ble_eq_true rfl) hl.1 (Nat.le_of_ble_eq_true rfl) hcs dX0_rated_142 (fun H locs hP hS => ?_)
            refine cc_catch (pre := []) (a1 := 0) (a2 := 156) (hp := 157) (post := []) C hO hP q129 htab rfl rfl ?_
            refine lv_astore (lv' := [(4, .ref (ad 61)), (0, .ref (ad 60)), (3, .int x3), (5, .int z45)]) hx hb dX0_rated_157 hl (by decide) rfl (fun ls hl => ?_)
            refine lv_aload_n hx hb dX0_rated_159 rfl (lv_at hl 1 rfl) ?_
            refine lv_aload hx hb dX0_rated_160 (lv_at hl 0 rfl) ?_
            obtain ⟨v50, st51, hv50, h⟩ := bd2_some h
            refine k_L_finds C hO hP hS hv50 q410 (Nat.le_of_ble_eq_true rfl) hl.1 (Nat.le_of_ble_eq_true rfl) hcs dX0_rated_162 (fun H locs hP hS => ?_)
            exact cc_viret hx hb hr hlk h hP hS dX0_rated_165
          · rw [onx_some] at h
            refine k_L_needR C hO hP hS hv47 q402 (Nat.le_of_ble_eq_true rfl) hl.1 (Nat.le_of_ble_eq_true rfl) hcs dX0_rated_142 (fun H locs hP hS => ?_)
            refine lv_iload_n hx hb dX0_rated_145 rfl (lv_at hl 1 rfl) ?_
            refine lv_if_ne (tgt := 154) hx hb dX0_rated_146 rfl (fun c52 => ?_) (fun c52 => ?_)
            · have h := if_some_f h c52
              refine lv_iload hx hb dX0_rated_154 (lv_at hl 3 rfl) ?_
              exact cc_viret hx hb hr hlk h hP hS dX0_rated_156
            · have h := if_some_t h c52
              refine lv_iload hx hb dX0_rated_149 (lv_at hl 2 rfl) ?_
              refine lv_goto (tgt := 156) hx hb dX0_rated_151 rfl ?_
              exact cc_viret hx hb hr hlk h hP hS dX0_rated_156
        · have h := if_some_f h c46
          refine lv_iconst (v := 1) hx hb dX0_rated_136 (by decide) ?_
          refine lv_goto (tgt := 141) hx hb dX0_rated_137 rfl ?_
          refine lv_iconst (v := 2) hx hb dX0_rated_141 (by decide) ?_
          obtain ⟨o55, st54, hv53, h⟩ := bd2_some h
          rcases o55 with _ | v53
          · rw [onx_none] at h
            refine k_L_needT C hO hP hS hv53 q402 (Nat.le_of_ble_eq_true rfl) hl.1 (Nat.le_of_ble_eq_true rfl) hcs dX0_rated_142 (fun H locs hP hS => ?_)
            refine cc_catch (pre := []) (a1 := 0) (a2 := 156) (hp := 157) (post := []) C hO hP q129 htab rfl rfl ?_
            refine lv_astore (lv' := [(4, .ref (ad 61)), (0, .ref (ad 60)), (3, .int x3), (5, .int z45)]) hx hb dX0_rated_157 hl (by decide) rfl (fun ls hl => ?_)
            refine lv_aload_n hx hb dX0_rated_159 rfl (lv_at hl 1 rfl) ?_
            refine lv_aload hx hb dX0_rated_160 (lv_at hl 0 rfl) ?_
            obtain ⟨v56, st57, hv56, h⟩ := bd2_some h
            refine k_L_finds C hO hP hS hv56 q410 (Nat.le_of_ble_eq_true rfl) hl.1 (Nat.le_of_ble_eq_true rfl) hcs dX0_rated_162 (fun H locs hP hS => ?_)
            exact cc_viret hx hb hr hlk h hP hS dX0_rated_165
          · rw [onx_some] at h
            refine k_L_needR C hO hP hS hv53 q402 (Nat.le_of_ble_eq_true rfl) hl.1 (Nat.le_of_ble_eq_true rfl) hcs dX0_rated_142 (fun H locs hP hS => ?_)
            refine lv_iload_n hx hb dX0_rated_145 rfl (lv_at hl 1 rfl) ?_
            refine lv_if_ne (tgt := 154) hx hb dX0_rated_146 rfl (fun c58 => ?_) (fun c58 => ?_)
            · have h := if_some_f h c58
              refine lv_iload hx hb dX0_rated_154 (lv_at hl 3 rfl) ?_
              exact cc_viret hx hb hr hlk h hP hS dX0_rated_156
            · have h := if_some_t h c58
              refine lv_iload hx hb dX0_rated_149 (lv_at hl 2 rfl) ?_
              refine lv_goto (tgt := 156) hx hb dX0_rated_151 rfl ?_
              exact cc_viret hx hb hr hlk h hP hS dX0_rated_156
    · have h := if_some_f h c35
      refine lv_iload_n hx hb dX0_rated_18 rfl (lv_at hl 3 rfl) ?_
      refine lv_iconst (v := 0) hx hb dX0_rated_19 (by decide) ?_
      refine lv_iconst (v := 1) hx hb dX0_rated_20 (by decide) ?_
      obtain ⟨v60, hv60, h⟩ := bd1_some h
      refine k_L_in hx hb C.2.2.1 hown C.2.2.2.2.1 C.2.2.2.2.2.1 q399 hv60 (Nat.le_of_ble_eq_true rfl) hl.1 (Nat.le_of_ble_eq_true rfl) hcs dX0_rated_21 ?_
      refine lv_if_eq (tgt := 31) hx hb dX0_rated_24 rfl (fun c61 => ?_) (fun c61 => ?_)
      · have h := if_some_t h c61
        refine lv_iconst (v := 0) hx hb dX0_rated_31 (by decide) ?_
        refine lv_iconst (v := 1) hx hb dX0_rated_32 (by decide) ?_
        obtain ⟨o64, st63, hv62, h⟩ := bd2_some h
        rcases o64 with _ | v62
        · rw [onx_none] at h
          refine k_L_needT C hO hP hS hv62 q402 (Nat.le_of_ble_eq_true rfl) hl.1 (Nat.le_of_ble_eq_true rfl) hcs dX0_rated_33 (fun H locs hP hS => ?_)
          refine cc_catch (pre := []) (a1 := 0) (a2 := 156) (hp := 157) (post := []) C hO hP q129 htab rfl rfl ?_
          refine lv_astore (lv' := [(4, .ref (ad 61)), (0, .ref (ad 60)), (1, .int x1), (2, .int x2), (3, .int x3)]) hx hb dX0_rated_157 hl (by decide) rfl (fun ls hl => ?_)
          refine lv_aload_n hx hb dX0_rated_159 rfl (lv_at hl 1 rfl) ?_
          refine lv_aload hx hb dX0_rated_160 (lv_at hl 0 rfl) ?_
          obtain ⟨v65, st66, hv65, h⟩ := bd2_some h
          refine k_L_finds C hO hP hS hv65 q410 (Nat.le_of_ble_eq_true rfl) hl.1 (Nat.le_of_ble_eq_true rfl) hcs dX0_rated_162 (fun H locs hP hS => ?_)
          exact cc_viret hx hb hr hlk h hP hS dX0_rated_165
        · rw [onx_some] at h
          refine k_L_needR C hO hP hS hv62 q402 (Nat.le_of_ble_eq_true rfl) hl.1 (Nat.le_of_ble_eq_true rfl) hcs dX0_rated_33 (fun H locs hP hS => ?_)
          refine lv_aload_n hx hb dX0_rated_36 rfl (lv_at hl 0 rfl) ?_
          refine lv_iload_n hx hb dX0_rated_37 rfl (lv_at hl 1 rfl) ?_
          refine lv_iload_n hx hb dX0_rated_38 rfl (lv_at hl 2 rfl) ?_
          obtain ⟨v67, st68, hv67, h⟩ := bd2_some h
          refine k_L_freeBy C hO hP hS hv67 q1135 (Nat.le_of_ble_eq_true rfl) hl.1 (Nat.le_of_ble_eq_true rfl) hcs dX0_rated_39 (fun H locs hP hS => ?_)
          refine lv_istore (lv' := [(4, .int v67), (0, .ref (ad 60)), (1, .int x1), (2, .int x2), (3, .int x3)]) hx hb dX0_rated_42 hl (by decide) rfl (fun ls hl => ?_)
          refine lv_iload_n hx hb dX0_rated_44 rfl (lv_at hl 3 rfl) ?_
          refine lv_istore (lv' := [(5, .int x2), (4, .int v67), (0, .ref (ad 60)), (1, .int x1), (2, .int x2), (3, .int x3)]) hx hb dX0_rated_45 hl (by decide) rfl (fun ls hl => ?_)
          refine lv_iconst (v := 4) hx hb dX0_rated_47 (by decide) ?_
          refine lv_istore (lv' := [(6, .int 4), (5, .int x2), (4, .int v67), (0, .ref (ad 60)), (1, .int x1), (2, .int x2), (3, .int x3)]) hx hb dX0_rated_48 hl (by decide) rfl (fun ls hl => ?_)
          obtain ⟨st69, z70, z71, hz85, h⟩ := bd3_some h
          refine L50 x1 x3 N _ v67 x2 4 _ _ _ hz85 _ _ hP hS ls (lv_sub hl [3, 4, 6, 2, 1, 0] rfl) (fun H locs hP hS ls hl => ?_)
          refine lv_aload_n hx hb dX0_rated_129 rfl (lv_at hl 0 rfl) ?_
          refine lv_iload hx hb dX0_rated_130 (lv_at hl 2 rfl) ?_
          refine lv_iconst (v := (-1)) hx hb dX0_rated_132 (by decide) ?_
          refine lv_icmp_eq (tgt := 140) hx hb dX0_rated_133 rfl (fun c72 => ?_) (fun c72 => ?_)
          · have h := if_some_t h c72
            refine lv_iconst (v := 0) hx hb dX0_rated_140 (by decide) ?_
            refine lv_iconst (v := 2) hx hb dX0_rated_141 (by decide) ?_
            obtain ⟨o75, st74, hv73, h⟩ := bd2_some h
            rcases o75 with _ | v73
            · rw [onx_none] at h
              refine k_L_needT C hO hP hS hv73 q402 (Nat.le_of_ble_eq_true rfl) hl.1 (Nat.le_of_ble_eq_true rfl) hcs dX0_rated_142 (fun H locs hP hS => ?_)
              refine cc_catch (pre := []) (a1 := 0) (a2 := 156) (hp := 157) (post := []) C hO hP q129 htab rfl rfl ?_
              refine lv_astore (lv' := [(4, .ref (ad 61)), (0, .ref (ad 60)), (3, .int x3), (5, .int z71)]) hx hb dX0_rated_157 hl (by decide) rfl (fun ls hl => ?_)
              refine lv_aload_n hx hb dX0_rated_159 rfl (lv_at hl 1 rfl) ?_
              refine lv_aload hx hb dX0_rated_160 (lv_at hl 0 rfl) ?_
              obtain ⟨v76, st77, hv76, h⟩ := bd2_some h
              refine k_L_finds C hO hP hS hv76 q410 (Nat.le_of_ble_eq_true rfl) hl.1 (Nat.le_of_ble_eq_true rfl) hcs dX0_rated_162 (fun H locs hP hS => ?_)
              exact cc_viret hx hb hr hlk h hP hS dX0_rated_165
            · rw [onx_some] at h
              refine k_L_needR C hO hP hS hv73 q402 (Nat.le_of_ble_eq_true rfl) hl.1 (Nat.le_of_ble_eq_true rfl) hcs dX0_rated_142 (fun H locs hP hS => ?_)
              refine lv_iload_n hx hb dX0_rated_145 rfl (lv_at hl 1 rfl) ?_
              refine lv_if_ne (tgt := 154) hx hb dX0_rated_146 rfl (fun c78 => ?_) (fun c78 => ?_)
              · have h := if_some_f h c78
                refine lv_iload hx hb dX0_rated_154 (lv_at hl 3 rfl) ?_
                exact cc_viret hx hb hr hlk h hP hS dX0_rated_156
              · have h := if_some_t h c78
                refine lv_iload hx hb dX0_rated_149 (lv_at hl 2 rfl) ?_
                refine lv_goto (tgt := 156) hx hb dX0_rated_151 rfl ?_
                exact cc_viret hx hb hr hlk h hP hS dX0_rated_156
          · have h := if_some_f h c72
            refine lv_iconst (v := 1) hx hb dX0_rated_136 (by decide) ?_
            refine lv_goto (tgt := 141) hx hb dX0_rated_137 rfl ?_
            refine lv_iconst (v := 2) hx hb dX0_rated_141 (by decide) ?_
            obtain ⟨o81, st80, hv79, h⟩ := bd2_some h
            rcases o81 with _ | v79
            · rw [onx_none] at h
              refine k_L_needT C hO hP hS hv79 q402 (Nat.le_of_ble_eq_true rfl) hl.1 (Nat.le_of_ble_eq_true rfl) hcs dX0_rated_142 (fun H locs hP hS => ?_)
              refine cc_catch (pre := []) (a1 := 0) (a2 := 156) (hp := 157) (post := []) C hO hP q129 htab rfl rfl ?_
              refine lv_astore (lv' := [(4, .ref (ad 61)), (0, .ref (ad 60)), (3, .int x3), (5, .int z71)]) hx hb dX0_rated_157 hl (by decide) rfl (fun ls hl => ?_)
              refine lv_aload_n hx hb dX0_rated_159 rfl (lv_at hl 1 rfl) ?_
              refine lv_aload hx hb dX0_rated_160 (lv_at hl 0 rfl) ?_
              obtain ⟨v82, st83, hv82, h⟩ := bd2_some h
              refine k_L_finds C hO hP hS hv82 q410 (Nat.le_of_ble_eq_true rfl) hl.1 (Nat.le_of_ble_eq_true rfl) hcs dX0_rated_162 (fun H locs hP hS => ?_)
              exact cc_viret hx hb hr hlk h hP hS dX0_rated_165
            · rw [onx_some] at h
              refine k_L_needR C hO hP hS hv79 q402 (Nat.le_of_ble_eq_true rfl) hl.1 (Nat.le_of_ble_eq_true rfl) hcs dX0_rated_142 (fun H locs hP hS => ?_)
              refine lv_iload_n hx hb dX0_rated_145 rfl (lv_at hl 1 rfl) ?_
              refine lv_if_ne (tgt := 154) hx hb dX0_rated_146 rfl (fun c84 => ?_) (fun c84 => ?_)
              · have h := if_some_f h c84
                refine lv_iload hx hb dX0_rated_154 (lv_at hl 3 rfl) ?_
                exact cc_viret hx hb hr hlk h hP hS dX0_rated_156
              · have h := if_some_t h c84
                refine lv_iload hx hb dX0_rated_149 (lv_at hl 2 rfl) ?_
                refine lv_goto (tgt := 156) hx hb dX0_rated_151 rfl ?_
                exact cc_viret hx hb hr hlk h hP hS dX0_rated_156
      · have h := if_some_f h c61
        refine lv_iconst (v := 1) hx hb dX0_rated_27 (by decide) ?_
        refine lv_goto (tgt := 32) hx hb dX0_rated_28 rfl ?_
        refine lv_iconst (v := 1) hx hb dX0_rated_32 (by decide) ?_
        obtain ⟨o88, st87, hv86, h⟩ := bd2_some h
        rcases o88 with _ | v86
        · rw [onx_none] at h
          refine k_L_needT C hO hP hS hv86 q402 (Nat.le_of_ble_eq_true rfl) hl.1 (Nat.le_of_ble_eq_true rfl) hcs dX0_rated_33 (fun H locs hP hS => ?_)
          refine cc_catch (pre := []) (a1 := 0) (a2 := 156) (hp := 157) (post := []) C hO hP q129 htab rfl rfl ?_
          refine lv_astore (lv' := [(4, .ref (ad 61)), (0, .ref (ad 60)), (1, .int x1), (2, .int x2), (3, .int x3)]) hx hb dX0_rated_157 hl (by decide) rfl (fun ls hl => ?_)
          refine lv_aload_n hx hb dX0_rated_159 rfl (lv_at hl 1 rfl) ?_
          refine lv_aload hx hb dX0_rated_160 (lv_at hl 0 rfl) ?_
          obtain ⟨v89, st90, hv89, h⟩ := bd2_some h
          refine k_L_finds C hO hP hS hv89 q410 (Nat.le_of_ble_eq_true rfl) hl.1 (Nat.le_of_ble_eq_true rfl) hcs dX0_rated_162 (fun H locs hP hS => ?_)
          exact cc_viret hx hb hr hlk h hP hS dX0_rated_165
        · rw [onx_some] at h
          refine k_L_needR C hO hP hS hv86 q402 (Nat.le_of_ble_eq_true rfl) hl.1 (Nat.le_of_ble_eq_true rfl) hcs dX0_rated_33 (fun H locs hP hS => ?_)
          refine lv_aload_n hx hb dX0_rated_36 rfl (lv_at hl 0 rfl) ?_
          refine lv_iload_n hx hb dX0_rated_37 rfl (lv_at hl 1 rfl) ?_
          refine lv_iload_n hx hb dX0_rated_38 rfl (lv_at hl 2 rfl) ?_
          obtain ⟨v91, st92, hv91, h⟩ := bd2_some h
          refine k_L_freeBy C hO hP hS hv91 q1135 (Nat.le_of_ble_eq_true rfl) hl.1 (Nat.le_of_ble_eq_true rfl) hcs dX0_rated_39 (fun H locs hP hS => ?_)
          refine lv_istore (lv' := [(4, .int v91), (0, .ref (ad 60)), (1, .int x1), (2, .int x2), (3, .int x3)]) hx hb dX0_rated_42 hl (by decide) rfl (fun ls hl => ?_)
          refine lv_iload_n hx hb dX0_rated_44 rfl (lv_at hl 3 rfl) ?_
          refine lv_istore (lv' := [(5, .int x2), (4, .int v91), (0, .ref (ad 60)), (1, .int x1), (2, .int x2), (3, .int x3)]) hx hb dX0_rated_45 hl (by decide) rfl (fun ls hl => ?_)
          refine lv_iconst (v := 4) hx hb dX0_rated_47 (by decide) ?_
          refine lv_istore (lv' := [(6, .int 4), (5, .int x2), (4, .int v91), (0, .ref (ad 60)), (1, .int x1), (2, .int x2), (3, .int x3)]) hx hb dX0_rated_48 hl (by decide) rfl (fun ls hl => ?_)
          obtain ⟨st93, z94, z95, hz109, h⟩ := bd3_some h
          refine L50 x1 x3 N _ v91 x2 4 _ _ _ hz109 _ _ hP hS ls (lv_sub hl [3, 4, 6, 2, 1, 0] rfl) (fun H locs hP hS ls hl => ?_)
          refine lv_aload_n hx hb dX0_rated_129 rfl (lv_at hl 0 rfl) ?_
          refine lv_iload hx hb dX0_rated_130 (lv_at hl 2 rfl) ?_
          refine lv_iconst (v := (-1)) hx hb dX0_rated_132 (by decide) ?_
          refine lv_icmp_eq (tgt := 140) hx hb dX0_rated_133 rfl (fun c96 => ?_) (fun c96 => ?_)
          · have h := if_some_t h c96
            refine lv_iconst (v := 0) hx hb dX0_rated_140 (by decide) ?_
            refine lv_iconst (v := 2) hx hb dX0_rated_141 (by decide) ?_
            obtain ⟨o99, st98, hv97, h⟩ := bd2_some h
            rcases o99 with _ | v97
            · rw [onx_none] at h
              refine k_L_needT C hO hP hS hv97 q402 (Nat.le_of_ble_eq_true rfl) hl.1 (Nat.le_of_ble_eq_true rfl) hcs dX0_rated_142 (fun H locs hP hS => ?_)
              refine cc_catch (pre := []) (a1 := 0) (a2 := 156) (hp := 157) (post := []) C hO hP q129 htab rfl rfl ?_
              refine lv_astore (lv' := [(4, .ref (ad 61)), (0, .ref (ad 60)), (3, .int x3), (5, .int z95)]) hx hb dX0_rated_157 hl (by decide) rfl (fun ls hl => ?_)
              refine lv_aload_n hx hb dX0_rated_159 rfl (lv_at hl 1 rfl) ?_
              refine lv_aload hx hb dX0_rated_160 (lv_at hl 0 rfl) ?_
              obtain ⟨v100, st101, hv100, h⟩ := bd2_some h
              refine k_L_finds C hO hP hS hv100 q410 (Nat.le_of_ble_eq_true rfl) hl.1 (Nat.le_of_ble_eq_true rfl) hcs dX0_rated_162 (fun H locs hP hS => ?_)
              exact cc_viret hx hb hr hlk h hP hS dX0_rated_165
            · rw [onx_some] at h
              refine k_L_needR C hO hP hS hv97 q402 (Nat.le_of_ble_eq_true rfl) hl.1 (Nat.le_of_ble_eq_true rfl) hcs dX0_rated_142 (fun H locs hP hS => ?_)
              refine lv_iload_n hx hb dX0_rated_145 rfl (lv_at hl 1 rfl) ?_
              refine lv_if_ne (tgt := 154) hx hb dX0_rated_146 rfl (fun c102 => ?_) (fun c102 => ?_)
              · have h := if_some_f h c102
                refine lv_iload hx hb dX0_rated_154 (lv_at hl 3 rfl) ?_
                exact cc_viret hx hb hr hlk h hP hS dX0_rated_156
              · have h := if_some_t h c102
                refine lv_iload hx hb dX0_rated_149 (lv_at hl 2 rfl) ?_
                refine lv_goto (tgt := 156) hx hb dX0_rated_151 rfl ?_
                exact cc_viret hx hb hr hlk h hP hS dX0_rated_156
          · have h := if_some_f h c96
            refine lv_iconst (v := 1) hx hb dX0_rated_136 (by decide) ?_
            refine lv_goto (tgt := 141) hx hb dX0_rated_137 rfl ?_
            refine lv_iconst (v := 2) hx hb dX0_rated_141 (by decide) ?_
            obtain ⟨o105, st104, hv103, h⟩ := bd2_some h
            rcases o105 with _ | v103
            · rw [onx_none] at h
              refine k_L_needT C hO hP hS hv103 q402 (Nat.le_of_ble_eq_true rfl) hl.1 (Nat.le_of_ble_eq_true rfl) hcs dX0_rated_142 (fun H locs hP hS => ?_)
              refine cc_catch (pre := []) (a1 := 0) (a2 := 156) (hp := 157) (post := []) C hO hP q129 htab rfl rfl ?_
              refine lv_astore (lv' := [(4, .ref (ad 61)), (0, .ref (ad 60)), (3, .int x3), (5, .int z95)]) hx hb dX0_rated_157 hl (by decide) rfl (fun ls hl => ?_)
              refine lv_aload_n hx hb dX0_rated_159 rfl (lv_at hl 1 rfl) ?_
              refine lv_aload hx hb dX0_rated_160 (lv_at hl 0 rfl) ?_
              obtain ⟨v106, st107, hv106, h⟩ := bd2_some h
              refine k_L_finds C hO hP hS hv106 q410 (Nat.le_of_ble_eq_true rfl) hl.1 (Nat.le_of_ble_eq_true rfl) hcs dX0_rated_162 (fun H locs hP hS => ?_)
              exact cc_viret hx hb hr hlk h hP hS dX0_rated_165
            · rw [onx_some] at h
              refine k_L_needR C hO hP hS hv103 q402 (Nat.le_of_ble_eq_true rfl) hl.1 (Nat.le_of_ble_eq_true rfl) hcs dX0_rated_142 (fun H locs hP hS => ?_)
              refine lv_iload_n hx hb dX0_rated_145 rfl (lv_at hl 1 rfl) ?_
              refine lv_if_ne (tgt := 154) hx hb dX0_rated_146 rfl (fun c108 => ?_) (fun c108 => ?_)
              · have h := if_some_f h c108
                refine lv_iload hx hb dX0_rated_154 (lv_at hl 3 rfl) ?_
                exact cc_viret hx hb hr hlk h hP hS dX0_rated_156
              · have h := if_some_t h c108
                refine lv_iload hx hb dX0_rated_149 (lv_at hl 2 rfl) ?_
                refine lv_goto (tgt := 156) hx hb dX0_rated_151 rfl ?_
                exact cc_viret hx hb hr hlk h hP hS dX0_rated_156
abbrev cX0_nextMeeting : ByteArray := prog_1_method_50_code
def yX0_nextMeeting : MethodName := ⟨RX0, "nextMeeting", "(I)I"⟩
theorem dX0_nextMeeting_0 : decode cX0_nextMeeting 0 = .ok (.iconst (-1), 1) := by decide +kernel
theorem dX0_nextMeeting_1 : decode cX0_nextMeeting 1 = .ok (.istore_n 2, 1) := by decide +kernel
theorem dX0_nextMeeting_2 : decode cX0_nextMeeting 2 = .ok (.aload_n 0, 1) := by decide +kernel
theorem dX0_nextMeeting_3 : decode cX0_nextMeeting 3 = .ok (.getfield 46, 3) := by decide +kernel
theorem dX0_nextMeeting_6 : decode cX0_nextMeeting 6 = .ok (.getfield 330, 3) := by decide +kernel
theorem dX0_nextMeeting_9 : decode cX0_nextMeeting 9 = .ok (.iconst 1, 1) := by decide +kernel
theorem dX0_nextMeeting_10 : decode cX0_nextMeeting 10 = .ok (.isub, 1) := by decide +kernel
theorem dX0_nextMeeting_11 : decode cX0_nextMeeting 11 = .ok (.istore_n 3, 1) := by decide +kernel
theorem dX0_nextMeeting_12 : decode cX0_nextMeeting 12 = .ok (.iload_n 3, 1) := by decide +kernel
theorem dX0_nextMeeting_13 : decode cX0_nextMeeting 13 = .ok (.ifCond .lt 95, 3) := by decide +kernel
theorem dX0_nextMeeting_16 : decode cX0_nextMeeting 16 = .ok (.aload_n 0, 1) := by decide +kernel
theorem dX0_nextMeeting_17 : decode cX0_nextMeeting 17 = .ok (.getfield 46, 3) := by decide +kernel
theorem dX0_nextMeeting_20 : decode cX0_nextMeeting 20 = .ok (.getfield 333, 3) := by decide +kernel
theorem dX0_nextMeeting_23 : decode cX0_nextMeeting 23 = .ok (.iload_n 3, 1) := by decide +kernel
theorem dX0_nextMeeting_24 : decode cX0_nextMeeting 24 = .ok (.iaload, 1) := by decide +kernel
theorem dX0_nextMeeting_25 : decode cX0_nextMeeting 25 = .ok (.istore 4, 2) := by decide +kernel
theorem dX0_nextMeeting_27 : decode cX0_nextMeeting 27 = .ok (.iload_n 1, 1) := by decide +kernel
theorem dX0_nextMeeting_28 : decode cX0_nextMeeting 28 = .ok (.iconst (-1), 1) := by decide +kernel
theorem dX0_nextMeeting_29 : decode cX0_nextMeeting 29 = .ok (.if_icmp .eq 36, 3) := by decide +kernel
theorem dX0_nextMeeting_32 : decode cX0_nextMeeting 32 = .ok (.iload 4, 2) := by decide +kernel
theorem dX0_nextMeeting_34 : decode cX0_nextMeeting 34 = .ok (.aload_n 0, 1) := by decide +kernel
theorem dX0_nextMeeting_35 : decode cX0_nextMeeting 35 = .ok (.getfield 46, 3) := by decide +kernel
theorem dX0_nextMeeting_38 : decode cX0_nextMeeting 38 = .ok (.getfield 333, 3) := by decide +kernel
theorem dX0_nextMeeting_41 : decode cX0_nextMeeting 41 = .ok (.iload_n 1, 1) := by decide +kernel
theorem dX0_nextMeeting_42 : decode cX0_nextMeeting 42 = .ok (.iaload, 1) := by decide +kernel
theorem dX0_nextMeeting_43 : decode cX0_nextMeeting 43 = .ok (.if_icmp .gt 22, 3) := by decide +kernel
theorem dX0_nextMeeting_46 : decode cX0_nextMeeting 46 = .ok (.iload 4, 2) := by decide +kernel
theorem dX0_nextMeeting_48 : decode cX0_nextMeeting 48 = .ok (.aload_n 0, 1) := by decide +kernel
theorem dX0_nextMeeting_49 : decode cX0_nextMeeting 49 = .ok (.getfield 46, 3) := by decide +kernel
theorem dX0_nextMeeting_52 : decode cX0_nextMeeting 52 = .ok (.getfield 333, 3) := by decide +kernel
theorem dX0_nextMeeting_55 : decode cX0_nextMeeting 55 = .ok (.iload_n 1, 1) := by decide +kernel
theorem dX0_nextMeeting_56 : decode cX0_nextMeeting 56 = .ok (.iaload, 1) := by decide +kernel
theorem dX0_nextMeeting_57 : decode cX0_nextMeeting 57 = .ok (.if_icmp .ne 12, 3) := by decide +kernel
theorem dX0_nextMeeting_60 : decode cX0_nextMeeting 60 = .ok (.iload_n 3, 1) := by decide +kernel
theorem dX0_nextMeeting_61 : decode cX0_nextMeeting 61 = .ok (.iload_n 1, 1) := by decide +kernel
theorem dX0_nextMeeting_62 : decode cX0_nextMeeting 62 = .ok (.if_icmp .le 7, 3) := by decide +kernel
theorem dX0_nextMeeting_65 : decode cX0_nextMeeting 65 = .ok (.iconst 1, 1) := by decide +kernel
theorem dX0_nextMeeting_66 : decode cX0_nextMeeting 66 = .ok (.goto 4, 3) := by decide +kernel
theorem dX0_nextMeeting_69 : decode cX0_nextMeeting 69 = .ok (.iconst 0, 1) := by decide +kernel
theorem dX0_nextMeeting_70 : decode cX0_nextMeeting 70 = .ok (.istore 5, 2) := by decide +kernel
theorem dX0_nextMeeting_72 : decode cX0_nextMeeting 72 = .ok (.iload 5, 2) := by decide +kernel
theorem dX0_nextMeeting_74 : decode cX0_nextMeeting 74 = .ok (.ifCond .eq 26, 3) := by decide +kernel
theorem dX0_nextMeeting_77 : decode cX0_nextMeeting 77 = .ok (.iload_n 2, 1) := by decide +kernel
theorem dX0_nextMeeting_78 : decode cX0_nextMeeting 78 = .ok (.iconst (-1), 1) := by decide +kernel
theorem dX0_nextMeeting_79 : decode cX0_nextMeeting 79 = .ok (.if_icmp .eq 17, 3) := by decide +kernel
theorem dX0_nextMeeting_82 : decode cX0_nextMeeting 82 = .ok (.iload 4, 2) := by decide +kernel
theorem dX0_nextMeeting_84 : decode cX0_nextMeeting 84 = .ok (.aload_n 0, 1) := by decide +kernel
theorem dX0_nextMeeting_85 : decode cX0_nextMeeting 85 = .ok (.getfield 46, 3) := by decide +kernel
theorem dX0_nextMeeting_88 : decode cX0_nextMeeting 88 = .ok (.getfield 333, 3) := by decide +kernel
theorem dX0_nextMeeting_91 : decode cX0_nextMeeting 91 = .ok (.iload_n 2, 1) := by decide +kernel
theorem dX0_nextMeeting_92 : decode cX0_nextMeeting 92 = .ok (.iaload, 1) := by decide +kernel
theorem dX0_nextMeeting_93 : decode cX0_nextMeeting 93 = .ok (.if_icmp .gt 7, 3) := by decide +kernel
theorem dX0_nextMeeting_96 : decode cX0_nextMeeting 96 = .ok (.iload_n 3, 1) := by decide +kernel
theorem dX0_nextMeeting_97 : decode cX0_nextMeeting 97 = .ok (.goto 4, 3) := by decide +kernel
theorem dX0_nextMeeting_100 : decode cX0_nextMeeting 100 = .ok (.iload_n 2, 1) := by decide +kernel
theorem dX0_nextMeeting_101 : decode cX0_nextMeeting 101 = .ok (.istore_n 2, 1) := by decide +kernel
theorem dX0_nextMeeting_102 : decode cX0_nextMeeting 102 = .ok (.iinc 3 (-1), 3) := by decide +kernel
theorem dX0_nextMeeting_105 : decode cX0_nextMeeting 105 = .ok (.goto (-93), 3) := by decide +kernel
theorem dX0_nextMeeting_108 : decode cX0_nextMeeting 108 = .ok (.iload_n 2, 1) := by decide +kernel
theorem dX0_nextMeeting_109 : decode cX0_nextMeeting 109 = .ok (.ireturn, 1) := by decide +kernel
theorem w_L_nextMeeting {l : Launch} {D : va_G} {cA : Nat → ClassId} {ks : List Nat} {ad : Nat → Nat} {A : Nat → Prop} (hO : klOk A ks ad) {st : CS} {N : Nat} {x1 : Int32} {r : Int32} (h : L_nextMeeting N st x1 = some r) : cR l yX0_nextMeeting cX0_nextMeeting 6 (some .int) 0 D cA ks ad A st [.ref (ad 60), .int x1] r := by
  refine cc_ofR (own := RX0) (by decide) rfl (Nat.le_of_ble_eq_true rfl) (fun p e s m below meth c R args ls C hr hlk hP hl hcs => ?_)
  have hx := C.1
  have hb := C.2.1
  have hown := C.2.2.2.1
  have hNst := C.2.2.2.2.2.2.2.1
  have hl : lv_has ls 6 [(0, .ref (ad 60)), (1, .int x1)] := hl
  have L12 : ∀ (x1 : Int32), ∀ (n : Nat) (x2 : Int32) (x3 : Int32) (z2 : Int32), L_nextMeeting_L12 N st x1 n x2 x3 = some z2 → ∀ ls : Array Slot, lv_has ls 6 [(0, .ref (ad 60)), (1, .int x1), (2, .int x2), (3, .int x3)] → (∀ ls : Array Slot, lv_has ls 6 [(2, .int z2)] → mWR p l e R s m args below meth c r (F0 m 108 ls [])) → mWR p l e R s m args below meth c r (F0 m 12 ls []) := by
    intro x1 n
    induction n with
    | zero =>
      intro x2 x3 z2 h
      exact non_some h
    | succ n ih =>
      intro x2 x3 z2 h ls hl kx
      rw [L_nextMeeting_L12] at h
      refine lv_iload_n hx hb dX0_nextMeeting_12 rfl (lv_at hl 3 rfl) ?_
      refine lv_if_lt (tgt := 108) hx hb dX0_nextMeeting_13 rfl (fun c1 => ?_) (fun c1 => ?_)
      · have h := if_some_t h c1
        cases h
        exact kx ls (lv_sub hl [2] rfl)
      · have h := if_some_f h c1
        refine lv_aload_n hx hb dX0_nextMeeting_16 rfl (lv_at hl 0 rfl) ?_
        refine lg_town C hO hP dX0_nextMeeting_17 ?_
        refine tgN_meetWeek (t := 0) C hO (by decide) hP dX0_nextMeeting_20 ?_
        refine lv_iload_n hx hb dX0_nextMeeting_23 rfl (lv_at hl 3 rfl) ?_
        obtain ⟨v2, hv2, h⟩ := bd1_some h
        refine cc_ild C hP (hO.2.2.2 _ (tk_ 11 (by decide) (by decide))) (cg_t 11 (by decide) (by decide)) hv2 dX0_nextMeeting_24 ?_
        refine lv_istore (lv' := [(4, .int v2), (0, .ref (ad 60)), (1, .int x1), (2, .int x2), (3, .int x3)]) hx hb dX0_nextMeeting_25 hl (by decide) rfl (fun ls hl => ?_)
        refine lv_iload_n hx hb dX0_nextMeeting_27 rfl (lv_at hl 2 rfl) ?_
        refine lv_iconst (v := (-1)) hx hb dX0_nextMeeting_28 (by decide) ?_
        refine lv_icmp_eq (tgt := 65) hx hb dX0_nextMeeting_29 rfl (fun c3 => ?_) (fun c3 => ?_)
        · have h := if_some_t h c3
          refine lv_iconst (v := 1) hx hb dX0_nextMeeting_65 (by decide) ?_
          refine lv_goto (tgt := 70) hx hb dX0_nextMeeting_66 rfl ?_
          refine lv_istore (lv' := [(5, .int 1), (4, .int v2), (0, .ref (ad 60)), (1, .int x1), (2, .int x2), (3, .int x3)]) hx hb dX0_nextMeeting_70 hl (by decide) rfl (fun ls hl => ?_)
          refine lv_iload hx hb dX0_nextMeeting_72 (lv_at hl 0 rfl) ?_
          refine lv_if_eq (tgt := 100) hx hb dX0_nextMeeting_74 rfl (fun c => absurd c (by decide)) (fun _ => ?_)
          refine lv_iload_n hx hb dX0_nextMeeting_77 rfl (lv_at hl 4 rfl) ?_
          refine lv_iconst (v := (-1)) hx hb dX0_nextMeeting_78 (by decide) ?_
          refine lv_icmp_eq (tgt := 96) hx hb dX0_nextMeeting_79 rfl (fun c4 => ?_) (fun c4 => ?_)
          · have h := if_some_t h c4
            refine lv_iload_n hx hb dX0_nextMeeting_96 rfl (lv_at hl 5 rfl) ?_
            refine lv_goto (tgt := 101) hx hb dX0_nextMeeting_97 rfl ?_
            refine lv_istore_n (lv' := [(2, .int x3), (5, .int 1), (4, .int v2), (0, .ref (ad 60)), (1, .int x1), (3, .int x3)]) hx hb dX0_nextMeeting_101 rfl hl (by decide) rfl (fun ls hl => ?_)
            refine lv_iinc (v := x3 + (-1)) (lv' := [(3, .int (x3 + (-1))), (2, .int x3), (5, .int 1), (4, .int v2), (0, .ref (ad 60)), (1, .int x1)]) hx hb dX0_nextMeeting_102 hl (k := 5) rfl rfl (by decide) rfl (fun ls hl => ?_)
            refine lv_goto (tgt := 12) hx hb dX0_nextMeeting_105 rfl ?_
            exact ih x3 (x3 + (-1)) _ h ls (lv_sub hl [4, 5, 1, 0] rfl) kx
          · have h := if_some_f h c4
            refine lv_iload hx hb dX0_nextMeeting_82 (lv_at hl 1 rfl) ?_
            refine lv_aload_n hx hb dX0_nextMeeting_84 rfl (lv_at hl 2 rfl) ?_
            refine lg_town C hO hP dX0_nextMeeting_85 ?_
            refine tgN_meetWeek (t := 0) C hO (by decide) hP dX0_nextMeeting_88 ?_
            refine lv_iload_n hx hb dX0_nextMeeting_91 rfl (lv_at hl 4 rfl) ?_
            obtain ⟨v5, hv5, h⟩ := bd1_some h
            refine cc_ild C hP (hO.2.2.2 _ (tk_ 11 (by decide) (by decide))) (cg_t 11 (by decide) (by decide)) hv5 dX0_nextMeeting_92 ?_
            refine lv_icmp_gt (tgt := 100) hx hb dX0_nextMeeting_93 rfl (fun c6 => ?_) (fun c6 => ?_)
            · have h := if_some_t h c6
              refine lv_iload_n hx hb dX0_nextMeeting_100 rfl (lv_at hl 4 rfl) ?_
              refine lv_istore_n (lv' := [(2, .int x2), (5, .int 1), (4, .int v2), (0, .ref (ad 60)), (1, .int x1), (3, .int x3)]) hx hb dX0_nextMeeting_101 rfl hl (by decide) rfl (fun ls hl => ?_)
              refine lv_iinc (v := x3 + (-1)) (lv' := [(3, .int (x3 + (-1))), (2, .int x2), (5, .int 1), (4, .int v2), (0, .ref (ad 60)), (1, .int x1)]) hx hb dX0_nextMeeting_102 hl (k := 5) rfl rfl (by decide) rfl (fun ls hl => ?_)
              refine lv_goto (tgt := 12) hx hb dX0_nextMeeting_105 rfl ?_
              exact ih x2 (x3 + (-1)) _ h ls (lv_sub hl [4, 5, 1, 0] rfl) kx
            · have h := if_some_f h c6
              refine lv_iload_n hx hb dX0_nextMeeting_96 rfl (lv_at hl 5 rfl) ?_
              refine lv_goto (tgt := 101) hx hb dX0_nextMeeting_97 rfl ?_
              refine lv_istore_n (lv' := [(2, .int x3), (5, .int 1), (4, .int v2), (0, .ref (ad 60)), (1, .int x1), (3, .int x3)]) hx hb dX0_nextMeeting_101 rfl hl (by decide) rfl (fun ls hl => ?_)
              refine lv_iinc (v := x3 + (-1)) (lv' := [(3, .int (x3 + (-1))), (2, .int x3), (5, .int 1), (4, .int v2), (0, .ref (ad 60)), (1, .int x1)]) hx hb dX0_nextMeeting_102 hl (k := 5) rfl rfl (by decide) rfl (fun ls hl => ?_)
              refine lv_goto (tgt := 12) hx hb dX0_nextMeeting_105 rfl ?_
              exact ih x3 (x3 + (-1)) _ h ls (lv_sub hl [4, 5, 1, 0] rfl) kx
        · have h := if_some_f h c3
          refine lv_iload hx hb dX0_nextMeeting_32 (lv_at hl 0 rfl) ?_
          refine lv_aload_n hx hb dX0_nextMeeting_34 rfl (lv_at hl 1 rfl) ?_
          refine lg_town C hO hP dX0_nextMeeting_35 ?_
          refine tgN_meetWeek (t := 0) C hO (by decide) hP dX0_nextMeeting_38 ?_
          refine lv_iload_n hx hb dX0_nextMeeting_41 rfl (lv_at hl 2 rfl) ?_
          obtain ⟨v7, hv7, h⟩ := bd1_some h
          refine cc_ild C hP (hO.2.2.2 _ (tk_ 11 (by decide) (by decide))) (cg_t 11 (by decide) (by decide)) hv7 dX0_nextMeeting_42 ?_
          refine lv_icmp_gt (tgt := 65) hx hb dX0_nextMeeting_43 rfl (fun c8 => ?_) (fun c8 => ?_)
          · have h := if_some_t h c8
            refine lv_iconst (v := 1) hx hb dX0_nextMeeting_65 (by decide) ?_
            refine lv_goto (tgt := 70) hx hb dX0_nextMeeting_66 rfl ?_
            refine lv_istore (lv' := [(5, .int 1), (4, .int v2), (0, .ref (ad 60)), (1, .int x1), (2, .int x2), (3, .int x3)]) hx hb dX0_nextMeeting_70 hl (by decide) rfl (fun ls hl => ?_)
            refine lv_iload hx hb dX0_nextMeeting_72 (lv_at hl 0 rfl) ?_
            refine lv_if_eq (tgt := 100) hx hb dX0_nextMeeting_74 rfl (fun c => absurd c (by decide)) (fun _ => ?_)
            refine lv_iload_n hx hb dX0_nextMeeting_77 rfl (lv_at hl 4 rfl) ?_
            refine lv_iconst (v := (-1)) hx hb dX0_nextMeeting_78 (by decide) ?_
            refine lv_icmp_eq (tgt := 96) hx hb dX0_nextMeeting_79 rfl (fun c9 => ?_) (fun c9 => ?_)
            · have h := if_some_t h c9
              refine lv_iload_n hx hb dX0_nextMeeting_96 rfl (lv_at hl 5 rfl) ?_
              refine lv_goto (tgt := 101) hx hb dX0_nextMeeting_97 rfl ?_
              refine lv_istore_n (lv' := [(2, .int x3), (5, .int 1), (4, .int v2), (0, .ref (ad 60)), (1, .int x1), (3, .int x3)]) hx hb dX0_nextMeeting_101 rfl hl (by decide) rfl (fun ls hl => ?_)
              refine lv_iinc (v := x3 + (-1)) (lv' := [(3, .int (x3 + (-1))), (2, .int x3), (5, .int 1), (4, .int v2), (0, .ref (ad 60)), (1, .int x1)]) hx hb dX0_nextMeeting_102 hl (k := 5) rfl rfl (by decide) rfl (fun ls hl => ?_)
              refine lv_goto (tgt := 12) hx hb dX0_nextMeeting_105 rfl ?_
              exact ih x3 (x3 + (-1)) _ h ls (lv_sub hl [4, 5, 1, 0] rfl) kx
            · have h := if_some_f h c9
              refine lv_iload hx hb dX0_nextMeeting_82 (lv_at hl 1 rfl) ?_
              refine lv_aload_n hx hb dX0_nextMeeting_84 rfl (lv_at hl 2 rfl) ?_
              refine lg_town C hO hP dX0_nextMeeting_85 ?_
              refine tgN_meetWeek (t := 0) C hO (by decide) hP dX0_nextMeeting_88 ?_
              refine lv_iload_n hx hb dX0_nextMeeting_91 rfl (lv_at hl 4 rfl) ?_
              obtain ⟨v10, hv10, h⟩ := bd1_some h
              refine cc_ild C hP (hO.2.2.2 _ (tk_ 11 (by decide) (by decide))) (cg_t 11 (by decide) (by decide)) hv10 dX0_nextMeeting_92 ?_
              refine lv_icmp_gt (tgt := 100) hx hb dX0_nextMeeting_93 rfl (fun c11 => ?_) (fun c11 => ?_)
              · have h := if_some_t h c11
                refine lv_iload_n hx hb dX0_nextMeeting_100 rfl (lv_at hl 4 rfl) ?_
                refine lv_istore_n (lv' := [(2, .int x2), (5, .int 1), (4, .int v2), (0, .ref (ad 60)), (1, .int x1), (3, .int x3)]) hx hb dX0_nextMeeting_101 rfl hl (by decide) rfl (fun ls hl => ?_)
                refine lv_iinc (v := x3 + (-1)) (lv' := [(3, .int (x3 + (-1))), (2, .int x2), (5, .int 1), (4, .int v2), (0, .ref (ad 60)), (1, .int x1)]) hx hb dX0_nextMeeting_102 hl (k := 5) rfl rfl (by decide) rfl (fun ls hl => ?_)
                refine lv_goto (tgt := 12) hx hb dX0_nextMeeting_105 rfl ?_
                exact ih x2 (x3 + (-1)) _ h ls (lv_sub hl [4, 5, 1, 0] rfl) kx
              · have h := if_some_f h c11
                refine lv_iload_n hx hb dX0_nextMeeting_96 rfl (lv_at hl 5 rfl) ?_
                refine lv_goto (tgt := 101) hx hb dX0_nextMeeting_97 rfl ?_
                refine lv_istore_n (lv' := [(2, .int x3), (5, .int 1), (4, .int v2), (0, .ref (ad 60)), (1, .int x1), (3, .int x3)]) hx hb dX0_nextMeeting_101 rfl hl (by decide) rfl (fun ls hl => ?_)
                refine lv_iinc (v := x3 + (-1)) (lv' := [(3, .int (x3 + (-1))), (2, .int x3), (5, .int 1), (4, .int v2), (0, .ref (ad 60)), (1, .int x1)]) hx hb dX0_nextMeeting_102 hl (k := 5) rfl rfl (by decide) rfl (fun ls hl => ?_)
                refine lv_goto (tgt := 12) hx hb dX0_nextMeeting_105 rfl ?_
                exact ih x3 (x3 + (-1)) _ h ls (lv_sub hl [4, 5, 1, 0] rfl) kx
          · have h := if_some_f h c8
            refine lv_iload hx hb dX0_nextMeeting_46 (lv_at hl 0 rfl) ?_
            refine lv_aload_n hx hb dX0_nextMeeting_48 rfl (lv_at hl 1 rfl) ?_
            refine lg_town C hO hP dX0_nextMeeting_49 ?_
            refine tgN_meetWeek (t := 0) C hO (by decide) hP dX0_nextMeeting_52 ?_
            refine lv_iload_n hx hb dX0_nextMeeting_55 rfl (lv_at hl 2 rfl) ?_
            obtain ⟨v12, hv12, h⟩ := bd1_some h
            refine cc_ild C hP (hO.2.2.2 _ (tk_ 11 (by decide) (by decide))) (cg_t 11 (by decide) (by decide)) hv12 dX0_nextMeeting_56 ?_
            refine lv_icmp_ne (tgt := 69) hx hb dX0_nextMeeting_57 rfl (fun c13 => ?_) (fun c13 => ?_)
            · have h := if_some_f h c13
              refine lv_iconst (v := 0) hx hb dX0_nextMeeting_69 (by decide) ?_
              refine lv_istore (lv' := [(5, .int 0), (4, .int v2), (0, .ref (ad 60)), (1, .int x1), (2, .int x2), (3, .int x3)]) hx hb dX0_nextMeeting_70 hl (by decide) rfl (fun ls hl => ?_)
              refine lv_iload hx hb dX0_nextMeeting_72 (lv_at hl 0 rfl) ?_
              refine lv_if_eq (tgt := 100) hx hb dX0_nextMeeting_74 rfl (fun _ => ?_) (fun c => absurd c (by decide))
              refine lv_iload_n hx hb dX0_nextMeeting_100 rfl (lv_at hl 4 rfl) ?_
              refine lv_istore_n (lv' := [(2, .int x2), (5, .int 0), (4, .int v2), (0, .ref (ad 60)), (1, .int x1), (3, .int x3)]) hx hb dX0_nextMeeting_101 rfl hl (by decide) rfl (fun ls hl => ?_)
              refine lv_iinc (v := x3 + (-1)) (lv' := [(3, .int (x3 + (-1))), (2, .int x2), (5, .int 0), (4, .int v2), (0, .ref (ad 60)), (1, .int x1)]) hx hb dX0_nextMeeting_102 hl (k := 5) rfl rfl (by decide) rfl (fun ls hl => ?_)
              refine lv_goto (tgt := 12) hx hb dX0_nextMeeting_105 rfl ?_
              exact ih x2 (x3 + (-1)) _ h ls (lv_sub hl [4, 5, 1, 0] rfl) kx
            · have h := if_some_t h c13
              refine lv_iload_n hx hb dX0_nextMeeting_60 rfl (lv_at hl 4 rfl) ?_
              refine lv_iload_n hx hb dX0_nextMeeting_61 rfl (lv_at hl 2 rfl) ?_
              refine lv_icmp_le (tgt := 69) hx hb dX0_nextMeeting_62 rfl (fun c14 => ?_) (fun c14 => ?_)
              · have h := if_some_t h c14
                refine lv_iconst (v := 0) hx hb dX0_nextMeeting_69 (by decide) ?_
                refine lv_istore (lv' := [(5, .int 0), (4, .int v2), (0, .ref (ad 60)), (1, .int x1), (2, .int x2), (3, .int x3)]) hx hb dX0_nextMeeting_70 hl (by decide) rfl (fun ls hl => ?_)
                refine lv_iload hx hb dX0_nextMeeting_72 (lv_at hl 0 rfl) ?_
                refine lv_if_eq (tgt := 100) hx hb dX0_nextMeeting_74 rfl (fun _ => ?_) (fun c => absurd c (by decide))
                refine lv_iload_n hx hb dX0_nextMeeting_100 rfl (lv_at hl 4 rfl) ?_
                refine lv_istore_n (lv' := [(2, .int x2), (5, .int 0), (4, .int v2), (0, .ref (ad 60)), (1, .int x1), (3, .int x3)]) hx hb dX0_nextMeeting_101 rfl hl (by decide) rfl (fun ls hl => ?_)
                refine lv_iinc (v := x3 + (-1)) (lv' := [(3, .int (x3 + (-1))), (2, .int x2), (5, .int 0), (4, .int v2), (0, .ref (ad 60)), (1, .int x1)]) hx hb dX0_nextMeeting_102 hl (k := 5) rfl rfl (by decide) rfl (fun ls hl => ?_)
                refine lv_goto (tgt := 12) hx hb dX0_nextMeeting_105 rfl ?_
                exact ih x2 (x3 + (-1)) _ h ls (lv_sub hl [4, 5, 1, 0] rfl) kx
              · have h := if_some_f h c14
                refine lv_iconst (v := 1) hx hb dX0_nextMeeting_65 (by decide) ?_
                refine lv_goto (tgt := 70) hx hb dX0_nextMeeting_66 rfl ?_
                refine lv_istore (lv' := [(5, .int 1), (4, .int v2), (0, .ref (ad 60)), (1, .int x1), (2, .int x2), (3, .int x3)]) hx hb dX0_nextMeeting_70 hl (by decide) rfl (fun ls hl => ?_)
                refine lv_iload hx hb dX0_nextMeeting_72 (lv_at hl 0 rfl) ?_
                refine lv_if_eq (tgt := 100) hx hb dX0_nextMeeting_74 rfl (fun c => absurd c (by decide)) (fun _ => ?_)
                refine lv_iload_n hx hb dX0_nextMeeting_77 rfl (lv_at hl 4 rfl) ?_
                refine lv_iconst (v := (-1)) hx hb dX0_nextMeeting_78 (by decide) ?_
                refine lv_icmp_eq (tgt := 96) hx hb dX0_nextMeeting_79 rfl (fun c15 => ?_) (fun c15 => ?_)
                · have h := if_some_t h c15
                  refine lv_iload_n hx hb dX0_nextMeeting_96 rfl (lv_at hl 5 rfl) ?_
                  refine lv_goto (tgt := 101) hx hb dX0_nextMeeting_97 rfl ?_
                  refine lv_istore_n (lv' := [(2, .int x3), (5, .int 1), (4, .int v2), (0, .ref (ad 60)), (1, .int x1), (3, .int x3)]) hx hb dX0_nextMeeting_101 rfl hl (by decide) rfl (fun ls hl => ?_)
                  refine lv_iinc (v := x3 + (-1)) (lv' := [(3, .int (x3 + (-1))), (2, .int x3), (5, .int 1), (4, .int v2), (0, .ref (ad 60)), (1, .int x1)]) hx hb dX0_nextMeeting_102 hl (k := 5) rfl rfl (by decide) rfl (fun ls hl => ?_)
                  refine lv_goto (tgt := 12) hx hb dX0_nextMeeting_105 rfl ?_
                  exact ih x3 (x3 + (-1)) _ h ls (lv_sub hl [4, 5, 1, 0] rfl) kx
                · have h := if_some_f h c15
                  refine lv_iload hx hb dX0_nextMeeting_82 (lv_at hl 1 rfl) ?_
                  refine lv_aload_n hx hb dX0_nextMeeting_84 rfl (lv_at hl 2 rfl) ?_
                  refine lg_town C hO hP dX0_nextMeeting_85 ?_
                  refine tgN_meetWeek (t := 0) C hO (by decide) hP dX0_nextMeeting_88 ?_
                  refine lv_iload_n hx hb dX0_nextMeeting_91 rfl (lv_at hl 4 rfl) ?_
                  obtain ⟨v16, hv16, h⟩ := bd1_some h
                  refine cc_ild C hP (hO.2.2.2 _ (tk_ 11 (by decide) (by decide))) (cg_t 11 (by decide) (by decide)) hv16 dX0_nextMeeting_92 ?_
                  refine lv_icmp_gt (tgt := 100) hx hb dX0_nextMeeting_93 rfl (fun c17 => ?_) (fun c17 => ?_)
                  · have h := if_some_t h c17
                    refine lv_iload_n hx hb dX0_nextMeeting_100 rfl (lv_at hl 4 rfl) ?_
                    refine lv_istore_n (lv' := [(2, .int x2), (5, .int 1), (4, .int v2), (0, .ref (ad 60)), (1, .int x1), (3, .int x3)]) hx hb dX0_nextMeeting_101 rfl hl (by decide) rfl (fun ls hl => ?_)
                    refine lv_iinc (v := x3 + (-1)) (lv' := [(3, .int (x3 + (-1))), (2, .int x2), (5, .int 1), (4, .int v2), (0, .ref (ad 60)), (1, .int x1)]) hx hb dX0_nextMeeting_102 hl (k := 5) rfl rfl (by decide) rfl (fun ls hl => ?_)
                    refine lv_goto (tgt := 12) hx hb dX0_nextMeeting_105 rfl ?_
                    exact ih x2 (x3 + (-1)) _ h ls (lv_sub hl [4, 5, 1, 0] rfl) kx
                  · have h := if_some_f h c17
                    refine lv_iload_n hx hb dX0_nextMeeting_96 rfl (lv_at hl 5 rfl) ?_
                    refine lv_goto (tgt := 101) hx hb dX0_nextMeeting_97 rfl ?_
                    refine lv_istore_n (lv' := [(2, .int x3), (5, .int 1), (4, .int v2), (0, .ref (ad 60)), (1, .int x1), (3, .int x3)]) hx hb dX0_nextMeeting_101 rfl hl (by decide) rfl (fun ls hl => ?_)
                    refine lv_iinc (v := x3 + (-1)) (lv' := [(3, .int (x3 + (-1))), (2, .int x3), (5, .int 1), (4, .int v2), (0, .ref (ad 60)), (1, .int x1)]) hx hb dX0_nextMeeting_102 hl (k := 5) rfl rfl (by decide) rfl (fun ls hl => ?_)
                    refine lv_goto (tgt := 12) hx hb dX0_nextMeeting_105 rfl ?_
                    exact ih x3 (x3 + (-1)) _ h ls (lv_sub hl [4, 5, 1, 0] rfl) kx
  rw [L_nextMeeting] at h
  refine lv_iconst (v := (-1)) hx hb dX0_nextMeeting_0 (by decide) ?_
  refine lv_istore_n (lv' := [(2, .int (-1)), (0, .ref (ad 60)), (1, .int x1)]) hx hb dX0_nextMeeting_1 rfl hl (by decide) rfl (fun ls hl => ?_)
  refine lv_aload_n hx hb dX0_nextMeeting_2 rfl (lv_at hl 1 rfl) ?_
  refine lg_town C hO hP dX0_nextMeeting_3 ?_
  refine tgN_meetings (t := 0) C hO (by decide) hP dX0_nextMeeting_6 ?_
  refine lv_iconst (v := 1) hx hb dX0_nextMeeting_9 (by decide) ?_
  refine lv_isub hx hb dX0_nextMeeting_10 ?_
  refine lv_istore_n (lv' := [(3, .int ((st.1 (20 * 0) 14) - 1)), (2, .int (-1)), (0, .ref (ad 60)), (1, .int x1)]) hx hb dX0_nextMeeting_11 rfl hl (by decide) rfl (fun ls hl => ?_)
  obtain ⟨z18, hz19, h⟩ := bd1_some h
  refine L12 x1 N (-1) ((st.1 (20 * 0) 14) - 1) _ hz19 ls (lv_sub hl [2, 3, 1, 0] rfl) (fun ls hl => ?_)
  refine lv_iload_n hx hb dX0_nextMeeting_108 rfl (lv_at hl 0 rfl) ?_
  exact mm_iret hx hb hr hlk h dX0_nextMeeting_109
theorem q1200 : (Jvm.Cond.code ({ cls := "ChapterLoan", name := "nextMeeting", desc := "(I)I" } : Jvm.MethodName) prog_1_method_50_code (6 : Nat) (Option.some Jvm.ClassFile.FieldType.int)) ∈ lw_all := lw_g (lw_at lw_m5 156 rfl) rfl
theorem q1199 : (Jvm.Cond.instanceMethod ({ cls := "ChapterLoan", name := "nextMeeting", desc := "(I)I" } : Jvm.MethodName)) ∈ lw_all := lw_g (lw_at lw_m5 155 rfl) rfl
theorem k_L_nextMeeting {N : Nat} {a0 : Int32} {v : Int32} (C : cC p R d s m args c cc nL RX0 D cA A) (hO : klOk A ks ad) (hP : cW D cA ks ad st H) (h : L_nextMeeting N st a0 = some v) (hl : Cond.methodLink RX0 index yX0_nextMeeting ∈ lw_all) (hd : 0 + 1 ≤ d) (hz : s.heap.size ≤ H.size) (hsz : ls.size = nL) (hW : (rest.map fun v => v.category).sum ≤ 8) (hcs : cells ≤ R.cells ∧ slots ≤ R.slots) (hdg : decode cc pc = .ok (.invokevirtual index, 3)) (kk : W p l e R s m args below meth c H locs cells slots Q (F0 m (pc + 3) ls (.int v :: rest))) : W p l e R s m args below meth c H locs cells slots Q (F0 m pc ls (.int a0 :: .ref (ad 60) :: rest)) :=
  cc_cR (As := [.int a0]) C hP hz (w_L_nextMeeting hO h) (cwV 1 C.2.2.2.2.1 (lw_V hl q1199 qs29 q85 q1200) rfl rfl rfl (by decide +kernel) (mr_ C.2.2.2.2.2.1 hd (by decide))) (cc_recv C hP (hO.2.2.2 60 (by decide)) rfl (q := (RX0, TX0, 13)) rfl) rfl hsz rfl hW hdg hcs kk
abbrev cX0_knownBy : ByteArray := prog_1_method_51_code
def yX0_knownBy : MethodName := ⟨RX0, "knownBy", "(II)I"⟩
theorem dX0_knownBy_0 : decode cX0_knownBy 0 = .ok (.iconst 0, 1) := by decide +kernel
theorem dX0_knownBy_1 : decode cX0_knownBy 1 = .ok (.istore_n 3, 1) := by decide +kernel
theorem dX0_knownBy_2 : decode cX0_knownBy 2 = .ok (.iload_n 3, 1) := by decide +kernel
theorem dX0_knownBy_3 : decode cX0_knownBy 3 = .ok (.iconst 5, 1) := by decide +kernel
theorem dX0_knownBy_4 : decode cX0_knownBy 4 = .ok (.if_icmp .ge 16, 3) := by decide +kernel
theorem dX0_knownBy_7 : decode cX0_knownBy 7 = .ok (.aload_n 0, 1) := by decide +kernel
theorem dX0_knownBy_8 : decode cX0_knownBy 8 = .ok (.getfield 79, 3) := by decide +kernel
theorem dX0_knownBy_11 : decode cX0_knownBy 11 = .ok (.iload_n 3, 1) := by decide +kernel
theorem dX0_knownBy_12 : decode cX0_knownBy 12 = .ok (.iconst 0, 1) := by decide +kernel
theorem dX0_knownBy_13 : decode cX0_knownBy 13 = .ok (.iastore, 1) := by decide +kernel
theorem dX0_knownBy_14 : decode cX0_knownBy 14 = .ok (.iinc 3 1, 3) := by decide +kernel
theorem dX0_knownBy_17 : decode cX0_knownBy 17 = .ok (.goto (-15), 3) := by decide +kernel
theorem dX0_knownBy_20 : decode cX0_knownBy 20 = .ok (.aload_n 0, 1) := by decide +kernel
theorem dX0_knownBy_21 : decode cX0_knownBy 21 = .ok (.iconst (-1), 1) := by decide +kernel
theorem dX0_knownBy_22 : decode cX0_knownBy 22 = .ok (.invokevirtual 342, 3) := by decide +kernel
theorem dX0_knownBy_25 : decode cX0_knownBy 25 = .ok (.istore_n 3, 1) := by decide +kernel
theorem dX0_knownBy_26 : decode cX0_knownBy 26 = .ok (.iload_n 3, 1) := by decide +kernel
theorem dX0_knownBy_27 : decode cX0_knownBy 27 = .ok (.iconst (-1), 1) := by decide +kernel
theorem dX0_knownBy_28 : decode cX0_knownBy 28 = .ok (.if_icmp .eq 120, 3) := by decide +kernel
theorem dX0_knownBy_31 : decode cX0_knownBy 31 = .ok (.aload_n 0, 1) := by decide +kernel
theorem dX0_knownBy_32 : decode cX0_knownBy 32 = .ok (.getfield 46, 3) := by decide +kernel
theorem dX0_knownBy_35 : decode cX0_knownBy 35 = .ok (.getfield 333, 3) := by decide +kernel
theorem dX0_knownBy_38 : decode cX0_knownBy 38 = .ok (.iload_n 3, 1) := by decide +kernel
theorem dX0_knownBy_39 : decode cX0_knownBy 39 = .ok (.iaload, 1) := by decide +kernel
theorem dX0_knownBy_40 : decode cX0_knownBy 40 = .ok (.iload_n 2, 1) := by decide +kernel
theorem dX0_knownBy_41 : decode cX0_knownBy 41 = .ok (.if_icmp .gt 107, 3) := by decide +kernel
theorem dX0_knownBy_44 : decode cX0_knownBy 44 = .ok (.aload_n 0, 1) := by decide +kernel
theorem dX0_knownBy_45 : decode cX0_knownBy 45 = .ok (.getfield 46, 3) := by decide +kernel
theorem dX0_knownBy_48 : decode cX0_knownBy 48 = .ok (.getfield 336, 3) := by decide +kernel
theorem dX0_knownBy_51 : decode cX0_knownBy 51 = .ok (.iload_n 3, 1) := by decide +kernel
theorem dX0_knownBy_52 : decode cX0_knownBy 52 = .ok (.iaload, 1) := by decide +kernel
theorem dX0_knownBy_53 : decode cX0_knownBy 53 = .ok (.istore 4, 2) := by decide +kernel
theorem dX0_knownBy_55 : decode cX0_knownBy 55 = .ok (.aload_n 0, 1) := by decide +kernel
theorem dX0_knownBy_56 : decode cX0_knownBy 56 = .ok (.getfield 46, 3) := by decide +kernel
theorem dX0_knownBy_59 : decode cX0_knownBy 59 = .ok (.getfield 339, 3) := by decide +kernel
theorem dX0_knownBy_62 : decode cX0_knownBy 62 = .ok (.iload_n 3, 1) := by decide +kernel
theorem dX0_knownBy_63 : decode cX0_knownBy 63 = .ok (.iaload, 1) := by decide +kernel
theorem dX0_knownBy_64 : decode cX0_knownBy 64 = .ok (.istore 5, 2) := by decide +kernel
theorem dX0_knownBy_66 : decode cX0_knownBy 66 = .ok (.aload_n 0, 1) := by decide +kernel
theorem dX0_knownBy_67 : decode cX0_knownBy 67 = .ok (.getfield 79, 3) := by decide +kernel
theorem dX0_knownBy_70 : decode cX0_knownBy 70 = .ok (.iload 4, 2) := by decide +kernel
theorem dX0_knownBy_72 : decode cX0_knownBy 72 = .ok (.iaload, 1) := by decide +kernel
theorem dX0_knownBy_73 : decode cX0_knownBy 73 = .ok (.aload_n 0, 1) := by decide +kernel
theorem dX0_knownBy_74 : decode cX0_knownBy 74 = .ok (.getfield 79, 3) := by decide +kernel
theorem dX0_knownBy_77 : decode cX0_knownBy 77 = .ok (.iload 5, 2) := by decide +kernel
theorem dX0_knownBy_79 : decode cX0_knownBy 79 = .ok (.iaload, 1) := by decide +kernel
theorem dX0_knownBy_80 : decode cX0_knownBy 80 = .ok (.ior, 1) := by decide +kernel
theorem dX0_knownBy_81 : decode cX0_knownBy 81 = .ok (.aload_n 0, 1) := by decide +kernel
theorem dX0_knownBy_82 : decode cX0_knownBy 82 = .ok (.getfield 46, 3) := by decide +kernel
theorem dX0_knownBy_85 : decode cX0_knownBy 85 = .ok (.iload 4, 2) := by decide +kernel
theorem dX0_knownBy_87 : decode cX0_knownBy 87 = .ok (.aload_n 0, 1) := by decide +kernel
theorem dX0_knownBy_88 : decode cX0_knownBy 88 = .ok (.getfield 46, 3) := by decide +kernel
theorem dX0_knownBy_91 : decode cX0_knownBy 91 = .ok (.getfield 333, 3) := by decide +kernel
theorem dX0_knownBy_94 : decode cX0_knownBy 94 = .ok (.iload_n 3, 1) := by decide +kernel
theorem dX0_knownBy_95 : decode cX0_knownBy 95 = .ok (.iaload, 1) := by decide +kernel
theorem dX0_knownBy_96 : decode cX0_knownBy 96 = .ok (.invokevirtual 345, 3) := by decide +kernel
theorem dX0_knownBy_99 : decode cX0_knownBy 99 = .ok (.ior, 1) := by decide +kernel
theorem dX0_knownBy_100 : decode cX0_knownBy 100 = .ok (.aload_n 0, 1) := by decide +kernel
theorem dX0_knownBy_101 : decode cX0_knownBy 101 = .ok (.getfield 46, 3) := by decide +kernel
theorem dX0_knownBy_104 : decode cX0_knownBy 104 = .ok (.iload 5, 2) := by decide +kernel
theorem dX0_knownBy_106 : decode cX0_knownBy 106 = .ok (.aload_n 0, 1) := by decide +kernel
theorem dX0_knownBy_107 : decode cX0_knownBy 107 = .ok (.getfield 46, 3) := by decide +kernel
theorem dX0_knownBy_110 : decode cX0_knownBy 110 = .ok (.getfield 333, 3) := by decide +kernel
theorem dX0_knownBy_113 : decode cX0_knownBy 113 = .ok (.iload_n 3, 1) := by decide +kernel
theorem dX0_knownBy_114 : decode cX0_knownBy 114 = .ok (.iaload, 1) := by decide +kernel
theorem dX0_knownBy_115 : decode cX0_knownBy 115 = .ok (.invokevirtual 345, 3) := by decide +kernel
theorem dX0_knownBy_118 : decode cX0_knownBy 118 = .ok (.ior, 1) := by decide +kernel
theorem dX0_knownBy_119 : decode cX0_knownBy 119 = .ok (.istore 6, 2) := by decide +kernel
theorem dX0_knownBy_121 : decode cX0_knownBy 121 = .ok (.aload_n 0, 1) := by decide +kernel
theorem dX0_knownBy_122 : decode cX0_knownBy 122 = .ok (.getfield 79, 3) := by decide +kernel
theorem dX0_knownBy_125 : decode cX0_knownBy 125 = .ok (.iload 4, 2) := by decide +kernel
theorem dX0_knownBy_127 : decode cX0_knownBy 127 = .ok (.iload 6, 2) := by decide +kernel
theorem dX0_knownBy_129 : decode cX0_knownBy 129 = .ok (.iastore, 1) := by decide +kernel
theorem dX0_knownBy_130 : decode cX0_knownBy 130 = .ok (.aload_n 0, 1) := by decide +kernel
theorem dX0_knownBy_131 : decode cX0_knownBy 131 = .ok (.getfield 79, 3) := by decide +kernel
theorem dX0_knownBy_134 : decode cX0_knownBy 134 = .ok (.iload 5, 2) := by decide +kernel
theorem dX0_knownBy_136 : decode cX0_knownBy 136 = .ok (.iload 6, 2) := by decide +kernel
theorem dX0_knownBy_138 : decode cX0_knownBy 138 = .ok (.iastore, 1) := by decide +kernel
theorem dX0_knownBy_139 : decode cX0_knownBy 139 = .ok (.aload_n 0, 1) := by decide +kernel
theorem dX0_knownBy_140 : decode cX0_knownBy 140 = .ok (.iload_n 3, 1) := by decide +kernel
theorem dX0_knownBy_141 : decode cX0_knownBy 141 = .ok (.invokevirtual 342, 3) := by decide +kernel
theorem dX0_knownBy_144 : decode cX0_knownBy 144 = .ok (.istore_n 3, 1) := by decide +kernel
theorem dX0_knownBy_145 : decode cX0_knownBy 145 = .ok (.goto (-119), 3) := by decide +kernel
theorem dX0_knownBy_148 : decode cX0_knownBy 148 = .ok (.aload_n 0, 1) := by decide +kernel
theorem dX0_knownBy_149 : decode cX0_knownBy 149 = .ok (.getfield 79, 3) := by decide +kernel
theorem dX0_knownBy_152 : decode cX0_knownBy 152 = .ok (.iload_n 1, 1) := by decide +kernel
theorem dX0_knownBy_153 : decode cX0_knownBy 153 = .ok (.iaload, 1) := by decide +kernel
theorem dX0_knownBy_154 : decode cX0_knownBy 154 = .ok (.aload_n 0, 1) := by decide +kernel
theorem dX0_knownBy_155 : decode cX0_knownBy 155 = .ok (.getfield 46, 3) := by decide +kernel
theorem dX0_knownBy_158 : decode cX0_knownBy 158 = .ok (.iload_n 1, 1) := by decide +kernel
theorem dX0_knownBy_159 : decode cX0_knownBy 159 = .ok (.iload_n 2, 1) := by decide +kernel
theorem dX0_knownBy_160 : decode cX0_knownBy 160 = .ok (.invokevirtual 345, 3) := by decide +kernel
theorem dX0_knownBy_163 : decode cX0_knownBy 163 = .ok (.ior, 1) := by decide +kernel
theorem dX0_knownBy_164 : decode cX0_knownBy 164 = .ok (.ireturn, 1) := by decide +kernel
theorem q1197 : (Jvm.Cond.methodLink "ChapterLoan" (342 : Nat) ({ cls := "ChapterLoan", name := "nextMeeting", desc := "(I)I" } : Jvm.MethodName)) ∈ lw_all := lw_g (lw_at lw_m5 153 rfl) rfl
theorem q1201 : (Jvm.Cond.methodLink "ChapterLoan" (345 : Nat) ({ cls := "ChapterLoan$Town", name := "sees", desc := "(II)I" } : Jvm.MethodName)) ∈ lw_all := lw_g (lw_at lw_m5 157 rfl) rfl
theorem w_L_knownBy {l : Launch} {D : va_G} {cA : Nat → ClassId} {ks : List Nat} {ad : Nat → Nat} {A : Nat → Prop} (hO : klOk A ks ad) {st st' : CS} {N : Nat} {x1 : Int32} {x2 : Int32} {r0 : Int32} (h : L_knownBy N st x1 x2 = some (r0, st')) : cV l yX0_knownBy cX0_knownBy 7 (some .int) 2 D cA ks ad A st [.ref (ad 60), .int x1, .int x2] (some (.int r0)) st' := by
  refine cc_ofV (own := RX0) (by decide) rfl (Nat.le_of_ble_eq_true rfl) (fun p e s m below meth c R args ls C hr hlk hP hS hl hcs => ?_)
  have hx := C.1
  have hb := C.2.1
  have hown := C.2.2.2.1
  have hNst := C.2.2.2.2.2.2.2.1
  have hl : lv_has ls 7 [(0, .ref (ad 60)), (1, .int x1), (2, .int x2)] := hl
  have L2 : ∀ (x1 : Int32), ∀ (x2 : Int32), ∀ (n : Nat) (st : CS) (x3 : Int32) (st2 : CS), L_knownBy_L2 N x1 x2 n st x3 = some st2 → ∀ (H : Heap) (locs : List Loc), cW D cA ks ad st H → va_S A s.heap H locs → ∀ ls : Array Slot, lv_has ls 7 [(0, .ref (ad 60)), (1, .int x1), (2, .int x2), (3, .int x3)] → (∀ (H : Heap) (locs : List Loc), cW D cA ks ad st2 H → va_S A s.heap H locs → ∀ ls : Array Slot, lv_has ls 7 [(0, .ref (ad 60)), (1, .int x1), (2, .int x2)] → cWV p l e R s m args below meth c D cA ks ad A (some (.int r0)) st' H locs (F0 m 20 ls [])) → cWV p l e R s m args below meth c D cA ks ad A (some (.int r0)) st' H locs (F0 m 2 ls []) := by
    intro x1 x2 n
    induction n with
    | zero =>
      intro st x3 st2 h
      exact non_some h
    | succ n ih =>
      intro st x3 st2 h H locs hP hS ls hl kx
      rw [L_knownBy_L2] at h
      refine lv_iload_n hx hb dX0_knownBy_2 rfl (lv_at hl 3 rfl) ?_
      refine lv_iconst (v := 5) hx hb dX0_knownBy_3 (by decide) ?_
      refine lv_icmp_ge (tgt := 20) hx hb dX0_knownBy_4 rfl (fun c1 => ?_) (fun c1 => ?_)
      · have h := if_some_t h c1
        cases h
        exact kx _ _ hP hS ls (lv_sub hl [0, 1, 2] rfl)
      · have h := if_some_f h c1
        refine lv_aload_n hx hb dX0_knownBy_7 rfl (lv_at hl 0 rfl) ?_
        refine lg_heard C hO hP dX0_knownBy_8 ?_
        refine lv_iload_n hx hb dX0_knownBy_11 rfl (lv_at hl 3 rfl) ?_
        refine lv_iconst (v := 0) hx hb dX0_knownBy_12 (by decide) ?_
        obtain ⟨b2, hb2, h⟩ := bd1_some h
        refine cc_ist C hO hP hS (hO.2.2.2 _ (by decide)) rfl hb2 (cg_A rfl) hP.2 dX0_knownBy_13 (fun H locs hP hS => ?_)
        refine lv_iinc (v := x3 + 1) (lv' := [(3, .int (x3 + 1)), (0, .ref (ad 60)), (1, .int x1), (2, .int x2)]) hx hb dX0_knownBy_14 hl (k := 3) rfl rfl (by decide) rfl (fun ls hl => ?_)
        refine lv_goto (tgt := 2) hx hb dX0_knownBy_17 rfl ?_
        exact ih (csA st 67 b2) (x3 + 1) _ h _ _ hP hS ls (lv_sub hl [1, 2, 3, 0] rfl) kx
  have L26 : ∀ (x1 : Int32), ∀ (x2 : Int32), ∀ (n : Nat) (st : CS) (x3 : Int32) (st2 : CS), L_knownBy_L26 N x1 x2 n st x3 = some st2 → ∀ (H : Heap) (locs : List Loc), cW D cA ks ad st H → va_S A s.heap H locs → ∀ ls : Array Slot, lv_has ls 7 [(0, .ref (ad 60)), (1, .int x1), (2, .int x2), (3, .int x3)] → (∀ (H : Heap) (locs : List Loc), cW D cA ks ad st2 H → va_S A s.heap H locs → ∀ ls : Array Slot, lv_has ls 7 [(0, .ref (ad 60)), (1, .int x1), (2, .int x2)] → cWV p l e R s m args below meth c D cA ks ad A (some (.int r0)) st' H locs (F0 m 148 ls [])) → cWV p l e R s m args below meth c D cA ks ad A (some (.int r0)) st' H locs (F0 m 26 ls []) := by
    intro x1 x2 n
    induction n with
    | zero =>
      intro st x3 st2 h
      exact non_some h
    | succ n ih =>
      intro st x3 st2 h H locs hP hS ls hl kx
      rw [L_knownBy_L26] at h
      refine lv_iload_n hx hb dX0_knownBy_26 rfl (lv_at hl 3 rfl) ?_
      refine lv_iconst (v := (-1)) hx hb dX0_knownBy_27 (by decide) ?_
      refine lv_icmp_eq (tgt := 148) hx hb dX0_knownBy_28 rfl (fun c5 => ?_) (fun c5 => ?_)
      · have h := if_some_t h c5
        cases h
        exact kx _ _ hP hS ls (lv_sub hl [0, 1, 2] rfl)
      · have h := if_some_f h c5
        refine lv_aload_n hx hb dX0_knownBy_31 rfl (lv_at hl 0 rfl) ?_
        refine lg_town C hO hP dX0_knownBy_32 ?_
        refine tgN_meetWeek (t := 0) C hO (by decide) hP dX0_knownBy_35 ?_
        refine lv_iload_n hx hb dX0_knownBy_38 rfl (lv_at hl 3 rfl) ?_
        obtain ⟨v6, hv6, h⟩ := bd1_some h
        refine cc_ild C hP (hO.2.2.2 _ (tk_ 11 (by decide) (by decide))) (cg_t 11 (by decide) (by decide)) hv6 dX0_knownBy_39 ?_
        refine lv_iload_n hx hb dX0_knownBy_40 rfl (lv_at hl 2 rfl) ?_
        refine lv_icmp_gt (tgt := 148) hx hb dX0_knownBy_41 rfl (fun c7 => ?_) (fun c7 => ?_)
        · have h := if_some_t h c7
          cases h
          exact kx _ _ hP hS ls (lv_sub hl [0, 1, 2] rfl)
        · have h := if_some_f h c7
          refine lv_aload_n hx hb dX0_knownBy_44 rfl (lv_at hl 0 rfl) ?_
          refine lg_town C hO hP dX0_knownBy_45 ?_
          refine tgN_meetOne (t := 0) C hO (by decide) hP dX0_knownBy_48 ?_
          refine lv_iload_n hx hb dX0_knownBy_51 rfl (lv_at hl 3 rfl) ?_
          obtain ⟨v8, hv8, h⟩ := bd1_some h
          refine cc_ild C hP (hO.2.2.2 _ (tk_ 12 (by decide) (by decide))) (cg_t 12 (by decide) (by decide)) hv8 dX0_knownBy_52 ?_
          refine lv_istore (lv' := [(4, .int v8), (0, .ref (ad 60)), (1, .int x1), (2, .int x2), (3, .int x3)]) hx hb dX0_knownBy_53 hl (by decide) rfl (fun ls hl => ?_)
          refine lv_aload_n hx hb dX0_knownBy_55 rfl (lv_at hl 1 rfl) ?_
          refine lg_town C hO hP dX0_knownBy_56 ?_
          refine tgN_meetOther (t := 0) C hO (by decide) hP dX0_knownBy_59 ?_
          refine lv_iload_n hx hb dX0_knownBy_62 rfl (lv_at hl 4 rfl) ?_
          obtain ⟨v9, hv9, h⟩ := bd1_some h
          refine cc_ild C hP (hO.2.2.2 _ (tk_ 13 (by decide) (by decide))) (cg_t 13 (by decide) (by decide)) hv9 dX0_knownBy_63 ?_
          refine lv_istore (lv' := [(5, .int v9), (4, .int v8), (0, .ref (ad 60)), (1, .int x1), (2, .int x2), (3, .int x3)]) hx hb dX0_knownBy_64 hl (by decide) rfl (fun ls hl => ?_)
          refine lv_aload_n hx hb dX0_knownBy_66 rfl (lv_at hl 2 rfl) ?_
          refine lg_heard C hO hP dX0_knownBy_67 ?_
          refine lv_iload hx hb dX0_knownBy_70 (lv_at hl 1 rfl) ?_
          obtain ⟨v10, hv10, h⟩ := bd1_some h
          refine cc_ild C hP (hO.2.2.2 _ (by decide)) rfl hv10 dX0_knownBy_72 ?_
          refine lv_aload_n hx hb dX0_knownBy_73 rfl (lv_at hl 2 rfl) ?_
          refine lg_heard C hO hP dX0_knownBy_74 ?_
          refine lv_iload hx hb dX0_knownBy_77 (lv_at hl 0 rfl) ?_
          obtain ⟨v11, hv11, h⟩ := bd1_some h
          refine cc_ild C hP (hO.2.2.2 _ (by decide)) rfl hv11 dX0_knownBy_79 ?_
          refine lv_ior hx hb dX0_knownBy_80 ?_
          refine lv_aload_n hx hb dX0_knownBy_81 rfl (lv_at hl 2 rfl) ?_
          refine lg_town C hO hP dX0_knownBy_82 ?_
          refine lv_iload hx hb dX0_knownBy_85 (lv_at hl 1 rfl) ?_
          refine lv_aload_n hx hb dX0_knownBy_87 rfl (lv_at hl 2 rfl) ?_
          refine lg_town C hO hP dX0_knownBy_88 ?_
          refine tgN_meetWeek (t := 0) C hO (by decide) hP dX0_knownBy_91 ?_
          refine lv_iload_n hx hb dX0_knownBy_94 rfl (lv_at hl 5 rfl) ?_
          obtain ⟨v12, hv12, h⟩ := bd1_some h
          refine cc_ild C hP (hO.2.2.2 _ (tk_ 11 (by decide) (by decide))) (cg_t 11 (by decide) (by decide)) hv12 dX0_knownBy_95 ?_
          obtain ⟨v13, hv13, h⟩ := bd1_some h
          refine k_T_sees (t := 0) C hO (by decide) hP hv13 q1201 (Nat.le_of_ble_eq_true rfl) hS.1 hl.1 (Nat.le_of_ble_eq_true rfl) hcs dX0_knownBy_96 ?_
          refine lv_ior hx hb dX0_knownBy_99 ?_
          refine lv_aload_n hx hb dX0_knownBy_100 rfl (lv_at hl 2 rfl) ?_
          refine lg_town C hO hP dX0_knownBy_101 ?_
          refine lv_iload hx hb dX0_knownBy_104 (lv_at hl 0 rfl) ?_
          refine lv_aload_n hx hb dX0_knownBy_106 rfl (lv_at hl 2 rfl) ?_
          refine lg_town C hO hP dX0_knownBy_107 ?_
          refine tgN_meetWeek (t := 0) C hO (by decide) hP dX0_knownBy_110 ?_
          refine lv_iload_n hx hb dX0_knownBy_113 rfl (lv_at hl 5 rfl) ?_
          obtain ⟨v14, hv14, h⟩ := bd1_some h
          refine cc_ild C hP (hO.2.2.2 _ (tk_ 11 (by decide) (by decide))) (cg_t 11 (by decide) (by decide)) hv14 dX0_knownBy_114 ?_
          obtain ⟨v15, hv15, h⟩ := bd1_some h
          refine k_T_sees (t := 0) C hO (by decide) hP hv15 q1201 (Nat.le_of_ble_eq_true rfl) hS.1 hl.1 (Nat.le_of_ble_eq_true rfl) hcs dX0_knownBy_115 ?_
          refine lv_ior hx hb dX0_knownBy_118 ?_
          refine lv_istore (lv' := [(6, .int (((v10 ||| v11) ||| v13) ||| v15)), (5, .int v9), (4, .int v8), (0, .ref (ad 60)), (1, .int x1), (2, .int x2), (3, .int x3)]) hx hb dX0_knownBy_119 hl (by decide) rfl (fun ls hl => ?_)
          refine lv_aload_n hx hb dX0_knownBy_121 rfl (lv_at hl 3 rfl) ?_
          refine lg_heard C hO hP dX0_knownBy_122 ?_
          refine lv_iload hx hb dX0_knownBy_125 (lv_at hl 2 rfl) ?_
          refine lv_iload hx hb dX0_knownBy_127 (lv_at hl 0 rfl) ?_
          obtain ⟨b16, hb16, h⟩ := bd1_some h
          refine cc_ist C hO hP hS (hO.2.2.2 _ (by decide)) rfl hb16 (cg_A rfl) hP.2 dX0_knownBy_129 (fun H locs hP hS => ?_)
          refine lv_aload_n hx hb dX0_knownBy_130 rfl (lv_at hl 3 rfl) ?_
          refine lg_heard C hO hP dX0_knownBy_131 ?_
          refine lv_iload hx hb dX0_knownBy_134 (lv_at hl 1 rfl) ?_
          refine lv_iload hx hb dX0_knownBy_136 (lv_at hl 0 rfl) ?_
          obtain ⟨b17, hb17, h⟩ := bd1_some h
          refine cc_ist C hO hP hS (hO.2.2.2 _ (by decide)) rfl hb17 (cg_A rfl) hP.2 dX0_knownBy_138 (fun H locs hP hS => ?_)
          refine lv_aload_n hx hb dX0_knownBy_139 rfl (lv_at hl 3 rfl) ?_
          refine lv_iload_n hx hb dX0_knownBy_140 rfl (lv_at hl 6 rfl) ?_
          obtain ⟨v18, hv18, h⟩ := bd1_some h
          refine k_L_nextMeeting C hO hP hv18 q1197 (Nat.le_of_ble_eq_true rfl) hS.1 hl.1 (Nat.le_of_ble_eq_true rfl) hcs dX0_knownBy_141 ?_
          refine lv_istore_n (lv' := [(3, .int v18), (6, .int (((v10 ||| v11) ||| v13) ||| v15)), (5, .int v9), (4, .int v8), (0, .ref (ad 60)), (1, .int x1), (2, .int x2)]) hx hb dX0_knownBy_144 rfl hl (by decide) rfl (fun ls hl => ?_)
          refine lv_goto (tgt := 26) hx hb dX0_knownBy_145 rfl ?_
          exact ih (csA (csA st 67 b16) 67 b17) v18 _ h _ _ hP hS ls (lv_sub hl [4, 5, 6, 0] rfl) kx
  rw [L_knownBy] at h
  refine lv_iconst (v := 0) hx hb dX0_knownBy_0 (by decide) ?_
  refine lv_istore_n (lv' := [(3, .int 0), (0, .ref (ad 60)), (1, .int x1), (2, .int x2)]) hx hb dX0_knownBy_1 rfl hl (by decide) rfl (fun ls hl => ?_)
  obtain ⟨st3, hz23, h⟩ := bd1_some h
  refine L2 x1 x2 N _ 0 _ hz23 _ _ hP hS ls (lv_sub hl [1, 2, 3, 0] rfl) (fun H locs hP hS ls hl => ?_)
  refine lv_aload_n hx hb dX0_knownBy_20 rfl (lv_at hl 0 rfl) ?_
  refine lv_iconst (v := (-1)) hx hb dX0_knownBy_21 (by decide) ?_
  obtain ⟨v4, hv4, h⟩ := bd1_some h
  refine k_L_nextMeeting C hO hP hv4 q1197 (Nat.le_of_ble_eq_true rfl) hS.1 hl.1 (Nat.le_of_ble_eq_true rfl) hcs dX0_knownBy_22 ?_
  refine lv_istore_n (lv' := [(3, .int v4), (0, .ref (ad 60)), (1, .int x1), (2, .int x2)]) hx hb dX0_knownBy_25 rfl hl (by decide) rfl (fun ls hl => ?_)
  obtain ⟨st19, hz22, h⟩ := bd1_some h
  refine L26 x1 x2 N _ v4 _ hz22 _ _ hP hS ls (lv_sub hl [1, 2, 3, 0] rfl) (fun H locs hP hS ls hl => ?_)
  refine lv_aload_n hx hb dX0_knownBy_148 rfl (lv_at hl 0 rfl) ?_
  refine lg_heard C hO hP dX0_knownBy_149 ?_
  refine lv_iload_n hx hb dX0_knownBy_152 rfl (lv_at hl 1 rfl) ?_
  obtain ⟨v20, hv20, h⟩ := bd1_some h
  refine cc_ild C hP (hO.2.2.2 _ (by decide)) rfl hv20 dX0_knownBy_153 ?_
  refine lv_aload_n hx hb dX0_knownBy_154 rfl (lv_at hl 0 rfl) ?_
  refine lg_town C hO hP dX0_knownBy_155 ?_
  refine lv_iload_n hx hb dX0_knownBy_158 rfl (lv_at hl 1 rfl) ?_
  refine lv_iload_n hx hb dX0_knownBy_159 rfl (lv_at hl 2 rfl) ?_
  obtain ⟨v21, hv21, h⟩ := bd1_some h
  refine k_T_sees (t := 0) C hO (by decide) hP hv21 q1201 (Nat.le_of_ble_eq_true rfl) hS.1 hl.1 (Nat.le_of_ble_eq_true rfl) hcs dX0_knownBy_160 ?_
  refine lv_ior hx hb dX0_knownBy_163 ?_
  exact cc_viret hx hb hr hlk h hP hS dX0_knownBy_164
theorem q1196 : (Jvm.Cond.code ({ cls := "ChapterLoan", name := "knownBy", desc := "(II)I" } : Jvm.MethodName) prog_1_method_51_code (7 : Nat) (Option.some Jvm.ClassFile.FieldType.int)) ∈ lw_all := lw_g (lw_at lw_m5 152 rfl) rfl
theorem q1195 : (Jvm.Cond.instanceMethod ({ cls := "ChapterLoan", name := "knownBy", desc := "(II)I" } : Jvm.MethodName)) ∈ lw_all := lw_g (lw_at lw_m5 151 rfl) rfl
theorem k_L_knownBy {N : Nat} {a0 : Int32} {a1 : Int32} {v : Int32} {st' : CS} (C : cC p R d s m args c cc nL RX0 D cA A) (hO : klOk A ks ad) (hP : cW D cA ks ad st H) (hS : va_S A s.heap H locs) (h : L_knownBy N st a0 a1 = some (v, st')) (hl : Cond.methodLink RX0 index yX0_knownBy ∈ lw_all) (hd : 2 + 1 ≤ d) (hsz : ls.size = nL) (hW : (rest.map fun v => v.category).sum ≤ 8) (hcs : cells ≤ R.cells ∧ slots ≤ R.slots) (hdg : decode cc pc = .ok (.invokevirtual index, 3)) (kk : ∀ (H1 : Heap) (locs1 : List Loc), cW D cA ks ad st' H1 → va_S A s.heap H1 locs1 → W p l e R s m args below meth c H1 locs1 cells slots Q (F0 m (pc + 3) ls (.int v :: rest))) : W p l e R s m args below meth c H locs cells slots Q (F0 m pc ls (.int a1 :: .int a0 :: .ref (ad 60) :: rest)) :=
  cc_cV (As := [.int a0, .int a1]) C hP hS (w_L_knownBy hO h) (cwV 2 C.2.2.2.2.1 (lw_V hl q1195 qs28 q85 q1196) rfl rfl rfl (by decide +kernel) (mr_ C.2.2.2.2.2.1 hd (by decide))) (cc_recv C hP (hO.2.2.2 60 (by decide)) rfl (q := (RX0, TX0, 13)) rfl) rfl hsz rfl hW hdg hcs kk
abbrev cX0_knows : ByteArray := prog_1_method_52_code
def yX0_knows : MethodName := ⟨RX0, "knows", "(II)I"⟩
theorem dX0_knows_0 : decode cX0_knows 0 = .ok (.aload_n 0, 1) := by decide +kernel
theorem dX0_knows_1 : decode cX0_knows 1 = .ok (.iload_n 1, 1) := by decide +kernel
theorem dX0_knows_2 : decode cX0_knows 2 = .ok (.invokestatic 327, 3) := by decide +kernel
theorem dX0_knows_5 : decode cX0_knows 5 = .ok (.ifCond .eq 14, 3) := by decide +kernel
theorem dX0_knows_8 : decode cX0_knows 8 = .ok (.iload_n 2, 1) := by decide +kernel
theorem dX0_knows_9 : decode cX0_knows 9 = .ok (.invokestatic 324, 3) := by decide +kernel
theorem dX0_knows_12 : decode cX0_knows 12 = .ok (.ifCond .eq 7, 3) := by decide +kernel
theorem dX0_knows_15 : decode cX0_knows 15 = .ok (.iconst 1, 1) := by decide +kernel
theorem dX0_knows_16 : decode cX0_knows 16 = .ok (.goto 4, 3) := by decide +kernel
theorem dX0_knows_19 : decode cX0_knows 19 = .ok (.iconst 0, 1) := by decide +kernel
theorem dX0_knows_20 : decode cX0_knows 20 = .ok (.iconst 1, 1) := by decide +kernel
theorem dX0_knows_21 : decode cX0_knows 21 = .ok (.invokevirtual 102, 3) := by decide +kernel
theorem dX0_knows_24 : decode cX0_knows 24 = .ok (.aload_n 0, 1) := by decide +kernel
theorem dX0_knows_25 : decode cX0_knows 25 = .ok (.iload_n 1, 1) := by decide +kernel
theorem dX0_knows_26 : decode cX0_knows 26 = .ok (.iload_n 2, 1) := by decide +kernel
theorem dX0_knows_27 : decode cX0_knows 27 = .ok (.invokevirtual 348, 3) := by decide +kernel
theorem dX0_knows_30 : decode cX0_knows 30 = .ok (.ireturn, 1) := by decide +kernel
theorem dX0_knows_31 : decode cX0_knows 31 = .ok (.astore_n 3, 1) := by decide +kernel
theorem dX0_knows_32 : decode cX0_knows 32 = .ok (.aload_n 0, 1) := by decide +kernel
theorem dX0_knows_33 : decode cX0_knows 33 = .ok (.aload_n 3, 1) := by decide +kernel
theorem dX0_knows_34 : decode cX0_knows 34 = .ok (.invokevirtual 123, 3) := by decide +kernel
theorem dX0_knows_37 : decode cX0_knows 37 = .ok (.ireturn, 1) := by decide +kernel
theorem q1193 : (Jvm.Cond.methodLink "ChapterLoan" (348 : Nat) ({ cls := "ChapterLoan", name := "knownBy", desc := "(II)I" } : Jvm.MethodName)) ∈ lw_all := lw_g (lw_at lw_m5 149 rfl) rfl
theorem w_L_knows {l : Launch} {D : va_G} {cA : Nat → ClassId} {ks : List Nat} {ad : Nat → Nat} {A : Nat → Prop} (hO : klOk A ks ad) {st st' : CS} {N : Nat} {x1 : Int32} {x2 : Int32} {r0 : Int32} (h : L_knows N st x1 x2 = some (r0, st')) : Met l yX0_knows (wsW_ yX0_knows cX0_knows 4 (some .int) [(0, 30, 31, 8)]) (k2_rm 3 (40 * 3)) (cPre D cA ks ad A st [.ref (ad 60), .int x1, .int x2]) (cQ (some (.int r0)) D cA ks ad A st') 0 0 A := by
  refine cc_ofH (own := RX0) (by decide) rfl (Nat.le_of_ble_eq_true rfl) (fun p e s m below meth c R args ls C hr hlk htab hP hS hl hcs => ?_)
  have hx := C.1
  have hb := C.2.1
  have hown := C.2.2.2.1
  have hNst := C.2.2.2.2.2.2.2.1
  have hl : lv_has ls 4 [(0, .ref (ad 60)), (1, .int x1), (2, .int x2)] := hl
  rw [L_knows] at h
  refine lv_aload_n hx hb dX0_knows_0 rfl (lv_at hl 0 rfl) ?_
  refine lv_iload_n hx hb dX0_knows_1 rfl (lv_at hl 1 rfl) ?_
  obtain ⟨v1, hv1, h⟩ := bd1_some h
  refine k_L_isFigure hx hb C.2.2.1 hown C.2.2.2.2.1 C.2.2.2.2.2.1 q1186 hv1 (Nat.le_of_ble_eq_true rfl) hl.1 (Nat.le_of_ble_eq_true rfl) hcs dX0_knows_2 ?_
  refine lv_if_eq (tgt := 19) hx hb dX0_knows_5 rfl (fun c2 => ?_) (fun c2 => ?_)
  · have h := if_some_t h c2
    refine lv_iconst (v := 0) hx hb dX0_knows_19 (by decide) ?_
    refine lv_iconst (v := 1) hx hb dX0_knows_20 (by decide) ?_
    obtain ⟨o5, st4, hv3, h⟩ := bd2_some h
    rcases o5 with _ | v3
    · rw [onx_none] at h
      refine k_L_needT C hO hP hS hv3 q402 (Nat.le_of_ble_eq_true rfl) hl.1 (Nat.le_of_ble_eq_true rfl) hcs dX0_knows_21 (fun H locs hP hS => ?_)
      refine cc_catch (pre := []) (a1 := 0) (a2 := 30) (hp := 31) (post := []) C hO hP q129 htab rfl rfl ?_
      refine lv_astore_n (lv' := [(3, .ref (ad 61)), (0, .ref (ad 60)), (1, .int x1), (2, .int x2)]) hx hb dX0_knows_31 rfl hl (by decide) rfl (fun ls hl => ?_)
      refine lv_aload_n hx hb dX0_knows_32 rfl (lv_at hl 1 rfl) ?_
      refine lv_aload_n hx hb dX0_knows_33 rfl (lv_at hl 0 rfl) ?_
      obtain ⟨v6, st7, hv6, h⟩ := bd2_some h
      refine k_L_finds C hO hP hS hv6 q410 (Nat.le_of_ble_eq_true rfl) hl.1 (Nat.le_of_ble_eq_true rfl) hcs dX0_knows_34 (fun H locs hP hS => ?_)
      exact cc_viret hx hb hr hlk h hP hS dX0_knows_37
    · rw [onx_some] at h
      refine k_L_needR C hO hP hS hv3 q402 (Nat.le_of_ble_eq_true rfl) hl.1 (Nat.le_of_ble_eq_true rfl) hcs dX0_knows_21 (fun H locs hP hS => ?_)
      refine lv_aload_n hx hb dX0_knows_24 rfl (lv_at hl 0 rfl) ?_
      refine lv_iload_n hx hb dX0_knows_25 rfl (lv_at hl 1 rfl) ?_
      refine lv_iload_n hx hb dX0_knows_26 rfl (lv_at hl 2 rfl) ?_
      obtain ⟨v8, st9, hv8, h⟩ := bd2_some h
      refine k_L_knownBy C hO hP hS hv8 q1193 (Nat.le_of_ble_eq_true rfl) hl.1 (Nat.le_of_ble_eq_true rfl) hcs dX0_knows_27 (fun H locs hP hS => ?_)
      exact cc_viret hx hb hr hlk h hP hS dX0_knows_30
  · have h := if_some_f h c2
    refine lv_iload_n hx hb dX0_knows_8 rfl (lv_at hl 2 rfl) ?_
    obtain ⟨v10, hv10, h⟩ := bd1_some h
    refine k_L_isWeek hx hb C.2.2.1 hown C.2.2.2.2.1 C.2.2.2.2.2.1 q1183 hv10 (Nat.le_of_ble_eq_true rfl) hl.1 (Nat.le_of_ble_eq_true rfl) hcs dX0_knows_9 ?_
    refine lv_if_eq (tgt := 19) hx hb dX0_knows_12 rfl (fun c11 => ?_) (fun c11 => ?_)
    · have h := if_some_t h c11
      refine lv_iconst (v := 0) hx hb dX0_knows_19 (by decide) ?_
      refine lv_iconst (v := 1) hx hb dX0_knows_20 (by decide) ?_
      obtain ⟨o14, st13, hv12, h⟩ := bd2_some h
      rcases o14 with _ | v12
      · rw [onx_none] at h
        refine k_L_needT C hO hP hS hv12 q402 (Nat.le_of_ble_eq_true rfl) hl.1 (Nat.le_of_ble_eq_true rfl) hcs dX0_knows_21 (fun H locs hP hS => ?_)
        refine cc_catch (pre := []) (a1 := 0) (a2 := 30) (hp := 31) (post := []) C hO hP q129 htab rfl rfl ?_
        refine lv_astore_n (lv' := [(3, .ref (ad 61)), (0, .ref (ad 60)), (1, .int x1), (2, .int x2)]) hx hb dX0_knows_31 rfl hl (by decide) rfl (fun ls hl => ?_)
        refine lv_aload_n hx hb dX0_knows_32 rfl (lv_at hl 1 rfl) ?_
        refine lv_aload_n hx hb dX0_knows_33 rfl (lv_at hl 0 rfl) ?_
        obtain ⟨v15, st16, hv15, h⟩ := bd2_some h
        refine k_L_finds C hO hP hS hv15 q410 (Nat.le_of_ble_eq_true rfl) hl.1 (Nat.le_of_ble_eq_true rfl) hcs dX0_knows_34 (fun H locs hP hS => ?_)
        exact cc_viret hx hb hr hlk h hP hS dX0_knows_37
      · rw [onx_some] at h
        refine k_L_needR C hO hP hS hv12 q402 (Nat.le_of_ble_eq_true rfl) hl.1 (Nat.le_of_ble_eq_true rfl) hcs dX0_knows_21 (fun H locs hP hS => ?_)
        refine lv_aload_n hx hb dX0_knows_24 rfl (lv_at hl 0 rfl) ?_
        refine lv_iload_n hx hb dX0_knows_25 rfl (lv_at hl 1 rfl) ?_
        refine lv_iload_n hx hb dX0_knows_26 rfl (lv_at hl 2 rfl) ?_
        obtain ⟨v17, st18, hv17, h⟩ := bd2_some h
        refine k_L_knownBy C hO hP hS hv17 q1193 (Nat.le_of_ble_eq_true rfl) hl.1 (Nat.le_of_ble_eq_true rfl) hcs dX0_knows_27 (fun H locs hP hS => ?_)
        exact cc_viret hx hb hr hlk h hP hS dX0_knows_30
    · have h := if_some_f h c11
      refine lv_iconst (v := 1) hx hb dX0_knows_15 (by decide) ?_
      refine lv_goto (tgt := 20) hx hb dX0_knows_16 rfl ?_
      refine lv_iconst (v := 1) hx hb dX0_knows_20 (by decide) ?_
      obtain ⟨o21, st20, hv19, h⟩ := bd2_some h
      rcases o21 with _ | v19
      · rw [onx_none] at h
        refine k_L_needT C hO hP hS hv19 q402 (Nat.le_of_ble_eq_true rfl) hl.1 (Nat.le_of_ble_eq_true rfl) hcs dX0_knows_21 (fun H locs hP hS => ?_)
        refine cc_catch (pre := []) (a1 := 0) (a2 := 30) (hp := 31) (post := []) C hO hP q129 htab rfl rfl ?_
        refine lv_astore_n (lv' := [(3, .ref (ad 61)), (0, .ref (ad 60)), (1, .int x1), (2, .int x2)]) hx hb dX0_knows_31 rfl hl (by decide) rfl (fun ls hl => ?_)
        refine lv_aload_n hx hb dX0_knows_32 rfl (lv_at hl 1 rfl) ?_
        refine lv_aload_n hx hb dX0_knows_33 rfl (lv_at hl 0 rfl) ?_
        obtain ⟨v22, st23, hv22, h⟩ := bd2_some h
        refine k_L_finds C hO hP hS hv22 q410 (Nat.le_of_ble_eq_true rfl) hl.1 (Nat.le_of_ble_eq_true rfl) hcs dX0_knows_34 (fun H locs hP hS => ?_)
        exact cc_viret hx hb hr hlk h hP hS dX0_knows_37
      · rw [onx_some] at h
        refine k_L_needR C hO hP hS hv19 q402 (Nat.le_of_ble_eq_true rfl) hl.1 (Nat.le_of_ble_eq_true rfl) hcs dX0_knows_21 (fun H locs hP hS => ?_)
        refine lv_aload_n hx hb dX0_knows_24 rfl (lv_at hl 0 rfl) ?_
        refine lv_iload_n hx hb dX0_knows_25 rfl (lv_at hl 1 rfl) ?_
        refine lv_iload_n hx hb dX0_knows_26 rfl (lv_at hl 2 rfl) ?_
        obtain ⟨v24, st25, hv24, h⟩ := bd2_some h
        refine k_L_knownBy C hO hP hS hv24 q1193 (Nat.le_of_ble_eq_true rfl) hl.1 (Nat.le_of_ble_eq_true rfl) hcs dX0_knows_27 (fun H locs hP hS => ?_)
        exact cc_viret hx hb hr hlk h hP hS dX0_knows_30
abbrev cX0_common : ByteArray := prog_1_method_53_code
def yX0_common : MethodName := ⟨RX0, "common", "(II)I"⟩
theorem dX0_common_0 : decode cX0_common 0 = .ok (.aload_n 0, 1) := by decide +kernel
theorem dX0_common_1 : decode cX0_common 1 = .ok (.iload_n 1, 1) := by decide +kernel
theorem dX0_common_2 : decode cX0_common 2 = .ok (.iconst 1, 1) := by decide +kernel
theorem dX0_common_3 : decode cX0_common 3 = .ok (.bipush 31, 2) := by decide +kernel
theorem dX0_common_5 : decode cX0_common 5 = .ok (.invokestatic 91, 3) := by decide +kernel
theorem dX0_common_8 : decode cX0_common 8 = .ok (.ifCond .eq 14, 3) := by decide +kernel
theorem dX0_common_11 : decode cX0_common 11 = .ok (.iload_n 2, 1) := by decide +kernel
theorem dX0_common_12 : decode cX0_common 12 = .ok (.invokestatic 324, 3) := by decide +kernel
theorem dX0_common_15 : decode cX0_common 15 = .ok (.ifCond .eq 7, 3) := by decide +kernel
theorem dX0_common_18 : decode cX0_common 18 = .ok (.iconst 1, 1) := by decide +kernel
theorem dX0_common_19 : decode cX0_common 19 = .ok (.goto 4, 3) := by decide +kernel
theorem dX0_common_22 : decode cX0_common 22 = .ok (.iconst 0, 1) := by decide +kernel
theorem dX0_common_23 : decode cX0_common 23 = .ok (.iconst 1, 1) := by decide +kernel
theorem dX0_common_24 : decode cX0_common 24 = .ok (.invokevirtual 102, 3) := by decide +kernel
theorem dX0_common_27 : decode cX0_common 27 = .ok (.sipush 255, 3) := by decide +kernel
theorem dX0_common_30 : decode cX0_common 30 = .ok (.istore_n 3, 1) := by decide +kernel
theorem dX0_common_31 : decode cX0_common 31 = .ok (.iconst 0, 1) := by decide +kernel
theorem dX0_common_32 : decode cX0_common 32 = .ok (.istore 4, 2) := by decide +kernel
theorem dX0_common_34 : decode cX0_common 34 = .ok (.iload 4, 2) := by decide +kernel
theorem dX0_common_36 : decode cX0_common 36 = .ok (.iconst 5, 1) := by decide +kernel
theorem dX0_common_37 : decode cX0_common 37 = .ok (.if_icmp .ge 32, 3) := by decide +kernel
theorem dX0_common_40 : decode cX0_common 40 = .ok (.iload_n 3, 1) := by decide +kernel
theorem dX0_common_41 : decode cX0_common 41 = .ok (.iload_n 1, 1) := by decide +kernel
theorem dX0_common_42 : decode cX0_common 42 = .ok (.iload 4, 2) := by decide +kernel
theorem dX0_common_44 : decode cX0_common 44 = .ok (.invokestatic 135, 3) := by decide +kernel
theorem dX0_common_47 : decode cX0_common 47 = .ok (.ifCond .eq 13, 3) := by decide +kernel
theorem dX0_common_50 : decode cX0_common 50 = .ok (.aload_n 0, 1) := by decide +kernel
theorem dX0_common_51 : decode cX0_common 51 = .ok (.iload 4, 2) := by decide +kernel
theorem dX0_common_53 : decode cX0_common 53 = .ok (.iload_n 2, 1) := by decide +kernel
theorem dX0_common_54 : decode cX0_common 54 = .ok (.invokevirtual 348, 3) := by decide +kernel
theorem dX0_common_57 : decode cX0_common 57 = .ok (.goto 4, 3) := by decide +kernel
theorem dX0_common_60 : decode cX0_common 60 = .ok (.iload_n 3, 1) := by decide +kernel
theorem dX0_common_61 : decode cX0_common 61 = .ok (.iand, 1) := by decide +kernel
theorem dX0_common_62 : decode cX0_common 62 = .ok (.istore_n 3, 1) := by decide +kernel
theorem dX0_common_63 : decode cX0_common 63 = .ok (.iinc 4 1, 3) := by decide +kernel
theorem dX0_common_66 : decode cX0_common 66 = .ok (.goto (-32), 3) := by decide +kernel
theorem dX0_common_69 : decode cX0_common 69 = .ok (.iload_n 3, 1) := by decide +kernel
theorem dX0_common_70 : decode cX0_common 70 = .ok (.ireturn, 1) := by decide +kernel
theorem dX0_common_71 : decode cX0_common 71 = .ok (.astore_n 3, 1) := by decide +kernel
theorem dX0_common_72 : decode cX0_common 72 = .ok (.aload_n 0, 1) := by decide +kernel
theorem dX0_common_73 : decode cX0_common 73 = .ok (.aload_n 3, 1) := by decide +kernel
theorem dX0_common_74 : decode cX0_common 74 = .ok (.invokevirtual 123, 3) := by decide +kernel
theorem dX0_common_77 : decode cX0_common 77 = .ok (.ireturn, 1) := by decide +kernel
theorem w_L_common {l : Launch} {D : va_G} {cA : Nat → ClassId} {ks : List Nat} {ad : Nat → Nat} {A : Nat → Prop} (hO : klOk A ks ad) {st st' : CS} {N : Nat} {x1 : Int32} {x2 : Int32} {r0 : Int32} (h : L_common N st x1 x2 = some (r0, st')) : Met l yX0_common (wsW_ yX0_common cX0_common 5 (some .int) [(0, 70, 71, 8)]) (k2_rm 3 (40 * 3)) (cPre D cA ks ad A st [.ref (ad 60), .int x1, .int x2]) (cQ (some (.int r0)) D cA ks ad A st') 0 0 A := by
  refine cc_ofH (own := RX0) (by decide) rfl (Nat.le_of_ble_eq_true rfl) (fun p e s m below meth c R args ls C hr hlk htab hP hS hl hcs => ?_)
  have hx := C.1
  have hb := C.2.1
  have hown := C.2.2.2.1
  have hNst := C.2.2.2.2.2.2.2.1
  have hl : lv_has ls 5 [(0, .ref (ad 60)), (1, .int x1), (2, .int x2)] := hl
  have L34 : ∀ (x1 : Int32), ∀ (x2 : Int32), ∀ (n : Nat) (st : CS) (x3 : Int32) (x4 : Int32) (st2 : CS) (z3 : Int32), L_common_L34 N x1 x2 n st x3 x4 = some (st2, z3) → ∀ (H : Heap) (locs : List Loc), cW D cA ks ad st H → va_S A s.heap H locs → ∀ ls : Array Slot, lv_has ls 5 [(0, .ref (ad 60)), (1, .int x1), (2, .int x2), (3, .int x3), (4, .int x4)] → (∀ (H : Heap) (locs : List Loc), cW D cA ks ad st2 H → va_S A s.heap H locs → ∀ ls : Array Slot, lv_has ls 5 [(3, .int z3)] → cWV p l e R s m args below meth c D cA ks ad A (some (.int r0)) st' H locs (F0 m 69 ls [])) → cWV p l e R s m args below meth c D cA ks ad A (some (.int r0)) st' H locs (F0 m 34 ls []) := by
    intro x1 x2 n
    induction n with
    | zero =>
      intro st x3 x4 st2 z3 h
      exact non_some h
    | succ n ih =>
      intro st x3 x4 st2 z3 h H locs hP hS ls hl kx
      rw [L_common_L34] at h
      refine lv_iload hx hb dX0_common_34 (lv_at hl 4 rfl) ?_
      refine lv_iconst (v := 5) hx hb dX0_common_36 (by decide) ?_
      refine lv_icmp_ge (tgt := 69) hx hb dX0_common_37 rfl (fun c8 => ?_) (fun c8 => ?_)
      · have h := if_some_t h c8
        cases h
        exact kx _ _ hP hS ls (lv_sub hl [3] rfl)
      · have h := if_some_f h c8
        refine lv_iload_n hx hb dX0_common_40 rfl (lv_at hl 3 rfl) ?_
        refine lv_iload_n hx hb dX0_common_41 rfl (lv_at hl 1 rfl) ?_
        refine lv_iload hx hb dX0_common_42 (lv_at hl 4 rfl) ?_
        obtain ⟨v9, hv9, h⟩ := bd1_some h
        refine k_L_isIn hx hb C.2.2.1 hown C.2.2.2.2.1 C.2.2.2.2.2.1 q439 hv9 (Nat.le_of_ble_eq_true rfl) hl.1 (Nat.le_of_ble_eq_true rfl) hcs dX0_common_44 ?_
        refine lv_if_eq (tgt := 60) hx hb dX0_common_47 rfl (fun c10 => ?_) (fun c10 => ?_)
        · have h := if_some_t h c10
          refine lv_iload_n hx hb dX0_common_60 rfl (lv_at hl 3 rfl) ?_
          refine lv_iand hx hb dX0_common_61 ?_
          refine lv_istore_n (lv' := [(3, .int (x3 &&& x3)), (0, .ref (ad 60)), (1, .int x1), (2, .int x2), (4, .int x4)]) hx hb dX0_common_62 rfl hl (by decide) rfl (fun ls hl => ?_)
          refine lv_iinc (v := x4 + 1) (lv' := [(4, .int (x4 + 1)), (3, .int (x3 &&& x3)), (0, .ref (ad 60)), (1, .int x1), (2, .int x2)]) hx hb dX0_common_63 hl (k := 4) rfl rfl (by decide) rfl (fun ls hl => ?_)
          refine lv_goto (tgt := 34) hx hb dX0_common_66 rfl ?_
          exact ih st (x3 &&& x3) (x4 + 1) _ _ h _ _ hP hS ls (lv_sub hl [2, 3, 4, 1, 0] rfl) kx
        · have h := if_some_f h c10
          refine lv_aload_n hx hb dX0_common_50 rfl (lv_at hl 0 rfl) ?_
          refine lv_iload hx hb dX0_common_51 (lv_at hl 4 rfl) ?_
          refine lv_iload_n hx hb dX0_common_53 rfl (lv_at hl 2 rfl) ?_
          obtain ⟨v11, st12, hv11, h⟩ := bd2_some h
          refine k_L_knownBy C hO hP hS hv11 q1193 (Nat.le_of_ble_eq_true rfl) hl.1 (Nat.le_of_ble_eq_true rfl) hcs dX0_common_54 (fun H locs hP hS => ?_)
          refine lv_goto (tgt := 61) hx hb dX0_common_57 rfl ?_
          refine lv_iand hx hb dX0_common_61 ?_
          refine lv_istore_n (lv' := [(3, .int (x3 &&& v11)), (0, .ref (ad 60)), (1, .int x1), (2, .int x2), (4, .int x4)]) hx hb dX0_common_62 rfl hl (by decide) rfl (fun ls hl => ?_)
          refine lv_iinc (v := x4 + 1) (lv' := [(4, .int (x4 + 1)), (3, .int (x3 &&& v11)), (0, .ref (ad 60)), (1, .int x1), (2, .int x2)]) hx hb dX0_common_63 hl (k := 4) rfl rfl (by decide) rfl (fun ls hl => ?_)
          refine lv_goto (tgt := 34) hx hb dX0_common_66 rfl ?_
          exact ih st12 (x3 &&& v11) (x4 + 1) _ _ h _ _ hP hS ls (lv_sub hl [2, 3, 4, 1, 0] rfl) kx
  rw [L_common] at h
  refine lv_aload_n hx hb dX0_common_0 rfl (lv_at hl 0 rfl) ?_
  refine lv_iload_n hx hb dX0_common_1 rfl (lv_at hl 1 rfl) ?_
  refine lv_iconst (v := 1) hx hb dX0_common_2 (by decide) ?_
  refine lv_bipush (v := 31) hx hb dX0_common_3 (by decide) ?_
  obtain ⟨v1, hv1, h⟩ := bd1_some h
  refine k_L_in hx hb C.2.2.1 hown C.2.2.2.2.1 C.2.2.2.2.2.1 q399 hv1 (Nat.le_of_ble_eq_true rfl) hl.1 (Nat.le_of_ble_eq_true rfl) hcs dX0_common_5 ?_
  refine lv_if_eq (tgt := 22) hx hb dX0_common_8 rfl (fun c2 => ?_) (fun c2 => ?_)
  · have h := if_some_t h c2
    refine lv_iconst (v := 0) hx hb dX0_common_22 (by decide) ?_
    refine lv_iconst (v := 1) hx hb dX0_common_23 (by decide) ?_
    obtain ⟨o5, st4, hv3, h⟩ := bd2_some h
    rcases o5 with _ | v3
    · rw [onx_none] at h
      refine k_L_needT C hO hP hS hv3 q402 (Nat.le_of_ble_eq_true rfl) hl.1 (Nat.le_of_ble_eq_true rfl) hcs dX0_common_24 (fun H locs hP hS => ?_)
      refine cc_catch (pre := []) (a1 := 0) (a2 := 70) (hp := 71) (post := []) C hO hP q129 htab rfl rfl ?_
      refine lv_astore_n (lv' := [(3, .ref (ad 61)), (0, .ref (ad 60)), (1, .int x1), (2, .int x2)]) hx hb dX0_common_71 rfl hl (by decide) rfl (fun ls hl => ?_)
      refine lv_aload_n hx hb dX0_common_72 rfl (lv_at hl 1 rfl) ?_
      refine lv_aload_n hx hb dX0_common_73 rfl (lv_at hl 0 rfl) ?_
      obtain ⟨v6, st7, hv6, h⟩ := bd2_some h
      refine k_L_finds C hO hP hS hv6 q410 (Nat.le_of_ble_eq_true rfl) hl.1 (Nat.le_of_ble_eq_true rfl) hcs dX0_common_74 (fun H locs hP hS => ?_)
      exact cc_viret hx hb hr hlk h hP hS dX0_common_77
    · rw [onx_some] at h
      refine k_L_needR C hO hP hS hv3 q402 (Nat.le_of_ble_eq_true rfl) hl.1 (Nat.le_of_ble_eq_true rfl) hcs dX0_common_24 (fun H locs hP hS => ?_)
      refine lv_sipush (v := 255) hx hb dX0_common_27 (by decide) ?_
      refine lv_istore_n (lv' := [(3, .int 255), (0, .ref (ad 60)), (1, .int x1), (2, .int x2)]) hx hb dX0_common_30 rfl hl (by decide) rfl (fun ls hl => ?_)
      refine lv_iconst (v := 0) hx hb dX0_common_31 (by decide) ?_
      refine lv_istore (lv' := [(4, .int 0), (3, .int 255), (0, .ref (ad 60)), (1, .int x1), (2, .int x2)]) hx hb dX0_common_32 hl (by decide) rfl (fun ls hl => ?_)
      obtain ⟨st13, z14, hz15, h⟩ := bd2_some h
      refine L34 x1 x2 N _ 255 0 _ _ hz15 _ _ hP hS ls (lv_sub hl [2, 3, 4, 1, 0] rfl) (fun H locs hP hS ls hl => ?_)
      refine lv_iload_n hx hb dX0_common_69 rfl (lv_at hl 0 rfl) ?_
      exact cc_viret hx hb hr hlk h hP hS dX0_common_70
  · have h := if_some_f h c2
    refine lv_iload_n hx hb dX0_common_11 rfl (lv_at hl 2 rfl) ?_
    obtain ⟨v16, hv16, h⟩ := bd1_some h
    refine k_L_isWeek hx hb C.2.2.1 hown C.2.2.2.2.1 C.2.2.2.2.2.1 q1183 hv16 (Nat.le_of_ble_eq_true rfl) hl.1 (Nat.le_of_ble_eq_true rfl) hcs dX0_common_12 ?_
    refine lv_if_eq (tgt := 22) hx hb dX0_common_15 rfl (fun c17 => ?_) (fun c17 => ?_)
    · have h := if_some_t h c17
      refine lv_iconst (v := 0) hx hb dX0_common_22 (by decide) ?_
      refine lv_iconst (v := 1) hx hb dX0_common_23 (by decide) ?_
      obtain ⟨o20, st19, hv18, h⟩ := bd2_some h
      rcases o20 with _ | v18
      · rw [onx_none] at h
        refine k_L_needT C hO hP hS hv18 q402 (Nat.le_of_ble_eq_true rfl) hl.1 (Nat.le_of_ble_eq_true rfl) hcs dX0_common_24 (fun H locs hP hS => ?_)
        refine cc_catch (pre := []) (a1 := 0) (a2 := 70) (hp := 71) (post := []) C hO hP q129 htab rfl rfl ?_
        refine lv_astore_n (lv' := [(3, .ref (ad 61)), (0, .ref (ad 60)), (1, .int x1), (2, .int x2)]) hx hb dX0_common_71 rfl hl (by decide) rfl (fun ls hl => ?_)
        refine lv_aload_n hx hb dX0_common_72 rfl (lv_at hl 1 rfl) ?_
        refine lv_aload_n hx hb dX0_common_73 rfl (lv_at hl 0 rfl) ?_
        obtain ⟨v21, st22, hv21, h⟩ := bd2_some h
        refine k_L_finds C hO hP hS hv21 q410 (Nat.le_of_ble_eq_true rfl) hl.1 (Nat.le_of_ble_eq_true rfl) hcs dX0_common_74 (fun H locs hP hS => ?_)
        exact cc_viret hx hb hr hlk h hP hS dX0_common_77
      · rw [onx_some] at h
        refine k_L_needR C hO hP hS hv18 q402 (Nat.le_of_ble_eq_true rfl) hl.1 (Nat.le_of_ble_eq_true rfl) hcs dX0_common_24 (fun H locs hP hS => ?_)
        refine lv_sipush (v := 255) hx hb dX0_common_27 (by decide) ?_
        refine lv_istore_n (lv' := [(3, .int 255), (0, .ref (ad 60)), (1, .int x1), (2, .int x2)]) hx hb dX0_common_30 rfl hl (by decide) rfl (fun ls hl => ?_)
        refine lv_iconst (v := 0) hx hb dX0_common_31 (by decide) ?_
        refine lv_istore (lv' := [(4, .int 0), (3, .int 255), (0, .ref (ad 60)), (1, .int x1), (2, .int x2)]) hx hb dX0_common_32 hl (by decide) rfl (fun ls hl => ?_)
        obtain ⟨st23, z24, hz25, h⟩ := bd2_some h
        refine L34 x1 x2 N _ 255 0 _ _ hz25 _ _ hP hS ls (lv_sub hl [2, 3, 4, 1, 0] rfl) (fun H locs hP hS ls hl => ?_)
        refine lv_iload_n hx hb dX0_common_69 rfl (lv_at hl 0 rfl) ?_
        exact cc_viret hx hb hr hlk h hP hS dX0_common_70
    · have h := if_some_f h c17
      refine lv_iconst (v := 1) hx hb dX0_common_18 (by decide) ?_
      refine lv_goto (tgt := 23) hx hb dX0_common_19 rfl ?_
      refine lv_iconst (v := 1) hx hb dX0_common_23 (by decide) ?_
      obtain ⟨o28, st27, hv26, h⟩ := bd2_some h
      rcases o28 with _ | v26
      · rw [onx_none] at h
        refine k_L_needT C hO hP hS hv26 q402 (Nat.le_of_ble_eq_true rfl) hl.1 (Nat.le_of_ble_eq_true rfl) hcs dX0_common_24 (fun H locs hP hS => ?_)
        refine cc_catch (pre := []) (a1 := 0) (a2 := 70) (hp := 71) (post := []) C hO hP q129 htab rfl rfl ?_
        refine lv_astore_n (lv' := [(3, .ref (ad 61)), (0, .ref (ad 60)), (1, .int x1), (2, .int x2)]) hx hb dX0_common_71 rfl hl (by decide) rfl (fun ls hl => ?_)
        refine lv_aload_n hx hb dX0_common_72 rfl (lv_at hl 1 rfl) ?_
        refine lv_aload_n hx hb dX0_common_73 rfl (lv_at hl 0 rfl) ?_
        obtain ⟨v29, st30, hv29, h⟩ := bd2_some h
        refine k_L_finds C hO hP hS hv29 q410 (Nat.le_of_ble_eq_true rfl) hl.1 (Nat.le_of_ble_eq_true rfl) hcs dX0_common_74 (fun H locs hP hS => ?_)
        exact cc_viret hx hb hr hlk h hP hS dX0_common_77
      · rw [onx_some] at h
        refine k_L_needR C hO hP hS hv26 q402 (Nat.le_of_ble_eq_true rfl) hl.1 (Nat.le_of_ble_eq_true rfl) hcs dX0_common_24 (fun H locs hP hS => ?_)
        refine lv_sipush (v := 255) hx hb dX0_common_27 (by decide) ?_
        refine lv_istore_n (lv' := [(3, .int 255), (0, .ref (ad 60)), (1, .int x1), (2, .int x2)]) hx hb dX0_common_30 rfl hl (by decide) rfl (fun ls hl => ?_)
        refine lv_iconst (v := 0) hx hb dX0_common_31 (by decide) ?_
        refine lv_istore (lv' := [(4, .int 0), (3, .int 255), (0, .ref (ad 60)), (1, .int x1), (2, .int x2)]) hx hb dX0_common_32 hl (by decide) rfl (fun ls hl => ?_)
        obtain ⟨st31, z32, hz33, h⟩ := bd2_some h
        refine L34 x1 x2 N _ 255 0 _ _ hz33 _ _ hP hS ls (lv_sub hl [2, 3, 4, 1, 0] rfl) (fun H locs hP hS ls hl => ?_)
        refine lv_iload_n hx hb dX0_common_69 rfl (lv_at hl 0 rfl) ?_
        exact cc_viret hx hb hr hlk h hP hS dX0_common_70
abbrev cX0_since : ByteArray := prog_1_method_54_code
def yX0_since : MethodName := ⟨RX0, "since", "(II)I"⟩
theorem dX0_since_0 : decode cX0_since 0 = .ok (.aload_n 0, 1) := by decide +kernel
theorem dX0_since_1 : decode cX0_since 1 = .ok (.iload_n 1, 1) := by decide +kernel
theorem dX0_since_2 : decode cX0_since 2 = .ok (.invokestatic 327, 3) := by decide +kernel
theorem dX0_since_5 : decode cX0_since 5 = .ok (.ifCond .eq 15, 3) := by decide +kernel
theorem dX0_since_8 : decode cX0_since 8 = .ok (.aload_n 0, 1) := by decide +kernel
theorem dX0_since_9 : decode cX0_since 9 = .ok (.iload_n 2, 1) := by decide +kernel
theorem dX0_since_10 : decode cX0_since 10 = .ok (.invokevirtual 127, 3) := by decide +kernel
theorem dX0_since_13 : decode cX0_since 13 = .ok (.ifCond .eq 7, 3) := by decide +kernel
theorem dX0_since_16 : decode cX0_since 16 = .ok (.iconst 1, 1) := by decide +kernel
theorem dX0_since_17 : decode cX0_since 17 = .ok (.goto 4, 3) := by decide +kernel
theorem dX0_since_20 : decode cX0_since 20 = .ok (.iconst 0, 1) := by decide +kernel
theorem dX0_since_21 : decode cX0_since 21 = .ok (.iconst 1, 1) := by decide +kernel
theorem dX0_since_22 : decode cX0_since 22 = .ok (.invokevirtual 102, 3) := by decide +kernel
theorem dX0_since_25 : decode cX0_since 25 = .ok (.iconst 0, 1) := by decide +kernel
theorem dX0_since_26 : decode cX0_since 26 = .ok (.istore_n 3, 1) := by decide +kernel
theorem dX0_since_27 : decode cX0_since 27 = .ok (.sipush 1000, 3) := by decide +kernel
theorem dX0_since_30 : decode cX0_since 30 = .ok (.istore 4, 2) := by decide +kernel
theorem dX0_since_32 : decode cX0_since 32 = .ok (.iload_n 3, 1) := by decide +kernel
theorem dX0_since_33 : decode cX0_since 33 = .ok (.iload 4, 2) := by decide +kernel
theorem dX0_since_35 : decode cX0_since 35 = .ok (.if_icmp .ge 71, 3) := by decide +kernel
theorem dX0_since_38 : decode cX0_since 38 = .ok (.iload_n 3, 1) := by decide +kernel
theorem dX0_since_39 : decode cX0_since 39 = .ok (.iload 4, 2) := by decide +kernel
theorem dX0_since_41 : decode cX0_since 41 = .ok (.iadd, 1) := by decide +kernel
theorem dX0_since_42 : decode cX0_since 42 = .ok (.iconst 2, 1) := by decide +kernel
theorem dX0_since_43 : decode cX0_since 43 = .ok (.idiv, 1) := by decide +kernel
theorem dX0_since_44 : decode cX0_since 44 = .ok (.istore 5, 2) := by decide +kernel
theorem dX0_since_46 : decode cX0_since 46 = .ok (.iload 5, 2) := by decide +kernel
theorem dX0_since_48 : decode cX0_since 48 = .ok (.sipush 999, 3) := by decide +kernel
theorem dX0_since_51 : decode cX0_since 51 = .ok (.if_icmp .gt 17, 3) := by decide +kernel
theorem dX0_since_54 : decode cX0_since 54 = .ok (.aload_n 0, 1) := by decide +kernel
theorem dX0_since_55 : decode cX0_since 55 = .ok (.iload_n 1, 1) := by decide +kernel
theorem dX0_since_56 : decode cX0_since 56 = .ok (.iload 5, 2) := by decide +kernel
theorem dX0_since_58 : decode cX0_since 58 = .ok (.invokevirtual 348, 3) := by decide +kernel
theorem dX0_since_61 : decode cX0_since 61 = .ok (.iload_n 2, 1) := by decide +kernel
theorem dX0_since_62 : decode cX0_since 62 = .ok (.invokestatic 135, 3) := by decide +kernel
theorem dX0_since_65 : decode cX0_since 65 = .ok (.ifCond .eq 7, 3) := by decide +kernel
theorem dX0_since_68 : decode cX0_since 68 = .ok (.iconst 1, 1) := by decide +kernel
theorem dX0_since_69 : decode cX0_since 69 = .ok (.goto 4, 3) := by decide +kernel
theorem dX0_since_72 : decode cX0_since 72 = .ok (.iconst 0, 1) := by decide +kernel
theorem dX0_since_73 : decode cX0_since 73 = .ok (.istore 6, 2) := by decide +kernel
theorem dX0_since_75 : decode cX0_since 75 = .ok (.iload 6, 2) := by decide +kernel
theorem dX0_since_77 : decode cX0_since 77 = .ok (.ifCond .eq 8, 3) := by decide +kernel
theorem dX0_since_80 : decode cX0_since 80 = .ok (.iload 5, 2) := by decide +kernel
theorem dX0_since_82 : decode cX0_since 82 = .ok (.goto 5, 3) := by decide +kernel
theorem dX0_since_85 : decode cX0_since 85 = .ok (.iload 4, 2) := by decide +kernel
theorem dX0_since_87 : decode cX0_since 87 = .ok (.istore 4, 2) := by decide +kernel
theorem dX0_since_89 : decode cX0_since 89 = .ok (.iload 6, 2) := by decide +kernel
theorem dX0_since_91 : decode cX0_since 91 = .ok (.ifCond .eq 7, 3) := by decide +kernel
theorem dX0_since_94 : decode cX0_since 94 = .ok (.iload_n 3, 1) := by decide +kernel
theorem dX0_since_95 : decode cX0_since 95 = .ok (.goto 7, 3) := by decide +kernel
theorem dX0_since_98 : decode cX0_since 98 = .ok (.iload 5, 2) := by decide +kernel
theorem dX0_since_100 : decode cX0_since 100 = .ok (.iconst 1, 1) := by decide +kernel
theorem dX0_since_101 : decode cX0_since 101 = .ok (.iadd, 1) := by decide +kernel
theorem dX0_since_102 : decode cX0_since 102 = .ok (.istore_n 3, 1) := by decide +kernel
theorem dX0_since_103 : decode cX0_since 103 = .ok (.goto (-71), 3) := by decide +kernel
theorem dX0_since_106 : decode cX0_since 106 = .ok (.aload_n 0, 1) := by decide +kernel
theorem dX0_since_107 : decode cX0_since 107 = .ok (.iload_n 3, 1) := by decide +kernel
theorem dX0_since_108 : decode cX0_since 108 = .ok (.sipush 999, 3) := by decide +kernel
theorem dX0_since_111 : decode cX0_since 111 = .ok (.if_icmp .gt 7, 3) := by decide +kernel
theorem dX0_since_114 : decode cX0_since 114 = .ok (.iconst 1, 1) := by decide +kernel
theorem dX0_since_115 : decode cX0_since 115 = .ok (.goto 4, 3) := by decide +kernel
theorem dX0_since_118 : decode cX0_since 118 = .ok (.iconst 0, 1) := by decide +kernel
theorem dX0_since_119 : decode cX0_since 119 = .ok (.iconst 2, 1) := by decide +kernel
theorem dX0_since_120 : decode cX0_since 120 = .ok (.invokevirtual 102, 3) := by decide +kernel
theorem dX0_since_123 : decode cX0_since 123 = .ok (.iload_n 3, 1) := by decide +kernel
theorem dX0_since_124 : decode cX0_since 124 = .ok (.ireturn, 1) := by decide +kernel
theorem dX0_since_125 : decode cX0_since 125 = .ok (.astore_n 3, 1) := by decide +kernel
theorem dX0_since_126 : decode cX0_since 126 = .ok (.aload_n 0, 1) := by decide +kernel
theorem dX0_since_127 : decode cX0_since 127 = .ok (.aload_n 3, 1) := by decide +kernel
theorem dX0_since_128 : decode cX0_since 128 = .ok (.invokevirtual 123, 3) := by decide +kernel
theorem dX0_since_131 : decode cX0_since 131 = .ok (.ireturn, 1) := by decide +kernel
theorem w_L_since {l : Launch} {D : va_G} {cA : Nat → ClassId} {ks : List Nat} {ad : Nat → Nat} {A : Nat → Prop} (hO : klOk A ks ad) {st st' : CS} {N : Nat} {x1 : Int32} {x2 : Int32} {r0 : Int32} (h : L_since N st x1 x2 = some (r0, st')) : Met l yX0_since (wsW_ yX0_since cX0_since 7 (some .int) [(0, 124, 125, 8)]) (k2_rm 3 (40 * 3)) (cPre D cA ks ad A st [.ref (ad 60), .int x1, .int x2]) (cQ (some (.int r0)) D cA ks ad A st') 0 0 A := by
  refine cc_ofH (own := RX0) (by decide) rfl (Nat.le_of_ble_eq_true rfl) (fun p e s m below meth c R args ls C hr hlk htab hP hS hl hcs => ?_)
  have hx := C.1
  have hb := C.2.1
  have hown := C.2.2.2.1
  have hNst := C.2.2.2.2.2.2.2.1
  have hl : lv_has ls 7 [(0, .ref (ad 60)), (1, .int x1), (2, .int x2)] := hl
  have L32 : ∀ (x1 : Int32), ∀ (x2 : Int32), ∀ (n : Nat) (st : CS) (x3 : Int32) (x4 : Int32) (st2 : CS) (z3 : Int32), L_since_L32 N x1 x2 n st x3 x4 = some (st2, z3) → ∀ (H : Heap) (locs : List Loc), cW D cA ks ad st H → va_S A s.heap H locs → ∀ ls : Array Slot, lv_has ls 7 [(0, .ref (ad 60)), (1, .int x1), (2, .int x2), (3, .int x3), (4, .int x4)] → (∀ (H : Heap) (locs : List Loc), cW D cA ks ad st2 H → va_S A s.heap H locs → ∀ ls : Array Slot, lv_has ls 7 [(0, .ref (ad 60)), (3, .int z3)] → cWV p l e R s m args below meth c D cA ks ad A (some (.int r0)) st' H locs (F0 m 106 ls [])) → cWV p l e R s m args below meth c D cA ks ad A (some (.int r0)) st' H locs (F0 m 32 ls []) := by
    intro x1 x2 n
    induction n with
    | zero =>
      intro st x3 x4 st2 z3 h
      exact non_some h
    | succ n ih =>
      intro st x3 x4 st2 z3 h H locs hP hS ls hl kx
      rw [L_since_L32] at h
      refine lv_iload_n hx hb dX0_since_32 rfl (lv_at hl 3 rfl) ?_
      refine lv_iload hx hb dX0_since_33 (lv_at hl 4 rfl) ?_
      refine lv_icmp_ge (tgt := 106) hx hb dX0_since_35 rfl (fun c8 => ?_) (fun c8 => ?_)
      · have h := if_some_t h c8
        cases h
        exact kx _ _ hP hS ls (lv_sub hl [0, 3] rfl)
      · have h := if_some_f h c8
        refine lv_iload_n hx hb dX0_since_38 rfl (lv_at hl 3 rfl) ?_
        refine lv_iload hx hb dX0_since_39 (lv_at hl 4 rfl) ?_
        refine lv_iadd hx hb dX0_since_41 ?_
        refine lv_iconst (v := 2) hx hb dX0_since_42 (by decide) ?_
        refine lv_idiv hx hb dX0_since_43 (by decide) ?_
        refine lv_istore (lv' := [(5, .int ((x3 + x4) / 2)), (0, .ref (ad 60)), (1, .int x1), (2, .int x2), (3, .int x3), (4, .int x4)]) hx hb dX0_since_44 hl (by decide) rfl (fun ls hl => ?_)
        refine lv_iload hx hb dX0_since_46 (lv_at hl 0 rfl) ?_
        refine lv_sipush (v := 999) hx hb dX0_since_48 (by decide) ?_
        refine lv_icmp_gt (tgt := 68) hx hb dX0_since_51 rfl (fun c9 => ?_) (fun c9 => ?_)
        · have h := if_some_t h c9
          refine lv_iconst (v := 1) hx hb dX0_since_68 (by decide) ?_
          refine lv_goto (tgt := 73) hx hb dX0_since_69 rfl ?_
          refine lv_istore (lv' := [(6, .int 1), (5, .int ((x3 + x4) / 2)), (0, .ref (ad 60)), (1, .int x1), (2, .int x2), (3, .int x3), (4, .int x4)]) hx hb dX0_since_73 hl (by decide) rfl (fun ls hl => ?_)
          refine lv_iload hx hb dX0_since_75 (lv_at hl 0 rfl) ?_
          refine lv_if_eq (tgt := 85) hx hb dX0_since_77 rfl (fun c => absurd c (by decide)) (fun _ => ?_)
          refine lv_iload hx hb dX0_since_80 (lv_at hl 1 rfl) ?_
          refine lv_goto (tgt := 87) hx hb dX0_since_82 rfl ?_
          refine lv_istore (lv' := [(4, .int ((x3 + x4) / 2)), (6, .int 1), (5, .int ((x3 + x4) / 2)), (0, .ref (ad 60)), (1, .int x1), (2, .int x2), (3, .int x3)]) hx hb dX0_since_87 hl (by decide) rfl (fun ls hl => ?_)
          refine lv_iload hx hb dX0_since_89 (lv_at hl 1 rfl) ?_
          refine lv_if_eq (tgt := 98) hx hb dX0_since_91 rfl (fun c => absurd c (by decide)) (fun _ => ?_)
          refine lv_iload_n hx hb dX0_since_94 rfl (lv_at hl 6 rfl) ?_
          refine lv_goto (tgt := 102) hx hb dX0_since_95 rfl ?_
          refine lv_istore_n (lv' := [(3, .int x3), (4, .int ((x3 + x4) / 2)), (6, .int 1), (5, .int ((x3 + x4) / 2)), (0, .ref (ad 60)), (1, .int x1), (2, .int x2)]) hx hb dX0_since_102 rfl hl (by decide) rfl (fun ls hl => ?_)
          refine lv_goto (tgt := 32) hx hb dX0_since_103 rfl ?_
          exact ih st x3 ((x3 + x4) / 2) _ _ h _ _ hP hS ls (lv_sub hl [4, 5, 6, 0, 1] rfl) kx
        · have h := if_some_f h c9
          refine lv_aload_n hx hb dX0_since_54 rfl (lv_at hl 1 rfl) ?_
          refine lv_iload_n hx hb dX0_since_55 rfl (lv_at hl 2 rfl) ?_
          refine lv_iload hx hb dX0_since_56 (lv_at hl 0 rfl) ?_
          obtain ⟨v10, st11, hv10, h⟩ := bd2_some h
          refine k_L_knownBy C hO hP hS hv10 q1193 (Nat.le_of_ble_eq_true rfl) hl.1 (Nat.le_of_ble_eq_true rfl) hcs dX0_since_58 (fun H locs hP hS => ?_)
          refine lv_iload_n hx hb dX0_since_61 rfl (lv_at hl 3 rfl) ?_
          obtain ⟨v12, hv12, h⟩ := bd1_some h
          refine k_L_isIn hx hb C.2.2.1 hown C.2.2.2.2.1 C.2.2.2.2.2.1 q439 hv12 (Nat.le_of_ble_eq_true rfl) hl.1 (Nat.le_of_ble_eq_true rfl) hcs dX0_since_62 ?_
          refine lv_if_eq (tgt := 72) hx hb dX0_since_65 rfl (fun c13 => ?_) (fun c13 => ?_)
          · have h := if_some_t h c13
            refine lv_iconst (v := 0) hx hb dX0_since_72 (by decide) ?_
            refine lv_istore (lv' := [(6, .int 0), (5, .int ((x3 + x4) / 2)), (0, .ref (ad 60)), (1, .int x1), (2, .int x2), (3, .int x3), (4, .int x4)]) hx hb dX0_since_73 hl (by decide) rfl (fun ls hl => ?_)
            refine lv_iload hx hb dX0_since_75 (lv_at hl 0 rfl) ?_
            refine lv_if_eq (tgt := 85) hx hb dX0_since_77 rfl (fun _ => ?_) (fun c => absurd c (by decide))
            refine lv_iload hx hb dX0_since_85 (lv_at hl 6 rfl) ?_
            refine lv_istore (lv' := [(4, .int x4), (6, .int 0), (5, .int ((x3 + x4) / 2)), (0, .ref (ad 60)), (1, .int x1), (2, .int x2), (3, .int x3)]) hx hb dX0_since_87 hl (by decide) rfl (fun ls hl => ?_)
            refine lv_iload hx hb dX0_since_89 (lv_at hl 1 rfl) ?_
            refine lv_if_eq (tgt := 98) hx hb dX0_since_91 rfl (fun _ => ?_) (fun c => absurd c (by decide))
            refine lv_iload hx hb dX0_since_98 (lv_at hl 2 rfl) ?_
            refine lv_iconst (v := 1) hx hb dX0_since_100 (by decide) ?_
            refine lv_iadd hx hb dX0_since_101 ?_
            refine lv_istore_n (lv' := [(3, .int (((x3 + x4) / 2) + 1)), (4, .int x4), (6, .int 0), (5, .int ((x3 + x4) / 2)), (0, .ref (ad 60)), (1, .int x1), (2, .int x2)]) hx hb dX0_since_102 rfl hl (by decide) rfl (fun ls hl => ?_)
            refine lv_goto (tgt := 32) hx hb dX0_since_103 rfl ?_
            exact ih st11 (((x3 + x4) / 2) + 1) x4 _ _ h _ _ hP hS ls (lv_sub hl [4, 5, 6, 0, 1] rfl) kx
          · have h := if_some_f h c13
            refine lv_iconst (v := 1) hx hb dX0_since_68 (by decide) ?_
            refine lv_goto (tgt := 73) hx hb dX0_since_69 rfl ?_
            refine lv_istore (lv' := [(6, .int 1), (5, .int ((x3 + x4) / 2)), (0, .ref (ad 60)), (1, .int x1), (2, .int x2), (3, .int x3), (4, .int x4)]) hx hb dX0_since_73 hl (by decide) rfl (fun ls hl => ?_)
            refine lv_iload hx hb dX0_since_75 (lv_at hl 0 rfl) ?_
            refine lv_if_eq (tgt := 85) hx hb dX0_since_77 rfl (fun c => absurd c (by decide)) (fun _ => ?_)
            refine lv_iload hx hb dX0_since_80 (lv_at hl 1 rfl) ?_
            refine lv_goto (tgt := 87) hx hb dX0_since_82 rfl ?_
            refine lv_istore (lv' := [(4, .int ((x3 + x4) / 2)), (6, .int 1), (5, .int ((x3 + x4) / 2)), (0, .ref (ad 60)), (1, .int x1), (2, .int x2), (3, .int x3)]) hx hb dX0_since_87 hl (by decide) rfl (fun ls hl => ?_)
            refine lv_iload hx hb dX0_since_89 (lv_at hl 1 rfl) ?_
            refine lv_if_eq (tgt := 98) hx hb dX0_since_91 rfl (fun c => absurd c (by decide)) (fun _ => ?_)
            refine lv_iload_n hx hb dX0_since_94 rfl (lv_at hl 6 rfl) ?_
            refine lv_goto (tgt := 102) hx hb dX0_since_95 rfl ?_
            refine lv_istore_n (lv' := [(3, .int x3), (4, .int ((x3 + x4) / 2)), (6, .int 1), (5, .int ((x3 + x4) / 2)), (0, .ref (ad 60)), (1, .int x1), (2, .int x2)]) hx hb dX0_since_102 rfl hl (by decide) rfl (fun ls hl => ?_)
            refine lv_goto (tgt := 32) hx hb dX0_since_103 rfl ?_
            exact ih st11 x3 ((x3 + x4) / 2) _ _ h _ _ hP hS ls (lv_sub hl [4, 5, 6, 0, 1] rfl) kx
  rw [L_since] at h
  refine lv_aload_n hx hb dX0_since_0 rfl (lv_at hl 0 rfl) ?_
  refine lv_iload_n hx hb dX0_since_1 rfl (lv_at hl 1 rfl) ?_
  obtain ⟨v1, hv1, h⟩ := bd1_some h
  refine k_L_isFigure hx hb C.2.2.1 hown C.2.2.2.2.1 C.2.2.2.2.2.1 q1186 hv1 (Nat.le_of_ble_eq_true rfl) hl.1 (Nat.le_of_ble_eq_true rfl) hcs dX0_since_2 ?_
  refine lv_if_eq (tgt := 20) hx hb dX0_since_5 rfl (fun c2 => ?_) (fun c2 => ?_)
  · have h := if_some_t h c2
    refine lv_iconst (v := 0) hx hb dX0_since_20 (by decide) ?_
    refine lv_iconst (v := 1) hx hb dX0_since_21 (by decide) ?_
    obtain ⟨o5, st4, hv3, h⟩ := bd2_some h
    rcases o5 with _ | v3
    · rw [onx_none] at h
      refine k_L_needT C hO hP hS hv3 q402 (Nat.le_of_ble_eq_true rfl) hl.1 (Nat.le_of_ble_eq_true rfl) hcs dX0_since_22 (fun H locs hP hS => ?_)
      refine cc_catch (pre := []) (a1 := 0) (a2 := 124) (hp := 125) (post := []) C hO hP q129 htab rfl rfl ?_
      refine lv_astore_n (lv' := [(3, .ref (ad 61)), (0, .ref (ad 60)), (1, .int x1), (2, .int x2)]) hx hb dX0_since_125 rfl hl (by decide) rfl (fun ls hl => ?_)
      refine lv_aload_n hx hb dX0_since_126 rfl (lv_at hl 1 rfl) ?_
      refine lv_aload_n hx hb dX0_since_127 rfl (lv_at hl 0 rfl) ?_
      obtain ⟨v6, st7, hv6, h⟩ := bd2_some h
      refine k_L_finds C hO hP hS hv6 q410 (Nat.le_of_ble_eq_true rfl) hl.1 (Nat.le_of_ble_eq_true rfl) hcs dX0_since_128 (fun H locs hP hS => ?_)
      exact cc_viret hx hb hr hlk h hP hS dX0_since_131
    · rw [onx_some] at h
      refine k_L_needR C hO hP hS hv3 q402 (Nat.le_of_ble_eq_true rfl) hl.1 (Nat.le_of_ble_eq_true rfl) hcs dX0_since_22 (fun H locs hP hS => ?_)
      refine lv_iconst (v := 0) hx hb dX0_since_25 (by decide) ?_
      refine lv_istore_n (lv' := [(3, .int 0), (0, .ref (ad 60)), (1, .int x1), (2, .int x2)]) hx hb dX0_since_26 rfl hl (by decide) rfl (fun ls hl => ?_)
      refine lv_sipush (v := 1000) hx hb dX0_since_27 (by decide) ?_
      refine lv_istore (lv' := [(4, .int 1000), (3, .int 0), (0, .ref (ad 60)), (1, .int x1), (2, .int x2)]) hx hb dX0_since_30 hl (by decide) rfl (fun ls hl => ?_)
      obtain ⟨st14, z15, hz27, h⟩ := bd2_some h
      refine L32 x1 x2 N _ 0 1000 _ _ hz27 _ _ hP hS ls (lv_sub hl [2, 3, 4, 1, 0] rfl) (fun H locs hP hS ls hl => ?_)
      refine lv_aload_n hx hb dX0_since_106 rfl (lv_at hl 0 rfl) ?_
      refine lv_iload_n hx hb dX0_since_107 rfl (lv_at hl 1 rfl) ?_
      refine lv_sipush (v := 999) hx hb dX0_since_108 (by decide) ?_
      refine lv_icmp_gt (tgt := 118) hx hb dX0_since_111 rfl (fun c16 => ?_) (fun c16 => ?_)
      · have h := if_some_t h c16
        refine lv_iconst (v := 0) hx hb dX0_since_118 (by decide) ?_
        refine lv_iconst (v := 2) hx hb dX0_since_119 (by decide) ?_
        obtain ⟨o19, st18, hv17, h⟩ := bd2_some h
        rcases o19 with _ | v17
        · rw [onx_none] at h
          refine k_L_needT C hO hP hS hv17 q402 (Nat.le_of_ble_eq_true rfl) hl.1 (Nat.le_of_ble_eq_true rfl) hcs dX0_since_120 (fun H locs hP hS => ?_)
          refine cc_catch (pre := []) (a1 := 0) (a2 := 124) (hp := 125) (post := []) C hO hP q129 htab rfl rfl ?_
          refine lv_astore_n (lv' := [(3, .ref (ad 61)), (0, .ref (ad 60))]) hx hb dX0_since_125 rfl hl (by decide) rfl (fun ls hl => ?_)
          refine lv_aload_n hx hb dX0_since_126 rfl (lv_at hl 1 rfl) ?_
          refine lv_aload_n hx hb dX0_since_127 rfl (lv_at hl 0 rfl) ?_
          obtain ⟨v20, st21, hv20, h⟩ := bd2_some h
          refine k_L_finds C hO hP hS hv20 q410 (Nat.le_of_ble_eq_true rfl) hl.1 (Nat.le_of_ble_eq_true rfl) hcs dX0_since_128 (fun H locs hP hS => ?_)
          exact cc_viret hx hb hr hlk h hP hS dX0_since_131
        · rw [onx_some] at h
          refine k_L_needR C hO hP hS hv17 q402 (Nat.le_of_ble_eq_true rfl) hl.1 (Nat.le_of_ble_eq_true rfl) hcs dX0_since_120 (fun H locs hP hS => ?_)
          refine lv_iload_n hx hb dX0_since_123 rfl (lv_at hl 1 rfl) ?_
          exact cc_viret hx hb hr hlk h hP hS dX0_since_124
      · have h := if_some_f h c16
        refine lv_iconst (v := 1) hx hb dX0_since_114 (by decide) ?_
        refine lv_goto (tgt := 119) hx hb dX0_since_115 rfl ?_
        refine lv_iconst (v := 2) hx hb dX0_since_119 (by decide) ?_
        obtain ⟨o24, st23, hv22, h⟩ := bd2_some h
        rcases o24 with _ | v22
        · rw [onx_none] at h
          refine k_L_needT C hO hP hS hv22 q402 (Nat.le_of_ble_eq_true rfl) hl.1 (Nat.le_of_ble_eq_true rfl) hcs dX0_since_120 (fun H locs hP hS => ?_)
          refine cc_catch (pre := []) (a1 := 0) (a2 := 124) (hp := 125) (post := []) C hO hP q129 htab rfl rfl ?_
          refine lv_astore_n (lv' := [(3, .ref (ad 61)), (0, .ref (ad 60))]) hx hb dX0_since_125 rfl hl (by decide) rfl (fun ls hl => ?_)
          refine lv_aload_n hx hb dX0_since_126 rfl (lv_at hl 1 rfl) ?_
          refine lv_aload_n hx hb dX0_since_127 rfl (lv_at hl 0 rfl) ?_
          obtain ⟨v25, st26, hv25, h⟩ := bd2_some h
          refine k_L_finds C hO hP hS hv25 q410 (Nat.le_of_ble_eq_true rfl) hl.1 (Nat.le_of_ble_eq_true rfl) hcs dX0_since_128 (fun H locs hP hS => ?_)
          exact cc_viret hx hb hr hlk h hP hS dX0_since_131
        · rw [onx_some] at h
          refine k_L_needR C hO hP hS hv22 q402 (Nat.le_of_ble_eq_true rfl) hl.1 (Nat.le_of_ble_eq_true rfl) hcs dX0_since_120 (fun H locs hP hS => ?_)
          refine lv_iload_n hx hb dX0_since_123 rfl (lv_at hl 1 rfl) ?_
          exact cc_viret hx hb hr hlk h hP hS dX0_since_124
  · have h := if_some_f h c2
    refine lv_aload_n hx hb dX0_since_8 rfl (lv_at hl 0 rfl) ?_
    refine lv_iload_n hx hb dX0_since_9 rfl (lv_at hl 2 rfl) ?_
    obtain ⟨v28, hv28, h⟩ := bd1_some h
    refine k_L_isFact C hO hP hv28 q419 (Nat.le_of_ble_eq_true rfl) hS.1 hl.1 (Nat.le_of_ble_eq_true rfl) hcs dX0_since_10 ?_
    refine lv_if_eq (tgt := 20) hx hb dX0_since_13 rfl (fun c29 => ?_) (fun c29 => ?_)
    · have h := if_some_t h c29
      refine lv_iconst (v := 0) hx hb dX0_since_20 (by decide) ?_
      refine lv_iconst (v := 1) hx hb dX0_since_21 (by decide) ?_
      obtain ⟨o32, st31, hv30, h⟩ := bd2_some h
      rcases o32 with _ | v30
      · rw [onx_none] at h
        refine k_L_needT C hO hP hS hv30 q402 (Nat.le_of_ble_eq_true rfl) hl.1 (Nat.le_of_ble_eq_true rfl) hcs dX0_since_22 (fun H locs hP hS => ?_)
        refine cc_catch (pre := []) (a1 := 0) (a2 := 124) (hp := 125) (post := []) C hO hP q129 htab rfl rfl ?_
        refine lv_astore_n (lv' := [(3, .ref (ad 61)), (0, .ref (ad 60)), (1, .int x1), (2, .int x2)]) hx hb dX0_since_125 rfl hl (by decide) rfl (fun ls hl => ?_)
        refine lv_aload_n hx hb dX0_since_126 rfl (lv_at hl 1 rfl) ?_
        refine lv_aload_n hx hb dX0_since_127 rfl (lv_at hl 0 rfl) ?_
        obtain ⟨v33, st34, hv33, h⟩ := bd2_some h
        refine k_L_finds C hO hP hS hv33 q410 (Nat.le_of_ble_eq_true rfl) hl.1 (Nat.le_of_ble_eq_true rfl) hcs dX0_since_128 (fun H locs hP hS => ?_)
        exact cc_viret hx hb hr hlk h hP hS dX0_since_131
      · rw [onx_some] at h
        refine k_L_needR C hO hP hS hv30 q402 (Nat.le_of_ble_eq_true rfl) hl.1 (Nat.le_of_ble_eq_true rfl) hcs dX0_since_22 (fun H locs hP hS => ?_)
        refine lv_iconst (v := 0) hx hb dX0_since_25 (by decide) ?_
        refine lv_istore_n (lv' := [(3, .int 0), (0, .ref (ad 60)), (1, .int x1), (2, .int x2)]) hx hb dX0_since_26 rfl hl (by decide) rfl (fun ls hl => ?_)
        refine lv_sipush (v := 1000) hx hb dX0_since_27 (by decide) ?_
        refine lv_istore (lv' := [(4, .int 1000), (3, .int 0), (0, .ref (ad 60)), (1, .int x1), (2, .int x2)]) hx hb dX0_since_30 hl (by decide) rfl (fun ls hl => ?_)
        obtain ⟨st35, z36, hz48, h⟩ := bd2_some h
        refine L32 x1 x2 N _ 0 1000 _ _ hz48 _ _ hP hS ls (lv_sub hl [2, 3, 4, 1, 0] rfl) (fun H locs hP hS ls hl => ?_)
        refine lv_aload_n hx hb dX0_since_106 rfl (lv_at hl 0 rfl) ?_
        refine lv_iload_n hx hb dX0_since_107 rfl (lv_at hl 1 rfl) ?_
        refine lv_sipush (v := 999) hx hb dX0_since_108 (by decide) ?_
        refine lv_icmp_gt (tgt := 118) hx hb dX0_since_111 rfl (fun c37 => ?_) (fun c37 => ?_)
        · have h := if_some_t h c37
          refine lv_iconst (v := 0) hx hb dX0_since_118 (by decide) ?_
          refine lv_iconst (v := 2) hx hb dX0_since_119 (by decide) ?_
          obtain ⟨o40, st39, hv38, h⟩ := bd2_some h
          rcases o40 with _ | v38
          · rw [onx_none] at h
            refine k_L_needT C hO hP hS hv38 q402 (Nat.le_of_ble_eq_true rfl) hl.1 (Nat.le_of_ble_eq_true rfl) hcs dX0_since_120 (fun H locs hP hS => ?_)
            refine cc_catch (pre := []) (a1 := 0) (a2 := 124) (hp := 125) (post := []) C hO hP q129 htab rfl rfl ?_
            refine lv_astore_n (lv' := [(3, .ref (ad 61)), (0, .ref (ad 60))]) hx hb dX0_since_125 rfl hl (by decide) rfl (fun ls hl => ?_)
            refine lv_aload_n hx hb dX0_since_126 rfl (lv_at hl 1 rfl) ?_
            refine lv_aload_n hx hb dX0_since_127 rfl (lv_at hl 0 rfl) ?_
            obtain ⟨v41, st42, hv41, h⟩ := bd2_some h
            refine k_L_finds C hO hP hS hv41 q410 (Nat.le_of_ble_eq_true rfl) hl.1 (Nat.le_of_ble_eq_true rfl) hcs dX0_since_128 (fun H locs hP hS => ?_)
            exact cc_viret hx hb hr hlk h hP hS dX0_since_131
          · rw [onx_some] at h
            refine k_L_needR C hO hP hS hv38 q402 (Nat.le_of_ble_eq_true rfl) hl.1 (Nat.le_of_ble_eq_true rfl) hcs dX0_since_120 (fun H locs hP hS => ?_)
            refine lv_iload_n hx hb dX0_since_123 rfl (lv_at hl 1 rfl) ?_
            exact cc_viret hx hb hr hlk h hP hS dX0_since_124
        · have h := if_some_f h c37
          refine lv_iconst (v := 1) hx hb dX0_since_114 (by decide) ?_
          refine lv_goto (tgt := 119) hx hb dX0_since_115 rfl ?_
          refine lv_iconst (v := 2) hx hb dX0_since_119 (by decide) ?_
          obtain ⟨o45, st44, hv43, h⟩ := bd2_some h
          rcases o45 with _ | v43
          · rw [onx_none] at h
            refine k_L_needT C hO hP hS hv43 q402 (Nat.le_of_ble_eq_true rfl) hl.1 (Nat.le_of_ble_eq_true rfl) hcs dX0_since_120 (fun H locs hP hS => ?_)
            refine cc_catch (pre := []) (a1 := 0) (a2 := 124) (hp := 125) (post := []) C hO hP q129 htab rfl rfl ?_
            refine lv_astore_n (lv' := [(3, .ref (ad 61)), (0, .ref (ad 60))]) hx hb dX0_since_125 rfl hl (by decide) rfl (fun ls hl => ?_)
            refine lv_aload_n hx hb dX0_since_126 rfl (lv_at hl 1 rfl) ?_
            refine lv_aload_n hx hb dX0_since_127 rfl (lv_at hl 0 rfl) ?_
            obtain ⟨v46, st47, hv46, h⟩ := bd2_some h
            refine k_L_finds C hO hP hS hv46 q410 (Nat.le_of_ble_eq_true rfl) hl.1 (Nat.le_of_ble_eq_true rfl) hcs dX0_since_128 (fun H locs hP hS => ?_)
            exact cc_viret hx hb hr hlk h hP hS dX0_since_131
          · rw [onx_some] at h
            refine k_L_needR C hO hP hS hv43 q402 (Nat.le_of_ble_eq_true rfl) hl.1 (Nat.le_of_ble_eq_true rfl) hcs dX0_since_120 (fun H locs hP hS => ?_)
            refine lv_iload_n hx hb dX0_since_123 rfl (lv_at hl 1 rfl) ?_
            exact cc_viret hx hb hr hlk h hP hS dX0_since_124
    · have h := if_some_f h c29
      refine lv_iconst (v := 1) hx hb dX0_since_16 (by decide) ?_
      refine lv_goto (tgt := 21) hx hb dX0_since_17 rfl ?_
      refine lv_iconst (v := 1) hx hb dX0_since_21 (by decide) ?_
      obtain ⟨o51, st50, hv49, h⟩ := bd2_some h
      rcases o51 with _ | v49
      · rw [onx_none] at h
        refine k_L_needT C hO hP hS hv49 q402 (Nat.le_of_ble_eq_true rfl) hl.1 (Nat.le_of_ble_eq_true rfl) hcs dX0_since_22 (fun H locs hP hS => ?_)
        refine cc_catch (pre := []) (a1 := 0) (a2 := 124) (hp := 125) (post := []) C hO hP q129 htab rfl rfl ?_
        refine lv_astore_n (lv' := [(3, .ref (ad 61)), (0, .ref (ad 60)), (1, .int x1), (2, .int x2)]) hx hb dX0_since_125 rfl hl (by decide) rfl (fun ls hl => ?_)
        refine lv_aload_n hx hb dX0_since_126 rfl (lv_at hl 1 rfl) ?_
        refine lv_aload_n hx hb dX0_since_127 rfl (lv_at hl 0 rfl) ?_
        obtain ⟨v52, st53, hv52, h⟩ := bd2_some h
        refine k_L_finds C hO hP hS hv52 q410 (Nat.le_of_ble_eq_true rfl) hl.1 (Nat.le_of_ble_eq_true rfl) hcs dX0_since_128 (fun H locs hP hS => ?_)
        exact cc_viret hx hb hr hlk h hP hS dX0_since_131
      · rw [onx_some] at h
        refine k_L_needR C hO hP hS hv49 q402 (Nat.le_of_ble_eq_true rfl) hl.1 (Nat.le_of_ble_eq_true rfl) hcs dX0_since_22 (fun H locs hP hS => ?_)
        refine lv_iconst (v := 0) hx hb dX0_since_25 (by decide) ?_
        refine lv_istore_n (lv' := [(3, .int 0), (0, .ref (ad 60)), (1, .int x1), (2, .int x2)]) hx hb dX0_since_26 rfl hl (by decide) rfl (fun ls hl => ?_)
        refine lv_sipush (v := 1000) hx hb dX0_since_27 (by decide) ?_
        refine lv_istore (lv' := [(4, .int 1000), (3, .int 0), (0, .ref (ad 60)), (1, .int x1), (2, .int x2)]) hx hb dX0_since_30 hl (by decide) rfl (fun ls hl => ?_)
        obtain ⟨st54, z55, hz67, h⟩ := bd2_some h
        refine L32 x1 x2 N _ 0 1000 _ _ hz67 _ _ hP hS ls (lv_sub hl [2, 3, 4, 1, 0] rfl) (fun H locs hP hS ls hl => ?_)
        refine lv_aload_n hx hb dX0_since_106 rfl (lv_at hl 0 rfl) ?_
        refine lv_iload_n hx hb dX0_since_107 rfl (lv_at hl 1 rfl) ?_
        refine lv_sipush (v := 999) hx hb dX0_since_108 (by decide) ?_
        refine lv_icmp_gt (tgt := 118) hx hb dX0_since_111 rfl (fun c56 => ?_) (fun c56 => ?_)
        · have h := if_some_t h c56
          refine lv_iconst (v := 0) hx hb dX0_since_118 (by decide) ?_
          refine lv_iconst (v := 2) hx hb dX0_since_119 (by decide) ?_
          obtain ⟨o59, st58, hv57, h⟩ := bd2_some h
          rcases o59 with _ | v57
          · rw [onx_none] at h
            refine k_L_needT C hO hP hS hv57 q402 (Nat.le_of_ble_eq_true rfl) hl.1 (Nat.le_of_ble_eq_true rfl) hcs dX0_since_120 (fun H locs hP hS => ?_)
            refine cc_catch (pre := []) (a1 := 0) (a2 := 124) (hp := 125) (post := []) C hO hP q129 htab rfl rfl ?_
            refine lv_astore_n (lv' := [(3, .ref (ad 61)), (0, .ref (ad 60))]) hx hb dX0_since_125 rfl hl (by decide) rfl (fun ls hl => ?_)
            refine lv_aload_n hx hb dX0_since_126 rfl (lv_at hl 1 rfl) ?_
            refine lv_aload_n hx hb dX0_since_127 rfl (lv_at hl 0 rfl) ?_
            obtain ⟨v60, st61, hv60, h⟩ := bd2_some h
            refine k_L_finds C hO hP hS hv60 q410 (Nat.le_of_ble_eq_true rfl) hl.1 (Nat.le_of_ble_eq_true rfl) hcs dX0_since_128 (fun H locs hP hS => ?_)
            exact cc_viret hx hb hr hlk h hP hS dX0_since_131
          · rw [onx_some] at h
            refine k_L_needR C hO hP hS hv57 q402 (Nat.le_of_ble_eq_true rfl) hl.1 (Nat.le_of_ble_eq_true rfl) hcs dX0_since_120 (fun H locs hP hS => ?_)
            refine lv_iload_n hx hb dX0_since_123 rfl (lv_at hl 1 rfl) ?_
            exact cc_viret hx hb hr hlk h hP hS dX0_since_124
        · have h := if_some_f h c56
          refine lv_iconst (v := 1) hx hb dX0_since_114 (by decide) ?_
          refine lv_goto (tgt := 119) hx hb dX0_since_115 rfl ?_
          refine lv_iconst (v := 2) hx hb dX0_since_119 (by decide) ?_
          obtain ⟨o64, st63, hv62, h⟩ := bd2_some h
          rcases o64 with _ | v62
          · rw [onx_none] at h
            refine k_L_needT C hO hP hS hv62 q402 (Nat.le_of_ble_eq_true rfl) hl.1 (Nat.le_of_ble_eq_true rfl) hcs dX0_since_120 (fun H locs hP hS => ?_)
            refine cc_catch (pre := []) (a1 := 0) (a2 := 124) (hp := 125) (post := []) C hO hP q129 htab rfl rfl ?_
            refine lv_astore_n (lv' := [(3, .ref (ad 61)), (0, .ref (ad 60))]) hx hb dX0_since_125 rfl hl (by decide) rfl (fun ls hl => ?_)
            refine lv_aload_n hx hb dX0_since_126 rfl (lv_at hl 1 rfl) ?_
            refine lv_aload_n hx hb dX0_since_127 rfl (lv_at hl 0 rfl) ?_
            obtain ⟨v65, st66, hv65, h⟩ := bd2_some h
            refine k_L_finds C hO hP hS hv65 q410 (Nat.le_of_ble_eq_true rfl) hl.1 (Nat.le_of_ble_eq_true rfl) hcs dX0_since_128 (fun H locs hP hS => ?_)
            exact cc_viret hx hb hr hlk h hP hS dX0_since_131
          · rw [onx_some] at h
            refine k_L_needR C hO hP hS hv62 q402 (Nat.le_of_ble_eq_true rfl) hl.1 (Nat.le_of_ble_eq_true rfl) hcs dX0_since_120 (fun H locs hP hS => ?_)
            refine lv_iload_n hx hb dX0_since_123 rfl (lv_at hl 1 rfl) ?_
            exact cc_viret hx hb hr hlk h hP hS dX0_since_124
end
