/-! become: walks -/
set_option maxRecDepth 100000
section
variable {p : Program} {l : Launch} {e : Env} {R : Room} {s : State} {m : MethodId} {args : Array Value} {below : List Frame} {meth : Method} {c : Code} {H : Heap} {locs : List Loc} {cells slots d : Nat} {Q : State → Prop} {cc : ByteArray} {pc nL : Nat} {ls : Array Slot} {rest : List Value} {D : va_G} {cA : Nat → ClassId} {ks : List Nat} {ad : Nat → Nat} {A : Nat → Prop} {st : CS} {H0 : Heap} {own : String} {index : Nat} {t u : Nat}
theorem deb_any {a : Nat} (C : cC p R d s m args c cc nL own D cA A) (hP : cW D cA ks ad st H) (hl : live ks ad a) (h : isDeb st.2.2.2 a = true) : va_Any "ChapterLoan$Debtor" s H a := by
  unfold isDeb at h
  cases hd : dvOf (st.2.2.2 (1000 + a)) with
  | none => rw [hd] at h; cases h
  | some q =>
    obtain ⟨k, tr, n, m⟩ := q
    obtain ⟨h1, h2⟩ := dvOf_some hd
    refine pool_any C hP hl h2 (db_cl h1) ?_
    match k, h1 with
    | 0, _ => exact Or.inl rfl
    | 1, _ => exact Or.inr (List.mem_of_getElem? (i := 98) rfl)
    | 2, _ => exact Or.inr (List.mem_of_getElem? (i := 99) rfl)
    | 3, _ => exact Or.inr (List.mem_of_getElem? (i := 100) rfl)
    | 4, _ => exact Or.inr (List.mem_of_getElem? (i := 101) rfl)
    | 5, _ => exact Or.inr (List.mem_of_getElem? (i := 102) rfl)
    | 6, _ => exact Or.inr (List.mem_of_getElem? (i := 103) rfl)
theorem tm_any {a : Nat} (C : cC p R d s m args c cc nL own D cA A) (hP : cW D cA ks ad st H) (hl : live ks ad a) (h : isTm st.2.2.2 a = true) : va_Any "ChapterLoan$Term" s H a := by
  unfold isTm at h
  cases hd : tmOf (st.2.2.2 (1000 + a)) with
  | none => rw [hd] at h; cases h
  | some q =>
    obtain ⟨j, v, b, c⟩ := q
    rcases tmOf_some hd with ⟨-, h2⟩ | ⟨-, h2⟩ | ⟨-, h2⟩ | ⟨-, h2⟩
    · exact pool_any C hP hl h2 (q := (RX20, TX20, 1)) rfl (Or.inr (List.mem_of_getElem? (i := 106) rfl))
    · exact pool_any C hP hl h2 (q := (RX17, TX17, 1)) rfl (Or.inr (List.mem_of_getElem? (i := 104) rfl))
    · exact pool_any C hP hl h2 (q := (RX19, TX19, 1)) rfl (Or.inr (List.mem_of_getElem? (i := 105) rfl))
    · exact pool_any C hP hl h2 (q := (RX15, TX15, 3)) rfl (Or.inr (List.mem_of_getElem? (i := 107) rfl))
theorem refOk_cp {qp : (Nat → Nat → Option Nat) × (Nat → va_E)} {k0 k1 n : Nat} (h : refOk ks ad qp) (h0 : k0 < 73) (h1 : k0 ≠ 61) (h2 : k0 ≠ 68) (h3 : k1 ≠ 68) : refOk ks ad (va_up qp.1 k1 (va_cpy (qp.1 k0) (qp.1 k1) 0 0 n), qp.2) := by
  refine ⟨fun k i a g1 g2 g3 g4 => ?_, h.2.1, fun j hj => ?_⟩
  · by_cases hk : k = k1
    · subst hk
      have g5 : (if 0 ≤ i ∧ i < 0 + n then qp.1 k0 (0 + (i - 0)) else qp.1 k i) = some a := by simpa [va_up, va_cpy] using g4
      split at g5
      · exact h.1 k0 _ a h0 h1 h2 g5
      · exact h.1 k i a g1 g2 g3 g5
    · have g5 : qp.1 k i = some a := by simpa [va_up, hk] using g4
      exact h.1 k i a g1 g2 g3 g5
  · have := h.2.2 j hj
    simpa [va_up, Ne.symm h3] using this
abbrev cX2_become : ByteArray := prog_23_method_2_code
def yX2_become : MethodName := ⟨RX2, "become", "(LChapterLoan$Town;)LChapterLoan$Town;"⟩
theorem dX2_become_0 : decode cX2_become 0 = .ok (.aload_n 0, 1) := by decide +kernel
theorem dX2_become_1 : decode cX2_become 1 = .ok (.aload_n 1, 1) := by decide +kernel
theorem dX2_become_2 : decode cX2_become 2 = .ok (.getfield 85, 3) := by decide +kernel
theorem dX2_become_5 : decode cX2_become 5 = .ok (.putfield 85, 3) := by decide +kernel
theorem dX2_become_8 : decode cX2_become 8 = .ok (.aload_n 1, 1) := by decide +kernel
theorem dX2_become_9 : decode cX2_become 9 = .ok (.getfield 9, 3) := by decide +kernel
theorem dX2_become_12 : decode cX2_become 12 = .ok (.iconst 0, 1) := by decide +kernel
theorem dX2_become_13 : decode cX2_become 13 = .ok (.aload_n 0, 1) := by decide +kernel
theorem dX2_become_14 : decode cX2_become 14 = .ok (.getfield 9, 3) := by decide +kernel
theorem dX2_become_17 : decode cX2_become 17 = .ok (.iconst 0, 1) := by decide +kernel
theorem dX2_become_18 : decode cX2_become 18 = .ok (.bipush 8, 2) := by decide +kernel
theorem dX2_become_20 : decode cX2_become 20 = .ok (.invokestatic 88, 3) := by decide +kernel
theorem dX2_become_23 : decode cX2_become 23 = .ok (.aload_n 1, 1) := by decide +kernel
theorem dX2_become_24 : decode cX2_become 24 = .ok (.getfield 15, 3) := by decide +kernel
theorem dX2_become_27 : decode cX2_become 27 = .ok (.iconst 0, 1) := by decide +kernel
theorem dX2_become_28 : decode cX2_become 28 = .ok (.aload_n 0, 1) := by decide +kernel
theorem dX2_become_29 : decode cX2_become 29 = .ok (.getfield 15, 3) := by decide +kernel
theorem dX2_become_32 : decode cX2_become 32 = .ok (.iconst 0, 1) := by decide +kernel
theorem dX2_become_33 : decode cX2_become 33 = .ok (.bipush 8, 2) := by decide +kernel
theorem dX2_become_35 : decode cX2_become 35 = .ok (.invokestatic 88, 3) := by decide +kernel
theorem dX2_become_38 : decode cX2_become 38 = .ok (.aload_n 1, 1) := by decide +kernel
theorem dX2_become_39 : decode cX2_become 39 = .ok (.getfield 18, 3) := by decide +kernel
theorem dX2_become_42 : decode cX2_become 42 = .ok (.iconst 0, 1) := by decide +kernel
theorem dX2_become_43 : decode cX2_become 43 = .ok (.aload_n 0, 1) := by decide +kernel
theorem dX2_become_44 : decode cX2_become 44 = .ok (.getfield 18, 3) := by decide +kernel
theorem dX2_become_47 : decode cX2_become 47 = .ok (.iconst 0, 1) := by decide +kernel
theorem dX2_become_48 : decode cX2_become 48 = .ok (.bipush 8, 2) := by decide +kernel
theorem dX2_become_50 : decode cX2_become 50 = .ok (.invokestatic 88, 3) := by decide +kernel
theorem dX2_become_53 : decode cX2_become 53 = .ok (.aload_n 1, 1) := by decide +kernel
theorem dX2_become_54 : decode cX2_become 54 = .ok (.getfield 21, 3) := by decide +kernel
theorem dX2_become_57 : decode cX2_become 57 = .ok (.iconst 0, 1) := by decide +kernel
theorem dX2_become_58 : decode cX2_become 58 = .ok (.aload_n 0, 1) := by decide +kernel
theorem dX2_become_59 : decode cX2_become 59 = .ok (.getfield 21, 3) := by decide +kernel
theorem dX2_become_62 : decode cX2_become 62 = .ok (.iconst 0, 1) := by decide +kernel
theorem dX2_become_63 : decode cX2_become 63 = .ok (.bipush 8, 2) := by decide +kernel
theorem dX2_become_65 : decode cX2_become 65 = .ok (.invokestatic 88, 3) := by decide +kernel
theorem dX2_become_68 : decode cX2_become 68 = .ok (.aload_n 1, 1) := by decide +kernel
theorem dX2_become_69 : decode cX2_become 69 = .ok (.getfield 24, 3) := by decide +kernel
theorem dX2_become_72 : decode cX2_become 72 = .ok (.iconst 0, 1) := by decide +kernel
theorem dX2_become_73 : decode cX2_become 73 = .ok (.aload_n 0, 1) := by decide +kernel
theorem dX2_become_74 : decode cX2_become 74 = .ok (.getfield 24, 3) := by decide +kernel
theorem dX2_become_77 : decode cX2_become 77 = .ok (.iconst 0, 1) := by decide +kernel
theorem dX2_become_78 : decode cX2_become 78 = .ok (.bipush 8, 2) := by decide +kernel
theorem dX2_become_80 : decode cX2_become 80 = .ok (.invokestatic 88, 3) := by decide +kernel
theorem dX2_become_83 : decode cX2_become 83 = .ok (.aload_n 0, 1) := by decide +kernel
theorem dX2_become_84 : decode cX2_become 84 = .ok (.aload_n 1, 1) := by decide +kernel
theorem dX2_become_85 : decode cX2_become 85 = .ok (.getfield 94, 3) := by decide +kernel
theorem dX2_become_88 : decode cX2_become 88 = .ok (.putfield 94, 3) := by decide +kernel
theorem dX2_become_91 : decode cX2_become 91 = .ok (.aload_n 1, 1) := by decide +kernel
theorem dX2_become_92 : decode cX2_become 92 = .ok (.getfield 29, 3) := by decide +kernel
theorem dX2_become_95 : decode cX2_become 95 = .ok (.iconst 0, 1) := by decide +kernel
theorem dX2_become_96 : decode cX2_become 96 = .ok (.aload_n 0, 1) := by decide +kernel
theorem dX2_become_97 : decode cX2_become 97 = .ok (.getfield 29, 3) := by decide +kernel
theorem dX2_become_100 : decode cX2_become 100 = .ok (.iconst 0, 1) := by decide +kernel
theorem dX2_become_101 : decode cX2_become 101 = .ok (.iconst 4, 1) := by decide +kernel
theorem dX2_become_102 : decode cX2_become 102 = .ok (.invokestatic 88, 3) := by decide +kernel
theorem dX2_become_105 : decode cX2_become 105 = .ok (.aload_n 1, 1) := by decide +kernel
theorem dX2_become_106 : decode cX2_become 106 = .ok (.getfield 33, 3) := by decide +kernel
theorem dX2_become_109 : decode cX2_become 109 = .ok (.iconst 0, 1) := by decide +kernel
theorem dX2_become_110 : decode cX2_become 110 = .ok (.aload_n 0, 1) := by decide +kernel
theorem dX2_become_111 : decode cX2_become 111 = .ok (.getfield 33, 3) := by decide +kernel
theorem dX2_become_114 : decode cX2_become 114 = .ok (.iconst 0, 1) := by decide +kernel
theorem dX2_become_115 : decode cX2_become 115 = .ok (.iconst 4, 1) := by decide +kernel
theorem dX2_become_116 : decode cX2_become 116 = .ok (.invokestatic 88, 3) := by decide +kernel
theorem dX2_become_119 : decode cX2_become 119 = .ok (.aload_n 1, 1) := by decide +kernel
theorem dX2_become_120 : decode cX2_become 120 = .ok (.getfield 36, 3) := by decide +kernel
theorem dX2_become_123 : decode cX2_become 123 = .ok (.iconst 0, 1) := by decide +kernel
theorem dX2_become_124 : decode cX2_become 124 = .ok (.aload_n 0, 1) := by decide +kernel
theorem dX2_become_125 : decode cX2_become 125 = .ok (.getfield 36, 3) := by decide +kernel
theorem dX2_become_128 : decode cX2_become 128 = .ok (.iconst 0, 1) := by decide +kernel
theorem dX2_become_129 : decode cX2_become 129 = .ok (.iconst 4, 1) := by decide +kernel
theorem dX2_become_130 : decode cX2_become 130 = .ok (.invokestatic 88, 3) := by decide +kernel
theorem dX2_become_133 : decode cX2_become 133 = .ok (.aload_n 1, 1) := by decide +kernel
theorem dX2_become_134 : decode cX2_become 134 = .ok (.getfield 40, 3) := by decide +kernel
theorem dX2_become_137 : decode cX2_become 137 = .ok (.iconst 0, 1) := by decide +kernel
theorem dX2_become_138 : decode cX2_become 138 = .ok (.aload_n 0, 1) := by decide +kernel
theorem dX2_become_139 : decode cX2_become 139 = .ok (.getfield 40, 3) := by decide +kernel
theorem dX2_become_142 : decode cX2_become 142 = .ok (.iconst 0, 1) := by decide +kernel
theorem dX2_become_143 : decode cX2_become 143 = .ok (.iconst 4, 1) := by decide +kernel
theorem dX2_become_144 : decode cX2_become 144 = .ok (.invokestatic 88, 3) := by decide +kernel
theorem dX2_become_147 : decode cX2_become 147 = .ok (.aload_n 1, 1) := by decide +kernel
theorem dX2_become_148 : decode cX2_become 148 = .ok (.getfield 43, 3) := by decide +kernel
theorem dX2_become_151 : decode cX2_become 151 = .ok (.iconst 0, 1) := by decide +kernel
theorem dX2_become_152 : decode cX2_become 152 = .ok (.aload_n 0, 1) := by decide +kernel
theorem dX2_become_153 : decode cX2_become 153 = .ok (.getfield 43, 3) := by decide +kernel
theorem dX2_become_156 : decode cX2_become 156 = .ok (.iconst 0, 1) := by decide +kernel
theorem dX2_become_157 : decode cX2_become 157 = .ok (.bipush 32, 2) := by decide +kernel
theorem dX2_become_159 : decode cX2_become 159 = .ok (.invokestatic 88, 3) := by decide +kernel
theorem dX2_become_162 : decode cX2_become 162 = .ok (.aload_n 1, 1) := by decide +kernel
theorem dX2_become_163 : decode cX2_become 163 = .ok (.getfield 46, 3) := by decide +kernel
theorem dX2_become_166 : decode cX2_become 166 = .ok (.iconst 0, 1) := by decide +kernel
theorem dX2_become_167 : decode cX2_become 167 = .ok (.aload_n 0, 1) := by decide +kernel
theorem dX2_become_168 : decode cX2_become 168 = .ok (.getfield 46, 3) := by decide +kernel
theorem dX2_become_171 : decode cX2_become 171 = .ok (.iconst 0, 1) := by decide +kernel
theorem dX2_become_172 : decode cX2_become 172 = .ok (.bipush 32, 2) := by decide +kernel
theorem dX2_become_174 : decode cX2_become 174 = .ok (.invokestatic 88, 3) := by decide +kernel
theorem dX2_become_177 : decode cX2_become 177 = .ok (.aload_n 0, 1) := by decide +kernel
theorem dX2_become_178 : decode cX2_become 178 = .ok (.aload_n 1, 1) := by decide +kernel
theorem dX2_become_179 : decode cX2_become 179 = .ok (.getfield 97, 3) := by decide +kernel
theorem dX2_become_182 : decode cX2_become 182 = .ok (.putfield 97, 3) := by decide +kernel
theorem dX2_become_185 : decode cX2_become 185 = .ok (.aload_n 0, 1) := by decide +kernel
theorem dX2_become_186 : decode cX2_become 186 = .ok (.aload_n 1, 1) := by decide +kernel
theorem dX2_become_187 : decode cX2_become 187 = .ok (.getfield 100, 3) := by decide +kernel
theorem dX2_become_190 : decode cX2_become 190 = .ok (.putfield 100, 3) := by decide +kernel
theorem dX2_become_193 : decode cX2_become 193 = .ok (.aload_n 1, 1) := by decide +kernel
theorem dX2_become_194 : decode cX2_become 194 = .ok (.getfield 49, 3) := by decide +kernel
theorem dX2_become_197 : decode cX2_become 197 = .ok (.iconst 0, 1) := by decide +kernel
theorem dX2_become_198 : decode cX2_become 198 = .ok (.aload_n 0, 1) := by decide +kernel
theorem dX2_become_199 : decode cX2_become 199 = .ok (.getfield 49, 3) := by decide +kernel
theorem dX2_become_202 : decode cX2_become 202 = .ok (.iconst 0, 1) := by decide +kernel
theorem dX2_become_203 : decode cX2_become 203 = .ok (.bipush 12, 2) := by decide +kernel
theorem dX2_become_205 : decode cX2_become 205 = .ok (.invokestatic 88, 3) := by decide +kernel
theorem dX2_become_208 : decode cX2_become 208 = .ok (.aload_n 1, 1) := by decide +kernel
theorem dX2_become_209 : decode cX2_become 209 = .ok (.getfield 52, 3) := by decide +kernel
theorem dX2_become_212 : decode cX2_become 212 = .ok (.iconst 0, 1) := by decide +kernel
theorem dX2_become_213 : decode cX2_become 213 = .ok (.aload_n 0, 1) := by decide +kernel
theorem dX2_become_214 : decode cX2_become 214 = .ok (.getfield 52, 3) := by decide +kernel
theorem dX2_become_217 : decode cX2_become 217 = .ok (.iconst 0, 1) := by decide +kernel
theorem dX2_become_218 : decode cX2_become 218 = .ok (.bipush 12, 2) := by decide +kernel
theorem dX2_become_220 : decode cX2_become 220 = .ok (.invokestatic 88, 3) := by decide +kernel
theorem dX2_become_223 : decode cX2_become 223 = .ok (.aload_n 1, 1) := by decide +kernel
theorem dX2_become_224 : decode cX2_become 224 = .ok (.getfield 55, 3) := by decide +kernel
theorem dX2_become_227 : decode cX2_become 227 = .ok (.iconst 0, 1) := by decide +kernel
theorem dX2_become_228 : decode cX2_become 228 = .ok (.aload_n 0, 1) := by decide +kernel
theorem dX2_become_229 : decode cX2_become 229 = .ok (.getfield 55, 3) := by decide +kernel
theorem dX2_become_232 : decode cX2_become 232 = .ok (.iconst 0, 1) := by decide +kernel
theorem dX2_become_233 : decode cX2_become 233 = .ok (.bipush 12, 2) := by decide +kernel
theorem dX2_become_235 : decode cX2_become 235 = .ok (.invokestatic 88, 3) := by decide +kernel
theorem dX2_become_238 : decode cX2_become 238 = .ok (.aload_n 1, 1) := by decide +kernel
theorem dX2_become_239 : decode cX2_become 239 = .ok (.getfield 60, 3) := by decide +kernel
theorem dX2_become_242 : decode cX2_become 242 = .ok (.iconst 0, 1) := by decide +kernel
theorem dX2_become_243 : decode cX2_become 243 = .ok (.aload_n 0, 1) := by decide +kernel
theorem dX2_become_244 : decode cX2_become 244 = .ok (.getfield 60, 3) := by decide +kernel
theorem dX2_become_247 : decode cX2_become 247 = .ok (.iconst 0, 1) := by decide +kernel
theorem dX2_become_248 : decode cX2_become 248 = .ok (.iconst 2, 1) := by decide +kernel
theorem dX2_become_249 : decode cX2_become 249 = .ok (.invokestatic 88, 3) := by decide +kernel
theorem dX2_become_252 : decode cX2_become 252 = .ok (.aload_n 0, 1) := by decide +kernel
theorem dX2_become_253 : decode cX2_become 253 = .ok (.aload_n 1, 1) := by decide +kernel
theorem dX2_become_254 : decode cX2_become 254 = .ok (.getfield 64, 3) := by decide +kernel
theorem dX2_become_257 : decode cX2_become 257 = .ok (.putfield 64, 3) := by decide +kernel
theorem dX2_become_260 : decode cX2_become 260 = .ok (.aload_n 1, 1) := by decide +kernel
theorem dX2_become_261 : decode cX2_become 261 = .ok (.getfield 68, 3) := by decide +kernel
theorem dX2_become_264 : decode cX2_become 264 = .ok (.iconst 0, 1) := by decide +kernel
theorem dX2_become_265 : decode cX2_become 265 = .ok (.aload_n 0, 1) := by decide +kernel
theorem dX2_become_266 : decode cX2_become 266 = .ok (.getfield 68, 3) := by decide +kernel
theorem dX2_become_269 : decode cX2_become 269 = .ok (.iconst 0, 1) := by decide +kernel
theorem dX2_become_270 : decode cX2_become 270 = .ok (.bipush 50, 2) := by decide +kernel
theorem dX2_become_272 : decode cX2_become 272 = .ok (.invokestatic 88, 3) := by decide +kernel
theorem dX2_become_275 : decode cX2_become 275 = .ok (.aload_n 0, 1) := by decide +kernel
theorem dX2_become_276 : decode cX2_become 276 = .ok (.aload_n 1, 1) := by decide +kernel
theorem dX2_become_277 : decode cX2_become 277 = .ok (.getfield 103, 3) := by decide +kernel
theorem dX2_become_280 : decode cX2_become 280 = .ok (.putfield 103, 3) := by decide +kernel
theorem dX2_become_283 : decode cX2_become 283 = .ok (.aload_n 1, 1) := by decide +kernel
theorem dX2_become_284 : decode cX2_become 284 = .ok (.getfield 72, 3) := by decide +kernel
theorem dX2_become_287 : decode cX2_become 287 = .ok (.iconst 0, 1) := by decide +kernel
theorem dX2_become_288 : decode cX2_become 288 = .ok (.aload_n 0, 1) := by decide +kernel
theorem dX2_become_289 : decode cX2_become 289 = .ok (.getfield 72, 3) := by decide +kernel
theorem dX2_become_292 : decode cX2_become 292 = .ok (.iconst 0, 1) := by decide +kernel
theorem dX2_become_293 : decode cX2_become 293 = .ok (.bipush 20, 2) := by decide +kernel
theorem dX2_become_295 : decode cX2_become 295 = .ok (.invokestatic 88, 3) := by decide +kernel
theorem dX2_become_298 : decode cX2_become 298 = .ok (.aload_n 0, 1) := by decide +kernel
theorem dX2_become_299 : decode cX2_become 299 = .ok (.aload_n 1, 1) := by decide +kernel
theorem dX2_become_300 : decode cX2_become 300 = .ok (.getfield 106, 3) := by decide +kernel
theorem dX2_become_303 : decode cX2_become 303 = .ok (.putfield 106, 3) := by decide +kernel
theorem dX2_become_306 : decode cX2_become 306 = .ok (.aload_n 0, 1) := by decide +kernel
theorem dX2_become_307 : decode cX2_become 307 = .ok (.iconst (-1), 1) := by decide +kernel
theorem dX2_become_308 : decode cX2_become 308 = .ok (.putfield 82, 3) := by decide +kernel
theorem dX2_become_311 : decode cX2_become 311 = .ok (.aload_n 0, 1) := by decide +kernel
theorem dX2_become_312 : decode cX2_become 312 = .ok (.areturn, 1) := by decide +kernel
theorem q106 : (Jvm.Cond.initialized "java/lang/System") ∈ lw_all := lw_g (lw_at lw_m1 22 rfl) rfl
theorem q856 : (Jvm.Cond.methodLink "ChapterLoan$Town" (88 : Nat) ({ cls := "java/lang/System", name := "arraycopy", desc := "(Ljava/lang/Object;ILjava/lang/Object;II)V" } : Jvm.MethodName)) ∈ lw_all := lw_g (lw_at lw_m4 52 rfl) rfl
theorem q857 : (Jvm.Cond.static ({ cls := "java/lang/System", name := "arraycopy", desc := "(Ljava/lang/Object;ILjava/lang/Object;II)V" } : Jvm.MethodName)) ∈ lw_all := lw_g (lw_at lw_m4 53 rfl) rfl
theorem q858 : (Jvm.Cond.native ({ cls := "java/lang/System", name := "arraycopy", desc := "(Ljava/lang/Object;ILjava/lang/Object;II)V" } : Jvm.MethodName)) ∈ lw_all := lw_g (lw_at lw_m4 54 rfl) rfl
theorem w_T_become {l : Launch} {D : va_G} {cA : Nat → ClassId} {ks : List Nat} {ad : Nat → Nat} {A : Nat → Prop} (hO : klOk A ks ad) {t u : Nat} (ht : t < 3) (hu : u < 3) {st st' : CS} (h : T_become t u st = some st') : cV l yX2_become cX2_become 2 (some (.object "ChapterLoan$Town")) 5 D cA ks ad A st [.ref (ad (20 * t)), .ref (ad (20 * u))] (some (.ref (ad (20 * t)))) st' := by
  refine cc_ofV (own := RX2) (by decide) rfl (Nat.le_of_ble_eq_true rfl) (fun p e s m below meth c R args ls C hr hlk hP hS hl hcs => ?_)
  have hx := C.1
  have hb := C.2.1
  have hown := C.2.2.2.1
  have hl : lv_has ls 2 [(0, .ref (ad (20 * t))), (1, .ref (ad (20 * u)))] := hl
  rw [T_become] at h
  refine lv_aload_n hx hb dX2_become_0 rfl (lv_at hl 0 rfl) ?_
  refine lv_aload_n hx hb dX2_become_1 rfl (lv_at hl 1 rfl) ?_
  refine tg_facts (t := u) C hO hu hP dX2_become_2 ?_
  refine tp_facts (t := t) C hO ht hP hS dX2_become_5 (fun H locs hP hS => ?_)
  refine lv_aload_n hx hb dX2_become_8 rfl (lv_at hl 1 rfl) ?_
  refine tg_needs (t := u) C hO hu hP dX2_become_9 ?_
  refine lv_iconst (v := 0) hx hb dX2_become_12 (by decide) ?_
  refine lv_aload_n hx hb dX2_become_13 rfl (lv_at hl 0 rfl) ?_
  refine tg_needs (t := t) C hO ht hP dX2_become_14 ?_
  refine lv_iconst (v := 0) hx hb dX2_become_17 (by decide) ?_
  refine lv_bipush (v := 8) hx hb dX2_become_18 (by decide) ?_
  obtain ⟨st1, hst1, h⟩ := bd1_some h
  have est1 := Option.some.inj hst1
  refine cc_cpn (st2 := st1) (nn := 8) C hO hP hS 0 rfl rfl (hO.2.2.2 _ (tk_ 1 hu (by decide))) (hO.2.2.2 _ (tk_ 1 ht (by decide))) (cg_t 1 hu (by decide)) (cg_t 1 ht (by decide)) ⟨by decide, by decide⟩ ⟨by decide, by decide⟩ (fun _ _ => rfl) (by rw [← est1]; exact cg_At 1 ht (by decide)) (by rw [← est1]; exact hP.2) q856 q858 q857 q106 (Nat.le_of_ble_eq_true rfl) hl.1 (Nat.le_of_ble_eq_true rfl) dX2_become_20 (fun H locs hP hS => ?_)
  refine lv_aload_n hx hb dX2_become_23 rfl (lv_at hl 1 rfl) ?_
  refine tg_clashes (t := u) C hO hu hP dX2_become_24 ?_
  refine lv_iconst (v := 0) hx hb dX2_become_27 (by decide) ?_
  refine lv_aload_n hx hb dX2_become_28 rfl (lv_at hl 0 rfl) ?_
  refine tg_clashes (t := t) C hO ht hP dX2_become_29 ?_
  refine lv_iconst (v := 0) hx hb dX2_become_32 (by decide) ?_
  refine lv_bipush (v := 8) hx hb dX2_become_33 (by decide) ?_
  obtain ⟨st2, hst2, h⟩ := bd1_some h
  have est2 := Option.some.inj hst2
  refine cc_cpn (st2 := st2) (nn := 8) C hO hP hS 0 rfl rfl (hO.2.2.2 _ (tk_ 2 hu (by decide))) (hO.2.2.2 _ (tk_ 2 ht (by decide))) (cg_t 2 hu (by decide)) (cg_t 2 ht (by decide)) ⟨by decide, by decide⟩ ⟨by decide, by decide⟩ (fun _ _ => rfl) (by rw [← est2]; exact cg_At 2 ht (by decide)) (by rw [← est2]; exact hP.2) q856 q858 q857 q106 (Nat.le_of_ble_eq_true rfl) hl.1 (Nat.le_of_ble_eq_true rfl) dX2_become_35 (fun H locs hP hS => ?_)
  refine lv_aload_n hx hb dX2_become_38 rfl (lv_at hl 1 rfl) ?_
  refine tg_within (t := u) C hO hu hP dX2_become_39 ?_
  refine lv_iconst (v := 0) hx hb dX2_become_42 (by decide) ?_
  refine lv_aload_n hx hb dX2_become_43 rfl (lv_at hl 0 rfl) ?_
  refine tg_within (t := t) C hO ht hP dX2_become_44 ?_
  refine lv_iconst (v := 0) hx hb dX2_become_47 (by decide) ?_
  refine lv_bipush (v := 8) hx hb dX2_become_48 (by decide) ?_
  obtain ⟨st3, hst3, h⟩ := bd1_some h
  have est3 := Option.some.inj hst3
  refine cc_cpn (st2 := st3) (nn := 8) C hO hP hS 0 rfl rfl (hO.2.2.2 _ (tk_ 3 hu (by decide))) (hO.2.2.2 _ (tk_ 3 ht (by decide))) (cg_t 3 hu (by decide)) (cg_t 3 ht (by decide)) ⟨by decide, by decide⟩ ⟨by decide, by decide⟩ (fun _ _ => rfl) (by rw [← est3]; exact cg_At 3 ht (by decide)) (by rw [← est3]; exact hP.2) q856 q858 q857 q106 (Nat.le_of_ble_eq_true rfl) hl.1 (Nat.le_of_ble_eq_true rfl) dX2_become_50 (fun H locs hP hS => ?_)
  refine lv_aload_n hx hb dX2_become_53 rfl (lv_at hl 1 rfl) ?_
  refine tg_by (t := u) C hO hu hP dX2_become_54 ?_
  refine lv_iconst (v := 0) hx hb dX2_become_57 (by decide) ?_
  refine lv_aload_n hx hb dX2_become_58 rfl (lv_at hl 0 rfl) ?_
  refine tg_by (t := t) C hO ht hP dX2_become_59 ?_
  refine lv_iconst (v := 0) hx hb dX2_become_62 (by decide) ?_
  refine lv_bipush (v := 8) hx hb dX2_become_63 (by decide) ?_
  obtain ⟨st4, hst4, h⟩ := bd1_some h
  have est4 := Option.some.inj hst4
  refine cc_cpn (st2 := st4) (nn := 8) C hO hP hS 0 rfl rfl (hO.2.2.2 _ (tk_ 4 hu (by decide))) (hO.2.2.2 _ (tk_ 4 ht (by decide))) (cg_t 4 hu (by decide)) (cg_t 4 ht (by decide)) ⟨by decide, by decide⟩ ⟨by decide, by decide⟩ (fun _ _ => rfl) (by rw [← est4]; exact cg_At 4 ht (by decide)) (by rw [← est4]; exact hP.2) q856 q858 q857 q106 (Nat.le_of_ble_eq_true rfl) hl.1 (Nat.le_of_ble_eq_true rfl) dX2_become_65 (fun H locs hP hS => ?_)
  refine lv_aload_n hx hb dX2_become_68 rfl (lv_at hl 1 rfl) ?_
  refine tg_witnesses (t := u) C hO hu hP dX2_become_69 ?_
  refine lv_iconst (v := 0) hx hb dX2_become_72 (by decide) ?_
  refine lv_aload_n hx hb dX2_become_73 rfl (lv_at hl 0 rfl) ?_
  refine tg_witnesses (t := t) C hO ht hP dX2_become_74 ?_
  refine lv_iconst (v := 0) hx hb dX2_become_77 (by decide) ?_
  refine lv_bipush (v := 8) hx hb dX2_become_78 (by decide) ?_
  obtain ⟨st5, hst5, h⟩ := bd1_some h
  have est5 := Option.some.inj hst5
  refine cc_cpn (st2 := st5) (nn := 8) C hO hP hS 0 rfl rfl (hO.2.2.2 _ (tk_ 5 hu (by decide))) (hO.2.2.2 _ (tk_ 5 ht (by decide))) (cg_t 5 hu (by decide)) (cg_t 5 ht (by decide)) ⟨by decide, by decide⟩ ⟨by decide, by decide⟩ (fun _ _ => rfl) (by rw [← est5]; exact cg_At 5 ht (by decide)) (by rw [← est5]; exact hP.2) q856 q858 q857 q106 (Nat.le_of_ble_eq_true rfl) hl.1 (Nat.le_of_ble_eq_true rfl) dX2_become_80 (fun H locs hP hS => ?_)
  refine lv_aload_n hx hb dX2_become_83 rfl (lv_at hl 0 rfl) ?_
  refine lv_aload_n hx hb dX2_become_84 rfl (lv_at hl 1 rfl) ?_
  refine tg_debtors (t := u) C hO hu hP dX2_become_85 ?_
  refine tp_debtors (t := t) C hO ht hP hS dX2_become_88 (fun H locs hP hS => ?_)
  refine lv_aload_n hx hb dX2_become_91 rfl (lv_at hl 1 rfl) ?_
  refine tg_debtor (t := u) C hO hu hP dX2_become_92 ?_
  refine lv_iconst (v := 0) hx hb dX2_become_95 (by decide) ?_
  refine lv_aload_n hx hb dX2_become_96 rfl (lv_at hl 0 rfl) ?_
  refine tg_debtor (t := t) C hO ht hP dX2_become_97 ?_
  refine lv_iconst (v := 0) hx hb dX2_become_100 (by decide) ?_
  refine lv_iconst (v := 4) hx hb dX2_become_101 (by decide) ?_
  obtain ⟨b6, hb6, h⟩ := bd1_some h
  obtain ⟨hfb6, heb6⟩ := cpq_some hb6
  refine cc_cpq (nn := 4) C hO hP hS 4 rfl (hO.2.2.2 _ (tk_ 17 hu (by decide))) (hO.2.2.2 _ (tk_ 17 ht (by decide))) (cg_t 17 hu (by decide)) (cg_t 17 ht (by decide)) ⟨by decide, by decide⟩ ⟨by decide, by decide⟩ (fun i hi y hy => deb_any C hP (hP.2.1 _ _ y (tk_ 17 hu (by decide)) (tk61 hu) (tk68 hu) hy) (hfb6 i hi y hy)) (by rw [heb6]; exact cg_Qt 17 ht (by decide)) (heb6 ▸ refOk_cp hP.2 (tk_ 17 hu (by decide)) (tk61 hu) (tk68 hu) (tk68 ht)) q856 q858 q857 q106 (Nat.le_of_ble_eq_true rfl) hl.1 (Nat.le_of_ble_eq_true rfl) dX2_become_102 (fun H locs hP hS => ?_)
  refine lv_aload_n hx hb dX2_become_105 rfl (lv_at hl 1 rfl) ?_
  refine tg_debt (t := u) C hO hu hP dX2_become_106 ?_
  refine lv_iconst (v := 0) hx hb dX2_become_109 (by decide) ?_
  refine lv_aload_n hx hb dX2_become_110 rfl (lv_at hl 0 rfl) ?_
  refine tg_debt (t := t) C hO ht hP dX2_become_111 ?_
  refine lv_iconst (v := 0) hx hb dX2_become_114 (by decide) ?_
  refine lv_iconst (v := 4) hx hb dX2_become_115 (by decide) ?_
  obtain ⟨st7, hst7, h⟩ := bd1_some h
  have est7 := Option.some.inj hst7
  refine cc_cpn (st2 := st7) (nn := 4) C hO hP hS 0 rfl rfl (hO.2.2.2 _ (tk_ 6 hu (by decide))) (hO.2.2.2 _ (tk_ 6 ht (by decide))) (cg_t 6 hu (by decide)) (cg_t 6 ht (by decide)) ⟨by decide, by decide⟩ ⟨by decide, by decide⟩ (fun _ _ => rfl) (by rw [← est7]; exact cg_At 6 ht (by decide)) (by rw [← est7]; exact hP.2) q856 q858 q857 q106 (Nat.le_of_ble_eq_true rfl) hl.1 (Nat.le_of_ble_eq_true rfl) dX2_become_116 (fun H locs hP hS => ?_)
  refine lv_aload_n hx hb dX2_become_119 rfl (lv_at hl 1 rfl) ?_
  refine tg_isBroken (t := u) C hO hu hP dX2_become_120 ?_
  refine lv_iconst (v := 0) hx hb dX2_become_123 (by decide) ?_
  refine lv_aload_n hx hb dX2_become_124 rfl (lv_at hl 0 rfl) ?_
  refine tg_isBroken (t := t) C hO ht hP dX2_become_125 ?_
  refine lv_iconst (v := 0) hx hb dX2_become_128 (by decide) ?_
  refine lv_iconst (v := 4) hx hb dX2_become_129 (by decide) ?_
  obtain ⟨b8, hb8, h⟩ := bd1_some h
  obtain ⟨hfb8, heb8⟩ := cpz_some hb8
  refine cc_cpn (st2 := csA st7 (20 * t + 7) b8) (nn := 4) C hO hP hS 1 rfl rfl (hO.2.2.2 _ (tk_ 7 hu (by decide))) (hO.2.2.2 _ (tk_ 7 ht (by decide))) (cg_t 7 hu (by decide)) (cg_t 7 ht (by decide)) ⟨by decide, by decide⟩ ⟨by decide, by decide⟩ hfb8 (by rw [heb8]; exact cg_At 7 ht (by decide)) hP.2 q856 q858 q857 q106 (Nat.le_of_ble_eq_true rfl) hl.1 (Nat.le_of_ble_eq_true rfl) dX2_become_130 (fun H locs hP hS => ?_)
  refine lv_aload_n hx hb dX2_become_133 rfl (lv_at hl 1 rfl) ?_
  refine tg_many (t := u) C hO hu hP dX2_become_134 ?_
  refine lv_iconst (v := 0) hx hb dX2_become_137 (by decide) ?_
  refine lv_aload_n hx hb dX2_become_138 rfl (lv_at hl 0 rfl) ?_
  refine tg_many (t := t) C hO ht hP dX2_become_139 ?_
  refine lv_iconst (v := 0) hx hb dX2_become_142 (by decide) ?_
  refine lv_iconst (v := 4) hx hb dX2_become_143 (by decide) ?_
  obtain ⟨st9, hst9, h⟩ := bd1_some h
  have est9 := Option.some.inj hst9
  refine cc_cpn (st2 := st9) (nn := 4) C hO hP hS 0 rfl rfl (hO.2.2.2 _ (tk_ 8 hu (by decide))) (hO.2.2.2 _ (tk_ 8 ht (by decide))) (cg_t 8 hu (by decide)) (cg_t 8 ht (by decide)) ⟨by decide, by decide⟩ ⟨by decide, by decide⟩ (fun _ _ => rfl) (by rw [← est9]; exact cg_At 8 ht (by decide)) (by rw [← est9]; exact hP.2) q856 q858 q857 q106 (Nat.le_of_ble_eq_true rfl) hl.1 (Nat.le_of_ble_eq_true rfl) dX2_become_144 (fun H locs hP hS => ?_)
  refine lv_aload_n hx hb dX2_become_147 rfl (lv_at hl 1 rfl) ?_
  refine tg_bookFact (t := u) C hO hu hP dX2_become_148 ?_
  refine lv_iconst (v := 0) hx hb dX2_become_151 (by decide) ?_
  refine lv_aload_n hx hb dX2_become_152 rfl (lv_at hl 0 rfl) ?_
  refine tg_bookFact (t := t) C hO ht hP dX2_become_153 ?_
  refine lv_iconst (v := 0) hx hb dX2_become_156 (by decide) ?_
  refine lv_bipush (v := 32) hx hb dX2_become_157 (by decide) ?_
  obtain ⟨st10, hst10, h⟩ := bd1_some h
  have est10 := Option.some.inj hst10
  refine cc_cpn (st2 := st10) (nn := 32) C hO hP hS 0 rfl rfl (hO.2.2.2 _ (tk_ 9 hu (by decide))) (hO.2.2.2 _ (tk_ 9 ht (by decide))) (cg_t 9 hu (by decide)) (cg_t 9 ht (by decide)) ⟨by decide, by decide⟩ ⟨by decide, by decide⟩ (fun _ _ => rfl) (by rw [← est10]; exact cg_At 9 ht (by decide)) (by rw [← est10]; exact hP.2) q856 q858 q857 q106 (Nat.le_of_ble_eq_true rfl) hl.1 (Nat.le_of_ble_eq_true rfl) dX2_become_159 (fun H locs hP hS => ?_)
  refine lv_aload_n hx hb dX2_become_162 rfl (lv_at hl 1 rfl) ?_
  refine tg_bookWeek (t := u) C hO hu hP dX2_become_163 ?_
  refine lv_iconst (v := 0) hx hb dX2_become_166 (by decide) ?_
  refine lv_aload_n hx hb dX2_become_167 rfl (lv_at hl 0 rfl) ?_
  refine tg_bookWeek (t := t) C hO ht hP dX2_become_168 ?_
  refine lv_iconst (v := 0) hx hb dX2_become_171 (by decide) ?_
  refine lv_bipush (v := 32) hx hb dX2_become_172 (by decide) ?_
  obtain ⟨st11, hst11, h⟩ := bd1_some h
  have est11 := Option.some.inj hst11
  refine cc_cpn (st2 := st11) (nn := 32) C hO hP hS 0 rfl rfl (hO.2.2.2 _ (tk_ 10 hu (by decide))) (hO.2.2.2 _ (tk_ 10 ht (by decide))) (cg_t 10 hu (by decide)) (cg_t 10 ht (by decide)) ⟨by decide, by decide⟩ ⟨by decide, by decide⟩ (fun _ _ => rfl) (by rw [← est11]; exact cg_At 10 ht (by decide)) (by rw [← est11]; exact hP.2) q856 q858 q857 q106 (Nat.le_of_ble_eq_true rfl) hl.1 (Nat.le_of_ble_eq_true rfl) dX2_become_174 (fun H locs hP hS => ?_)
  refine lv_aload_n hx hb dX2_become_177 rfl (lv_at hl 0 rfl) ?_
  refine lv_aload_n hx hb dX2_become_178 rfl (lv_at hl 1 rfl) ?_
  refine tg_week (t := u) C hO hu hP dX2_become_179 ?_
  refine tp_week (t := t) C hO ht hP hS dX2_become_182 (fun H locs hP hS => ?_)
  refine lv_aload_n hx hb dX2_become_185 rfl (lv_at hl 0 rfl) ?_
  refine lv_aload_n hx hb dX2_become_186 rfl (lv_at hl 1 rfl) ?_
  refine tg_meetings (t := u) C hO hu hP dX2_become_187 ?_
  refine tp_meetings (t := t) C hO ht hP hS dX2_become_190 (fun H locs hP hS => ?_)
  refine lv_aload_n hx hb dX2_become_193 rfl (lv_at hl 1 rfl) ?_
  refine tg_meetWeek (t := u) C hO hu hP dX2_become_194 ?_
  refine lv_iconst (v := 0) hx hb dX2_become_197 (by decide) ?_
  refine lv_aload_n hx hb dX2_become_198 rfl (lv_at hl 0 rfl) ?_
  refine tg_meetWeek (t := t) C hO ht hP dX2_become_199 ?_
  refine lv_iconst (v := 0) hx hb dX2_become_202 (by decide) ?_
  refine lv_bipush (v := 12) hx hb dX2_become_203 (by decide) ?_
  obtain ⟨st12, hst12, h⟩ := bd1_some h
  have est12 := Option.some.inj hst12
  refine cc_cpn (st2 := st12) (nn := 12) C hO hP hS 0 rfl rfl (hO.2.2.2 _ (tk_ 11 hu (by decide))) (hO.2.2.2 _ (tk_ 11 ht (by decide))) (cg_t 11 hu (by decide)) (cg_t 11 ht (by decide)) ⟨by decide, by decide⟩ ⟨by decide, by decide⟩ (fun _ _ => rfl) (by rw [← est12]; exact cg_At 11 ht (by decide)) (by rw [← est12]; exact hP.2) q856 q858 q857 q106 (Nat.le_of_ble_eq_true rfl) hl.1 (Nat.le_of_ble_eq_true rfl) dX2_become_205 (fun H locs hP hS => ?_)
  refine lv_aload_n hx hb dX2_become_208 rfl (lv_at hl 1 rfl) ?_
  refine tg_meetOne (t := u) C hO hu hP dX2_become_209 ?_
  refine lv_iconst (v := 0) hx hb dX2_become_212 (by decide) ?_
  refine lv_aload_n hx hb dX2_become_213 rfl (lv_at hl 0 rfl) ?_
  refine tg_meetOne (t := t) C hO ht hP dX2_become_214 ?_
  refine lv_iconst (v := 0) hx hb dX2_become_217 (by decide) ?_
  refine lv_bipush (v := 12) hx hb dX2_become_218 (by decide) ?_
  obtain ⟨st13, hst13, h⟩ := bd1_some h
  have est13 := Option.some.inj hst13
  refine cc_cpn (st2 := st13) (nn := 12) C hO hP hS 0 rfl rfl (hO.2.2.2 _ (tk_ 12 hu (by decide))) (hO.2.2.2 _ (tk_ 12 ht (by decide))) (cg_t 12 hu (by decide)) (cg_t 12 ht (by decide)) ⟨by decide, by decide⟩ ⟨by decide, by decide⟩ (fun _ _ => rfl) (by rw [← est13]; exact cg_At 12 ht (by decide)) (by rw [← est13]; exact hP.2) q856 q858 q857 q106 (Nat.le_of_ble_eq_true rfl) hl.1 (Nat.le_of_ble_eq_true rfl) dX2_become_220 (fun H locs hP hS => ?_)
  refine lv_aload_n hx hb dX2_become_223 rfl (lv_at hl 1 rfl) ?_
  refine tg_meetOther (t := u) C hO hu hP dX2_become_224 ?_
  refine lv_iconst (v := 0) hx hb dX2_become_227 (by decide) ?_
  refine lv_aload_n hx hb dX2_become_228 rfl (lv_at hl 0 rfl) ?_
  refine tg_meetOther (t := t) C hO ht hP dX2_become_229 ?_
  refine lv_iconst (v := 0) hx hb dX2_become_232 (by decide) ?_
  refine lv_bipush (v := 12) hx hb dX2_become_233 (by decide) ?_
  obtain ⟨st14, hst14, h⟩ := bd1_some h
  have est14 := Option.some.inj hst14
  refine cc_cpn (st2 := st14) (nn := 12) C hO hP hS 0 rfl rfl (hO.2.2.2 _ (tk_ 13 hu (by decide))) (hO.2.2.2 _ (tk_ 13 ht (by decide))) (cg_t 13 hu (by decide)) (cg_t 13 ht (by decide)) ⟨by decide, by decide⟩ ⟨by decide, by decide⟩ (fun _ _ => rfl) (by rw [← est14]; exact cg_At 13 ht (by decide)) (by rw [← est14]; exact hP.2) q856 q858 q857 q106 (Nat.le_of_ble_eq_true rfl) hl.1 (Nat.le_of_ble_eq_true rfl) dX2_become_235 (fun H locs hP hS => ?_)
  refine lv_aload_n hx hb dX2_become_238 rfl (lv_at hl 1 rfl) ?_
  refine tg_text (t := u) C hO hu hP dX2_become_239 ?_
  refine lv_iconst (v := 0) hx hb dX2_become_242 (by decide) ?_
  refine lv_aload_n hx hb dX2_become_243 rfl (lv_at hl 0 rfl) ?_
  refine tg_text (t := t) C hO ht hP dX2_become_244 ?_
  refine lv_iconst (v := 0) hx hb dX2_become_247 (by decide) ?_
  refine lv_iconst (v := 2) hx hb dX2_become_248 (by decide) ?_
  obtain ⟨b15, hb15, h⟩ := bd1_some h
  obtain ⟨hfb15, heb15⟩ := cpq_some hb15
  refine cc_cpq (nn := 2) C hO hP hS 5 rfl (hO.2.2.2 _ (tk_ 18 hu (by decide))) (hO.2.2.2 _ (tk_ 18 ht (by decide))) (cg_t 18 hu (by decide)) (cg_t 18 ht (by decide)) ⟨by decide, by decide⟩ ⟨by decide, by decide⟩ (fun i hi y hy => tm_any C hP (hP.2.1 _ _ y (tk_ 18 hu (by decide)) (tk61 hu) (tk68 hu) hy) (hfb15 i hi y hy)) (by rw [heb15]; exact cg_Qt 18 ht (by decide)) (heb15 ▸ refOk_cp hP.2 (tk_ 18 hu (by decide)) (tk61 hu) (tk68 hu) (tk68 ht)) q856 q858 q857 q106 (Nat.le_of_ble_eq_true rfl) hl.1 (Nat.le_of_ble_eq_true rfl) dX2_become_249 (fun H locs hP hS => ?_)
  refine lv_aload_n hx hb dX2_become_252 rfl (lv_at hl 0 rfl) ?_
  refine lv_aload_n hx hb dX2_become_253 rfl (lv_at hl 1 rfl) ?_
  refine tg_z (t := u) C hO hu hP dX2_become_254 ?_
  refine tp_z (t := t) C hO ht hP hS dX2_become_257 (fun H locs hP hS => ?_)
  refine lv_aload_n hx hb dX2_become_260 rfl (lv_at hl 1 rfl) ?_
  refine tg_tape (t := u) C hO hu hP dX2_become_261 ?_
  refine lv_iconst (v := 0) hx hb dX2_become_264 (by decide) ?_
  refine lv_aload_n hx hb dX2_become_265 rfl (lv_at hl 0 rfl) ?_
  refine tg_tape (t := t) C hO ht hP dX2_become_266 ?_
  refine lv_iconst (v := 0) hx hb dX2_become_269 (by decide) ?_
  refine lv_bipush (v := 50) hx hb dX2_become_270 (by decide) ?_
  obtain ⟨b16, hb16, h⟩ := bd1_some h
  obtain ⟨hfb16, heb16⟩ := cpz_some hb16
  refine cc_cpn (st2 := csA (csF (csQ st14 (20 * t + 18) b15) (20 * t) 19 ((csQ st14 (20 * t + 18) b15).1 (20 * u) 19)) (20 * t + 14) b16) (nn := 50) C hO hP hS 2 rfl rfl (hO.2.2.2 _ (tk_ 14 hu (by decide))) (hO.2.2.2 _ (tk_ 14 ht (by decide))) (cg_t 14 hu (by decide)) (cg_t 14 ht (by decide)) ⟨by decide, by decide⟩ ⟨by decide, by decide⟩ hfb16 (by rw [heb16]; exact cg_At 14 ht (by decide)) hP.2 q856 q858 q857 q106 (Nat.le_of_ble_eq_true rfl) hl.1 (Nat.le_of_ble_eq_true rfl) dX2_become_272 (fun H locs hP hS => ?_)
  refine lv_aload_n hx hb dX2_become_275 rfl (lv_at hl 0 rfl) ?_
  refine lv_aload_n hx hb dX2_become_276 rfl (lv_at hl 1 rfl) ?_
  refine tg_taped (t := u) C hO hu hP dX2_become_277 ?_
  refine tp_taped (t := t) C hO ht hP hS dX2_become_280 (fun H locs hP hS => ?_)
  refine lv_aload_n hx hb dX2_become_283 rfl (lv_at hl 1 rfl) ?_
  refine tg_waiting (t := u) C hO hu hP dX2_become_284 ?_
  refine lv_iconst (v := 0) hx hb dX2_become_287 (by decide) ?_
  refine lv_aload_n hx hb dX2_become_288 rfl (lv_at hl 0 rfl) ?_
  refine tg_waiting (t := t) C hO ht hP dX2_become_289 ?_
  refine lv_iconst (v := 0) hx hb dX2_become_292 (by decide) ?_
  refine lv_bipush (v := 20) hx hb dX2_become_293 (by decide) ?_
  obtain ⟨st17, hst17, h⟩ := bd1_some h
  have est17 := Option.some.inj hst17
  refine cc_cpn (st2 := st17) (nn := 20) C hO hP hS 0 rfl rfl (hO.2.2.2 _ (tk_ 15 hu (by decide))) (hO.2.2.2 _ (tk_ 15 ht (by decide))) (cg_t 15 hu (by decide)) (cg_t 15 ht (by decide)) ⟨by decide, by decide⟩ ⟨by decide, by decide⟩ (fun _ _ => rfl) (by rw [← est17]; exact cg_At 15 ht (by decide)) (by rw [← est17]; exact hP.2) q856 q858 q857 q106 (Nat.le_of_ble_eq_true rfl) hl.1 (Nat.le_of_ble_eq_true rfl) dX2_become_295 (fun H locs hP hS => ?_)
  refine lv_aload_n hx hb dX2_become_298 rfl (lv_at hl 0 rfl) ?_
  refine lv_aload_n hx hb dX2_become_299 rfl (lv_at hl 1 rfl) ?_
  refine tg_waits (t := u) C hO hu hP dX2_become_300 ?_
  refine tp_waits (t := t) C hO ht hP hS dX2_become_303 (fun H locs hP hS => ?_)
  refine lv_aload_n hx hb dX2_become_306 rfl (lv_at hl 0 rfl) ?_
  refine lv_iconst (v := (-1)) hx hb dX2_become_307 (by decide) ?_
  refine tp_ratedOne (t := t) C hO ht hP hS dX2_become_308 (fun H locs hP hS => ?_)
  refine lv_aload_n hx hb dX2_become_311 rfl (lv_at hl 0 rfl) ?_
  cases h
  exact W.aret hx hb hr (Or.inl ⟨_, rfl⟩) (Or.inr ⟨_, rfl⟩) (fun t ht _ => ⟨rfl, by rw [ht]; exact hP, hS.F ht⟩) hS.2.2 dX2_become_312
theorem q855 : (Jvm.Cond.code ({ cls := "ChapterLoan$Town", name := "become", desc := "(LChapterLoan$Town;)LChapterLoan$Town;" } : Jvm.MethodName) prog_23_method_2_code (2 : Nat) (Option.some (Jvm.ClassFile.FieldType.object "ChapterLoan$Town"))) ∈ lw_all := lw_g (lw_at lw_m4 51 rfl) rfl
theorem q853 : (Jvm.Cond.instanceMethod ({ cls := "ChapterLoan$Town", name := "become", desc := "(LChapterLoan$Town;)LChapterLoan$Town;" } : Jvm.MethodName)) ∈ lw_all := lw_g (lw_at lw_m4 49 rfl) rfl
theorem q854 : (Jvm.Cond.selects "ChapterLoan$Town" ({ cls := "ChapterLoan$Town", name := "become", desc := "(LChapterLoan$Town;)LChapterLoan$Town;" } : Jvm.MethodName) ({ cls := "ChapterLoan$Town", name := "become", desc := "(LChapterLoan$Town;)LChapterLoan$Town;" } : Jvm.MethodName)) ∈ lw_all := lw_g (lw_at lw_m4 50 rfl) rfl
theorem k_T_become {st' : CS} (C : cC p R d s m args c cc nL own D cA A) (hO : klOk A ks ad) (ht : t < 3) (hu : u < 3) (hP : cW D cA ks ad st H) (hS : va_S A s.heap H locs) (h : T_become t u st = some st') (hl : Cond.methodLink own index yX2_become ∈ lw_all) (hd : 5 + 1 ≤ d) (hsz : ls.size = nL) (hW : (rest.map fun v => v.category).sum ≤ 8) (hcs : cells ≤ R.cells ∧ slots ≤ R.slots) (hdg : decode cc pc = .ok (.invokevirtual index, 3)) (kk : ∀ (H1 : Heap) (locs1 : List Loc), cW D cA ks ad st' H1 → va_S A s.heap H1 locs1 → W p l e R s m args below meth c H1 locs1 cells slots Q (F0 m (pc + 3) ls (.ref (ad (20 * t)) :: rest))) : W p l e R s m args below meth c H locs cells slots Q (F0 m pc ls (.ref (ad (20 * u)) :: .ref (ad (20 * t)) :: rest)) :=
  cc_cV (As := [.ref (ad (20 * u))]) C hP hS (w_T_become hO ht hu h) (cwV 1 C.2.2.2.2.1 (lw_V hl q853 q854 q90 q855) rfl rfl rfl (by decide +kernel) (mr_ C.2.2.2.2.2.1 hd (by decide))) (cc_recv C hP (hO.2.2.2 _ (tk0 ht)) (cg_t0 ht) (q := (RX2, TX2, 27)) rfl) rfl hsz rfl hW hdg hcs kk
end
