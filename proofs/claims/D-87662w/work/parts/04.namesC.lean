/-! VeilMint$Curve -/
set_option maxRecDepth 100000
def RX5 : String := "VeilMint$Curve"
def TX5 : u_T := fun k => match k with
  | 0 => ("VeilMint$Curve", "p", "LVeilMint$Modulus;", true)
  | 1 => ("VeilMint$Curve", "q", "LVeilMint$Modulus;", true)
  | 2 => ("VeilMint$Curve", "b", "[I", true)
  | 3 => ("VeilMint$Curve", "quarter", "[I", true)
  | 4 => ("VeilMint$Curve", "zed", "[I", true)
  | 5 => ("VeilMint$Curve", "three", "[I", true)
  | 6 => ("VeilMint$Curve", "a", "[I", true)
  | 7 => ("VeilMint$Curve", "c", "[I", true)
  | 8 => ("VeilMint$Curve", "d", "[I", true)
  | 9 => ("VeilMint$Curve", "e", "[I", true)
  | 10 => ("VeilMint$Curve", "f", "[I", true)
  | 11 => ("VeilMint$Curve", "g", "[I", true)
  | 12 => ("VeilMint$Curve", "h", "[I", true)
  | 13 => ("VeilMint$Curve", "i", "[I", true)
  | 14 => ("VeilMint$Curve", "base", "LVeilMint$Point;", true)
  | 15 => ("VeilMint$Curve", "step", "LVeilMint$Point;", true)
  | 16 => ("VeilMint$Curve", "other", "LVeilMint$Point;", true)
  | 17 => ("VeilMint$Curve", "digest", "LVeilMint$Digest384;", true)
  | 18 => ("VeilMint$Curve", "expanded", "[B", true)
  | 19 => ("VeilMint$Curve", "last", "[B", true)
  | _ => ("VeilMint$Curve", "first", "[B", true)
def tyX5 : Nat → FieldType := fun k => match k with
  | 0 => .object "VeilMint$Modulus"
  | 1 => .object "VeilMint$Modulus"
  | 2 => .array .int
  | 3 => .array .int
  | 4 => .array .int
  | 5 => .array .int
  | 6 => .array .int
  | 7 => .array .int
  | 8 => .array .int
  | 9 => .array .int
  | 10 => .array .int
  | 11 => .array .int
  | 12 => .array .int
  | 13 => .array .int
  | 14 => .object "VeilMint$Point"
  | 15 => .object "VeilMint$Point"
  | 16 => .object "VeilMint$Point"
  | 17 => .object "VeilMint$Digest384"
  | 18 => .array .byte
  | 19 => .array .byte
  | _ => .array .byte
abbrev wsX50 : List Cond := u_ws RX5 TX5 21
set_option maxRecDepth 100000 in
theorem nmX5 : ∀ a, a < 21 → ∀ b, b < 21 → a ≠ b → (TX5 a).2.1 ≠ (TX5 b).2.1 := by decide +kernel
set_option maxRecDepth 100000 in
theorem tyX5_ok : ∀ k, k < 21 → parseFieldDescriptor (TX5 k).2.2.1 = some (tyX5 k) := by decide +kernel
abbrev cX5_init : ByteArray := prog_3_method_1_code
def yX5_init : MethodName := ⟨RX5, "<init>", "(LVeilMint$Digest384;)V"⟩
theorem dX5_init_0 : decode cX5_init 0 = .ok (.aload_n 0, 1) := by decide +kernel
theorem dX5_init_1 : decode cX5_init 1 = .ok (.invokespecial 3, 3) := by decide +kernel
theorem dX5_init_4 : decode cX5_init 4 = .ok (.aload_n 0, 1) := by decide +kernel
theorem dX5_init_5 : decode cX5_init 5 = .ok (.new 9, 3) := by decide +kernel
theorem dX5_init_8 : decode cX5_init 8 = .ok (.dup, 1) := by decide +kernel
theorem dX5_init_9 : decode cX5_init 9 = .ok (.ldc 13, 2) := by decide +kernel
theorem dX5_init_11 : decode cX5_init 11 = .ok (.invokestatic 15, 3) := by decide +kernel
theorem dX5_init_14 : decode cX5_init 14 = .ok (.invokespecial 19, 3) := by decide +kernel
theorem dX5_init_17 : decode cX5_init 17 = .ok (.putfield 22, 3) := by decide +kernel
theorem dX5_init_20 : decode cX5_init 20 = .ok (.aload_n 0, 1) := by decide +kernel
theorem dX5_init_21 : decode cX5_init 21 = .ok (.new 9, 3) := by decide +kernel
theorem dX5_init_24 : decode cX5_init 24 = .ok (.dup, 1) := by decide +kernel
theorem dX5_init_25 : decode cX5_init 25 = .ok (.ldc 26, 2) := by decide +kernel
theorem dX5_init_27 : decode cX5_init 27 = .ok (.invokestatic 15, 3) := by decide +kernel
theorem dX5_init_30 : decode cX5_init 30 = .ok (.invokespecial 19, 3) := by decide +kernel
theorem dX5_init_33 : decode cX5_init 33 = .ok (.putfield 28, 3) := by decide +kernel
theorem dX5_init_36 : decode cX5_init 36 = .ok (.aload_n 0, 1) := by decide +kernel
theorem dX5_init_37 : decode cX5_init 37 = .ok (.bipush 12, 2) := by decide +kernel
theorem dX5_init_39 : decode cX5_init 39 = .ok (.newarray .int, 2) := by decide +kernel
theorem dX5_init_41 : decode cX5_init 41 = .ok (.putfield 31, 3) := by decide +kernel
theorem dX5_init_44 : decode cX5_init 44 = .ok (.aload_n 0, 1) := by decide +kernel
theorem dX5_init_45 : decode cX5_init 45 = .ok (.bipush 12, 2) := by decide +kernel
theorem dX5_init_47 : decode cX5_init 47 = .ok (.newarray .int, 2) := by decide +kernel
theorem dX5_init_49 : decode cX5_init 49 = .ok (.putfield 35, 3) := by decide +kernel
theorem dX5_init_52 : decode cX5_init 52 = .ok (.aload_n 0, 1) := by decide +kernel
theorem dX5_init_53 : decode cX5_init 53 = .ok (.bipush 12, 2) := by decide +kernel
theorem dX5_init_55 : decode cX5_init 55 = .ok (.newarray .int, 2) := by decide +kernel
theorem dX5_init_57 : decode cX5_init 57 = .ok (.putfield 38, 3) := by decide +kernel
theorem dX5_init_60 : decode cX5_init 60 = .ok (.aload_n 0, 1) := by decide +kernel
theorem dX5_init_61 : decode cX5_init 61 = .ok (.bipush 12, 2) := by decide +kernel
theorem dX5_init_63 : decode cX5_init 63 = .ok (.newarray .int, 2) := by decide +kernel
theorem dX5_init_65 : decode cX5_init 65 = .ok (.putfield 41, 3) := by decide +kernel
theorem dX5_init_68 : decode cX5_init 68 = .ok (.aload_n 0, 1) := by decide +kernel
theorem dX5_init_69 : decode cX5_init 69 = .ok (.bipush 12, 2) := by decide +kernel
theorem dX5_init_71 : decode cX5_init 71 = .ok (.newarray .int, 2) := by decide +kernel
theorem dX5_init_73 : decode cX5_init 73 = .ok (.putfield 44, 3) := by decide +kernel
theorem dX5_init_76 : decode cX5_init 76 = .ok (.aload_n 0, 1) := by decide +kernel
theorem dX5_init_77 : decode cX5_init 77 = .ok (.bipush 12, 2) := by decide +kernel
theorem dX5_init_79 : decode cX5_init 79 = .ok (.newarray .int, 2) := by decide +kernel
theorem dX5_init_81 : decode cX5_init 81 = .ok (.putfield 47, 3) := by decide +kernel
theorem dX5_init_84 : decode cX5_init 84 = .ok (.aload_n 0, 1) := by decide +kernel
theorem dX5_init_85 : decode cX5_init 85 = .ok (.bipush 12, 2) := by decide +kernel
theorem dX5_init_87 : decode cX5_init 87 = .ok (.newarray .int, 2) := by decide +kernel
theorem dX5_init_89 : decode cX5_init 89 = .ok (.putfield 50, 3) := by decide +kernel
theorem dX5_init_92 : decode cX5_init 92 = .ok (.aload_n 0, 1) := by decide +kernel
theorem dX5_init_93 : decode cX5_init 93 = .ok (.bipush 12, 2) := by decide +kernel
theorem dX5_init_95 : decode cX5_init 95 = .ok (.newarray .int, 2) := by decide +kernel
theorem dX5_init_97 : decode cX5_init 97 = .ok (.putfield 53, 3) := by decide +kernel
theorem dX5_init_100 : decode cX5_init 100 = .ok (.aload_n 0, 1) := by decide +kernel
theorem dX5_init_101 : decode cX5_init 101 = .ok (.bipush 12, 2) := by decide +kernel
theorem dX5_init_103 : decode cX5_init 103 = .ok (.newarray .int, 2) := by decide +kernel
theorem dX5_init_105 : decode cX5_init 105 = .ok (.putfield 56, 3) := by decide +kernel
theorem dX5_init_108 : decode cX5_init 108 = .ok (.aload_n 0, 1) := by decide +kernel
theorem dX5_init_109 : decode cX5_init 109 = .ok (.bipush 12, 2) := by decide +kernel
theorem dX5_init_111 : decode cX5_init 111 = .ok (.newarray .int, 2) := by decide +kernel
theorem dX5_init_113 : decode cX5_init 113 = .ok (.putfield 59, 3) := by decide +kernel
theorem dX5_init_116 : decode cX5_init 116 = .ok (.aload_n 0, 1) := by decide +kernel
theorem dX5_init_117 : decode cX5_init 117 = .ok (.bipush 12, 2) := by decide +kernel
theorem dX5_init_119 : decode cX5_init 119 = .ok (.newarray .int, 2) := by decide +kernel
theorem dX5_init_121 : decode cX5_init 121 = .ok (.putfield 62, 3) := by decide +kernel
theorem dX5_init_124 : decode cX5_init 124 = .ok (.aload_n 0, 1) := by decide +kernel
theorem dX5_init_125 : decode cX5_init 125 = .ok (.bipush 12, 2) := by decide +kernel
theorem dX5_init_127 : decode cX5_init 127 = .ok (.newarray .int, 2) := by decide +kernel
theorem dX5_init_129 : decode cX5_init 129 = .ok (.putfield 65, 3) := by decide +kernel
theorem dX5_init_132 : decode cX5_init 132 = .ok (.aload_n 0, 1) := by decide +kernel
theorem dX5_init_133 : decode cX5_init 133 = .ok (.new 68, 3) := by decide +kernel
theorem dX5_init_136 : decode cX5_init 136 = .ok (.dup, 1) := by decide +kernel
theorem dX5_init_137 : decode cX5_init 137 = .ok (.invokespecial 70, 3) := by decide +kernel
theorem dX5_init_140 : decode cX5_init 140 = .ok (.putfield 71, 3) := by decide +kernel
theorem dX5_init_143 : decode cX5_init 143 = .ok (.aload_n 0, 1) := by decide +kernel
theorem dX5_init_144 : decode cX5_init 144 = .ok (.new 68, 3) := by decide +kernel
theorem dX5_init_147 : decode cX5_init 147 = .ok (.dup, 1) := by decide +kernel
theorem dX5_init_148 : decode cX5_init 148 = .ok (.invokespecial 70, 3) := by decide +kernel
theorem dX5_init_151 : decode cX5_init 151 = .ok (.putfield 75, 3) := by decide +kernel
theorem dX5_init_154 : decode cX5_init 154 = .ok (.aload_n 0, 1) := by decide +kernel
theorem dX5_init_155 : decode cX5_init 155 = .ok (.new 68, 3) := by decide +kernel
theorem dX5_init_158 : decode cX5_init 158 = .ok (.dup, 1) := by decide +kernel
theorem dX5_init_159 : decode cX5_init 159 = .ok (.invokespecial 70, 3) := by decide +kernel
theorem dX5_init_162 : decode cX5_init 162 = .ok (.putfield 78, 3) := by decide +kernel
theorem dX5_init_165 : decode cX5_init 165 = .ok (.aload_n 0, 1) := by decide +kernel
theorem dX5_init_166 : decode cX5_init 166 = .ok (.sipush 144, 3) := by decide +kernel
theorem dX5_init_169 : decode cX5_init 169 = .ok (.newarray .byte, 2) := by decide +kernel
theorem dX5_init_171 : decode cX5_init 171 = .ok (.putfield 81, 3) := by decide +kernel
theorem dX5_init_174 : decode cX5_init 174 = .ok (.aload_n 0, 1) := by decide +kernel
theorem dX5_init_175 : decode cX5_init 175 = .ok (.bipush 48, 2) := by decide +kernel
theorem dX5_init_177 : decode cX5_init 177 = .ok (.newarray .byte, 2) := by decide +kernel
theorem dX5_init_179 : decode cX5_init 179 = .ok (.putfield 85, 3) := by decide +kernel
theorem dX5_init_182 : decode cX5_init 182 = .ok (.aload_n 0, 1) := by decide +kernel
theorem dX5_init_183 : decode cX5_init 183 = .ok (.bipush 48, 2) := by decide +kernel
theorem dX5_init_185 : decode cX5_init 185 = .ok (.newarray .byte, 2) := by decide +kernel
theorem dX5_init_187 : decode cX5_init 187 = .ok (.putfield 88, 3) := by decide +kernel
theorem dX5_init_190 : decode cX5_init 190 = .ok (.aload_n 0, 1) := by decide +kernel
theorem dX5_init_191 : decode cX5_init 191 = .ok (.aload_n 1, 1) := by decide +kernel
theorem dX5_init_192 : decode cX5_init 192 = .ok (.putfield 91, 3) := by decide +kernel
theorem dX5_init_195 : decode cX5_init 195 = .ok (.aload_n 0, 1) := by decide +kernel
theorem dX5_init_196 : decode cX5_init 196 = .ok (.getfield 22, 3) := by decide +kernel
theorem dX5_init_199 : decode cX5_init 199 = .ok (.ldc 95, 2) := by decide +kernel
theorem dX5_init_201 : decode cX5_init 201 = .ok (.invokestatic 15, 3) := by decide +kernel
theorem dX5_init_204 : decode cX5_init 204 = .ok (.aload_n 0, 1) := by decide +kernel
theorem dX5_init_205 : decode cX5_init 205 = .ok (.getfield 31, 3) := by decide +kernel
theorem dX5_init_208 : decode cX5_init 208 = .ok (.invokevirtual 97, 3) := by decide +kernel
theorem dX5_init_211 : decode cX5_init 211 = .ok (.aload_n 0, 1) := by decide +kernel
theorem dX5_init_212 : decode cX5_init 212 = .ok (.getfield 22, 3) := by decide +kernel
theorem dX5_init_215 : decode cX5_init 215 = .ok (.ldc 101, 2) := by decide +kernel
theorem dX5_init_217 : decode cX5_init 217 = .ok (.invokestatic 15, 3) := by decide +kernel
theorem dX5_init_220 : decode cX5_init 220 = .ok (.aload_n 0, 1) := by decide +kernel
theorem dX5_init_221 : decode cX5_init 221 = .ok (.getfield 71, 3) := by decide +kernel
theorem dX5_init_224 : decode cX5_init 224 = .ok (.getfield 103, 3) := by decide +kernel
theorem dX5_init_227 : decode cX5_init 227 = .ok (.invokevirtual 97, 3) := by decide +kernel
theorem dX5_init_230 : decode cX5_init 230 = .ok (.aload_n 0, 1) := by decide +kernel
theorem dX5_init_231 : decode cX5_init 231 = .ok (.getfield 22, 3) := by decide +kernel
theorem dX5_init_234 : decode cX5_init 234 = .ok (.ldc 106, 2) := by decide +kernel
theorem dX5_init_236 : decode cX5_init 236 = .ok (.invokestatic 15, 3) := by decide +kernel
theorem dX5_init_239 : decode cX5_init 239 = .ok (.aload_n 0, 1) := by decide +kernel
theorem dX5_init_240 : decode cX5_init 240 = .ok (.getfield 71, 3) := by decide +kernel
theorem dX5_init_243 : decode cX5_init 243 = .ok (.getfield 108, 3) := by decide +kernel
theorem dX5_init_246 : decode cX5_init 246 = .ok (.invokevirtual 97, 3) := by decide +kernel
theorem dX5_init_249 : decode cX5_init 249 = .ok (.aload_n 0, 1) := by decide +kernel
theorem dX5_init_250 : decode cX5_init 250 = .ok (.getfield 22, 3) := by decide +kernel
theorem dX5_init_253 : decode cX5_init 253 = .ok (.getfield 111, 3) := by decide +kernel
theorem dX5_init_256 : decode cX5_init 256 = .ok (.aload_n 0, 1) := by decide +kernel
theorem dX5_init_257 : decode cX5_init 257 = .ok (.getfield 71, 3) := by decide +kernel
theorem dX5_init_260 : decode cX5_init 260 = .ok (.getfield 114, 3) := by decide +kernel
theorem dX5_init_263 : decode cX5_init 263 = .ok (.invokestatic 117, 3) := by decide +kernel
theorem dX5_init_266 : decode cX5_init 266 = .ok (.aload_n 0, 1) := by decide +kernel
theorem dX5_init_267 : decode cX5_init 267 = .ok (.getfield 22, 3) := by decide +kernel
theorem dX5_init_270 : decode cX5_init 270 = .ok (.getfield 120, 3) := by decide +kernel
theorem dX5_init_273 : decode cX5_init 273 = .ok (.aload_n 0, 1) := by decide +kernel
theorem dX5_init_274 : decode cX5_init 274 = .ok (.getfield 35, 3) := by decide +kernel
theorem dX5_init_277 : decode cX5_init 277 = .ok (.invokestatic 117, 3) := by decide +kernel
theorem dX5_init_280 : decode cX5_init 280 = .ok (.lconst 1, 1) := by decide +kernel
theorem dX5_init_281 : decode cX5_init 281 = .ok (.lstore_n 2, 1) := by decide +kernel
theorem dX5_init_282 : decode cX5_init 282 = .ok (.iconst 0, 1) := by decide +kernel
theorem dX5_init_283 : decode cX5_init 283 = .ok (.istore 4, 2) := by decide +kernel
theorem dX5_init_285 : decode cX5_init 285 = .ok (.iload 4, 2) := by decide +kernel
theorem dX5_init_287 : decode cX5_init 287 = .ok (.bipush 12, 2) := by decide +kernel
theorem dX5_init_289 : decode cX5_init 289 = .ok (.if_icmp .ge 38, 3) := by decide +kernel
theorem dX5_init_292 : decode cX5_init 292 = .ok (.lload_n 2, 1) := by decide +kernel
theorem dX5_init_293 : decode cX5_init 293 = .ok (.aload_n 0, 1) := by decide +kernel
theorem dX5_init_294 : decode cX5_init 294 = .ok (.getfield 35, 3) := by decide +kernel
theorem dX5_init_297 : decode cX5_init 297 = .ok (.iload 4, 2) := by decide +kernel
theorem dX5_init_299 : decode cX5_init 299 = .ok (.iaload, 1) := by decide +kernel
theorem dX5_init_300 : decode cX5_init 300 = .ok (.i2l, 1) := by decide +kernel
theorem dX5_init_301 : decode cX5_init 301 = .ok (.ldc2_w 123, 3) := by decide +kernel
theorem dX5_init_304 : decode cX5_init 304 = .ok (.land, 1) := by decide +kernel
theorem dX5_init_305 : decode cX5_init 305 = .ok (.ladd, 1) := by decide +kernel
theorem dX5_init_306 : decode cX5_init 306 = .ok (.lstore_n 2, 1) := by decide +kernel
theorem dX5_init_307 : decode cX5_init 307 = .ok (.aload_n 0, 1) := by decide +kernel
theorem dX5_init_308 : decode cX5_init 308 = .ok (.getfield 35, 3) := by decide +kernel
theorem dX5_init_311 : decode cX5_init 311 = .ok (.iload 4, 2) := by decide +kernel
theorem dX5_init_313 : decode cX5_init 313 = .ok (.lload_n 2, 1) := by decide +kernel
theorem dX5_init_314 : decode cX5_init 314 = .ok (.l2i, 1) := by decide +kernel
theorem dX5_init_315 : decode cX5_init 315 = .ok (.iastore, 1) := by decide +kernel
theorem dX5_init_316 : decode cX5_init 316 = .ok (.lload_n 2, 1) := by decide +kernel
theorem dX5_init_317 : decode cX5_init 317 = .ok (.bipush 32, 2) := by decide +kernel
theorem dX5_init_319 : decode cX5_init 319 = .ok (.lshr, 1) := by decide +kernel
theorem dX5_init_320 : decode cX5_init 320 = .ok (.lstore_n 2, 1) := by decide +kernel
theorem dX5_init_321 : decode cX5_init 321 = .ok (.iinc 4 1, 3) := by decide +kernel
theorem dX5_init_324 : decode cX5_init 324 = .ok (.goto (-39), 3) := by decide +kernel
theorem dX5_init_327 : decode cX5_init 327 = .ok (.aload_n 0, 1) := by decide +kernel
theorem dX5_init_328 : decode cX5_init 328 = .ok (.getfield 35, 3) := by decide +kernel
theorem dX5_init_331 : decode cX5_init 331 = .ok (.iconst 0, 1) := by decide +kernel
theorem dX5_init_332 : decode cX5_init 332 = .ok (.invokestatic 125, 3) := by decide +kernel
theorem dX5_init_335 : decode cX5_init 335 = .ok (.aload_n 0, 1) := by decide +kernel
theorem dX5_init_336 : decode cX5_init 336 = .ok (.getfield 35, 3) := by decide +kernel
theorem dX5_init_339 : decode cX5_init 339 = .ok (.iconst 0, 1) := by decide +kernel
theorem dX5_init_340 : decode cX5_init 340 = .ok (.invokestatic 125, 3) := by decide +kernel
theorem dX5_init_343 : decode cX5_init 343 = .ok (.aload_n 0, 1) := by decide +kernel
theorem dX5_init_344 : decode cX5_init 344 = .ok (.getfield 22, 3) := by decide +kernel
theorem dX5_init_347 : decode cX5_init 347 = .ok (.aload_n 0, 1) := by decide +kernel
theorem dX5_init_348 : decode cX5_init 348 = .ok (.getfield 22, 3) := by decide +kernel
theorem dX5_init_351 : decode cX5_init 351 = .ok (.getfield 111, 3) := by decide +kernel
theorem dX5_init_354 : decode cX5_init 354 = .ok (.aload_n 0, 1) := by decide +kernel
theorem dX5_init_355 : decode cX5_init 355 = .ok (.getfield 22, 3) := by decide +kernel
theorem dX5_init_358 : decode cX5_init 358 = .ok (.getfield 111, 3) := by decide +kernel
theorem dX5_init_361 : decode cX5_init 361 = .ok (.aload_n 0, 1) := by decide +kernel
theorem dX5_init_362 : decode cX5_init 362 = .ok (.getfield 41, 3) := by decide +kernel
theorem dX5_init_365 : decode cX5_init 365 = .ok (.invokevirtual 129, 3) := by decide +kernel
theorem dX5_init_368 : decode cX5_init 368 = .ok (.aload_n 0, 1) := by decide +kernel
theorem dX5_init_369 : decode cX5_init 369 = .ok (.getfield 22, 3) := by decide +kernel
theorem dX5_init_372 : decode cX5_init 372 = .ok (.aload_n 0, 1) := by decide +kernel
theorem dX5_init_373 : decode cX5_init 373 = .ok (.getfield 41, 3) := by decide +kernel
theorem dX5_init_376 : decode cX5_init 376 = .ok (.aload_n 0, 1) := by decide +kernel
theorem dX5_init_377 : decode cX5_init 377 = .ok (.getfield 22, 3) := by decide +kernel
theorem dX5_init_380 : decode cX5_init 380 = .ok (.getfield 111, 3) := by decide +kernel
theorem dX5_init_383 : decode cX5_init 383 = .ok (.aload_n 0, 1) := by decide +kernel
theorem dX5_init_384 : decode cX5_init 384 = .ok (.getfield 41, 3) := by decide +kernel
theorem dX5_init_387 : decode cX5_init 387 = .ok (.invokevirtual 129, 3) := by decide +kernel
theorem dX5_init_390 : decode cX5_init 390 = .ok (.aload_n 0, 1) := by decide +kernel
theorem dX5_init_391 : decode cX5_init 391 = .ok (.getfield 22, 3) := by decide +kernel
theorem dX5_init_394 : decode cX5_init 394 = .ok (.aload_n 0, 1) := by decide +kernel
theorem dX5_init_395 : decode cX5_init 395 = .ok (.getfield 41, 3) := by decide +kernel
theorem dX5_init_398 : decode cX5_init 398 = .ok (.aload_n 0, 1) := by decide +kernel
theorem dX5_init_399 : decode cX5_init 399 = .ok (.getfield 41, 3) := by decide +kernel
theorem dX5_init_402 : decode cX5_init 402 = .ok (.aload_n 0, 1) := by decide +kernel
theorem dX5_init_403 : decode cX5_init 403 = .ok (.getfield 38, 3) := by decide +kernel
theorem dX5_init_406 : decode cX5_init 406 = .ok (.invokevirtual 129, 3) := by decide +kernel
theorem dX5_init_409 : decode cX5_init 409 = .ok (.aload_n 0, 1) := by decide +kernel
theorem dX5_init_410 : decode cX5_init 410 = .ok (.getfield 22, 3) := by decide +kernel
theorem dX5_init_413 : decode cX5_init 413 = .ok (.aload_n 0, 1) := by decide +kernel
theorem dX5_init_414 : decode cX5_init 414 = .ok (.getfield 38, 3) := by decide +kernel
theorem dX5_init_417 : decode cX5_init 417 = .ok (.aload_n 0, 1) := by decide +kernel
theorem dX5_init_418 : decode cX5_init 418 = .ok (.getfield 38, 3) := by decide +kernel
theorem dX5_init_421 : decode cX5_init 421 = .ok (.aload_n 0, 1) := by decide +kernel
theorem dX5_init_422 : decode cX5_init 422 = .ok (.getfield 38, 3) := by decide +kernel
theorem dX5_init_425 : decode cX5_init 425 = .ok (.invokevirtual 129, 3) := by decide +kernel
theorem dX5_init_428 : decode cX5_init 428 = .ok (.iconst 0, 1) := by decide +kernel
theorem dX5_init_429 : decode cX5_init 429 = .ok (.istore 4, 2) := by decide +kernel
theorem dX5_init_431 : decode cX5_init 431 = .ok (.iload 4, 2) := by decide +kernel
theorem dX5_init_433 : decode cX5_init 433 = .ok (.bipush 12, 2) := by decide +kernel
theorem dX5_init_435 : decode cX5_init 435 = .ok (.if_icmp .ge 17, 3) := by decide +kernel
theorem dX5_init_438 : decode cX5_init 438 = .ok (.aload_n 0, 1) := by decide +kernel
theorem dX5_init_439 : decode cX5_init 439 = .ok (.getfield 44, 3) := by decide +kernel
theorem dX5_init_442 : decode cX5_init 442 = .ok (.iload 4, 2) := by decide +kernel
theorem dX5_init_444 : decode cX5_init 444 = .ok (.iconst 0, 1) := by decide +kernel
theorem dX5_init_445 : decode cX5_init 445 = .ok (.iastore, 1) := by decide +kernel
theorem dX5_init_446 : decode cX5_init 446 = .ok (.iinc 4 1, 3) := by decide +kernel
theorem dX5_init_449 : decode cX5_init 449 = .ok (.goto (-18), 3) := by decide +kernel
theorem dX5_init_452 : decode cX5_init 452 = .ok (.aload_n 0, 1) := by decide +kernel
theorem dX5_init_453 : decode cX5_init 453 = .ok (.getfield 22, 3) := by decide +kernel
theorem dX5_init_456 : decode cX5_init 456 = .ok (.aload_n 0, 1) := by decide +kernel
theorem dX5_init_457 : decode cX5_init 457 = .ok (.getfield 44, 3) := by decide +kernel
theorem dX5_init_460 : decode cX5_init 460 = .ok (.aload_n 0, 1) := by decide +kernel
theorem dX5_init_461 : decode cX5_init 461 = .ok (.getfield 38, 3) := by decide +kernel
theorem dX5_init_464 : decode cX5_init 464 = .ok (.aload_n 0, 1) := by decide +kernel
theorem dX5_init_465 : decode cX5_init 465 = .ok (.getfield 38, 3) := by decide +kernel
theorem dX5_init_468 : decode cX5_init 468 = .ok (.invokevirtual 133, 3) := by decide +kernel
theorem dX5_init_471 : decode cX5_init 471 = .ok (.return_, 1) := by decide +kernel
abbrev cX5_times : ByteArray := prog_3_method_4_code
def yX5_times : MethodName := ⟨RX5, "times", "([ILVeilMint$Point;LVeilMint$Point;)V"⟩
theorem dX5_times_0 : decode cX5_times 0 = .ok (.aload_n 0, 1) := by decide +kernel
theorem dX5_times_1 : decode cX5_times 1 = .ok (.getfield 75, 3) := by decide +kernel
theorem dX5_times_4 : decode cX5_times 4 = .ok (.aload_n 2, 1) := by decide +kernel
theorem dX5_times_5 : decode cX5_times 5 = .ok (.invokevirtual 143, 3) := by decide +kernel
theorem dX5_times_8 : decode cX5_times 8 = .ok (.aload_n 3, 1) := by decide +kernel
theorem dX5_times_9 : decode cX5_times 9 = .ok (.invokevirtual 154, 3) := by decide +kernel
theorem dX5_times_12 : decode cX5_times 12 = .ok (.sipush 383, 3) := by decide +kernel
theorem dX5_times_15 : decode cX5_times 15 = .ok (.istore 4, 2) := by decide +kernel
theorem dX5_times_17 : decode cX5_times 17 = .ok (.iload 4, 2) := by decide +kernel
theorem dX5_times_19 : decode cX5_times 19 = .ok (.ifCond .lt 41, 3) := by decide +kernel
theorem dX5_times_22 : decode cX5_times 22 = .ok (.aload_n 0, 1) := by decide +kernel
theorem dX5_times_23 : decode cX5_times 23 = .ok (.aload_n 3, 1) := by decide +kernel
theorem dX5_times_24 : decode cX5_times 24 = .ok (.invokevirtual 151, 3) := by decide +kernel
theorem dX5_times_27 : decode cX5_times 27 = .ok (.aload_n 1, 1) := by decide +kernel
theorem dX5_times_28 : decode cX5_times 28 = .ok (.iload 4, 2) := by decide +kernel
theorem dX5_times_30 : decode cX5_times 30 = .ok (.iconst 5, 1) := by decide +kernel
theorem dX5_times_31 : decode cX5_times 31 = .ok (.ishr, 1) := by decide +kernel
theorem dX5_times_32 : decode cX5_times 32 = .ok (.iaload, 1) := by decide +kernel
theorem dX5_times_33 : decode cX5_times 33 = .ok (.iload 4, 2) := by decide +kernel
theorem dX5_times_35 : decode cX5_times 35 = .ok (.bipush 31, 2) := by decide +kernel
theorem dX5_times_37 : decode cX5_times 37 = .ok (.iand, 1) := by decide +kernel
theorem dX5_times_38 : decode cX5_times 38 = .ok (.ishr, 1) := by decide +kernel
theorem dX5_times_39 : decode cX5_times 39 = .ok (.iconst 1, 1) := by decide +kernel
theorem dX5_times_40 : decode cX5_times 40 = .ok (.iand, 1) := by decide +kernel
theorem dX5_times_41 : decode cX5_times 41 = .ok (.iconst 1, 1) := by decide +kernel
theorem dX5_times_42 : decode cX5_times 42 = .ok (.if_icmp .ne 12, 3) := by decide +kernel
theorem dX5_times_45 : decode cX5_times 45 = .ok (.aload_n 0, 1) := by decide +kernel
theorem dX5_times_46 : decode cX5_times 46 = .ok (.aload_n 3, 1) := by decide +kernel
theorem dX5_times_47 : decode cX5_times 47 = .ok (.aload_n 0, 1) := by decide +kernel
theorem dX5_times_48 : decode cX5_times 48 = .ok (.getfield 75, 3) := by decide +kernel
theorem dX5_times_51 : decode cX5_times 51 = .ok (.invokevirtual 157, 3) := by decide +kernel
theorem dX5_times_54 : decode cX5_times 54 = .ok (.iinc 4 (-1), 3) := by decide +kernel
theorem dX5_times_57 : decode cX5_times 57 = .ok (.goto (-40), 3) := by decide +kernel
theorem dX5_times_60 : decode cX5_times 60 = .ok (.return_, 1) := by decide +kernel
abbrev cX5_twice : ByteArray := prog_3_method_2_code
def yX5_twice : MethodName := ⟨RX5, "twice", "(LVeilMint$Point;)V"⟩
theorem dX5_twice_0 : decode cX5_twice 0 = .ok (.aload_n 1, 1) := by decide +kernel
theorem dX5_twice_1 : decode cX5_twice 1 = .ok (.invokevirtual 136, 3) := by decide +kernel
theorem dX5_twice_4 : decode cX5_twice 4 = .ok (.ifCond .eq 4, 3) := by decide +kernel
theorem dX5_twice_7 : decode cX5_twice 7 = .ok (.return_, 1) := by decide +kernel
theorem dX5_twice_8 : decode cX5_twice 8 = .ok (.aload_n 0, 1) := by decide +kernel
theorem dX5_twice_9 : decode cX5_twice 9 = .ok (.getfield 22, 3) := by decide +kernel
theorem dX5_twice_12 : decode cX5_twice 12 = .ok (.aload_n 1, 1) := by decide +kernel
theorem dX5_twice_13 : decode cX5_twice 13 = .ok (.getfield 114, 3) := by decide +kernel
theorem dX5_twice_16 : decode cX5_twice 16 = .ok (.aload_n 1, 1) := by decide +kernel
theorem dX5_twice_17 : decode cX5_twice 17 = .ok (.getfield 114, 3) := by decide +kernel
theorem dX5_twice_20 : decode cX5_twice 20 = .ok (.aload_n 0, 1) := by decide +kernel
theorem dX5_twice_21 : decode cX5_twice 21 = .ok (.getfield 44, 3) := by decide +kernel
theorem dX5_twice_24 : decode cX5_twice 24 = .ok (.invokevirtual 140, 3) := by decide +kernel
theorem dX5_twice_27 : decode cX5_twice 27 = .ok (.aload_n 0, 1) := by decide +kernel
theorem dX5_twice_28 : decode cX5_twice 28 = .ok (.getfield 22, 3) := by decide +kernel
theorem dX5_twice_31 : decode cX5_twice 31 = .ok (.aload_n 1, 1) := by decide +kernel
theorem dX5_twice_32 : decode cX5_twice 32 = .ok (.getfield 108, 3) := by decide +kernel
theorem dX5_twice_35 : decode cX5_twice 35 = .ok (.aload_n 1, 1) := by decide +kernel
theorem dX5_twice_36 : decode cX5_twice 36 = .ok (.getfield 108, 3) := by decide +kernel
theorem dX5_twice_39 : decode cX5_twice 39 = .ok (.aload_n 0, 1) := by decide +kernel
theorem dX5_twice_40 : decode cX5_twice 40 = .ok (.getfield 47, 3) := by decide +kernel
theorem dX5_twice_43 : decode cX5_twice 43 = .ok (.invokevirtual 140, 3) := by decide +kernel
theorem dX5_twice_46 : decode cX5_twice 46 = .ok (.aload_n 0, 1) := by decide +kernel
theorem dX5_twice_47 : decode cX5_twice 47 = .ok (.getfield 22, 3) := by decide +kernel
theorem dX5_twice_50 : decode cX5_twice 50 = .ok (.aload_n 1, 1) := by decide +kernel
theorem dX5_twice_51 : decode cX5_twice 51 = .ok (.getfield 103, 3) := by decide +kernel
theorem dX5_twice_54 : decode cX5_twice 54 = .ok (.aload_n 0, 1) := by decide +kernel
theorem dX5_twice_55 : decode cX5_twice 55 = .ok (.getfield 47, 3) := by decide +kernel
theorem dX5_twice_58 : decode cX5_twice 58 = .ok (.aload_n 0, 1) := by decide +kernel
theorem dX5_twice_59 : decode cX5_twice 59 = .ok (.getfield 50, 3) := by decide +kernel
theorem dX5_twice_62 : decode cX5_twice 62 = .ok (.invokevirtual 140, 3) := by decide +kernel
theorem dX5_twice_65 : decode cX5_twice 65 = .ok (.aload_n 0, 1) := by decide +kernel
theorem dX5_twice_66 : decode cX5_twice 66 = .ok (.getfield 22, 3) := by decide +kernel
theorem dX5_twice_69 : decode cX5_twice 69 = .ok (.aload_n 1, 1) := by decide +kernel
theorem dX5_twice_70 : decode cX5_twice 70 = .ok (.getfield 103, 3) := by decide +kernel
theorem dX5_twice_73 : decode cX5_twice 73 = .ok (.aload_n 0, 1) := by decide +kernel
theorem dX5_twice_74 : decode cX5_twice 74 = .ok (.getfield 44, 3) := by decide +kernel
theorem dX5_twice_77 : decode cX5_twice 77 = .ok (.aload_n 0, 1) := by decide +kernel
theorem dX5_twice_78 : decode cX5_twice 78 = .ok (.getfield 53, 3) := by decide +kernel
theorem dX5_twice_81 : decode cX5_twice 81 = .ok (.invokevirtual 133, 3) := by decide +kernel
theorem dX5_twice_84 : decode cX5_twice 84 = .ok (.aload_n 0, 1) := by decide +kernel
theorem dX5_twice_85 : decode cX5_twice 85 = .ok (.getfield 22, 3) := by decide +kernel
theorem dX5_twice_88 : decode cX5_twice 88 = .ok (.aload_n 1, 1) := by decide +kernel
theorem dX5_twice_89 : decode cX5_twice 89 = .ok (.getfield 103, 3) := by decide +kernel
theorem dX5_twice_92 : decode cX5_twice 92 = .ok (.aload_n 0, 1) := by decide +kernel
theorem dX5_twice_93 : decode cX5_twice 93 = .ok (.getfield 44, 3) := by decide +kernel
theorem dX5_twice_96 : decode cX5_twice 96 = .ok (.aload_n 0, 1) := by decide +kernel
theorem dX5_twice_97 : decode cX5_twice 97 = .ok (.getfield 56, 3) := by decide +kernel
theorem dX5_twice_100 : decode cX5_twice 100 = .ok (.invokevirtual 129, 3) := by decide +kernel
theorem dX5_twice_103 : decode cX5_twice 103 = .ok (.aload_n 0, 1) := by decide +kernel
theorem dX5_twice_104 : decode cX5_twice 104 = .ok (.getfield 22, 3) := by decide +kernel
theorem dX5_twice_107 : decode cX5_twice 107 = .ok (.aload_n 0, 1) := by decide +kernel
theorem dX5_twice_108 : decode cX5_twice 108 = .ok (.getfield 53, 3) := by decide +kernel
theorem dX5_twice_111 : decode cX5_twice 111 = .ok (.aload_n 0, 1) := by decide +kernel
theorem dX5_twice_112 : decode cX5_twice 112 = .ok (.getfield 56, 3) := by decide +kernel
theorem dX5_twice_115 : decode cX5_twice 115 = .ok (.aload_n 0, 1) := by decide +kernel
theorem dX5_twice_116 : decode cX5_twice 116 = .ok (.getfield 53, 3) := by decide +kernel
theorem dX5_twice_119 : decode cX5_twice 119 = .ok (.invokevirtual 140, 3) := by decide +kernel
theorem dX5_twice_122 : decode cX5_twice 122 = .ok (.aload_n 0, 1) := by decide +kernel
theorem dX5_twice_123 : decode cX5_twice 123 = .ok (.getfield 22, 3) := by decide +kernel
theorem dX5_twice_126 : decode cX5_twice 126 = .ok (.aload_n 0, 1) := by decide +kernel
theorem dX5_twice_127 : decode cX5_twice 127 = .ok (.getfield 53, 3) := by decide +kernel
theorem dX5_twice_130 : decode cX5_twice 130 = .ok (.aload_n 0, 1) := by decide +kernel
theorem dX5_twice_131 : decode cX5_twice 131 = .ok (.getfield 41, 3) := by decide +kernel
theorem dX5_twice_134 : decode cX5_twice 134 = .ok (.aload_n 0, 1) := by decide +kernel
theorem dX5_twice_135 : decode cX5_twice 135 = .ok (.getfield 53, 3) := by decide +kernel
theorem dX5_twice_138 : decode cX5_twice 138 = .ok (.invokevirtual 140, 3) := by decide +kernel
theorem dX5_twice_141 : decode cX5_twice 141 = .ok (.aload_n 0, 1) := by decide +kernel
theorem dX5_twice_142 : decode cX5_twice 142 = .ok (.getfield 22, 3) := by decide +kernel
theorem dX5_twice_145 : decode cX5_twice 145 = .ok (.aload_n 1, 1) := by decide +kernel
theorem dX5_twice_146 : decode cX5_twice 146 = .ok (.getfield 108, 3) := by decide +kernel
theorem dX5_twice_149 : decode cX5_twice 149 = .ok (.aload_n 1, 1) := by decide +kernel
theorem dX5_twice_150 : decode cX5_twice 150 = .ok (.getfield 114, 3) := by decide +kernel
theorem dX5_twice_153 : decode cX5_twice 153 = .ok (.aload_n 0, 1) := by decide +kernel
theorem dX5_twice_154 : decode cX5_twice 154 = .ok (.getfield 56, 3) := by decide +kernel
theorem dX5_twice_157 : decode cX5_twice 157 = .ok (.invokevirtual 129, 3) := by decide +kernel
theorem dX5_twice_160 : decode cX5_twice 160 = .ok (.aload_n 0, 1) := by decide +kernel
theorem dX5_twice_161 : decode cX5_twice 161 = .ok (.getfield 22, 3) := by decide +kernel
theorem dX5_twice_164 : decode cX5_twice 164 = .ok (.aload_n 0, 1) := by decide +kernel
theorem dX5_twice_165 : decode cX5_twice 165 = .ok (.getfield 56, 3) := by decide +kernel
theorem dX5_twice_168 : decode cX5_twice 168 = .ok (.aload_n 0, 1) := by decide +kernel
theorem dX5_twice_169 : decode cX5_twice 169 = .ok (.getfield 56, 3) := by decide +kernel
theorem dX5_twice_172 : decode cX5_twice 172 = .ok (.aload_n 0, 1) := by decide +kernel
theorem dX5_twice_173 : decode cX5_twice 173 = .ok (.getfield 56, 3) := by decide +kernel
theorem dX5_twice_176 : decode cX5_twice 176 = .ok (.invokevirtual 140, 3) := by decide +kernel
theorem dX5_twice_179 : decode cX5_twice 179 = .ok (.aload_n 0, 1) := by decide +kernel
theorem dX5_twice_180 : decode cX5_twice 180 = .ok (.getfield 22, 3) := by decide +kernel
theorem dX5_twice_183 : decode cX5_twice 183 = .ok (.aload_n 0, 1) := by decide +kernel
theorem dX5_twice_184 : decode cX5_twice 184 = .ok (.getfield 56, 3) := by decide +kernel
theorem dX5_twice_187 : decode cX5_twice 187 = .ok (.aload_n 0, 1) := by decide +kernel
theorem dX5_twice_188 : decode cX5_twice 188 = .ok (.getfield 47, 3) := by decide +kernel
theorem dX5_twice_191 : decode cX5_twice 191 = .ok (.aload_n 0, 1) := by decide +kernel
theorem dX5_twice_192 : decode cX5_twice 192 = .ok (.getfield 56, 3) := by decide +kernel
theorem dX5_twice_195 : decode cX5_twice 195 = .ok (.invokevirtual 133, 3) := by decide +kernel
theorem dX5_twice_198 : decode cX5_twice 198 = .ok (.aload_n 0, 1) := by decide +kernel
theorem dX5_twice_199 : decode cX5_twice 199 = .ok (.getfield 22, 3) := by decide +kernel
theorem dX5_twice_202 : decode cX5_twice 202 = .ok (.aload_n 0, 1) := by decide +kernel
theorem dX5_twice_203 : decode cX5_twice 203 = .ok (.getfield 56, 3) := by decide +kernel
theorem dX5_twice_206 : decode cX5_twice 206 = .ok (.aload_n 0, 1) := by decide +kernel
theorem dX5_twice_207 : decode cX5_twice 207 = .ok (.getfield 44, 3) := by decide +kernel
theorem dX5_twice_210 : decode cX5_twice 210 = .ok (.aload_n 1, 1) := by decide +kernel
theorem dX5_twice_211 : decode cX5_twice 211 = .ok (.getfield 114, 3) := by decide +kernel
theorem dX5_twice_214 : decode cX5_twice 214 = .ok (.invokevirtual 133, 3) := by decide +kernel
theorem dX5_twice_217 : decode cX5_twice 217 = .ok (.aload_n 0, 1) := by decide +kernel
theorem dX5_twice_218 : decode cX5_twice 218 = .ok (.getfield 22, 3) := by decide +kernel
theorem dX5_twice_221 : decode cX5_twice 221 = .ok (.aload_n 0, 1) := by decide +kernel
theorem dX5_twice_222 : decode cX5_twice 222 = .ok (.getfield 50, 3) := by decide +kernel
theorem dX5_twice_225 : decode cX5_twice 225 = .ok (.aload_n 0, 1) := by decide +kernel
theorem dX5_twice_226 : decode cX5_twice 226 = .ok (.getfield 50, 3) := by decide +kernel
theorem dX5_twice_229 : decode cX5_twice 229 = .ok (.aload_n 0, 1) := by decide +kernel
theorem dX5_twice_230 : decode cX5_twice 230 = .ok (.getfield 50, 3) := by decide +kernel
theorem dX5_twice_233 : decode cX5_twice 233 = .ok (.invokevirtual 129, 3) := by decide +kernel
theorem dX5_twice_236 : decode cX5_twice 236 = .ok (.aload_n 0, 1) := by decide +kernel
theorem dX5_twice_237 : decode cX5_twice 237 = .ok (.getfield 22, 3) := by decide +kernel
theorem dX5_twice_240 : decode cX5_twice 240 = .ok (.aload_n 0, 1) := by decide +kernel
theorem dX5_twice_241 : decode cX5_twice 241 = .ok (.getfield 50, 3) := by decide +kernel
theorem dX5_twice_244 : decode cX5_twice 244 = .ok (.aload_n 0, 1) := by decide +kernel
theorem dX5_twice_245 : decode cX5_twice 245 = .ok (.getfield 50, 3) := by decide +kernel
theorem dX5_twice_248 : decode cX5_twice 248 = .ok (.aload_n 0, 1) := by decide +kernel
theorem dX5_twice_249 : decode cX5_twice 249 = .ok (.getfield 50, 3) := by decide +kernel
theorem dX5_twice_252 : decode cX5_twice 252 = .ok (.invokevirtual 129, 3) := by decide +kernel
theorem dX5_twice_255 : decode cX5_twice 255 = .ok (.aload_n 0, 1) := by decide +kernel
theorem dX5_twice_256 : decode cX5_twice 256 = .ok (.getfield 22, 3) := by decide +kernel
theorem dX5_twice_259 : decode cX5_twice 259 = .ok (.aload_n 0, 1) := by decide +kernel
theorem dX5_twice_260 : decode cX5_twice 260 = .ok (.getfield 53, 3) := by decide +kernel
theorem dX5_twice_263 : decode cX5_twice 263 = .ok (.aload_n 0, 1) := by decide +kernel
theorem dX5_twice_264 : decode cX5_twice 264 = .ok (.getfield 53, 3) := by decide +kernel
theorem dX5_twice_267 : decode cX5_twice 267 = .ok (.aload_n 1, 1) := by decide +kernel
theorem dX5_twice_268 : decode cX5_twice 268 = .ok (.getfield 103, 3) := by decide +kernel
theorem dX5_twice_271 : decode cX5_twice 271 = .ok (.invokevirtual 140, 3) := by decide +kernel
theorem dX5_twice_274 : decode cX5_twice 274 = .ok (.aload_n 0, 1) := by decide +kernel
theorem dX5_twice_275 : decode cX5_twice 275 = .ok (.getfield 22, 3) := by decide +kernel
theorem dX5_twice_278 : decode cX5_twice 278 = .ok (.aload_n 1, 1) := by decide +kernel
theorem dX5_twice_279 : decode cX5_twice 279 = .ok (.getfield 103, 3) := by decide +kernel
theorem dX5_twice_282 : decode cX5_twice 282 = .ok (.aload_n 0, 1) := by decide +kernel
theorem dX5_twice_283 : decode cX5_twice 283 = .ok (.getfield 50, 3) := by decide +kernel
theorem dX5_twice_286 : decode cX5_twice 286 = .ok (.aload_n 1, 1) := by decide +kernel
theorem dX5_twice_287 : decode cX5_twice 287 = .ok (.getfield 103, 3) := by decide +kernel
theorem dX5_twice_290 : decode cX5_twice 290 = .ok (.invokevirtual 133, 3) := by decide +kernel
theorem dX5_twice_293 : decode cX5_twice 293 = .ok (.aload_n 0, 1) := by decide +kernel
theorem dX5_twice_294 : decode cX5_twice 294 = .ok (.getfield 22, 3) := by decide +kernel
theorem dX5_twice_297 : decode cX5_twice 297 = .ok (.aload_n 1, 1) := by decide +kernel
theorem dX5_twice_298 : decode cX5_twice 298 = .ok (.getfield 103, 3) := by decide +kernel
theorem dX5_twice_301 : decode cX5_twice 301 = .ok (.aload_n 0, 1) := by decide +kernel
theorem dX5_twice_302 : decode cX5_twice 302 = .ok (.getfield 50, 3) := by decide +kernel
theorem dX5_twice_305 : decode cX5_twice 305 = .ok (.aload_n 1, 1) := by decide +kernel
theorem dX5_twice_306 : decode cX5_twice 306 = .ok (.getfield 103, 3) := by decide +kernel
theorem dX5_twice_309 : decode cX5_twice 309 = .ok (.invokevirtual 133, 3) := by decide +kernel
theorem dX5_twice_312 : decode cX5_twice 312 = .ok (.aload_n 0, 1) := by decide +kernel
theorem dX5_twice_313 : decode cX5_twice 313 = .ok (.getfield 22, 3) := by decide +kernel
theorem dX5_twice_316 : decode cX5_twice 316 = .ok (.aload_n 0, 1) := by decide +kernel
theorem dX5_twice_317 : decode cX5_twice 317 = .ok (.getfield 50, 3) := by decide +kernel
theorem dX5_twice_320 : decode cX5_twice 320 = .ok (.aload_n 1, 1) := by decide +kernel
theorem dX5_twice_321 : decode cX5_twice 321 = .ok (.getfield 103, 3) := by decide +kernel
theorem dX5_twice_324 : decode cX5_twice 324 = .ok (.aload_n 0, 1) := by decide +kernel
theorem dX5_twice_325 : decode cX5_twice 325 = .ok (.getfield 50, 3) := by decide +kernel
theorem dX5_twice_328 : decode cX5_twice 328 = .ok (.invokevirtual 133, 3) := by decide +kernel
theorem dX5_twice_331 : decode cX5_twice 331 = .ok (.aload_n 0, 1) := by decide +kernel
theorem dX5_twice_332 : decode cX5_twice 332 = .ok (.getfield 22, 3) := by decide +kernel
theorem dX5_twice_335 : decode cX5_twice 335 = .ok (.aload_n 0, 1) := by decide +kernel
theorem dX5_twice_336 : decode cX5_twice 336 = .ok (.getfield 47, 3) := by decide +kernel
theorem dX5_twice_339 : decode cX5_twice 339 = .ok (.aload_n 0, 1) := by decide +kernel
theorem dX5_twice_340 : decode cX5_twice 340 = .ok (.getfield 47, 3) := by decide +kernel
theorem dX5_twice_343 : decode cX5_twice 343 = .ok (.aload_n 0, 1) := by decide +kernel
theorem dX5_twice_344 : decode cX5_twice 344 = .ok (.getfield 47, 3) := by decide +kernel
theorem dX5_twice_347 : decode cX5_twice 347 = .ok (.invokevirtual 140, 3) := by decide +kernel
theorem dX5_twice_350 : decode cX5_twice 350 = .ok (.aload_n 0, 1) := by decide +kernel
theorem dX5_twice_351 : decode cX5_twice 351 = .ok (.getfield 22, 3) := by decide +kernel
theorem dX5_twice_354 : decode cX5_twice 354 = .ok (.aload_n 0, 1) := by decide +kernel
theorem dX5_twice_355 : decode cX5_twice 355 = .ok (.getfield 47, 3) := by decide +kernel
theorem dX5_twice_358 : decode cX5_twice 358 = .ok (.aload_n 0, 1) := by decide +kernel
theorem dX5_twice_359 : decode cX5_twice 359 = .ok (.getfield 47, 3) := by decide +kernel
theorem dX5_twice_362 : decode cX5_twice 362 = .ok (.aload_n 0, 1) := by decide +kernel
theorem dX5_twice_363 : decode cX5_twice 363 = .ok (.getfield 47, 3) := by decide +kernel
theorem dX5_twice_366 : decode cX5_twice 366 = .ok (.invokevirtual 129, 3) := by decide +kernel
theorem dX5_twice_369 : decode cX5_twice 369 = .ok (.aload_n 0, 1) := by decide +kernel
theorem dX5_twice_370 : decode cX5_twice 370 = .ok (.getfield 22, 3) := by decide +kernel
theorem dX5_twice_373 : decode cX5_twice 373 = .ok (.aload_n 0, 1) := by decide +kernel
theorem dX5_twice_374 : decode cX5_twice 374 = .ok (.getfield 47, 3) := by decide +kernel
theorem dX5_twice_377 : decode cX5_twice 377 = .ok (.aload_n 0, 1) := by decide +kernel
theorem dX5_twice_378 : decode cX5_twice 378 = .ok (.getfield 47, 3) := by decide +kernel
theorem dX5_twice_381 : decode cX5_twice 381 = .ok (.aload_n 0, 1) := by decide +kernel
theorem dX5_twice_382 : decode cX5_twice 382 = .ok (.getfield 47, 3) := by decide +kernel
theorem dX5_twice_385 : decode cX5_twice 385 = .ok (.invokevirtual 129, 3) := by decide +kernel
theorem dX5_twice_388 : decode cX5_twice 388 = .ok (.aload_n 0, 1) := by decide +kernel
theorem dX5_twice_389 : decode cX5_twice 389 = .ok (.getfield 22, 3) := by decide +kernel
theorem dX5_twice_392 : decode cX5_twice 392 = .ok (.aload_n 0, 1) := by decide +kernel
theorem dX5_twice_393 : decode cX5_twice 393 = .ok (.getfield 47, 3) := by decide +kernel
theorem dX5_twice_396 : decode cX5_twice 396 = .ok (.aload_n 0, 1) := by decide +kernel
theorem dX5_twice_397 : decode cX5_twice 397 = .ok (.getfield 47, 3) := by decide +kernel
theorem dX5_twice_400 : decode cX5_twice 400 = .ok (.aload_n 0, 1) := by decide +kernel
theorem dX5_twice_401 : decode cX5_twice 401 = .ok (.getfield 47, 3) := by decide +kernel
theorem dX5_twice_404 : decode cX5_twice 404 = .ok (.invokevirtual 129, 3) := by decide +kernel
theorem dX5_twice_407 : decode cX5_twice 407 = .ok (.aload_n 0, 1) := by decide +kernel
theorem dX5_twice_408 : decode cX5_twice 408 = .ok (.getfield 22, 3) := by decide +kernel
theorem dX5_twice_411 : decode cX5_twice 411 = .ok (.aload_n 0, 1) := by decide +kernel
theorem dX5_twice_412 : decode cX5_twice 412 = .ok (.getfield 53, 3) := by decide +kernel
theorem dX5_twice_415 : decode cX5_twice 415 = .ok (.aload_n 0, 1) := by decide +kernel
theorem dX5_twice_416 : decode cX5_twice 416 = .ok (.getfield 50, 3) := by decide +kernel
theorem dX5_twice_419 : decode cX5_twice 419 = .ok (.aload_n 1, 1) := by decide +kernel
theorem dX5_twice_420 : decode cX5_twice 420 = .ok (.getfield 108, 3) := by decide +kernel
theorem dX5_twice_423 : decode cX5_twice 423 = .ok (.invokevirtual 140, 3) := by decide +kernel
theorem dX5_twice_426 : decode cX5_twice 426 = .ok (.aload_n 0, 1) := by decide +kernel
theorem dX5_twice_427 : decode cX5_twice 427 = .ok (.getfield 22, 3) := by decide +kernel
theorem dX5_twice_430 : decode cX5_twice 430 = .ok (.aload_n 1, 1) := by decide +kernel
theorem dX5_twice_431 : decode cX5_twice 431 = .ok (.getfield 108, 3) := by decide +kernel
theorem dX5_twice_434 : decode cX5_twice 434 = .ok (.aload_n 0, 1) := by decide +kernel
theorem dX5_twice_435 : decode cX5_twice 435 = .ok (.getfield 47, 3) := by decide +kernel
theorem dX5_twice_438 : decode cX5_twice 438 = .ok (.aload_n 1, 1) := by decide +kernel
theorem dX5_twice_439 : decode cX5_twice 439 = .ok (.getfield 108, 3) := by decide +kernel
theorem dX5_twice_442 : decode cX5_twice 442 = .ok (.invokevirtual 133, 3) := by decide +kernel
theorem dX5_twice_445 : decode cX5_twice 445 = .ok (.return_, 1) := by decide +kernel
abbrev cX5_add : ByteArray := prog_3_method_3_code
def yX5_add : MethodName := ⟨RX5, "add", "(LVeilMint$Point;LVeilMint$Point;)V"⟩
theorem dX5_add_0 : decode cX5_add 0 = .ok (.aload_n 2, 1) := by decide +kernel
theorem dX5_add_1 : decode cX5_add 1 = .ok (.invokevirtual 136, 3) := by decide +kernel
theorem dX5_add_4 : decode cX5_add 4 = .ok (.ifCond .eq 4, 3) := by decide +kernel
theorem dX5_add_7 : decode cX5_add 7 = .ok (.return_, 1) := by decide +kernel
theorem dX5_add_8 : decode cX5_add 8 = .ok (.aload_n 1, 1) := by decide +kernel
theorem dX5_add_9 : decode cX5_add 9 = .ok (.invokevirtual 136, 3) := by decide +kernel
theorem dX5_add_12 : decode cX5_add 12 = .ok (.ifCond .eq 9, 3) := by decide +kernel
theorem dX5_add_15 : decode cX5_add 15 = .ok (.aload_n 1, 1) := by decide +kernel
theorem dX5_add_16 : decode cX5_add 16 = .ok (.aload_n 2, 1) := by decide +kernel
theorem dX5_add_17 : decode cX5_add 17 = .ok (.invokevirtual 143, 3) := by decide +kernel
theorem dX5_add_20 : decode cX5_add 20 = .ok (.return_, 1) := by decide +kernel
theorem dX5_add_21 : decode cX5_add 21 = .ok (.aload_n 0, 1) := by decide +kernel
theorem dX5_add_22 : decode cX5_add 22 = .ok (.getfield 22, 3) := by decide +kernel
theorem dX5_add_25 : decode cX5_add 25 = .ok (.aload_n 1, 1) := by decide +kernel
theorem dX5_add_26 : decode cX5_add 26 = .ok (.getfield 114, 3) := by decide +kernel
theorem dX5_add_29 : decode cX5_add 29 = .ok (.aload_n 1, 1) := by decide +kernel
theorem dX5_add_30 : decode cX5_add 30 = .ok (.getfield 114, 3) := by decide +kernel
theorem dX5_add_33 : decode cX5_add 33 = .ok (.aload_n 0, 1) := by decide +kernel
theorem dX5_add_34 : decode cX5_add 34 = .ok (.getfield 44, 3) := by decide +kernel
theorem dX5_add_37 : decode cX5_add 37 = .ok (.invokevirtual 140, 3) := by decide +kernel
theorem dX5_add_40 : decode cX5_add 40 = .ok (.aload_n 0, 1) := by decide +kernel
theorem dX5_add_41 : decode cX5_add 41 = .ok (.getfield 22, 3) := by decide +kernel
theorem dX5_add_44 : decode cX5_add 44 = .ok (.aload_n 2, 1) := by decide +kernel
theorem dX5_add_45 : decode cX5_add 45 = .ok (.getfield 114, 3) := by decide +kernel
theorem dX5_add_48 : decode cX5_add 48 = .ok (.aload_n 2, 1) := by decide +kernel
theorem dX5_add_49 : decode cX5_add 49 = .ok (.getfield 114, 3) := by decide +kernel
theorem dX5_add_52 : decode cX5_add 52 = .ok (.aload_n 0, 1) := by decide +kernel
theorem dX5_add_53 : decode cX5_add 53 = .ok (.getfield 47, 3) := by decide +kernel
theorem dX5_add_56 : decode cX5_add 56 = .ok (.invokevirtual 140, 3) := by decide +kernel
theorem dX5_add_59 : decode cX5_add 59 = .ok (.aload_n 0, 1) := by decide +kernel
theorem dX5_add_60 : decode cX5_add 60 = .ok (.getfield 22, 3) := by decide +kernel
theorem dX5_add_63 : decode cX5_add 63 = .ok (.aload_n 1, 1) := by decide +kernel
theorem dX5_add_64 : decode cX5_add 64 = .ok (.getfield 103, 3) := by decide +kernel
theorem dX5_add_67 : decode cX5_add 67 = .ok (.aload_n 0, 1) := by decide +kernel
theorem dX5_add_68 : decode cX5_add 68 = .ok (.getfield 47, 3) := by decide +kernel
theorem dX5_add_71 : decode cX5_add 71 = .ok (.aload_n 0, 1) := by decide +kernel
theorem dX5_add_72 : decode cX5_add 72 = .ok (.getfield 50, 3) := by decide +kernel
theorem dX5_add_75 : decode cX5_add 75 = .ok (.invokevirtual 140, 3) := by decide +kernel
theorem dX5_add_78 : decode cX5_add 78 = .ok (.aload_n 0, 1) := by decide +kernel
theorem dX5_add_79 : decode cX5_add 79 = .ok (.getfield 22, 3) := by decide +kernel
theorem dX5_add_82 : decode cX5_add 82 = .ok (.aload_n 2, 1) := by decide +kernel
theorem dX5_add_83 : decode cX5_add 83 = .ok (.getfield 103, 3) := by decide +kernel
theorem dX5_add_86 : decode cX5_add 86 = .ok (.aload_n 0, 1) := by decide +kernel
theorem dX5_add_87 : decode cX5_add 87 = .ok (.getfield 44, 3) := by decide +kernel
theorem dX5_add_90 : decode cX5_add 90 = .ok (.aload_n 0, 1) := by decide +kernel
theorem dX5_add_91 : decode cX5_add 91 = .ok (.getfield 53, 3) := by decide +kernel
theorem dX5_add_94 : decode cX5_add 94 = .ok (.invokevirtual 140, 3) := by decide +kernel
theorem dX5_add_97 : decode cX5_add 97 = .ok (.aload_n 0, 1) := by decide +kernel
theorem dX5_add_98 : decode cX5_add 98 = .ok (.getfield 22, 3) := by decide +kernel
theorem dX5_add_101 : decode cX5_add 101 = .ok (.aload_n 0, 1) := by decide +kernel
theorem dX5_add_102 : decode cX5_add 102 = .ok (.getfield 47, 3) := by decide +kernel
theorem dX5_add_105 : decode cX5_add 105 = .ok (.aload_n 2, 1) := by decide +kernel
theorem dX5_add_106 : decode cX5_add 106 = .ok (.getfield 114, 3) := by decide +kernel
theorem dX5_add_109 : decode cX5_add 109 = .ok (.aload_n 0, 1) := by decide +kernel
theorem dX5_add_110 : decode cX5_add 110 = .ok (.getfield 47, 3) := by decide +kernel
theorem dX5_add_113 : decode cX5_add 113 = .ok (.invokevirtual 140, 3) := by decide +kernel
theorem dX5_add_116 : decode cX5_add 116 = .ok (.aload_n 0, 1) := by decide +kernel
theorem dX5_add_117 : decode cX5_add 117 = .ok (.getfield 22, 3) := by decide +kernel
theorem dX5_add_120 : decode cX5_add 120 = .ok (.aload_n 1, 1) := by decide +kernel
theorem dX5_add_121 : decode cX5_add 121 = .ok (.getfield 108, 3) := by decide +kernel
theorem dX5_add_124 : decode cX5_add 124 = .ok (.aload_n 0, 1) := by decide +kernel
theorem dX5_add_125 : decode cX5_add 125 = .ok (.getfield 47, 3) := by decide +kernel
theorem dX5_add_128 : decode cX5_add 128 = .ok (.aload_n 0, 1) := by decide +kernel
theorem dX5_add_129 : decode cX5_add 129 = .ok (.getfield 56, 3) := by decide +kernel
theorem dX5_add_132 : decode cX5_add 132 = .ok (.invokevirtual 140, 3) := by decide +kernel
theorem dX5_add_135 : decode cX5_add 135 = .ok (.aload_n 0, 1) := by decide +kernel
theorem dX5_add_136 : decode cX5_add 136 = .ok (.getfield 22, 3) := by decide +kernel
theorem dX5_add_139 : decode cX5_add 139 = .ok (.aload_n 0, 1) := by decide +kernel
theorem dX5_add_140 : decode cX5_add 140 = .ok (.getfield 44, 3) := by decide +kernel
theorem dX5_add_143 : decode cX5_add 143 = .ok (.aload_n 1, 1) := by decide +kernel
theorem dX5_add_144 : decode cX5_add 144 = .ok (.getfield 114, 3) := by decide +kernel
theorem dX5_add_147 : decode cX5_add 147 = .ok (.aload_n 0, 1) := by decide +kernel
theorem dX5_add_148 : decode cX5_add 148 = .ok (.getfield 44, 3) := by decide +kernel
theorem dX5_add_151 : decode cX5_add 151 = .ok (.invokevirtual 140, 3) := by decide +kernel
theorem dX5_add_154 : decode cX5_add 154 = .ok (.aload_n 0, 1) := by decide +kernel
theorem dX5_add_155 : decode cX5_add 155 = .ok (.getfield 22, 3) := by decide +kernel
theorem dX5_add_158 : decode cX5_add 158 = .ok (.aload_n 2, 1) := by decide +kernel
theorem dX5_add_159 : decode cX5_add 159 = .ok (.getfield 108, 3) := by decide +kernel
theorem dX5_add_162 : decode cX5_add 162 = .ok (.aload_n 0, 1) := by decide +kernel
theorem dX5_add_163 : decode cX5_add 163 = .ok (.getfield 44, 3) := by decide +kernel
theorem dX5_add_166 : decode cX5_add 166 = .ok (.aload_n 0, 1) := by decide +kernel
theorem dX5_add_167 : decode cX5_add 167 = .ok (.getfield 59, 3) := by decide +kernel
theorem dX5_add_170 : decode cX5_add 170 = .ok (.invokevirtual 140, 3) := by decide +kernel
theorem dX5_add_173 : decode cX5_add 173 = .ok (.aload_n 0, 1) := by decide +kernel
theorem dX5_add_174 : decode cX5_add 174 = .ok (.getfield 22, 3) := by decide +kernel
theorem dX5_add_177 : decode cX5_add 177 = .ok (.aload_n 0, 1) := by decide +kernel
theorem dX5_add_178 : decode cX5_add 178 = .ok (.getfield 53, 3) := by decide +kernel
theorem dX5_add_181 : decode cX5_add 181 = .ok (.aload_n 0, 1) := by decide +kernel
theorem dX5_add_182 : decode cX5_add 182 = .ok (.getfield 50, 3) := by decide +kernel
theorem dX5_add_185 : decode cX5_add 185 = .ok (.aload_n 0, 1) := by decide +kernel
theorem dX5_add_186 : decode cX5_add 186 = .ok (.getfield 53, 3) := by decide +kernel
theorem dX5_add_189 : decode cX5_add 189 = .ok (.invokevirtual 133, 3) := by decide +kernel
theorem dX5_add_192 : decode cX5_add 192 = .ok (.aload_n 0, 1) := by decide +kernel
theorem dX5_add_193 : decode cX5_add 193 = .ok (.getfield 22, 3) := by decide +kernel
theorem dX5_add_196 : decode cX5_add 196 = .ok (.aload_n 0, 1) := by decide +kernel
theorem dX5_add_197 : decode cX5_add 197 = .ok (.getfield 59, 3) := by decide +kernel
theorem dX5_add_200 : decode cX5_add 200 = .ok (.aload_n 0, 1) := by decide +kernel
theorem dX5_add_201 : decode cX5_add 201 = .ok (.getfield 56, 3) := by decide +kernel
theorem dX5_add_204 : decode cX5_add 204 = .ok (.aload_n 0, 1) := by decide +kernel
theorem dX5_add_205 : decode cX5_add 205 = .ok (.getfield 59, 3) := by decide +kernel
theorem dX5_add_208 : decode cX5_add 208 = .ok (.invokevirtual 133, 3) := by decide +kernel
theorem dX5_add_211 : decode cX5_add 211 = .ok (.aload_n 0, 1) := by decide +kernel
theorem dX5_add_212 : decode cX5_add 212 = .ok (.getfield 53, 3) := by decide +kernel
theorem dX5_add_215 : decode cX5_add 215 = .ok (.invokestatic 147, 3) := by decide +kernel
theorem dX5_add_218 : decode cX5_add 218 = .ok (.ifCond .eq 26, 3) := by decide +kernel
theorem dX5_add_221 : decode cX5_add 221 = .ok (.aload_n 0, 1) := by decide +kernel
theorem dX5_add_222 : decode cX5_add 222 = .ok (.getfield 59, 3) := by decide +kernel
theorem dX5_add_225 : decode cX5_add 225 = .ok (.invokestatic 147, 3) := by decide +kernel
theorem dX5_add_228 : decode cX5_add 228 = .ok (.ifCond .eq 11, 3) := by decide +kernel
theorem dX5_add_231 : decode cX5_add 231 = .ok (.aload_n 0, 1) := by decide +kernel
theorem dX5_add_232 : decode cX5_add 232 = .ok (.aload_n 1, 1) := by decide +kernel
theorem dX5_add_233 : decode cX5_add 233 = .ok (.invokevirtual 151, 3) := by decide +kernel
theorem dX5_add_236 : decode cX5_add 236 = .ok (.goto 7, 3) := by decide +kernel
theorem dX5_add_239 : decode cX5_add 239 = .ok (.aload_n 1, 1) := by decide +kernel
theorem dX5_add_240 : decode cX5_add 240 = .ok (.invokevirtual 154, 3) := by decide +kernel
theorem dX5_add_243 : decode cX5_add 243 = .ok (.return_, 1) := by decide +kernel
theorem dX5_add_244 : decode cX5_add 244 = .ok (.aload_n 0, 1) := by decide +kernel
theorem dX5_add_245 : decode cX5_add 245 = .ok (.getfield 22, 3) := by decide +kernel
theorem dX5_add_248 : decode cX5_add 248 = .ok (.aload_n 1, 1) := by decide +kernel
theorem dX5_add_249 : decode cX5_add 249 = .ok (.getfield 114, 3) := by decide +kernel
theorem dX5_add_252 : decode cX5_add 252 = .ok (.aload_n 2, 1) := by decide +kernel
theorem dX5_add_253 : decode cX5_add 253 = .ok (.getfield 114, 3) := by decide +kernel
theorem dX5_add_256 : decode cX5_add 256 = .ok (.aload_n 1, 1) := by decide +kernel
theorem dX5_add_257 : decode cX5_add 257 = .ok (.getfield 114, 3) := by decide +kernel
theorem dX5_add_260 : decode cX5_add 260 = .ok (.invokevirtual 140, 3) := by decide +kernel
theorem dX5_add_263 : decode cX5_add 263 = .ok (.aload_n 0, 1) := by decide +kernel
theorem dX5_add_264 : decode cX5_add 264 = .ok (.getfield 22, 3) := by decide +kernel
theorem dX5_add_267 : decode cX5_add 267 = .ok (.aload_n 1, 1) := by decide +kernel
theorem dX5_add_268 : decode cX5_add 268 = .ok (.getfield 114, 3) := by decide +kernel
theorem dX5_add_271 : decode cX5_add 271 = .ok (.aload_n 0, 1) := by decide +kernel
theorem dX5_add_272 : decode cX5_add 272 = .ok (.getfield 53, 3) := by decide +kernel
theorem dX5_add_275 : decode cX5_add 275 = .ok (.aload_n 1, 1) := by decide +kernel
theorem dX5_add_276 : decode cX5_add 276 = .ok (.getfield 114, 3) := by decide +kernel
theorem dX5_add_279 : decode cX5_add 279 = .ok (.invokevirtual 140, 3) := by decide +kernel
theorem dX5_add_282 : decode cX5_add 282 = .ok (.aload_n 0, 1) := by decide +kernel
theorem dX5_add_283 : decode cX5_add 283 = .ok (.getfield 22, 3) := by decide +kernel
theorem dX5_add_286 : decode cX5_add 286 = .ok (.aload_n 0, 1) := by decide +kernel
theorem dX5_add_287 : decode cX5_add 287 = .ok (.getfield 53, 3) := by decide +kernel
theorem dX5_add_290 : decode cX5_add 290 = .ok (.aload_n 0, 1) := by decide +kernel
theorem dX5_add_291 : decode cX5_add 291 = .ok (.getfield 53, 3) := by decide +kernel
theorem dX5_add_294 : decode cX5_add 294 = .ok (.aload_n 0, 1) := by decide +kernel
theorem dX5_add_295 : decode cX5_add 295 = .ok (.getfield 62, 3) := by decide +kernel
theorem dX5_add_298 : decode cX5_add 298 = .ok (.invokevirtual 140, 3) := by decide +kernel
theorem dX5_add_301 : decode cX5_add 301 = .ok (.aload_n 0, 1) := by decide +kernel
theorem dX5_add_302 : decode cX5_add 302 = .ok (.getfield 22, 3) := by decide +kernel
theorem dX5_add_305 : decode cX5_add 305 = .ok (.aload_n 0, 1) := by decide +kernel
theorem dX5_add_306 : decode cX5_add 306 = .ok (.getfield 53, 3) := by decide +kernel
theorem dX5_add_309 : decode cX5_add 309 = .ok (.aload_n 0, 1) := by decide +kernel
theorem dX5_add_310 : decode cX5_add 310 = .ok (.getfield 62, 3) := by decide +kernel
theorem dX5_add_313 : decode cX5_add 313 = .ok (.aload_n 0, 1) := by decide +kernel
theorem dX5_add_314 : decode cX5_add 314 = .ok (.getfield 65, 3) := by decide +kernel
theorem dX5_add_317 : decode cX5_add 317 = .ok (.invokevirtual 140, 3) := by decide +kernel
theorem dX5_add_320 : decode cX5_add 320 = .ok (.aload_n 0, 1) := by decide +kernel
theorem dX5_add_321 : decode cX5_add 321 = .ok (.getfield 22, 3) := by decide +kernel
theorem dX5_add_324 : decode cX5_add 324 = .ok (.aload_n 0, 1) := by decide +kernel
theorem dX5_add_325 : decode cX5_add 325 = .ok (.getfield 50, 3) := by decide +kernel
theorem dX5_add_328 : decode cX5_add 328 = .ok (.aload_n 0, 1) := by decide +kernel
theorem dX5_add_329 : decode cX5_add 329 = .ok (.getfield 62, 3) := by decide +kernel
theorem dX5_add_332 : decode cX5_add 332 = .ok (.aload_n 0, 1) := by decide +kernel
theorem dX5_add_333 : decode cX5_add 333 = .ok (.getfield 50, 3) := by decide +kernel
theorem dX5_add_336 : decode cX5_add 336 = .ok (.invokevirtual 140, 3) := by decide +kernel
theorem dX5_add_339 : decode cX5_add 339 = .ok (.aload_n 0, 1) := by decide +kernel
theorem dX5_add_340 : decode cX5_add 340 = .ok (.getfield 22, 3) := by decide +kernel
theorem dX5_add_343 : decode cX5_add 343 = .ok (.aload_n 0, 1) := by decide +kernel
theorem dX5_add_344 : decode cX5_add 344 = .ok (.getfield 59, 3) := by decide +kernel
theorem dX5_add_347 : decode cX5_add 347 = .ok (.aload_n 0, 1) := by decide +kernel
theorem dX5_add_348 : decode cX5_add 348 = .ok (.getfield 59, 3) := by decide +kernel
theorem dX5_add_351 : decode cX5_add 351 = .ok (.aload_n 1, 1) := by decide +kernel
theorem dX5_add_352 : decode cX5_add 352 = .ok (.getfield 103, 3) := by decide +kernel
theorem dX5_add_355 : decode cX5_add 355 = .ok (.invokevirtual 140, 3) := by decide +kernel
theorem dX5_add_358 : decode cX5_add 358 = .ok (.aload_n 0, 1) := by decide +kernel
theorem dX5_add_359 : decode cX5_add 359 = .ok (.getfield 22, 3) := by decide +kernel
theorem dX5_add_362 : decode cX5_add 362 = .ok (.aload_n 1, 1) := by decide +kernel
theorem dX5_add_363 : decode cX5_add 363 = .ok (.getfield 103, 3) := by decide +kernel
theorem dX5_add_366 : decode cX5_add 366 = .ok (.aload_n 0, 1) := by decide +kernel
theorem dX5_add_367 : decode cX5_add 367 = .ok (.getfield 65, 3) := by decide +kernel
theorem dX5_add_370 : decode cX5_add 370 = .ok (.aload_n 1, 1) := by decide +kernel
theorem dX5_add_371 : decode cX5_add 371 = .ok (.getfield 103, 3) := by decide +kernel
theorem dX5_add_374 : decode cX5_add 374 = .ok (.invokevirtual 133, 3) := by decide +kernel
theorem dX5_add_377 : decode cX5_add 377 = .ok (.aload_n 0, 1) := by decide +kernel
theorem dX5_add_378 : decode cX5_add 378 = .ok (.getfield 22, 3) := by decide +kernel
theorem dX5_add_381 : decode cX5_add 381 = .ok (.aload_n 1, 1) := by decide +kernel
theorem dX5_add_382 : decode cX5_add 382 = .ok (.getfield 103, 3) := by decide +kernel
theorem dX5_add_385 : decode cX5_add 385 = .ok (.aload_n 0, 1) := by decide +kernel
theorem dX5_add_386 : decode cX5_add 386 = .ok (.getfield 50, 3) := by decide +kernel
theorem dX5_add_389 : decode cX5_add 389 = .ok (.aload_n 1, 1) := by decide +kernel
theorem dX5_add_390 : decode cX5_add 390 = .ok (.getfield 103, 3) := by decide +kernel
theorem dX5_add_393 : decode cX5_add 393 = .ok (.invokevirtual 133, 3) := by decide +kernel
theorem dX5_add_396 : decode cX5_add 396 = .ok (.aload_n 0, 1) := by decide +kernel
theorem dX5_add_397 : decode cX5_add 397 = .ok (.getfield 22, 3) := by decide +kernel
theorem dX5_add_400 : decode cX5_add 400 = .ok (.aload_n 1, 1) := by decide +kernel
theorem dX5_add_401 : decode cX5_add 401 = .ok (.getfield 103, 3) := by decide +kernel
theorem dX5_add_404 : decode cX5_add 404 = .ok (.aload_n 0, 1) := by decide +kernel
theorem dX5_add_405 : decode cX5_add 405 = .ok (.getfield 50, 3) := by decide +kernel
theorem dX5_add_408 : decode cX5_add 408 = .ok (.aload_n 1, 1) := by decide +kernel
theorem dX5_add_409 : decode cX5_add 409 = .ok (.getfield 103, 3) := by decide +kernel
theorem dX5_add_412 : decode cX5_add 412 = .ok (.invokevirtual 133, 3) := by decide +kernel
theorem dX5_add_415 : decode cX5_add 415 = .ok (.aload_n 0, 1) := by decide +kernel
theorem dX5_add_416 : decode cX5_add 416 = .ok (.getfield 22, 3) := by decide +kernel
theorem dX5_add_419 : decode cX5_add 419 = .ok (.aload_n 0, 1) := by decide +kernel
theorem dX5_add_420 : decode cX5_add 420 = .ok (.getfield 50, 3) := by decide +kernel
theorem dX5_add_423 : decode cX5_add 423 = .ok (.aload_n 1, 1) := by decide +kernel
theorem dX5_add_424 : decode cX5_add 424 = .ok (.getfield 103, 3) := by decide +kernel
theorem dX5_add_427 : decode cX5_add 427 = .ok (.aload_n 0, 1) := by decide +kernel
theorem dX5_add_428 : decode cX5_add 428 = .ok (.getfield 50, 3) := by decide +kernel
theorem dX5_add_431 : decode cX5_add 431 = .ok (.invokevirtual 133, 3) := by decide +kernel
theorem dX5_add_434 : decode cX5_add 434 = .ok (.aload_n 0, 1) := by decide +kernel
theorem dX5_add_435 : decode cX5_add 435 = .ok (.getfield 22, 3) := by decide +kernel
theorem dX5_add_438 : decode cX5_add 438 = .ok (.aload_n 0, 1) := by decide +kernel
theorem dX5_add_439 : decode cX5_add 439 = .ok (.getfield 59, 3) := by decide +kernel
theorem dX5_add_442 : decode cX5_add 442 = .ok (.aload_n 0, 1) := by decide +kernel
theorem dX5_add_443 : decode cX5_add 443 = .ok (.getfield 50, 3) := by decide +kernel
theorem dX5_add_446 : decode cX5_add 446 = .ok (.aload_n 1, 1) := by decide +kernel
theorem dX5_add_447 : decode cX5_add 447 = .ok (.getfield 108, 3) := by decide +kernel
theorem dX5_add_450 : decode cX5_add 450 = .ok (.invokevirtual 140, 3) := by decide +kernel
theorem dX5_add_453 : decode cX5_add 453 = .ok (.aload_n 0, 1) := by decide +kernel
theorem dX5_add_454 : decode cX5_add 454 = .ok (.getfield 22, 3) := by decide +kernel
theorem dX5_add_457 : decode cX5_add 457 = .ok (.aload_n 0, 1) := by decide +kernel
theorem dX5_add_458 : decode cX5_add 458 = .ok (.getfield 56, 3) := by decide +kernel
theorem dX5_add_461 : decode cX5_add 461 = .ok (.aload_n 0, 1) := by decide +kernel
theorem dX5_add_462 : decode cX5_add 462 = .ok (.getfield 65, 3) := by decide +kernel
theorem dX5_add_465 : decode cX5_add 465 = .ok (.aload_n 0, 1) := by decide +kernel
theorem dX5_add_466 : decode cX5_add 466 = .ok (.getfield 56, 3) := by decide +kernel
theorem dX5_add_469 : decode cX5_add 469 = .ok (.invokevirtual 140, 3) := by decide +kernel
theorem dX5_add_472 : decode cX5_add 472 = .ok (.aload_n 0, 1) := by decide +kernel
theorem dX5_add_473 : decode cX5_add 473 = .ok (.getfield 22, 3) := by decide +kernel
theorem dX5_add_476 : decode cX5_add 476 = .ok (.aload_n 1, 1) := by decide +kernel
theorem dX5_add_477 : decode cX5_add 477 = .ok (.getfield 108, 3) := by decide +kernel
theorem dX5_add_480 : decode cX5_add 480 = .ok (.aload_n 0, 1) := by decide +kernel
theorem dX5_add_481 : decode cX5_add 481 = .ok (.getfield 56, 3) := by decide +kernel
theorem dX5_add_484 : decode cX5_add 484 = .ok (.aload_n 1, 1) := by decide +kernel
theorem dX5_add_485 : decode cX5_add 485 = .ok (.getfield 108, 3) := by decide +kernel
theorem dX5_add_488 : decode cX5_add 488 = .ok (.invokevirtual 133, 3) := by decide +kernel
theorem dX5_add_491 : decode cX5_add 491 = .ok (.return_, 1) := by decide +kernel
abbrev cX5_write : ByteArray := prog_3_method_6_code
def yX5_write : MethodName := ⟨RX5, "write", "(LVeilMint$Point;[BI)Z"⟩
theorem dX5_write_0 : decode cX5_write 0 = .ok (.aload_n 1, 1) := by decide +kernel
theorem dX5_write_1 : decode cX5_write 1 = .ok (.invokevirtual 136, 3) := by decide +kernel
theorem dX5_write_4 : decode cX5_write 4 = .ok (.ifCond .eq 5, 3) := by decide +kernel
theorem dX5_write_7 : decode cX5_write 7 = .ok (.iconst 0, 1) := by decide +kernel
theorem dX5_write_8 : decode cX5_write 8 = .ok (.ireturn, 1) := by decide +kernel
theorem dX5_write_9 : decode cX5_write 9 = .ok (.aload_n 0, 1) := by decide +kernel
theorem dX5_write_10 : decode cX5_write 10 = .ok (.getfield 22, 3) := by decide +kernel
theorem dX5_write_13 : decode cX5_write 13 = .ok (.aload_n 1, 1) := by decide +kernel
theorem dX5_write_14 : decode cX5_write 14 = .ok (.getfield 114, 3) := by decide +kernel
theorem dX5_write_17 : decode cX5_write 17 = .ok (.aload_n 0, 1) := by decide +kernel
theorem dX5_write_18 : decode cX5_write 18 = .ok (.getfield 44, 3) := by decide +kernel
theorem dX5_write_21 : decode cX5_write 21 = .ok (.invokevirtual 160, 3) := by decide +kernel
theorem dX5_write_24 : decode cX5_write 24 = .ok (.aload_n 0, 1) := by decide +kernel
theorem dX5_write_25 : decode cX5_write 25 = .ok (.getfield 22, 3) := by decide +kernel
theorem dX5_write_28 : decode cX5_write 28 = .ok (.aload_n 0, 1) := by decide +kernel
theorem dX5_write_29 : decode cX5_write 29 = .ok (.getfield 44, 3) := by decide +kernel
theorem dX5_write_32 : decode cX5_write 32 = .ok (.aload_n 0, 1) := by decide +kernel
theorem dX5_write_33 : decode cX5_write 33 = .ok (.getfield 44, 3) := by decide +kernel
theorem dX5_write_36 : decode cX5_write 36 = .ok (.invokevirtual 163, 3) := by decide +kernel
theorem dX5_write_39 : decode cX5_write 39 = .ok (.istore 4, 2) := by decide +kernel
theorem dX5_write_41 : decode cX5_write 41 = .ok (.aload_n 0, 1) := by decide +kernel
theorem dX5_write_42 : decode cX5_write 42 = .ok (.getfield 22, 3) := by decide +kernel
theorem dX5_write_45 : decode cX5_write 45 = .ok (.aload_n 0, 1) := by decide +kernel
theorem dX5_write_46 : decode cX5_write 46 = .ok (.getfield 44, 3) := by decide +kernel
theorem dX5_write_49 : decode cX5_write 49 = .ok (.aload_n 0, 1) := by decide +kernel
theorem dX5_write_50 : decode cX5_write 50 = .ok (.getfield 44, 3) := by decide +kernel
theorem dX5_write_53 : decode cX5_write 53 = .ok (.invokevirtual 97, 3) := by decide +kernel
theorem dX5_write_56 : decode cX5_write 56 = .ok (.aload_n 0, 1) := by decide +kernel
theorem dX5_write_57 : decode cX5_write 57 = .ok (.getfield 22, 3) := by decide +kernel
theorem dX5_write_60 : decode cX5_write 60 = .ok (.aload_n 0, 1) := by decide +kernel
theorem dX5_write_61 : decode cX5_write 61 = .ok (.getfield 44, 3) := by decide +kernel
theorem dX5_write_64 : decode cX5_write 64 = .ok (.aload_n 0, 1) := by decide +kernel
theorem dX5_write_65 : decode cX5_write 65 = .ok (.getfield 44, 3) := by decide +kernel
theorem dX5_write_68 : decode cX5_write 68 = .ok (.aload_n 0, 1) := by decide +kernel
theorem dX5_write_69 : decode cX5_write 69 = .ok (.getfield 47, 3) := by decide +kernel
theorem dX5_write_72 : decode cX5_write 72 = .ok (.invokevirtual 140, 3) := by decide +kernel
theorem dX5_write_75 : decode cX5_write 75 = .ok (.aload_n 0, 1) := by decide +kernel
theorem dX5_write_76 : decode cX5_write 76 = .ok (.getfield 22, 3) := by decide +kernel
theorem dX5_write_79 : decode cX5_write 79 = .ok (.aload_n 1, 1) := by decide +kernel
theorem dX5_write_80 : decode cX5_write 80 = .ok (.getfield 103, 3) := by decide +kernel
theorem dX5_write_83 : decode cX5_write 83 = .ok (.aload_n 0, 1) := by decide +kernel
theorem dX5_write_84 : decode cX5_write 84 = .ok (.getfield 47, 3) := by decide +kernel
theorem dX5_write_87 : decode cX5_write 87 = .ok (.aload_n 0, 1) := by decide +kernel
theorem dX5_write_88 : decode cX5_write 88 = .ok (.getfield 50, 3) := by decide +kernel
theorem dX5_write_91 : decode cX5_write 91 = .ok (.invokevirtual 140, 3) := by decide +kernel
theorem dX5_write_94 : decode cX5_write 94 = .ok (.aload_n 0, 1) := by decide +kernel
theorem dX5_write_95 : decode cX5_write 95 = .ok (.getfield 22, 3) := by decide +kernel
theorem dX5_write_98 : decode cX5_write 98 = .ok (.aload_n 0, 1) := by decide +kernel
theorem dX5_write_99 : decode cX5_write 99 = .ok (.getfield 50, 3) := by decide +kernel
theorem dX5_write_102 : decode cX5_write 102 = .ok (.aload_n 0, 1) := by decide +kernel
theorem dX5_write_103 : decode cX5_write 103 = .ok (.getfield 50, 3) := by decide +kernel
theorem dX5_write_106 : decode cX5_write 106 = .ok (.invokevirtual 160, 3) := by decide +kernel
theorem dX5_write_109 : decode cX5_write 109 = .ok (.aload_n 0, 1) := by decide +kernel
theorem dX5_write_110 : decode cX5_write 110 = .ok (.getfield 22, 3) := by decide +kernel
theorem dX5_write_113 : decode cX5_write 113 = .ok (.aload_n 0, 1) := by decide +kernel
theorem dX5_write_114 : decode cX5_write 114 = .ok (.getfield 47, 3) := by decide +kernel
theorem dX5_write_117 : decode cX5_write 117 = .ok (.aload_n 0, 1) := by decide +kernel
theorem dX5_write_118 : decode cX5_write 118 = .ok (.getfield 44, 3) := by decide +kernel
theorem dX5_write_121 : decode cX5_write 121 = .ok (.aload_n 0, 1) := by decide +kernel
theorem dX5_write_122 : decode cX5_write 122 = .ok (.getfield 47, 3) := by decide +kernel
theorem dX5_write_125 : decode cX5_write 125 = .ok (.invokevirtual 140, 3) := by decide +kernel
theorem dX5_write_128 : decode cX5_write 128 = .ok (.aload_n 0, 1) := by decide +kernel
theorem dX5_write_129 : decode cX5_write 129 = .ok (.getfield 22, 3) := by decide +kernel
theorem dX5_write_132 : decode cX5_write 132 = .ok (.aload_n 1, 1) := by decide +kernel
theorem dX5_write_133 : decode cX5_write 133 = .ok (.getfield 108, 3) := by decide +kernel
theorem dX5_write_136 : decode cX5_write 136 = .ok (.aload_n 0, 1) := by decide +kernel
theorem dX5_write_137 : decode cX5_write 137 = .ok (.getfield 47, 3) := by decide +kernel
theorem dX5_write_140 : decode cX5_write 140 = .ok (.aload_n 0, 1) := by decide +kernel
theorem dX5_write_141 : decode cX5_write 141 = .ok (.getfield 53, 3) := by decide +kernel
theorem dX5_write_144 : decode cX5_write 144 = .ok (.invokevirtual 140, 3) := by decide +kernel
theorem dX5_write_147 : decode cX5_write 147 = .ok (.aload_n 0, 1) := by decide +kernel
theorem dX5_write_148 : decode cX5_write 148 = .ok (.getfield 22, 3) := by decide +kernel
theorem dX5_write_151 : decode cX5_write 151 = .ok (.aload_n 0, 1) := by decide +kernel
theorem dX5_write_152 : decode cX5_write 152 = .ok (.getfield 53, 3) := by decide +kernel
theorem dX5_write_155 : decode cX5_write 155 = .ok (.aload_n 0, 1) := by decide +kernel
theorem dX5_write_156 : decode cX5_write 156 = .ok (.getfield 53, 3) := by decide +kernel
theorem dX5_write_159 : decode cX5_write 159 = .ok (.invokevirtual 160, 3) := by decide +kernel
theorem dX5_write_162 : decode cX5_write 162 = .ok (.aload_n 2, 1) := by decide +kernel
theorem dX5_write_163 : decode cX5_write 163 = .ok (.iload_n 3, 1) := by decide +kernel
theorem dX5_write_164 : decode cX5_write 164 = .ok (.iconst 2, 1) := by decide +kernel
theorem dX5_write_165 : decode cX5_write 165 = .ok (.aload_n 0, 1) := by decide +kernel
theorem dX5_write_166 : decode cX5_write 166 = .ok (.getfield 53, 3) := by decide +kernel
theorem dX5_write_169 : decode cX5_write 169 = .ok (.iconst 0, 1) := by decide +kernel
theorem dX5_write_170 : decode cX5_write 170 = .ok (.iaload, 1) := by decide +kernel
theorem dX5_write_171 : decode cX5_write 171 = .ok (.iconst 1, 1) := by decide +kernel
theorem dX5_write_172 : decode cX5_write 172 = .ok (.iand, 1) := by decide +kernel
theorem dX5_write_173 : decode cX5_write 173 = .ok (.iadd, 1) := by decide +kernel
theorem dX5_write_174 : decode cX5_write 174 = .ok (.i2b, 1) := by decide +kernel
theorem dX5_write_175 : decode cX5_write 175 = .ok (.bastore, 1) := by decide +kernel
theorem dX5_write_176 : decode cX5_write 176 = .ok (.aload_n 0, 1) := by decide +kernel
theorem dX5_write_177 : decode cX5_write 177 = .ok (.getfield 50, 3) := by decide +kernel
theorem dX5_write_180 : decode cX5_write 180 = .ok (.aload_n 2, 1) := by decide +kernel
theorem dX5_write_181 : decode cX5_write 181 = .ok (.iload_n 3, 1) := by decide +kernel
theorem dX5_write_182 : decode cX5_write 182 = .ok (.iconst 1, 1) := by decide +kernel
theorem dX5_write_183 : decode cX5_write 183 = .ok (.iadd, 1) := by decide +kernel
theorem dX5_write_184 : decode cX5_write 184 = .ok (.bipush 48, 2) := by decide +kernel
theorem dX5_write_186 : decode cX5_write 186 = .ok (.invokestatic 167, 3) := by decide +kernel
theorem dX5_write_189 : decode cX5_write 189 = .ok (.iload 4, 2) := by decide +kernel
theorem dX5_write_191 : decode cX5_write 191 = .ok (.ireturn, 1) := by decide +kernel
abbrev cX5_begin : ByteArray := prog_3_method_11_code
def yX5_begin : MethodName := ⟨RX5, "begin", "()LVeilMint$Digest;"⟩
theorem dX5_begin_0 : decode cX5_begin 0 = .ok (.aload_n 0, 1) := by decide +kernel
theorem dX5_begin_1 : decode cX5_begin 1 = .ok (.getfield 91, 3) := by decide +kernel
theorem dX5_begin_4 : decode cX5_begin 4 = .ok (.invokevirtual 228, 3) := by decide +kernel
theorem dX5_begin_7 : decode cX5_begin 7 = .ok (.pop, 1) := by decide +kernel
theorem dX5_begin_8 : decode cX5_begin 8 = .ok (.iconst 0, 1) := by decide +kernel
theorem dX5_begin_9 : decode cX5_begin 9 = .ok (.istore_n 1, 1) := by decide +kernel
theorem dX5_begin_10 : decode cX5_begin 10 = .ok (.iload_n 1, 1) := by decide +kernel
theorem dX5_begin_11 : decode cX5_begin 11 = .ok (.sipush 128, 3) := by decide +kernel
theorem dX5_begin_14 : decode cX5_begin 14 = .ok (.if_icmp .ge 18, 3) := by decide +kernel
theorem dX5_begin_17 : decode cX5_begin 17 = .ok (.aload_n 0, 1) := by decide +kernel
theorem dX5_begin_18 : decode cX5_begin 18 = .ok (.getfield 91, 3) := by decide +kernel
theorem dX5_begin_21 : decode cX5_begin 21 = .ok (.iconst 0, 1) := by decide +kernel
theorem dX5_begin_22 : decode cX5_begin 22 = .ok (.invokevirtual 232, 3) := by decide +kernel
theorem dX5_begin_25 : decode cX5_begin 25 = .ok (.pop, 1) := by decide +kernel
theorem dX5_begin_26 : decode cX5_begin 26 = .ok (.iinc 1 1, 3) := by decide +kernel
theorem dX5_begin_29 : decode cX5_begin 29 = .ok (.goto (-19), 3) := by decide +kernel
theorem dX5_begin_32 : decode cX5_begin 32 = .ok (.aload_n 0, 1) := by decide +kernel
theorem dX5_begin_33 : decode cX5_begin 33 = .ok (.getfield 91, 3) := by decide +kernel
theorem dX5_begin_36 : decode cX5_begin 36 = .ok (.areturn, 1) := by decide +kernel
abbrev cX5_group : ByteArray := prog_3_method_13_code
def yX5_group : MethodName := ⟨RX5, "group", "(LVeilMint$Point;)V"⟩
theorem dX5_group_0 : decode cX5_group 0 = .ok (.aload_n 0, 1) := by decide +kernel
theorem dX5_group_1 : decode cX5_group 1 = .ok (.sipush 144, 3) := by decide +kernel
theorem dX5_group_4 : decode cX5_group 4 = .ok (.ldc 243, 2) := by decide +kernel
theorem dX5_group_6 : decode cX5_group 6 = .ok (.invokevirtual 235, 3) := by decide +kernel
theorem dX5_group_9 : decode cX5_group 9 = .ok (.aload_n 0, 1) := by decide +kernel
theorem dX5_group_10 : decode cX5_group 10 = .ok (.iconst 0, 1) := by decide +kernel
theorem dX5_group_11 : decode cX5_group 11 = .ok (.aload_n 1, 1) := by decide +kernel
theorem dX5_group_12 : decode cX5_group 12 = .ok (.invokevirtual 245, 3) := by decide +kernel
theorem dX5_group_15 : decode cX5_group 15 = .ok (.aload_n 0, 1) := by decide +kernel
theorem dX5_group_16 : decode cX5_group 16 = .ok (.bipush 72, 2) := by decide +kernel
theorem dX5_group_18 : decode cX5_group 18 = .ok (.aload_n 0, 1) := by decide +kernel
theorem dX5_group_19 : decode cX5_group 19 = .ok (.getfield 78, 3) := by decide +kernel
theorem dX5_group_22 : decode cX5_group 22 = .ok (.invokevirtual 245, 3) := by decide +kernel
theorem dX5_group_25 : decode cX5_group 25 = .ok (.aload_n 0, 1) := by decide +kernel
theorem dX5_group_26 : decode cX5_group 26 = .ok (.aload_n 1, 1) := by decide +kernel
theorem dX5_group_27 : decode cX5_group 27 = .ok (.aload_n 0, 1) := by decide +kernel
theorem dX5_group_28 : decode cX5_group 28 = .ok (.getfield 78, 3) := by decide +kernel
theorem dX5_group_31 : decode cX5_group 31 = .ok (.invokevirtual 157, 3) := by decide +kernel
theorem dX5_group_34 : decode cX5_group 34 = .ok (.return_, 1) := by decide +kernel
abbrev cX5_expand : ByteArray := prog_3_method_10_code
def yX5_expand : MethodName := ⟨RX5, "expand", "(ILjava/lang/String;)V"⟩
theorem dX5_expand_0 : decode cX5_expand 0 = .ok (.aload_n 2, 1) := by decide +kernel
theorem dX5_expand_1 : decode cX5_expand 1 = .ok (.invokevirtual 205, 3) := by decide +kernel
theorem dX5_expand_4 : decode cX5_expand 4 = .ok (.bipush 20, 2) := by decide +kernel
theorem dX5_expand_6 : decode cX5_expand 6 = .ok (.iadd, 1) := by decide +kernel
theorem dX5_expand_7 : decode cX5_expand 7 = .ok (.istore_n 3, 1) := by decide +kernel
theorem dX5_expand_8 : decode cX5_expand 8 = .ok (.aload_n 0, 1) := by decide +kernel
theorem dX5_expand_9 : decode cX5_expand 9 = .ok (.getfield 91, 3) := by decide +kernel
theorem dX5_expand_12 : decode cX5_expand 12 = .ok (.iload_n 1, 1) := by decide +kernel
theorem dX5_expand_13 : decode cX5_expand 13 = .ok (.invokevirtual 211, 3) := by decide +kernel
theorem dX5_expand_16 : decode cX5_expand 16 = .ok (.iconst 0, 1) := by decide +kernel
theorem dX5_expand_17 : decode cX5_expand 17 = .ok (.invokevirtual 199, 3) := by decide +kernel
theorem dX5_expand_20 : decode cX5_expand 20 = .ok (.pop, 1) := by decide +kernel
theorem dX5_expand_21 : decode cX5_expand 21 = .ok (.aload_n 0, 1) := by decide +kernel
theorem dX5_expand_22 : decode cX5_expand 22 = .ok (.aload_n 2, 1) := by decide +kernel
theorem dX5_expand_23 : decode cX5_expand 23 = .ok (.iload_n 3, 1) := by decide +kernel
theorem dX5_expand_24 : decode cX5_expand 24 = .ok (.invokevirtual 214, 3) := by decide +kernel
theorem dX5_expand_27 : decode cX5_expand 27 = .ok (.aload_n 0, 1) := by decide +kernel
theorem dX5_expand_28 : decode cX5_expand 28 = .ok (.getfield 91, 3) := by decide +kernel
theorem dX5_expand_31 : decode cX5_expand 31 = .ok (.invokevirtual 218, 3) := by decide +kernel
theorem dX5_expand_34 : decode cX5_expand 34 = .ok (.iconst 0, 1) := by decide +kernel
theorem dX5_expand_35 : decode cX5_expand 35 = .ok (.aload_n 0, 1) := by decide +kernel
theorem dX5_expand_36 : decode cX5_expand 36 = .ok (.getfield 88, 3) := by decide +kernel
theorem dX5_expand_39 : decode cX5_expand 39 = .ok (.iconst 0, 1) := by decide +kernel
theorem dX5_expand_40 : decode cX5_expand 40 = .ok (.bipush 48, 2) := by decide +kernel
theorem dX5_expand_42 : decode cX5_expand 42 = .ok (.invokestatic 222, 3) := by decide +kernel
theorem dX5_expand_45 : decode cX5_expand 45 = .ok (.iconst 0, 1) := by decide +kernel
theorem dX5_expand_46 : decode cX5_expand 46 = .ok (.istore 4, 2) := by decide +kernel
theorem dX5_expand_48 : decode cX5_expand 48 = .ok (.iload 4, 2) := by decide +kernel
theorem dX5_expand_50 : decode cX5_expand 50 = .ok (.bipush 48, 2) := by decide +kernel
theorem dX5_expand_52 : decode cX5_expand 52 = .ok (.if_icmp .ge 17, 3) := by decide +kernel
theorem dX5_expand_55 : decode cX5_expand 55 = .ok (.aload_n 0, 1) := by decide +kernel
theorem dX5_expand_56 : decode cX5_expand 56 = .ok (.getfield 85, 3) := by decide +kernel
theorem dX5_expand_59 : decode cX5_expand 59 = .ok (.iload 4, 2) := by decide +kernel
theorem dX5_expand_61 : decode cX5_expand 61 = .ok (.iconst 0, 1) := by decide +kernel
theorem dX5_expand_62 : decode cX5_expand 62 = .ok (.bastore, 1) := by decide +kernel
theorem dX5_expand_63 : decode cX5_expand 63 = .ok (.iinc 4 1, 3) := by decide +kernel
theorem dX5_expand_66 : decode cX5_expand 66 = .ok (.goto (-18), 3) := by decide +kernel
theorem dX5_expand_69 : decode cX5_expand 69 = .ok (.iconst 1, 1) := by decide +kernel
theorem dX5_expand_70 : decode cX5_expand 70 = .ok (.istore 4, 2) := by decide +kernel
theorem dX5_expand_72 : decode cX5_expand 72 = .ok (.bipush 48, 2) := by decide +kernel
theorem dX5_expand_74 : decode cX5_expand 74 = .ok (.iload 4, 2) := by decide +kernel
theorem dX5_expand_76 : decode cX5_expand 76 = .ok (.imul, 1) := by decide +kernel
theorem dX5_expand_77 : decode cX5_expand 77 = .ok (.bipush 48, 2) := by decide +kernel
theorem dX5_expand_79 : decode cX5_expand 79 = .ok (.isub, 1) := by decide +kernel
theorem dX5_expand_80 : decode cX5_expand 80 = .ok (.iload_n 1, 1) := by decide +kernel
theorem dX5_expand_81 : decode cX5_expand 81 = .ok (.if_icmp .ge 112, 3) := by decide +kernel
theorem dX5_expand_84 : decode cX5_expand 84 = .ok (.aload_n 0, 1) := by decide +kernel
theorem dX5_expand_85 : decode cX5_expand 85 = .ok (.getfield 91, 3) := by decide +kernel
theorem dX5_expand_88 : decode cX5_expand 88 = .ok (.invokevirtual 228, 3) := by decide +kernel
theorem dX5_expand_91 : decode cX5_expand 91 = .ok (.pop, 1) := by decide +kernel
theorem dX5_expand_92 : decode cX5_expand 92 = .ok (.iconst 0, 1) := by decide +kernel
theorem dX5_expand_93 : decode cX5_expand 93 = .ok (.istore 5, 2) := by decide +kernel
theorem dX5_expand_95 : decode cX5_expand 95 = .ok (.iload 5, 2) := by decide +kernel
theorem dX5_expand_97 : decode cX5_expand 97 = .ok (.bipush 48, 2) := by decide +kernel
theorem dX5_expand_99 : decode cX5_expand 99 = .ok (.if_icmp .ge 32, 3) := by decide +kernel
theorem dX5_expand_102 : decode cX5_expand 102 = .ok (.aload_n 0, 1) := by decide +kernel
theorem dX5_expand_103 : decode cX5_expand 103 = .ok (.getfield 91, 3) := by decide +kernel
theorem dX5_expand_106 : decode cX5_expand 106 = .ok (.aload_n 0, 1) := by decide +kernel
theorem dX5_expand_107 : decode cX5_expand 107 = .ok (.getfield 88, 3) := by decide +kernel
theorem dX5_expand_110 : decode cX5_expand 110 = .ok (.iload 5, 2) := by decide +kernel
theorem dX5_expand_112 : decode cX5_expand 112 = .ok (.baload, 1) := by decide +kernel
theorem dX5_expand_113 : decode cX5_expand 113 = .ok (.aload_n 0, 1) := by decide +kernel
theorem dX5_expand_114 : decode cX5_expand 114 = .ok (.getfield 85, 3) := by decide +kernel
theorem dX5_expand_117 : decode cX5_expand 117 = .ok (.iload 5, 2) := by decide +kernel
theorem dX5_expand_119 : decode cX5_expand 119 = .ok (.baload, 1) := by decide +kernel
theorem dX5_expand_120 : decode cX5_expand 120 = .ok (.ixor, 1) := by decide +kernel
theorem dX5_expand_121 : decode cX5_expand 121 = .ok (.invokevirtual 232, 3) := by decide +kernel
theorem dX5_expand_124 : decode cX5_expand 124 = .ok (.pop, 1) := by decide +kernel
theorem dX5_expand_125 : decode cX5_expand 125 = .ok (.iinc 5 1, 3) := by decide +kernel
theorem dX5_expand_128 : decode cX5_expand 128 = .ok (.goto (-33), 3) := by decide +kernel
theorem dX5_expand_131 : decode cX5_expand 131 = .ok (.aload_n 0, 1) := by decide +kernel
theorem dX5_expand_132 : decode cX5_expand 132 = .ok (.getfield 91, 3) := by decide +kernel
theorem dX5_expand_135 : decode cX5_expand 135 = .ok (.iload 4, 2) := by decide +kernel
theorem dX5_expand_137 : decode cX5_expand 137 = .ok (.invokevirtual 232, 3) := by decide +kernel
theorem dX5_expand_140 : decode cX5_expand 140 = .ok (.pop, 1) := by decide +kernel
theorem dX5_expand_141 : decode cX5_expand 141 = .ok (.aload_n 0, 1) := by decide +kernel
theorem dX5_expand_142 : decode cX5_expand 142 = .ok (.aload_n 2, 1) := by decide +kernel
theorem dX5_expand_143 : decode cX5_expand 143 = .ok (.iload_n 3, 1) := by decide +kernel
theorem dX5_expand_144 : decode cX5_expand 144 = .ok (.invokevirtual 214, 3) := by decide +kernel
theorem dX5_expand_147 : decode cX5_expand 147 = .ok (.aload_n 0, 1) := by decide +kernel
theorem dX5_expand_148 : decode cX5_expand 148 = .ok (.getfield 91, 3) := by decide +kernel
theorem dX5_expand_151 : decode cX5_expand 151 = .ok (.invokevirtual 218, 3) := by decide +kernel
theorem dX5_expand_154 : decode cX5_expand 154 = .ok (.iconst 0, 1) := by decide +kernel
theorem dX5_expand_155 : decode cX5_expand 155 = .ok (.aload_n 0, 1) := by decide +kernel
theorem dX5_expand_156 : decode cX5_expand 156 = .ok (.getfield 85, 3) := by decide +kernel
theorem dX5_expand_159 : decode cX5_expand 159 = .ok (.iconst 0, 1) := by decide +kernel
theorem dX5_expand_160 : decode cX5_expand 160 = .ok (.bipush 48, 2) := by decide +kernel
theorem dX5_expand_162 : decode cX5_expand 162 = .ok (.invokestatic 222, 3) := by decide +kernel
theorem dX5_expand_165 : decode cX5_expand 165 = .ok (.aload_n 0, 1) := by decide +kernel
theorem dX5_expand_166 : decode cX5_expand 166 = .ok (.getfield 85, 3) := by decide +kernel
theorem dX5_expand_169 : decode cX5_expand 169 = .ok (.iconst 0, 1) := by decide +kernel
theorem dX5_expand_170 : decode cX5_expand 170 = .ok (.aload_n 0, 1) := by decide +kernel
theorem dX5_expand_171 : decode cX5_expand 171 = .ok (.getfield 81, 3) := by decide +kernel
theorem dX5_expand_174 : decode cX5_expand 174 = .ok (.bipush 48, 2) := by decide +kernel
theorem dX5_expand_176 : decode cX5_expand 176 = .ok (.iload 4, 2) := by decide +kernel
theorem dX5_expand_178 : decode cX5_expand 178 = .ok (.imul, 1) := by decide +kernel
theorem dX5_expand_179 : decode cX5_expand 179 = .ok (.bipush 48, 2) := by decide +kernel
theorem dX5_expand_181 : decode cX5_expand 181 = .ok (.isub, 1) := by decide +kernel
theorem dX5_expand_182 : decode cX5_expand 182 = .ok (.bipush 48, 2) := by decide +kernel
theorem dX5_expand_184 : decode cX5_expand 184 = .ok (.invokestatic 222, 3) := by decide +kernel
theorem dX5_expand_187 : decode cX5_expand 187 = .ok (.iinc 4 1, 3) := by decide +kernel
theorem dX5_expand_190 : decode cX5_expand 190 = .ok (.goto (-118), 3) := by decide +kernel
theorem dX5_expand_193 : decode cX5_expand 193 = .ok (.return_, 1) := by decide +kernel
abbrev cX5_tag : ByteArray := prog_3_method_9_code
def yX5_tag : MethodName := ⟨RX5, "tag", "(Ljava/lang/String;I)V"⟩
theorem dX5_tag_0 : decode cX5_tag 0 = .ok (.aload_n 0, 1) := by decide +kernel
theorem dX5_tag_1 : decode cX5_tag 1 = .ok (.getfield 91, 3) := by decide +kernel
theorem dX5_tag_4 : decode cX5_tag 4 = .ok (.aload_n 1, 1) := by decide +kernel
theorem dX5_tag_5 : decode cX5_tag 5 = .ok (.invokevirtual 188, 3) := by decide +kernel
theorem dX5_tag_8 : decode cX5_tag 8 = .ok (.ldc 194, 2) := by decide +kernel
theorem dX5_tag_10 : decode cX5_tag 10 = .ok (.invokevirtual 196, 3) := by decide +kernel
theorem dX5_tag_13 : decode cX5_tag 13 = .ok (.iconst 1, 1) := by decide +kernel
theorem dX5_tag_14 : decode cX5_tag 14 = .ok (.invokevirtual 199, 3) := by decide +kernel
theorem dX5_tag_17 : decode cX5_tag 17 = .ok (.ldc 203, 2) := by decide +kernel
theorem dX5_tag_19 : decode cX5_tag 19 = .ok (.invokevirtual 196, 3) := by decide +kernel
theorem dX5_tag_22 : decode cX5_tag 22 = .ok (.iload_n 2, 1) := by decide +kernel
theorem dX5_tag_23 : decode cX5_tag 23 = .ok (.invokevirtual 199, 3) := by decide +kernel
theorem dX5_tag_26 : decode cX5_tag 26 = .ok (.pop, 1) := by decide +kernel
theorem dX5_tag_27 : decode cX5_tag 27 = .ok (.return_, 1) := by decide +kernel
abbrev cX5_map : ByteArray := prog_3_method_14_code
def yX5_map : MethodName := ⟨RX5, "map", "(ILVeilMint$Point;)V"⟩
theorem dX5_map_0 : decode cX5_map 0 = .ok (.aload_n 0, 1) := by decide +kernel
theorem dX5_map_1 : decode cX5_map 1 = .ok (.getfield 22, 3) := by decide +kernel
theorem dX5_map_4 : decode cX5_map 4 = .ok (.aload_n 0, 1) := by decide +kernel
theorem dX5_map_5 : decode cX5_map 5 = .ok (.getfield 81, 3) := by decide +kernel
theorem dX5_map_8 : decode cX5_map 8 = .ok (.iload_n 1, 1) := by decide +kernel
theorem dX5_map_9 : decode cX5_map 9 = .ok (.bipush 72, 2) := by decide +kernel
theorem dX5_map_11 : decode cX5_map 11 = .ok (.aload_n 0, 1) := by decide +kernel
theorem dX5_map_12 : decode cX5_map 12 = .ok (.getfield 44, 3) := by decide +kernel
theorem dX5_map_15 : decode cX5_map 15 = .ok (.invokevirtual 239, 3) := by decide +kernel
theorem dX5_map_18 : decode cX5_map 18 = .ok (.aload_n 0, 1) := by decide +kernel
theorem dX5_map_19 : decode cX5_map 19 = .ok (.getfield 44, 3) := by decide +kernel
theorem dX5_map_22 : decode cX5_map 22 = .ok (.iconst 0, 1) := by decide +kernel
theorem dX5_map_23 : decode cX5_map 23 = .ok (.iaload, 1) := by decide +kernel
theorem dX5_map_24 : decode cX5_map 24 = .ok (.iconst 1, 1) := by decide +kernel
theorem dX5_map_25 : decode cX5_map 25 = .ok (.iand, 1) := by decide +kernel
theorem dX5_map_26 : decode cX5_map 26 = .ok (.iconst 1, 1) := by decide +kernel
theorem dX5_map_27 : decode cX5_map 27 = .ok (.if_icmp .ne 7, 3) := by decide +kernel
theorem dX5_map_30 : decode cX5_map 30 = .ok (.iconst 1, 1) := by decide +kernel
theorem dX5_map_31 : decode cX5_map 31 = .ok (.goto 4, 3) := by decide +kernel
theorem dX5_map_34 : decode cX5_map 34 = .ok (.iconst 0, 1) := by decide +kernel
theorem dX5_map_35 : decode cX5_map 35 = .ok (.istore_n 3, 1) := by decide +kernel
theorem dX5_map_36 : decode cX5_map 36 = .ok (.aload_n 0, 1) := by decide +kernel
theorem dX5_map_37 : decode cX5_map 37 = .ok (.getfield 22, 3) := by decide +kernel
theorem dX5_map_40 : decode cX5_map 40 = .ok (.aload_n 0, 1) := by decide +kernel
theorem dX5_map_41 : decode cX5_map 41 = .ok (.getfield 44, 3) := by decide +kernel
theorem dX5_map_44 : decode cX5_map 44 = .ok (.aload_n 0, 1) := by decide +kernel
theorem dX5_map_45 : decode cX5_map 45 = .ok (.getfield 44, 3) := by decide +kernel
theorem dX5_map_48 : decode cX5_map 48 = .ok (.invokevirtual 97, 3) := by decide +kernel
theorem dX5_map_51 : decode cX5_map 51 = .ok (.aload_n 0, 1) := by decide +kernel
theorem dX5_map_52 : decode cX5_map 52 = .ok (.getfield 22, 3) := by decide +kernel
theorem dX5_map_55 : decode cX5_map 55 = .ok (.aload_n 0, 1) := by decide +kernel
theorem dX5_map_56 : decode cX5_map 56 = .ok (.getfield 44, 3) := by decide +kernel
theorem dX5_map_59 : decode cX5_map 59 = .ok (.aload_n 0, 1) := by decide +kernel
theorem dX5_map_60 : decode cX5_map 60 = .ok (.getfield 44, 3) := by decide +kernel
theorem dX5_map_63 : decode cX5_map 63 = .ok (.aload_n 0, 1) := by decide +kernel
theorem dX5_map_64 : decode cX5_map 64 = .ok (.getfield 47, 3) := by decide +kernel
theorem dX5_map_67 : decode cX5_map 67 = .ok (.invokevirtual 140, 3) := by decide +kernel
theorem dX5_map_70 : decode cX5_map 70 = .ok (.aload_n 0, 1) := by decide +kernel
theorem dX5_map_71 : decode cX5_map 71 = .ok (.getfield 22, 3) := by decide +kernel
theorem dX5_map_74 : decode cX5_map 74 = .ok (.aload_n 0, 1) := by decide +kernel
theorem dX5_map_75 : decode cX5_map 75 = .ok (.getfield 47, 3) := by decide +kernel
theorem dX5_map_78 : decode cX5_map 78 = .ok (.aload_n 0, 1) := by decide +kernel
theorem dX5_map_79 : decode cX5_map 79 = .ok (.getfield 38, 3) := by decide +kernel
theorem dX5_map_82 : decode cX5_map 82 = .ok (.aload_n 0, 1) := by decide +kernel
theorem dX5_map_83 : decode cX5_map 83 = .ok (.getfield 47, 3) := by decide +kernel
theorem dX5_map_86 : decode cX5_map 86 = .ok (.invokevirtual 140, 3) := by decide +kernel
theorem dX5_map_89 : decode cX5_map 89 = .ok (.aload_n 0, 1) := by decide +kernel
theorem dX5_map_90 : decode cX5_map 90 = .ok (.getfield 22, 3) := by decide +kernel
theorem dX5_map_93 : decode cX5_map 93 = .ok (.aload_n 0, 1) := by decide +kernel
theorem dX5_map_94 : decode cX5_map 94 = .ok (.getfield 47, 3) := by decide +kernel
theorem dX5_map_97 : decode cX5_map 97 = .ok (.aload_n 0, 1) := by decide +kernel
theorem dX5_map_98 : decode cX5_map 98 = .ok (.getfield 47, 3) := by decide +kernel
theorem dX5_map_101 : decode cX5_map 101 = .ok (.aload_n 0, 1) := by decide +kernel
theorem dX5_map_102 : decode cX5_map 102 = .ok (.getfield 50, 3) := by decide +kernel
theorem dX5_map_105 : decode cX5_map 105 = .ok (.invokevirtual 140, 3) := by decide +kernel
theorem dX5_map_108 : decode cX5_map 108 = .ok (.aload_n 0, 1) := by decide +kernel
theorem dX5_map_109 : decode cX5_map 109 = .ok (.getfield 22, 3) := by decide +kernel
theorem dX5_map_112 : decode cX5_map 112 = .ok (.aload_n 0, 1) := by decide +kernel
theorem dX5_map_113 : decode cX5_map 113 = .ok (.getfield 50, 3) := by decide +kernel
theorem dX5_map_116 : decode cX5_map 116 = .ok (.aload_n 0, 1) := by decide +kernel
theorem dX5_map_117 : decode cX5_map 117 = .ok (.getfield 47, 3) := by decide +kernel
theorem dX5_map_120 : decode cX5_map 120 = .ok (.aload_n 0, 1) := by decide +kernel
theorem dX5_map_121 : decode cX5_map 121 = .ok (.getfield 50, 3) := by decide +kernel
theorem dX5_map_124 : decode cX5_map 124 = .ok (.invokevirtual 129, 3) := by decide +kernel
theorem dX5_map_127 : decode cX5_map 127 = .ok (.aload_n 0, 1) := by decide +kernel
theorem dX5_map_128 : decode cX5_map 128 = .ok (.aload_n 0, 1) := by decide +kernel
theorem dX5_map_129 : decode cX5_map 129 = .ok (.getfield 50, 3) := by decide +kernel
theorem dX5_map_132 : decode cX5_map 132 = .ok (.aload_n 2, 1) := by decide +kernel
theorem dX5_map_133 : decode cX5_map 133 = .ok (.getfield 103, 3) := by decide +kernel
theorem dX5_map_136 : decode cX5_map 136 = .ok (.invokevirtual 249, 3) := by decide +kernel
theorem dX5_map_139 : decode cX5_map 139 = .ok (.aload_n 0, 1) := by decide +kernel
theorem dX5_map_140 : decode cX5_map 140 = .ok (.aload_n 2, 1) := by decide +kernel
theorem dX5_map_141 : decode cX5_map 141 = .ok (.getfield 103, 3) := by decide +kernel
theorem dX5_map_144 : decode cX5_map 144 = .ok (.aload_n 0, 1) := by decide +kernel
theorem dX5_map_145 : decode cX5_map 145 = .ok (.getfield 53, 3) := by decide +kernel
theorem dX5_map_148 : decode cX5_map 148 = .ok (.invokevirtual 175, 3) := by decide +kernel
theorem dX5_map_151 : decode cX5_map 151 = .ok (.aload_n 0, 1) := by decide +kernel
theorem dX5_map_152 : decode cX5_map 152 = .ok (.getfield 22, 3) := by decide +kernel
theorem dX5_map_155 : decode cX5_map 155 = .ok (.aload_n 0, 1) := by decide +kernel
theorem dX5_map_156 : decode cX5_map 156 = .ok (.getfield 53, 3) := by decide +kernel
theorem dX5_map_159 : decode cX5_map 159 = .ok (.aload_n 0, 1) := by decide +kernel
theorem dX5_map_160 : decode cX5_map 160 = .ok (.getfield 35, 3) := by decide +kernel
theorem dX5_map_163 : decode cX5_map 163 = .ok (.aload_n 2, 1) := by decide +kernel
theorem dX5_map_164 : decode cX5_map 164 = .ok (.getfield 108, 3) := by decide +kernel
theorem dX5_map_167 : decode cX5_map 167 = .ok (.invokevirtual 178, 3) := by decide +kernel
theorem dX5_map_170 : decode cX5_map 170 = .ok (.aload_n 0, 1) := by decide +kernel
theorem dX5_map_171 : decode cX5_map 171 = .ok (.getfield 22, 3) := by decide +kernel
theorem dX5_map_174 : decode cX5_map 174 = .ok (.aload_n 2, 1) := by decide +kernel
theorem dX5_map_175 : decode cX5_map 175 = .ok (.getfield 108, 3) := by decide +kernel
theorem dX5_map_178 : decode cX5_map 178 = .ok (.aload_n 2, 1) := by decide +kernel
theorem dX5_map_179 : decode cX5_map 179 = .ok (.getfield 108, 3) := by decide +kernel
theorem dX5_map_182 : decode cX5_map 182 = .ok (.aload_n 0, 1) := by decide +kernel
theorem dX5_map_183 : decode cX5_map 183 = .ok (.getfield 56, 3) := by decide +kernel
theorem dX5_map_186 : decode cX5_map 186 = .ok (.invokevirtual 140, 3) := by decide +kernel
theorem dX5_map_189 : decode cX5_map 189 = .ok (.aload_n 0, 1) := by decide +kernel
theorem dX5_map_190 : decode cX5_map 190 = .ok (.getfield 53, 3) := by decide +kernel
theorem dX5_map_193 : decode cX5_map 193 = .ok (.aload_n 0, 1) := by decide +kernel
theorem dX5_map_194 : decode cX5_map 194 = .ok (.getfield 56, 3) := by decide +kernel
theorem dX5_map_197 : decode cX5_map 197 = .ok (.invokestatic 181, 3) := by decide +kernel
theorem dX5_map_200 : decode cX5_map 200 = .ok (.ifCond .eq 53, 3) := by decide +kernel
theorem dX5_map_203 : decode cX5_map 203 = .ok (.aload_n 0, 1) := by decide +kernel
theorem dX5_map_204 : decode cX5_map 204 = .ok (.getfield 22, 3) := by decide +kernel
theorem dX5_map_207 : decode cX5_map 207 = .ok (.aload_n 2, 1) := by decide +kernel
theorem dX5_map_208 : decode cX5_map 208 = .ok (.getfield 103, 3) := by decide +kernel
theorem dX5_map_211 : decode cX5_map 211 = .ok (.aload_n 0, 1) := by decide +kernel
theorem dX5_map_212 : decode cX5_map 212 = .ok (.getfield 47, 3) := by decide +kernel
theorem dX5_map_215 : decode cX5_map 215 = .ok (.aload_n 2, 1) := by decide +kernel
theorem dX5_map_216 : decode cX5_map 216 = .ok (.getfield 103, 3) := by decide +kernel
theorem dX5_map_219 : decode cX5_map 219 = .ok (.invokevirtual 140, 3) := by decide +kernel
theorem dX5_map_222 : decode cX5_map 222 = .ok (.aload_n 0, 1) := by decide +kernel
theorem dX5_map_223 : decode cX5_map 223 = .ok (.aload_n 2, 1) := by decide +kernel
theorem dX5_map_224 : decode cX5_map 224 = .ok (.getfield 103, 3) := by decide +kernel
theorem dX5_map_227 : decode cX5_map 227 = .ok (.aload_n 0, 1) := by decide +kernel
theorem dX5_map_228 : decode cX5_map 228 = .ok (.getfield 53, 3) := by decide +kernel
theorem dX5_map_231 : decode cX5_map 231 = .ok (.invokevirtual 175, 3) := by decide +kernel
theorem dX5_map_234 : decode cX5_map 234 = .ok (.aload_n 0, 1) := by decide +kernel
theorem dX5_map_235 : decode cX5_map 235 = .ok (.getfield 22, 3) := by decide +kernel
theorem dX5_map_238 : decode cX5_map 238 = .ok (.aload_n 0, 1) := by decide +kernel
theorem dX5_map_239 : decode cX5_map 239 = .ok (.getfield 53, 3) := by decide +kernel
theorem dX5_map_242 : decode cX5_map 242 = .ok (.aload_n 0, 1) := by decide +kernel
theorem dX5_map_243 : decode cX5_map 243 = .ok (.getfield 35, 3) := by decide +kernel
theorem dX5_map_246 : decode cX5_map 246 = .ok (.aload_n 2, 1) := by decide +kernel
theorem dX5_map_247 : decode cX5_map 247 = .ok (.getfield 108, 3) := by decide +kernel
theorem dX5_map_250 : decode cX5_map 250 = .ok (.invokevirtual 178, 3) := by decide +kernel
theorem dX5_map_253 : decode cX5_map 253 = .ok (.aload_n 0, 1) := by decide +kernel
theorem dX5_map_254 : decode cX5_map 254 = .ok (.getfield 22, 3) := by decide +kernel
theorem dX5_map_257 : decode cX5_map 257 = .ok (.aload_n 2, 1) := by decide +kernel
theorem dX5_map_258 : decode cX5_map 258 = .ok (.getfield 108, 3) := by decide +kernel
theorem dX5_map_261 : decode cX5_map 261 = .ok (.aload_n 0, 1) := by decide +kernel
theorem dX5_map_262 : decode cX5_map 262 = .ok (.getfield 56, 3) := by decide +kernel
theorem dX5_map_265 : decode cX5_map 265 = .ok (.invokevirtual 160, 3) := by decide +kernel
theorem dX5_map_268 : decode cX5_map 268 = .ok (.aload_n 0, 1) := by decide +kernel
theorem dX5_map_269 : decode cX5_map 269 = .ok (.getfield 56, 3) := by decide +kernel
theorem dX5_map_272 : decode cX5_map 272 = .ok (.iconst 0, 1) := by decide +kernel
theorem dX5_map_273 : decode cX5_map 273 = .ok (.iaload, 1) := by decide +kernel
theorem dX5_map_274 : decode cX5_map 274 = .ok (.iconst 1, 1) := by decide +kernel
theorem dX5_map_275 : decode cX5_map 275 = .ok (.iand, 1) := by decide +kernel
theorem dX5_map_276 : decode cX5_map 276 = .ok (.iconst 1, 1) := by decide +kernel
theorem dX5_map_277 : decode cX5_map 277 = .ok (.if_icmp .ne 7, 3) := by decide +kernel
theorem dX5_map_280 : decode cX5_map 280 = .ok (.iconst 1, 1) := by decide +kernel
theorem dX5_map_281 : decode cX5_map 281 = .ok (.goto 4, 3) := by decide +kernel
theorem dX5_map_284 : decode cX5_map 284 = .ok (.iconst 0, 1) := by decide +kernel
theorem dX5_map_285 : decode cX5_map 285 = .ok (.iload_n 3, 1) := by decide +kernel
theorem dX5_map_286 : decode cX5_map 286 = .ok (.if_icmp .eq 11, 3) := by decide +kernel
theorem dX5_map_289 : decode cX5_map 289 = .ok (.aload_n 0, 1) := by decide +kernel
theorem dX5_map_290 : decode cX5_map 290 = .ok (.aload_n 2, 1) := by decide +kernel
theorem dX5_map_291 : decode cX5_map 291 = .ok (.getfield 108, 3) := by decide +kernel
theorem dX5_map_294 : decode cX5_map 294 = .ok (.invokevirtual 185, 3) := by decide +kernel
theorem dX5_map_297 : decode cX5_map 297 = .ok (.aload_n 0, 1) := by decide +kernel
theorem dX5_map_298 : decode cX5_map 298 = .ok (.getfield 22, 3) := by decide +kernel
theorem dX5_map_301 : decode cX5_map 301 = .ok (.getfield 111, 3) := by decide +kernel
theorem dX5_map_304 : decode cX5_map 304 = .ok (.aload_n 2, 1) := by decide +kernel
theorem dX5_map_305 : decode cX5_map 305 = .ok (.getfield 114, 3) := by decide +kernel
theorem dX5_map_308 : decode cX5_map 308 = .ok (.invokestatic 117, 3) := by decide +kernel
theorem dX5_map_311 : decode cX5_map 311 = .ok (.return_, 1) := by decide +kernel
abbrev cX5_firstX : ByteArray := prog_3_method_15_code
def yX5_firstX : MethodName := ⟨RX5, "firstX", "([I[I)V"⟩
theorem dX5_firstX_0 : decode cX5_firstX 0 = .ok (.aload_n 1, 1) := by decide +kernel
theorem dX5_firstX_1 : decode cX5_firstX 1 = .ok (.invokestatic 147, 3) := by decide +kernel
theorem dX5_firstX_4 : decode cX5_firstX 4 = .ok (.ifCond .eq 97, 3) := by decide +kernel
theorem dX5_firstX_7 : decode cX5_firstX 7 = .ok (.aload_n 0, 1) := by decide +kernel
theorem dX5_firstX_8 : decode cX5_firstX 8 = .ok (.getfield 22, 3) := by decide +kernel
theorem dX5_firstX_11 : decode cX5_firstX 11 = .ok (.aload_n 0, 1) := by decide +kernel
theorem dX5_firstX_12 : decode cX5_firstX 12 = .ok (.getfield 38, 3) := by decide +kernel
theorem dX5_firstX_15 : decode cX5_firstX 15 = .ok (.aload_n 0, 1) := by decide +kernel
theorem dX5_firstX_16 : decode cX5_firstX 16 = .ok (.getfield 41, 3) := by decide +kernel
theorem dX5_firstX_19 : decode cX5_firstX 19 = .ok (.aload_n 0, 1) := by decide +kernel
theorem dX5_firstX_20 : decode cX5_firstX 20 = .ok (.getfield 56, 3) := by decide +kernel
theorem dX5_firstX_23 : decode cX5_firstX 23 = .ok (.invokevirtual 140, 3) := by decide +kernel
theorem dX5_firstX_26 : decode cX5_firstX 26 = .ok (.aload_n 0, 1) := by decide +kernel
theorem dX5_firstX_27 : decode cX5_firstX 27 = .ok (.aload_n 0, 1) := by decide +kernel
theorem dX5_firstX_28 : decode cX5_firstX 28 = .ok (.getfield 56, 3) := by decide +kernel
theorem dX5_firstX_31 : decode cX5_firstX 31 = .ok (.aload_n 0, 1) := by decide +kernel
theorem dX5_firstX_32 : decode cX5_firstX 32 = .ok (.getfield 56, 3) := by decide +kernel
theorem dX5_firstX_35 : decode cX5_firstX 35 = .ok (.invokevirtual 252, 3) := by decide +kernel
theorem dX5_firstX_38 : decode cX5_firstX 38 = .ok (.aload_n 0, 1) := by decide +kernel
theorem dX5_firstX_39 : decode cX5_firstX 39 = .ok (.getfield 22, 3) := by decide +kernel
theorem dX5_firstX_42 : decode cX5_firstX 42 = .ok (.aload_n 0, 1) := by decide +kernel
theorem dX5_firstX_43 : decode cX5_firstX 43 = .ok (.getfield 56, 3) := by decide +kernel
theorem dX5_firstX_46 : decode cX5_firstX 46 = .ok (.aload_n 0, 1) := by decide +kernel
theorem dX5_firstX_47 : decode cX5_firstX 47 = .ok (.getfield 56, 3) := by decide +kernel
theorem dX5_firstX_50 : decode cX5_firstX 50 = .ok (.invokevirtual 160, 3) := by decide +kernel
theorem dX5_firstX_53 : decode cX5_firstX 53 = .ok (.aload_n 0, 1) := by decide +kernel
theorem dX5_firstX_54 : decode cX5_firstX 54 = .ok (.getfield 22, 3) := by decide +kernel
theorem dX5_firstX_57 : decode cX5_firstX 57 = .ok (.aload_n 0, 1) := by decide +kernel
theorem dX5_firstX_58 : decode cX5_firstX 58 = .ok (.getfield 56, 3) := by decide +kernel
theorem dX5_firstX_61 : decode cX5_firstX 61 = .ok (.aload_n 0, 1) := by decide +kernel
theorem dX5_firstX_62 : decode cX5_firstX 62 = .ok (.getfield 56, 3) := by decide +kernel
theorem dX5_firstX_65 : decode cX5_firstX 65 = .ok (.invokevirtual 163, 3) := by decide +kernel
theorem dX5_firstX_68 : decode cX5_firstX 68 = .ok (.istore_n 3, 1) := by decide +kernel
theorem dX5_firstX_69 : decode cX5_firstX 69 = .ok (.aload_n 0, 1) := by decide +kernel
theorem dX5_firstX_70 : decode cX5_firstX 70 = .ok (.getfield 22, 3) := by decide +kernel
theorem dX5_firstX_73 : decode cX5_firstX 73 = .ok (.aload_n 0, 1) := by decide +kernel
theorem dX5_firstX_74 : decode cX5_firstX 74 = .ok (.getfield 56, 3) := by decide +kernel
theorem dX5_firstX_77 : decode cX5_firstX 77 = .ok (.aload_n 0, 1) := by decide +kernel
theorem dX5_firstX_78 : decode cX5_firstX 78 = .ok (.getfield 56, 3) := by decide +kernel
theorem dX5_firstX_81 : decode cX5_firstX 81 = .ok (.invokevirtual 97, 3) := by decide +kernel
theorem dX5_firstX_84 : decode cX5_firstX 84 = .ok (.aload_n 0, 1) := by decide +kernel
theorem dX5_firstX_85 : decode cX5_firstX 85 = .ok (.getfield 22, 3) := by decide +kernel
theorem dX5_firstX_88 : decode cX5_firstX 88 = .ok (.aload_n 0, 1) := by decide +kernel
theorem dX5_firstX_89 : decode cX5_firstX 89 = .ok (.getfield 31, 3) := by decide +kernel
theorem dX5_firstX_92 : decode cX5_firstX 92 = .ok (.aload_n 0, 1) := by decide +kernel
theorem dX5_firstX_93 : decode cX5_firstX 93 = .ok (.getfield 56, 3) := by decide +kernel
theorem dX5_firstX_96 : decode cX5_firstX 96 = .ok (.aload_n 2, 1) := by decide +kernel
theorem dX5_firstX_97 : decode cX5_firstX 97 = .ok (.invokevirtual 140, 3) := by decide +kernel
theorem dX5_firstX_100 : decode cX5_firstX 100 = .ok (.return_, 1) := by decide +kernel
theorem dX5_firstX_101 : decode cX5_firstX 101 = .ok (.aload_n 0, 1) := by decide +kernel
theorem dX5_firstX_102 : decode cX5_firstX 102 = .ok (.getfield 22, 3) := by decide +kernel
theorem dX5_firstX_105 : decode cX5_firstX 105 = .ok (.aload_n 1, 1) := by decide +kernel
theorem dX5_firstX_106 : decode cX5_firstX 106 = .ok (.aload_n 0, 1) := by decide +kernel
theorem dX5_firstX_107 : decode cX5_firstX 107 = .ok (.getfield 56, 3) := by decide +kernel
theorem dX5_firstX_110 : decode cX5_firstX 110 = .ok (.invokevirtual 160, 3) := by decide +kernel
theorem dX5_firstX_113 : decode cX5_firstX 113 = .ok (.aload_n 0, 1) := by decide +kernel
theorem dX5_firstX_114 : decode cX5_firstX 114 = .ok (.getfield 22, 3) := by decide +kernel
theorem dX5_firstX_117 : decode cX5_firstX 117 = .ok (.aload_n 0, 1) := by decide +kernel
theorem dX5_firstX_118 : decode cX5_firstX 118 = .ok (.getfield 56, 3) := by decide +kernel
theorem dX5_firstX_121 : decode cX5_firstX 121 = .ok (.aload_n 0, 1) := by decide +kernel
theorem dX5_firstX_122 : decode cX5_firstX 122 = .ok (.getfield 56, 3) := by decide +kernel
theorem dX5_firstX_125 : decode cX5_firstX 125 = .ok (.invokevirtual 163, 3) := by decide +kernel
theorem dX5_firstX_128 : decode cX5_firstX 128 = .ok (.istore_n 3, 1) := by decide +kernel
theorem dX5_firstX_129 : decode cX5_firstX 129 = .ok (.aload_n 0, 1) := by decide +kernel
theorem dX5_firstX_130 : decode cX5_firstX 130 = .ok (.getfield 22, 3) := by decide +kernel
theorem dX5_firstX_133 : decode cX5_firstX 133 = .ok (.aload_n 0, 1) := by decide +kernel
theorem dX5_firstX_134 : decode cX5_firstX 134 = .ok (.getfield 56, 3) := by decide +kernel
theorem dX5_firstX_137 : decode cX5_firstX 137 = .ok (.aload_n 0, 1) := by decide +kernel
theorem dX5_firstX_138 : decode cX5_firstX 138 = .ok (.getfield 56, 3) := by decide +kernel
theorem dX5_firstX_141 : decode cX5_firstX 141 = .ok (.invokevirtual 97, 3) := by decide +kernel
theorem dX5_firstX_144 : decode cX5_firstX 144 = .ok (.aload_n 0, 1) := by decide +kernel
theorem dX5_firstX_145 : decode cX5_firstX 145 = .ok (.getfield 22, 3) := by decide +kernel
theorem dX5_firstX_148 : decode cX5_firstX 148 = .ok (.aload_n 0, 1) := by decide +kernel
theorem dX5_firstX_149 : decode cX5_firstX 149 = .ok (.getfield 56, 3) := by decide +kernel
theorem dX5_firstX_152 : decode cX5_firstX 152 = .ok (.aload_n 0, 1) := by decide +kernel
theorem dX5_firstX_153 : decode cX5_firstX 153 = .ok (.getfield 22, 3) := by decide +kernel
theorem dX5_firstX_156 : decode cX5_firstX 156 = .ok (.getfield 111, 3) := by decide +kernel
theorem dX5_firstX_159 : decode cX5_firstX 159 = .ok (.aload_n 0, 1) := by decide +kernel
theorem dX5_firstX_160 : decode cX5_firstX 160 = .ok (.getfield 56, 3) := by decide +kernel
theorem dX5_firstX_163 : decode cX5_firstX 163 = .ok (.invokevirtual 129, 3) := by decide +kernel
theorem dX5_firstX_166 : decode cX5_firstX 166 = .ok (.aload_n 0, 1) := by decide +kernel
theorem dX5_firstX_167 : decode cX5_firstX 167 = .ok (.getfield 22, 3) := by decide +kernel
theorem dX5_firstX_170 : decode cX5_firstX 170 = .ok (.aload_n 0, 1) := by decide +kernel
theorem dX5_firstX_171 : decode cX5_firstX 171 = .ok (.getfield 56, 3) := by decide +kernel
theorem dX5_firstX_174 : decode cX5_firstX 174 = .ok (.aload_n 0, 1) := by decide +kernel
theorem dX5_firstX_175 : decode cX5_firstX 175 = .ok (.getfield 31, 3) := by decide +kernel
theorem dX5_firstX_178 : decode cX5_firstX 178 = .ok (.aload_n 0, 1) := by decide +kernel
theorem dX5_firstX_179 : decode cX5_firstX 179 = .ok (.getfield 56, 3) := by decide +kernel
theorem dX5_firstX_182 : decode cX5_firstX 182 = .ok (.invokevirtual 140, 3) := by decide +kernel
theorem dX5_firstX_185 : decode cX5_firstX 185 = .ok (.aload_n 0, 1) := by decide +kernel
theorem dX5_firstX_186 : decode cX5_firstX 186 = .ok (.getfield 22, 3) := by decide +kernel
theorem dX5_firstX_189 : decode cX5_firstX 189 = .ok (.aload_n 0, 1) := by decide +kernel
theorem dX5_firstX_190 : decode cX5_firstX 190 = .ok (.getfield 41, 3) := by decide +kernel
theorem dX5_firstX_193 : decode cX5_firstX 193 = .ok (.aload_n 0, 1) := by decide +kernel
theorem dX5_firstX_194 : decode cX5_firstX 194 = .ok (.getfield 59, 3) := by decide +kernel
theorem dX5_firstX_197 : decode cX5_firstX 197 = .ok (.invokevirtual 160, 3) := by decide +kernel
theorem dX5_firstX_200 : decode cX5_firstX 200 = .ok (.aload_n 0, 1) := by decide +kernel
theorem dX5_firstX_201 : decode cX5_firstX 201 = .ok (.getfield 22, 3) := by decide +kernel
theorem dX5_firstX_204 : decode cX5_firstX 204 = .ok (.aload_n 0, 1) := by decide +kernel
theorem dX5_firstX_205 : decode cX5_firstX 205 = .ok (.getfield 59, 3) := by decide +kernel
theorem dX5_firstX_208 : decode cX5_firstX 208 = .ok (.aload_n 0, 1) := by decide +kernel
theorem dX5_firstX_209 : decode cX5_firstX 209 = .ok (.getfield 59, 3) := by decide +kernel
theorem dX5_firstX_212 : decode cX5_firstX 212 = .ok (.invokevirtual 163, 3) := by decide +kernel
theorem dX5_firstX_215 : decode cX5_firstX 215 = .ok (.istore_n 3, 1) := by decide +kernel
theorem dX5_firstX_216 : decode cX5_firstX 216 = .ok (.aload_n 0, 1) := by decide +kernel
theorem dX5_firstX_217 : decode cX5_firstX 217 = .ok (.getfield 22, 3) := by decide +kernel
theorem dX5_firstX_220 : decode cX5_firstX 220 = .ok (.aload_n 0, 1) := by decide +kernel
theorem dX5_firstX_221 : decode cX5_firstX 221 = .ok (.getfield 59, 3) := by decide +kernel
theorem dX5_firstX_224 : decode cX5_firstX 224 = .ok (.aload_n 0, 1) := by decide +kernel
theorem dX5_firstX_225 : decode cX5_firstX 225 = .ok (.getfield 59, 3) := by decide +kernel
theorem dX5_firstX_228 : decode cX5_firstX 228 = .ok (.invokevirtual 97, 3) := by decide +kernel
theorem dX5_firstX_231 : decode cX5_firstX 231 = .ok (.aload_n 0, 1) := by decide +kernel
theorem dX5_firstX_232 : decode cX5_firstX 232 = .ok (.getfield 22, 3) := by decide +kernel
theorem dX5_firstX_235 : decode cX5_firstX 235 = .ok (.aload_n 0, 1) := by decide +kernel
theorem dX5_firstX_236 : decode cX5_firstX 236 = .ok (.getfield 56, 3) := by decide +kernel
theorem dX5_firstX_239 : decode cX5_firstX 239 = .ok (.aload_n 0, 1) := by decide +kernel
theorem dX5_firstX_240 : decode cX5_firstX 240 = .ok (.getfield 59, 3) := by decide +kernel
theorem dX5_firstX_243 : decode cX5_firstX 243 = .ok (.aload_n 2, 1) := by decide +kernel
theorem dX5_firstX_244 : decode cX5_firstX 244 = .ok (.invokevirtual 140, 3) := by decide +kernel
theorem dX5_firstX_247 : decode cX5_firstX 247 = .ok (.return_, 1) := by decide +kernel
abbrev cX5_negateInto : ByteArray := prog_3_method_16_code
def yX5_negateInto : MethodName := ⟨RX5, "negateInto", "([I[I)V"⟩
theorem dX5_negateInto_0 : decode cX5_negateInto 0 = .ok (.iconst 0, 1) := by decide +kernel
theorem dX5_negateInto_1 : decode cX5_negateInto 1 = .ok (.istore_n 3, 1) := by decide +kernel
theorem dX5_negateInto_2 : decode cX5_negateInto 2 = .ok (.iload_n 3, 1) := by decide +kernel
theorem dX5_negateInto_3 : decode cX5_negateInto 3 = .ok (.bipush 12, 2) := by decide +kernel
theorem dX5_negateInto_5 : decode cX5_negateInto 5 = .ok (.if_icmp .ge 16, 3) := by decide +kernel
theorem dX5_negateInto_8 : decode cX5_negateInto 8 = .ok (.aload_n 0, 1) := by decide +kernel
theorem dX5_negateInto_9 : decode cX5_negateInto 9 = .ok (.getfield 59, 3) := by decide +kernel
theorem dX5_negateInto_12 : decode cX5_negateInto 12 = .ok (.iload_n 3, 1) := by decide +kernel
theorem dX5_negateInto_13 : decode cX5_negateInto 13 = .ok (.iconst 0, 1) := by decide +kernel
theorem dX5_negateInto_14 : decode cX5_negateInto 14 = .ok (.iastore, 1) := by decide +kernel
theorem dX5_negateInto_15 : decode cX5_negateInto 15 = .ok (.iinc 3 1, 3) := by decide +kernel
theorem dX5_negateInto_18 : decode cX5_negateInto 18 = .ok (.goto (-16), 3) := by decide +kernel
theorem dX5_negateInto_21 : decode cX5_negateInto 21 = .ok (.aload_n 0, 1) := by decide +kernel
theorem dX5_negateInto_22 : decode cX5_negateInto 22 = .ok (.getfield 22, 3) := by decide +kernel
theorem dX5_negateInto_25 : decode cX5_negateInto 25 = .ok (.aload_n 0, 1) := by decide +kernel
theorem dX5_negateInto_26 : decode cX5_negateInto 26 = .ok (.getfield 59, 3) := by decide +kernel
theorem dX5_negateInto_29 : decode cX5_negateInto 29 = .ok (.aload_n 1, 1) := by decide +kernel
theorem dX5_negateInto_30 : decode cX5_negateInto 30 = .ok (.aload_n 2, 1) := by decide +kernel
theorem dX5_negateInto_31 : decode cX5_negateInto 31 = .ok (.invokevirtual 133, 3) := by decide +kernel
theorem dX5_negateInto_34 : decode cX5_negateInto 34 = .ok (.return_, 1) := by decide +kernel
abbrev cX5_square : ByteArray := prog_3_method_5_code
def yX5_square : MethodName := ⟨RX5, "square", "([I[I)V"⟩
theorem dX5_square_0 : decode cX5_square 0 = .ok (.aload_n 0, 1) := by decide +kernel
theorem dX5_square_1 : decode cX5_square 1 = .ok (.getfield 22, 3) := by decide +kernel
theorem dX5_square_4 : decode cX5_square 4 = .ok (.aload_n 1, 1) := by decide +kernel
theorem dX5_square_5 : decode cX5_square 5 = .ok (.aload_n 1, 1) := by decide +kernel
theorem dX5_square_6 : decode cX5_square 6 = .ok (.aload_n 0, 1) := by decide +kernel
theorem dX5_square_7 : decode cX5_square 7 = .ok (.getfield 62, 3) := by decide +kernel
theorem dX5_square_10 : decode cX5_square 10 = .ok (.invokevirtual 140, 3) := by decide +kernel
theorem dX5_square_13 : decode cX5_square 13 = .ok (.aload_n 0, 1) := by decide +kernel
theorem dX5_square_14 : decode cX5_square 14 = .ok (.getfield 22, 3) := by decide +kernel
theorem dX5_square_17 : decode cX5_square 17 = .ok (.aload_n 0, 1) := by decide +kernel
theorem dX5_square_18 : decode cX5_square 18 = .ok (.getfield 62, 3) := by decide +kernel
theorem dX5_square_21 : decode cX5_square 21 = .ok (.aload_n 0, 1) := by decide +kernel
theorem dX5_square_22 : decode cX5_square 22 = .ok (.getfield 41, 3) := by decide +kernel
theorem dX5_square_25 : decode cX5_square 25 = .ok (.aload_n 0, 1) := by decide +kernel
theorem dX5_square_26 : decode cX5_square 26 = .ok (.getfield 62, 3) := by decide +kernel
theorem dX5_square_29 : decode cX5_square 29 = .ok (.invokevirtual 133, 3) := by decide +kernel
theorem dX5_square_32 : decode cX5_square 32 = .ok (.aload_n 0, 1) := by decide +kernel
theorem dX5_square_33 : decode cX5_square 33 = .ok (.getfield 22, 3) := by decide +kernel
theorem dX5_square_36 : decode cX5_square 36 = .ok (.aload_n 0, 1) := by decide +kernel
theorem dX5_square_37 : decode cX5_square 37 = .ok (.getfield 62, 3) := by decide +kernel
theorem dX5_square_40 : decode cX5_square 40 = .ok (.aload_n 1, 1) := by decide +kernel
theorem dX5_square_41 : decode cX5_square 41 = .ok (.aload_n 0, 1) := by decide +kernel
theorem dX5_square_42 : decode cX5_square 42 = .ok (.getfield 62, 3) := by decide +kernel
theorem dX5_square_45 : decode cX5_square 45 = .ok (.invokevirtual 140, 3) := by decide +kernel
theorem dX5_square_48 : decode cX5_square 48 = .ok (.aload_n 0, 1) := by decide +kernel
theorem dX5_square_49 : decode cX5_square 49 = .ok (.getfield 22, 3) := by decide +kernel
theorem dX5_square_52 : decode cX5_square 52 = .ok (.aload_n 0, 1) := by decide +kernel
theorem dX5_square_53 : decode cX5_square 53 = .ok (.getfield 62, 3) := by decide +kernel
theorem dX5_square_56 : decode cX5_square 56 = .ok (.aload_n 0, 1) := by decide +kernel
theorem dX5_square_57 : decode cX5_square 57 = .ok (.getfield 31, 3) := by decide +kernel
theorem dX5_square_60 : decode cX5_square 60 = .ok (.aload_n 2, 1) := by decide +kernel
theorem dX5_square_61 : decode cX5_square 61 = .ok (.invokevirtual 129, 3) := by decide +kernel
theorem dX5_square_64 : decode cX5_square 64 = .ok (.return_, 1) := by decide +kernel
abbrev cX5_negate : ByteArray := prog_3_method_8_code
def yX5_negate : MethodName := ⟨RX5, "negate", "([I)V"⟩
theorem dX5_negate_0 : decode cX5_negate 0 = .ok (.iconst 0, 1) := by decide +kernel
theorem dX5_negate_1 : decode cX5_negate 1 = .ok (.istore_n 2, 1) := by decide +kernel
theorem dX5_negate_2 : decode cX5_negate 2 = .ok (.iload_n 2, 1) := by decide +kernel
theorem dX5_negate_3 : decode cX5_negate 3 = .ok (.bipush 12, 2) := by decide +kernel
theorem dX5_negate_5 : decode cX5_negate 5 = .ok (.if_icmp .ge 16, 3) := by decide +kernel
theorem dX5_negate_8 : decode cX5_negate 8 = .ok (.aload_n 0, 1) := by decide +kernel
theorem dX5_negate_9 : decode cX5_negate 9 = .ok (.getfield 50, 3) := by decide +kernel
theorem dX5_negate_12 : decode cX5_negate 12 = .ok (.iload_n 2, 1) := by decide +kernel
theorem dX5_negate_13 : decode cX5_negate 13 = .ok (.iconst 0, 1) := by decide +kernel
theorem dX5_negate_14 : decode cX5_negate 14 = .ok (.iastore, 1) := by decide +kernel
theorem dX5_negate_15 : decode cX5_negate 15 = .ok (.iinc 2 1, 3) := by decide +kernel
theorem dX5_negate_18 : decode cX5_negate 18 = .ok (.goto (-16), 3) := by decide +kernel
theorem dX5_negate_21 : decode cX5_negate 21 = .ok (.aload_n 0, 1) := by decide +kernel
theorem dX5_negate_22 : decode cX5_negate 22 = .ok (.getfield 22, 3) := by decide +kernel
theorem dX5_negate_25 : decode cX5_negate 25 = .ok (.aload_n 0, 1) := by decide +kernel
theorem dX5_negate_26 : decode cX5_negate 26 = .ok (.getfield 50, 3) := by decide +kernel
theorem dX5_negate_29 : decode cX5_negate 29 = .ok (.aload_n 1, 1) := by decide +kernel
theorem dX5_negate_30 : decode cX5_negate 30 = .ok (.aload_n 1, 1) := by decide +kernel
theorem dX5_negate_31 : decode cX5_negate 31 = .ok (.invokevirtual 133, 3) := by decide +kernel
theorem dX5_negate_34 : decode cX5_negate 34 = .ok (.return_, 1) := by decide +kernel
abbrev cX5_read : ByteArray := prog_3_method_7_code
def yX5_read : MethodName := ⟨RX5, "read", "([BILVeilMint$Point;)Z"⟩
theorem dX5_read_0 : decode cX5_read 0 = .ok (.aload_n 1, 1) := by decide +kernel
theorem dX5_read_1 : decode cX5_read 1 = .ok (.iload_n 2, 1) := by decide +kernel
theorem dX5_read_2 : decode cX5_read 2 = .ok (.baload, 1) := by decide +kernel
theorem dX5_read_3 : decode cX5_read 3 = .ok (.iconst 2, 1) := by decide +kernel
theorem dX5_read_4 : decode cX5_read 4 = .ok (.if_icmp .eq 10, 3) := by decide +kernel
theorem dX5_read_7 : decode cX5_read 7 = .ok (.aload_n 1, 1) := by decide +kernel
theorem dX5_read_8 : decode cX5_read 8 = .ok (.iload_n 2, 1) := by decide +kernel
theorem dX5_read_9 : decode cX5_read 9 = .ok (.baload, 1) := by decide +kernel
theorem dX5_read_10 : decode cX5_read 10 = .ok (.iconst 3, 1) := by decide +kernel
theorem dX5_read_11 : decode cX5_read 11 = .ok (.if_icmp .ne 23, 3) := by decide +kernel
theorem dX5_read_14 : decode cX5_read 14 = .ok (.aload_n 0, 1) := by decide +kernel
theorem dX5_read_15 : decode cX5_read 15 = .ok (.getfield 22, 3) := by decide +kernel
theorem dX5_read_18 : decode cX5_read 18 = .ok (.aload_n 1, 1) := by decide +kernel
theorem dX5_read_19 : decode cX5_read 19 = .ok (.iload_n 2, 1) := by decide +kernel
theorem dX5_read_20 : decode cX5_read 20 = .ok (.iconst 1, 1) := by decide +kernel
theorem dX5_read_21 : decode cX5_read 21 = .ok (.iadd, 1) := by decide +kernel
theorem dX5_read_22 : decode cX5_read 22 = .ok (.bipush 48, 2) := by decide +kernel
theorem dX5_read_24 : decode cX5_read 24 = .ok (.aload_n 0, 1) := by decide +kernel
theorem dX5_read_25 : decode cX5_read 25 = .ok (.getfield 44, 3) := by decide +kernel
theorem dX5_read_28 : decode cX5_read 28 = .ok (.invokevirtual 171, 3) := by decide +kernel
theorem dX5_read_31 : decode cX5_read 31 = .ok (.ifCond .ne 5, 3) := by decide +kernel
theorem dX5_read_34 : decode cX5_read 34 = .ok (.iconst 0, 1) := by decide +kernel
theorem dX5_read_35 : decode cX5_read 35 = .ok (.ireturn, 1) := by decide +kernel
theorem dX5_read_36 : decode cX5_read 36 = .ok (.aload_n 0, 1) := by decide +kernel
theorem dX5_read_37 : decode cX5_read 37 = .ok (.getfield 22, 3) := by decide +kernel
theorem dX5_read_40 : decode cX5_read 40 = .ok (.aload_n 0, 1) := by decide +kernel
theorem dX5_read_41 : decode cX5_read 41 = .ok (.getfield 44, 3) := by decide +kernel
theorem dX5_read_44 : decode cX5_read 44 = .ok (.aload_n 3, 1) := by decide +kernel
theorem dX5_read_45 : decode cX5_read 45 = .ok (.getfield 103, 3) := by decide +kernel
theorem dX5_read_48 : decode cX5_read 48 = .ok (.invokevirtual 97, 3) := by decide +kernel
theorem dX5_read_51 : decode cX5_read 51 = .ok (.aload_n 0, 1) := by decide +kernel
theorem dX5_read_52 : decode cX5_read 52 = .ok (.aload_n 3, 1) := by decide +kernel
theorem dX5_read_53 : decode cX5_read 53 = .ok (.getfield 103, 3) := by decide +kernel
theorem dX5_read_56 : decode cX5_read 56 = .ok (.aload_n 0, 1) := by decide +kernel
theorem dX5_read_57 : decode cX5_read 57 = .ok (.getfield 47, 3) := by decide +kernel
theorem dX5_read_60 : decode cX5_read 60 = .ok (.invokevirtual 175, 3) := by decide +kernel
theorem dX5_read_63 : decode cX5_read 63 = .ok (.aload_n 0, 1) := by decide +kernel
theorem dX5_read_64 : decode cX5_read 64 = .ok (.getfield 22, 3) := by decide +kernel
theorem dX5_read_67 : decode cX5_read 67 = .ok (.aload_n 0, 1) := by decide +kernel
theorem dX5_read_68 : decode cX5_read 68 = .ok (.getfield 47, 3) := by decide +kernel
theorem dX5_read_71 : decode cX5_read 71 = .ok (.aload_n 0, 1) := by decide +kernel
theorem dX5_read_72 : decode cX5_read 72 = .ok (.getfield 35, 3) := by decide +kernel
theorem dX5_read_75 : decode cX5_read 75 = .ok (.aload_n 3, 1) := by decide +kernel
theorem dX5_read_76 : decode cX5_read 76 = .ok (.getfield 108, 3) := by decide +kernel
theorem dX5_read_79 : decode cX5_read 79 = .ok (.invokevirtual 178, 3) := by decide +kernel
theorem dX5_read_82 : decode cX5_read 82 = .ok (.aload_n 0, 1) := by decide +kernel
theorem dX5_read_83 : decode cX5_read 83 = .ok (.getfield 22, 3) := by decide +kernel
theorem dX5_read_86 : decode cX5_read 86 = .ok (.aload_n 3, 1) := by decide +kernel
theorem dX5_read_87 : decode cX5_read 87 = .ok (.getfield 108, 3) := by decide +kernel
theorem dX5_read_90 : decode cX5_read 90 = .ok (.aload_n 3, 1) := by decide +kernel
theorem dX5_read_91 : decode cX5_read 91 = .ok (.getfield 108, 3) := by decide +kernel
theorem dX5_read_94 : decode cX5_read 94 = .ok (.aload_n 0, 1) := by decide +kernel
theorem dX5_read_95 : decode cX5_read 95 = .ok (.getfield 50, 3) := by decide +kernel
theorem dX5_read_98 : decode cX5_read 98 = .ok (.invokevirtual 140, 3) := by decide +kernel
theorem dX5_read_101 : decode cX5_read 101 = .ok (.aload_n 0, 1) := by decide +kernel
theorem dX5_read_102 : decode cX5_read 102 = .ok (.getfield 47, 3) := by decide +kernel
theorem dX5_read_105 : decode cX5_read 105 = .ok (.aload_n 0, 1) := by decide +kernel
theorem dX5_read_106 : decode cX5_read 106 = .ok (.getfield 50, 3) := by decide +kernel
theorem dX5_read_109 : decode cX5_read 109 = .ok (.invokestatic 181, 3) := by decide +kernel
theorem dX5_read_112 : decode cX5_read 112 = .ok (.ifCond .eq 5, 3) := by decide +kernel
theorem dX5_read_115 : decode cX5_read 115 = .ok (.iconst 0, 1) := by decide +kernel
theorem dX5_read_116 : decode cX5_read 116 = .ok (.ireturn, 1) := by decide +kernel
theorem dX5_read_117 : decode cX5_read 117 = .ok (.aload_n 0, 1) := by decide +kernel
theorem dX5_read_118 : decode cX5_read 118 = .ok (.getfield 22, 3) := by decide +kernel
theorem dX5_read_121 : decode cX5_read 121 = .ok (.aload_n 3, 1) := by decide +kernel
theorem dX5_read_122 : decode cX5_read 122 = .ok (.getfield 108, 3) := by decide +kernel
theorem dX5_read_125 : decode cX5_read 125 = .ok (.aload_n 0, 1) := by decide +kernel
theorem dX5_read_126 : decode cX5_read 126 = .ok (.getfield 53, 3) := by decide +kernel
theorem dX5_read_129 : decode cX5_read 129 = .ok (.invokevirtual 160, 3) := by decide +kernel
theorem dX5_read_132 : decode cX5_read 132 = .ok (.aload_n 0, 1) := by decide +kernel
theorem dX5_read_133 : decode cX5_read 133 = .ok (.getfield 53, 3) := by decide +kernel
theorem dX5_read_136 : decode cX5_read 136 = .ok (.iconst 0, 1) := by decide +kernel
theorem dX5_read_137 : decode cX5_read 137 = .ok (.iaload, 1) := by decide +kernel
theorem dX5_read_138 : decode cX5_read 138 = .ok (.iconst 1, 1) := by decide +kernel
theorem dX5_read_139 : decode cX5_read 139 = .ok (.iand, 1) := by decide +kernel
theorem dX5_read_140 : decode cX5_read 140 = .ok (.aload_n 1, 1) := by decide +kernel
theorem dX5_read_141 : decode cX5_read 141 = .ok (.iload_n 2, 1) := by decide +kernel
theorem dX5_read_142 : decode cX5_read 142 = .ok (.baload, 1) := by decide +kernel
theorem dX5_read_143 : decode cX5_read 143 = .ok (.iconst 1, 1) := by decide +kernel
theorem dX5_read_144 : decode cX5_read 144 = .ok (.iand, 1) := by decide +kernel
theorem dX5_read_145 : decode cX5_read 145 = .ok (.if_icmp .eq 11, 3) := by decide +kernel
theorem dX5_read_148 : decode cX5_read 148 = .ok (.aload_n 0, 1) := by decide +kernel
theorem dX5_read_149 : decode cX5_read 149 = .ok (.aload_n 3, 1) := by decide +kernel
theorem dX5_read_150 : decode cX5_read 150 = .ok (.getfield 108, 3) := by decide +kernel
theorem dX5_read_153 : decode cX5_read 153 = .ok (.invokevirtual 185, 3) := by decide +kernel
theorem dX5_read_156 : decode cX5_read 156 = .ok (.aload_n 0, 1) := by decide +kernel
theorem dX5_read_157 : decode cX5_read 157 = .ok (.getfield 22, 3) := by decide +kernel
theorem dX5_read_160 : decode cX5_read 160 = .ok (.getfield 111, 3) := by decide +kernel
theorem dX5_read_163 : decode cX5_read 163 = .ok (.aload_n 3, 1) := by decide +kernel
theorem dX5_read_164 : decode cX5_read 164 = .ok (.getfield 114, 3) := by decide +kernel
theorem dX5_read_167 : decode cX5_read 167 = .ok (.invokestatic 117, 3) := by decide +kernel
theorem dX5_read_170 : decode cX5_read 170 = .ok (.aload_n 0, 1) := by decide +kernel
theorem dX5_read_171 : decode cX5_read 171 = .ok (.getfield 22, 3) := by decide +kernel
theorem dX5_read_174 : decode cX5_read 174 = .ok (.aload_n 3, 1) := by decide +kernel
theorem dX5_read_175 : decode cX5_read 175 = .ok (.getfield 108, 3) := by decide +kernel
theorem dX5_read_178 : decode cX5_read 178 = .ok (.aload_n 0, 1) := by decide +kernel
theorem dX5_read_179 : decode cX5_read 179 = .ok (.getfield 53, 3) := by decide +kernel
theorem dX5_read_182 : decode cX5_read 182 = .ok (.invokevirtual 160, 3) := by decide +kernel
theorem dX5_read_185 : decode cX5_read 185 = .ok (.aload_n 0, 1) := by decide +kernel
theorem dX5_read_186 : decode cX5_read 186 = .ok (.getfield 53, 3) := by decide +kernel
theorem dX5_read_189 : decode cX5_read 189 = .ok (.iconst 0, 1) := by decide +kernel
theorem dX5_read_190 : decode cX5_read 190 = .ok (.iaload, 1) := by decide +kernel
theorem dX5_read_191 : decode cX5_read 191 = .ok (.iconst 1, 1) := by decide +kernel
theorem dX5_read_192 : decode cX5_read 192 = .ok (.iand, 1) := by decide +kernel
theorem dX5_read_193 : decode cX5_read 193 = .ok (.aload_n 1, 1) := by decide +kernel
theorem dX5_read_194 : decode cX5_read 194 = .ok (.iload_n 2, 1) := by decide +kernel
theorem dX5_read_195 : decode cX5_read 195 = .ok (.baload, 1) := by decide +kernel
theorem dX5_read_196 : decode cX5_read 196 = .ok (.iconst 1, 1) := by decide +kernel
theorem dX5_read_197 : decode cX5_read 197 = .ok (.iand, 1) := by decide +kernel
theorem dX5_read_198 : decode cX5_read 198 = .ok (.if_icmp .ne 7, 3) := by decide +kernel
theorem dX5_read_201 : decode cX5_read 201 = .ok (.iconst 1, 1) := by decide +kernel
theorem dX5_read_202 : decode cX5_read 202 = .ok (.goto 4, 3) := by decide +kernel
theorem dX5_read_205 : decode cX5_read 205 = .ok (.iconst 0, 1) := by decide +kernel
theorem dX5_read_206 : decode cX5_read 206 = .ok (.ireturn, 1) := by decide +kernel
abbrev cX5_scalar : ByteArray := prog_3_method_12_code
def yX5_scalar : MethodName := ⟨RX5, "scalar", "([I)V"⟩
theorem dX5_scalar_0 : decode cX5_scalar 0 = .ok (.aload_n 0, 1) := by decide +kernel
theorem dX5_scalar_1 : decode cX5_scalar 1 = .ok (.bipush 72, 2) := by decide +kernel
theorem dX5_scalar_3 : decode cX5_scalar 3 = .ok (.ldc 233, 2) := by decide +kernel
theorem dX5_scalar_5 : decode cX5_scalar 5 = .ok (.invokevirtual 235, 3) := by decide +kernel
theorem dX5_scalar_8 : decode cX5_scalar 8 = .ok (.aload_n 0, 1) := by decide +kernel
theorem dX5_scalar_9 : decode cX5_scalar 9 = .ok (.getfield 28, 3) := by decide +kernel
theorem dX5_scalar_12 : decode cX5_scalar 12 = .ok (.aload_n 0, 1) := by decide +kernel
theorem dX5_scalar_13 : decode cX5_scalar 13 = .ok (.getfield 81, 3) := by decide +kernel
theorem dX5_scalar_16 : decode cX5_scalar 16 = .ok (.iconst 0, 1) := by decide +kernel
theorem dX5_scalar_17 : decode cX5_scalar 17 = .ok (.bipush 72, 2) := by decide +kernel
theorem dX5_scalar_19 : decode cX5_scalar 19 = .ok (.aload_n 1, 1) := by decide +kernel
theorem dX5_scalar_20 : decode cX5_scalar 20 = .ok (.invokevirtual 239, 3) := by decide +kernel
theorem dX5_scalar_23 : decode cX5_scalar 23 = .ok (.return_, 1) := by decide +kernel
theorem q102 : (Jvm.Cond.initialized "VeilMint$Curve") ∈ lw_all := lw_g (lw_at lw_m1 5 rfl) rfl
theorem q190 : (Jvm.Cond.instantiable "VeilMint$Curve" (21 : Nat)) ∈ lw_all := lw_g (lw_at lw_m1 93 rfl) rfl
theorem q192 : (Jvm.Cond.instanceMethod ({ cls := "VeilMint$Curve", name := "<init>", desc := "(LVeilMint$Digest384;)V" } : Jvm.MethodName)) ∈ lw_all := lw_g (lw_at lw_m1 95 rfl) rfl
theorem q193 : (Jvm.Cond.code ({ cls := "VeilMint$Curve", name := "<init>", desc := "(LVeilMint$Digest384;)V" } : Jvm.MethodName) prog_3_method_1_code (5 : Nat) (Option.none : Option Jvm.ClassFile.FieldType)) ∈ lw_all := lw_g (lw_at lw_m1 96 rfl) rfl
theorem q194 : (Jvm.Cond.methodLink "VeilMint$Curve" (3 : Nat) ({ cls := "java/lang/Object", name := "<init>", desc := "()V" } : Jvm.MethodName)) ∈ lw_all := lw_g (lw_at lw_m1 97 rfl) rfl
theorem q195 : (Jvm.Cond.classLink "VeilMint$Curve" (9 : Nat) "VeilMint$Modulus") ∈ lw_all := lw_g (lw_at lw_m1 98 rfl) rfl
theorem q197 : (Jvm.Cond.stringRef "VeilMint$Curve" (13 : Nat) "fffffffffffffffffffffffffffffffffffffffffffffffffffffffffffffffeffffffff0000000000000000ffffffff") ∈ lw_tbl := lw_at lw_m1 100 rfl
theorem q198 : (Jvm.Cond.methodLinkNest "VeilMint$Curve" (15 : Nat) ({ cls := "VeilMint", name := "limbs", desc := "(Ljava/lang/String;)[I" } : Jvm.MethodName) "VeilMint") ∈ lw_tbl := lw_at lw_m1 101 rfl
theorem q249 : (Jvm.Cond.methodLink "VeilMint$Curve" (19 : Nat) ({ cls := "VeilMint$Modulus", name := "<init>", desc := "([I)V" } : Jvm.MethodName)) ∈ lw_all := lw_g (lw_at lw_m1 152 rfl) rfl
theorem q283 : (Jvm.Cond.fieldLinkNest "VeilMint$Curve" (120 : Nat) "VeilMint$Modulus" "m" "[I" "VeilMint") ∈ lw_tbl := lw_at lw_m1 186 rfl
theorem q285 : (Jvm.Cond.fieldLinkNest "VeilMint$Curve" (111 : Nat) "VeilMint$Modulus" "one" "[I" "VeilMint") ∈ lw_tbl := lw_at lw_m1 188 rfl
theorem q317 : (Jvm.Cond.stringRef "VeilMint$Curve" (26 : Nat) "ffffffffffffffffffffffffffffffffffffffffffffffffc7634d81f4372ddf581a0db248b0a77aecec196accc52973") ∈ lw_tbl := lw_at lw_m1 220 rfl
theorem q318 : (Jvm.Cond.classLink "VeilMint$Curve" (68 : Nat) "VeilMint$Point") ∈ lw_all := lw_g (lw_at lw_m1 221 rfl) rfl
theorem q320 : (Jvm.Cond.methodLinkNest "VeilMint$Curve" (70 : Nat) ({ cls := "VeilMint$Point", name := "<init>", desc := "()V" } : Jvm.MethodName) "VeilMint") ∈ lw_tbl := lw_at lw_m1 223 rfl
theorem q325 : (Jvm.Cond.fieldLinkNest "VeilMint$Curve" (103 : Nat) "VeilMint$Point" "x" "[I" "VeilMint") ∈ lw_tbl := lw_at lw_m1 228 rfl
theorem q327 : (Jvm.Cond.fieldLinkNest "VeilMint$Curve" (108 : Nat) "VeilMint$Point" "y" "[I" "VeilMint") ∈ lw_tbl := lw_at lw_m1 230 rfl
theorem q329 : (Jvm.Cond.fieldLinkNest "VeilMint$Curve" (114 : Nat) "VeilMint$Point" "z" "[I" "VeilMint") ∈ lw_tbl := lw_at lw_m1 232 rfl
theorem q337 : (Jvm.Cond.stringRef "VeilMint$Curve" (95 : Nat) "b3312fa7e23ee7e4988e056be3f82d19181d9c6efe8141120314088f5013875ac656398d8a2ed19d2a85c8edd3ec2aef") ∈ lw_tbl := lw_at lw_m2 0 rfl
theorem q338 : (Jvm.Cond.methodLink "VeilMint$Curve" (97 : Nat) ({ cls := "VeilMint$Modulus", name := "in", desc := "([I[I)V" } : Jvm.MethodName)) ∈ lw_all := lw_g (lw_at lw_m2 1 rfl) rfl
theorem q346 : (Jvm.Cond.stringRef "VeilMint$Curve" (101 : Nat) "aa87ca22be8b05378eb1c71ef320ad746e1d3b628ba79b9859f741e082542a385502f25dbf55296c3a545e3872760ab7") ∈ lw_tbl := lw_at lw_m2 9 rfl
theorem q347 : (Jvm.Cond.stringRef "VeilMint$Curve" (106 : Nat) "3617de4a96262c6f5d9e98bf9292dc29f8f41dbd289a147ce9da3113b5f0b8c00a60b1ce1d7e819d7a431d7c90ea0e5f") ∈ lw_tbl := lw_at lw_m2 10 rfl
theorem q348 : (Jvm.Cond.methodLink "VeilMint$Curve" (117 : Nat) ({ cls := "VeilMint$Modulus", name := "copy", desc := "([I[I)V" } : Jvm.MethodName)) ∈ lw_all := lw_g (lw_at lw_m2 11 rfl) rfl
theorem q349 : (Jvm.Cond.constantLong "VeilMint$Curve" (123 : Nat) (4294967295 : Int64)) ∈ lw_all := lw_g (lw_at lw_m2 12 rfl) rfl
theorem q350 : (Jvm.Cond.methodLinkNest "VeilMint$Curve" (125 : Nat) ({ cls := "VeilMint$Modulus", name := "shift", desc := "([II)V" } : Jvm.MethodName) "VeilMint") ∈ lw_tbl := lw_at lw_m2 13 rfl
theorem q353 : (Jvm.Cond.methodLink "VeilMint$Curve" (129 : Nat) ({ cls := "VeilMint$Modulus", name := "add", desc := "([I[I[I)V" } : Jvm.MethodName)) ∈ lw_all := lw_g (lw_at lw_m2 16 rfl) rfl
theorem q354 : (Jvm.Cond.methodLink "VeilMint$Curve" (133 : Nat) ({ cls := "VeilMint$Modulus", name := "sub", desc := "([I[I[I)V" } : Jvm.MethodName)) ∈ lw_all := lw_g (lw_at lw_m2 17 rfl) rfl
theorem q358 : (Jvm.Cond.fieldLink "VeilMint$Curve" (22 : Nat) "VeilMint$Curve" "p" "LVeilMint$Modulus;") ∈ lw_all := lw_g (lw_at lw_m2 21 rfl) rfl
theorem q359 : (Jvm.Cond.fieldLink "VeilMint$Curve" (28 : Nat) "VeilMint$Curve" "q" "LVeilMint$Modulus;") ∈ lw_all := lw_g (lw_at lw_m2 22 rfl) rfl
theorem q361 : (Jvm.Cond.fieldLink "VeilMint$Curve" (31 : Nat) "VeilMint$Curve" "b" "[I") ∈ lw_all := lw_g (lw_at lw_m2 24 rfl) rfl
theorem q362 : (Jvm.Cond.fieldLink "VeilMint$Curve" (35 : Nat) "VeilMint$Curve" "quarter" "[I") ∈ lw_all := lw_g (lw_at lw_m2 25 rfl) rfl
theorem q363 : (Jvm.Cond.fieldLink "VeilMint$Curve" (38 : Nat) "VeilMint$Curve" "zed" "[I") ∈ lw_all := lw_g (lw_at lw_m2 26 rfl) rfl
theorem q364 : (Jvm.Cond.fieldLink "VeilMint$Curve" (41 : Nat) "VeilMint$Curve" "three" "[I") ∈ lw_all := lw_g (lw_at lw_m2 27 rfl) rfl
theorem q365 : (Jvm.Cond.fieldLink "VeilMint$Curve" (44 : Nat) "VeilMint$Curve" "a" "[I") ∈ lw_all := lw_g (lw_at lw_m2 28 rfl) rfl
theorem q366 : (Jvm.Cond.fieldLink "VeilMint$Curve" (47 : Nat) "VeilMint$Curve" "c" "[I") ∈ lw_all := lw_g (lw_at lw_m2 29 rfl) rfl
theorem q367 : (Jvm.Cond.fieldLink "VeilMint$Curve" (50 : Nat) "VeilMint$Curve" "d" "[I") ∈ lw_all := lw_g (lw_at lw_m2 30 rfl) rfl
theorem q368 : (Jvm.Cond.fieldLink "VeilMint$Curve" (53 : Nat) "VeilMint$Curve" "e" "[I") ∈ lw_all := lw_g (lw_at lw_m2 31 rfl) rfl
theorem q369 : (Jvm.Cond.fieldLink "VeilMint$Curve" (56 : Nat) "VeilMint$Curve" "f" "[I") ∈ lw_all := lw_g (lw_at lw_m2 32 rfl) rfl
theorem q370 : (Jvm.Cond.fieldLink "VeilMint$Curve" (59 : Nat) "VeilMint$Curve" "g" "[I") ∈ lw_all := lw_g (lw_at lw_m2 33 rfl) rfl
theorem q371 : (Jvm.Cond.fieldLink "VeilMint$Curve" (62 : Nat) "VeilMint$Curve" "h" "[I") ∈ lw_all := lw_g (lw_at lw_m2 34 rfl) rfl
theorem q372 : (Jvm.Cond.fieldLink "VeilMint$Curve" (65 : Nat) "VeilMint$Curve" "i" "[I") ∈ lw_all := lw_g (lw_at lw_m2 35 rfl) rfl
theorem q373 : (Jvm.Cond.fieldLink "VeilMint$Curve" (71 : Nat) "VeilMint$Curve" "base" "LVeilMint$Point;") ∈ lw_all := lw_g (lw_at lw_m2 36 rfl) rfl
theorem q375 : (Jvm.Cond.fieldLink "VeilMint$Curve" (75 : Nat) "VeilMint$Curve" "step" "LVeilMint$Point;") ∈ lw_all := lw_g (lw_at lw_m2 38 rfl) rfl
theorem q376 : (Jvm.Cond.fieldLink "VeilMint$Curve" (78 : Nat) "VeilMint$Curve" "other" "LVeilMint$Point;") ∈ lw_all := lw_g (lw_at lw_m2 39 rfl) rfl
theorem q377 : (Jvm.Cond.fieldLink "VeilMint$Curve" (91 : Nat) "VeilMint$Curve" "digest" "LVeilMint$Digest384;") ∈ lw_all := lw_g (lw_at lw_m2 40 rfl) rfl
theorem q379 : (Jvm.Cond.fieldLink "VeilMint$Curve" (81 : Nat) "VeilMint$Curve" "expanded" "[B") ∈ lw_all := lw_g (lw_at lw_m2 42 rfl) rfl
theorem q380 : (Jvm.Cond.fieldLink "VeilMint$Curve" (85 : Nat) "VeilMint$Curve" "last" "[B") ∈ lw_all := lw_g (lw_at lw_m2 43 rfl) rfl
theorem q381 : (Jvm.Cond.fieldLink "VeilMint$Curve" (88 : Nat) "VeilMint$Curve" "first" "[B") ∈ lw_all := lw_g (lw_at lw_m2 44 rfl) rfl
theorem q382 : (Jvm.Cond.laysFinal "VeilMint$Curve" "VeilMint$Curve" "p" "LVeilMint$Modulus;") ∈ lw_all := lw_g (lw_at lw_m2 45 rfl) rfl
theorem q383 : (Jvm.Cond.soleField "VeilMint$Curve" "p") ∈ lw_all := lw_g (lw_at lw_m2 46 rfl) rfl
theorem q384 : (Jvm.Cond.laysFinal "VeilMint$Curve" "VeilMint$Curve" "q" "LVeilMint$Modulus;") ∈ lw_all := lw_g (lw_at lw_m2 47 rfl) rfl
theorem q385 : (Jvm.Cond.soleField "VeilMint$Curve" "q") ∈ lw_all := lw_g (lw_at lw_m2 48 rfl) rfl
theorem q386 : (Jvm.Cond.laysFinal "VeilMint$Curve" "VeilMint$Curve" "b" "[I") ∈ lw_all := lw_g (lw_at lw_m2 49 rfl) rfl
theorem q387 : (Jvm.Cond.soleField "VeilMint$Curve" "b") ∈ lw_all := lw_g (lw_at lw_m2 50 rfl) rfl
theorem q388 : (Jvm.Cond.laysFinal "VeilMint$Curve" "VeilMint$Curve" "quarter" "[I") ∈ lw_all := lw_g (lw_at lw_m2 51 rfl) rfl
theorem q389 : (Jvm.Cond.soleField "VeilMint$Curve" "quarter") ∈ lw_all := lw_g (lw_at lw_m2 52 rfl) rfl
theorem q390 : (Jvm.Cond.laysFinal "VeilMint$Curve" "VeilMint$Curve" "zed" "[I") ∈ lw_all := lw_g (lw_at lw_m2 53 rfl) rfl
theorem q391 : (Jvm.Cond.soleField "VeilMint$Curve" "zed") ∈ lw_all := lw_g (lw_at lw_m2 54 rfl) rfl
theorem q392 : (Jvm.Cond.laysFinal "VeilMint$Curve" "VeilMint$Curve" "three" "[I") ∈ lw_all := lw_g (lw_at lw_m2 55 rfl) rfl
theorem q393 : (Jvm.Cond.soleField "VeilMint$Curve" "three") ∈ lw_all := lw_g (lw_at lw_m2 56 rfl) rfl
theorem q394 : (Jvm.Cond.laysFinal "VeilMint$Curve" "VeilMint$Curve" "a" "[I") ∈ lw_all := lw_g (lw_at lw_m2 57 rfl) rfl
theorem q395 : (Jvm.Cond.soleField "VeilMint$Curve" "a") ∈ lw_all := lw_g (lw_at lw_m2 58 rfl) rfl
theorem q396 : (Jvm.Cond.laysFinal "VeilMint$Curve" "VeilMint$Curve" "c" "[I") ∈ lw_all := lw_g (lw_at lw_m2 59 rfl) rfl
theorem q397 : (Jvm.Cond.soleField "VeilMint$Curve" "c") ∈ lw_all := lw_g (lw_at lw_m2 60 rfl) rfl
theorem q398 : (Jvm.Cond.laysFinal "VeilMint$Curve" "VeilMint$Curve" "d" "[I") ∈ lw_all := lw_g (lw_at lw_m2 61 rfl) rfl
theorem q399 : (Jvm.Cond.soleField "VeilMint$Curve" "d") ∈ lw_all := lw_g (lw_at lw_m2 62 rfl) rfl
theorem q400 : (Jvm.Cond.laysFinal "VeilMint$Curve" "VeilMint$Curve" "e" "[I") ∈ lw_all := lw_g (lw_at lw_m2 63 rfl) rfl
theorem q401 : (Jvm.Cond.soleField "VeilMint$Curve" "e") ∈ lw_all := lw_g (lw_at lw_m2 64 rfl) rfl
theorem q402 : (Jvm.Cond.laysFinal "VeilMint$Curve" "VeilMint$Curve" "f" "[I") ∈ lw_all := lw_g (lw_at lw_m2 65 rfl) rfl
theorem q403 : (Jvm.Cond.soleField "VeilMint$Curve" "f") ∈ lw_all := lw_g (lw_at lw_m2 66 rfl) rfl
theorem q404 : (Jvm.Cond.laysFinal "VeilMint$Curve" "VeilMint$Curve" "g" "[I") ∈ lw_all := lw_g (lw_at lw_m2 67 rfl) rfl
theorem q405 : (Jvm.Cond.soleField "VeilMint$Curve" "g") ∈ lw_all := lw_g (lw_at lw_m2 68 rfl) rfl
theorem q406 : (Jvm.Cond.laysFinal "VeilMint$Curve" "VeilMint$Curve" "h" "[I") ∈ lw_all := lw_g (lw_at lw_m2 69 rfl) rfl
theorem q407 : (Jvm.Cond.soleField "VeilMint$Curve" "h") ∈ lw_all := lw_g (lw_at lw_m2 70 rfl) rfl
theorem q408 : (Jvm.Cond.laysFinal "VeilMint$Curve" "VeilMint$Curve" "i" "[I") ∈ lw_all := lw_g (lw_at lw_m2 71 rfl) rfl
theorem q409 : (Jvm.Cond.soleField "VeilMint$Curve" "i") ∈ lw_all := lw_g (lw_at lw_m2 72 rfl) rfl
theorem q410 : (Jvm.Cond.laysFinal "VeilMint$Curve" "VeilMint$Curve" "base" "LVeilMint$Point;") ∈ lw_all := lw_g (lw_at lw_m2 73 rfl) rfl
theorem q411 : (Jvm.Cond.soleField "VeilMint$Curve" "base") ∈ lw_all := lw_g (lw_at lw_m2 74 rfl) rfl
theorem q412 : (Jvm.Cond.laysFinal "VeilMint$Curve" "VeilMint$Curve" "step" "LVeilMint$Point;") ∈ lw_all := lw_g (lw_at lw_m2 75 rfl) rfl
theorem q413 : (Jvm.Cond.soleField "VeilMint$Curve" "step") ∈ lw_all := lw_g (lw_at lw_m2 76 rfl) rfl
theorem q414 : (Jvm.Cond.laysFinal "VeilMint$Curve" "VeilMint$Curve" "other" "LVeilMint$Point;") ∈ lw_all := lw_g (lw_at lw_m2 77 rfl) rfl
theorem q415 : (Jvm.Cond.soleField "VeilMint$Curve" "other") ∈ lw_all := lw_g (lw_at lw_m2 78 rfl) rfl
theorem q416 : (Jvm.Cond.laysFinal "VeilMint$Curve" "VeilMint$Curve" "digest" "LVeilMint$Digest384;") ∈ lw_all := lw_g (lw_at lw_m2 79 rfl) rfl
theorem q417 : (Jvm.Cond.soleField "VeilMint$Curve" "digest") ∈ lw_all := lw_g (lw_at lw_m2 80 rfl) rfl
theorem q418 : (Jvm.Cond.laysFinal "VeilMint$Curve" "VeilMint$Curve" "expanded" "[B") ∈ lw_all := lw_g (lw_at lw_m2 81 rfl) rfl
theorem q419 : (Jvm.Cond.soleField "VeilMint$Curve" "expanded") ∈ lw_all := lw_g (lw_at lw_m2 82 rfl) rfl
theorem q420 : (Jvm.Cond.laysFinal "VeilMint$Curve" "VeilMint$Curve" "last" "[B") ∈ lw_all := lw_g (lw_at lw_m2 83 rfl) rfl
theorem q421 : (Jvm.Cond.soleField "VeilMint$Curve" "last") ∈ lw_all := lw_g (lw_at lw_m2 84 rfl) rfl
theorem q422 : (Jvm.Cond.laysFinal "VeilMint$Curve" "VeilMint$Curve" "first" "[B") ∈ lw_all := lw_g (lw_at lw_m2 85 rfl) rfl
theorem q423 : (Jvm.Cond.soleField "VeilMint$Curve" "first") ∈ lw_all := lw_g (lw_at lw_m2 86 rfl) rfl
theorem q424 : (Jvm.Cond.superclass "VeilMint$Curve" "java/lang/Object") ∈ lw_all := lw_g (lw_at lw_m2 87 rfl) rfl
theorem q634 : (Jvm.Cond.instanceMethod ({ cls := "VeilMint$Curve", name := "times", desc := "([ILVeilMint$Point;LVeilMint$Point;)V" } : Jvm.MethodName)) ∈ lw_all := lw_g (lw_at lw_m3 57 rfl) rfl
theorem q635 : (Jvm.Cond.selects "VeilMint$Curve" ({ cls := "VeilMint$Curve", name := "times", desc := "([ILVeilMint$Point;LVeilMint$Point;)V" } : Jvm.MethodName) ({ cls := "VeilMint$Curve", name := "times", desc := "([ILVeilMint$Point;LVeilMint$Point;)V" } : Jvm.MethodName)) ∈ lw_all := lw_g (lw_at lw_m3 58 rfl) rfl
theorem q636 : (Jvm.Cond.code ({ cls := "VeilMint$Curve", name := "times", desc := "([ILVeilMint$Point;LVeilMint$Point;)V" } : Jvm.MethodName) prog_3_method_4_code (5 : Nat) (Option.none : Option Jvm.ClassFile.FieldType)) ∈ lw_all := lw_g (lw_at lw_m3 59 rfl) rfl
theorem q637 : (Jvm.Cond.methodLink "VeilMint$Curve" (143 : Nat) ({ cls := "VeilMint$Point", name := "be", desc := "(LVeilMint$Point;)V" } : Jvm.MethodName)) ∈ lw_all := lw_g (lw_at lw_m3 60 rfl) rfl
theorem q642 : (Jvm.Cond.methodLink "VeilMint$Curve" (154 : Nat) ({ cls := "VeilMint$Point", name := "vanish", desc := "()V" } : Jvm.MethodName)) ∈ lw_all := lw_g (lw_at lw_m3 65 rfl) rfl
theorem q646 : (Jvm.Cond.methodLink "VeilMint$Curve" (151 : Nat) ({ cls := "VeilMint$Curve", name := "twice", desc := "(LVeilMint$Point;)V" } : Jvm.MethodName)) ∈ lw_all := lw_g (lw_at lw_m3 69 rfl) rfl
theorem q647 : (Jvm.Cond.instanceMethod ({ cls := "VeilMint$Curve", name := "twice", desc := "(LVeilMint$Point;)V" } : Jvm.MethodName)) ∈ lw_all := lw_g (lw_at lw_m3 70 rfl) rfl
theorem q648 : (Jvm.Cond.selects "VeilMint$Curve" ({ cls := "VeilMint$Curve", name := "twice", desc := "(LVeilMint$Point;)V" } : Jvm.MethodName) ({ cls := "VeilMint$Curve", name := "twice", desc := "(LVeilMint$Point;)V" } : Jvm.MethodName)) ∈ lw_all := lw_g (lw_at lw_m3 71 rfl) rfl
theorem q649 : (Jvm.Cond.code ({ cls := "VeilMint$Curve", name := "twice", desc := "(LVeilMint$Point;)V" } : Jvm.MethodName) prog_3_method_2_code (2 : Nat) (Option.none : Option Jvm.ClassFile.FieldType)) ∈ lw_all := lw_g (lw_at lw_m3 72 rfl) rfl
theorem q650 : (Jvm.Cond.methodLink "VeilMint$Curve" (136 : Nat) ({ cls := "VeilMint$Point", name := "isNone", desc := "()Z" } : Jvm.MethodName)) ∈ lw_all := lw_g (lw_at lw_m3 73 rfl) rfl
theorem q655 : (Jvm.Cond.methodLink "VeilMint$Curve" (140 : Nat) ({ cls := "VeilMint$Modulus", name := "mul", desc := "([I[I[I)V" } : Jvm.MethodName)) ∈ lw_all := lw_g (lw_at lw_m3 78 rfl) rfl
theorem q656 : (Jvm.Cond.methodLink "VeilMint$Curve" (157 : Nat) ({ cls := "VeilMint$Curve", name := "add", desc := "(LVeilMint$Point;LVeilMint$Point;)V" } : Jvm.MethodName)) ∈ lw_all := lw_g (lw_at lw_m3 79 rfl) rfl
theorem q657 : (Jvm.Cond.instanceMethod ({ cls := "VeilMint$Curve", name := "add", desc := "(LVeilMint$Point;LVeilMint$Point;)V" } : Jvm.MethodName)) ∈ lw_all := lw_g (lw_at lw_m3 80 rfl) rfl
theorem q658 : (Jvm.Cond.selects "VeilMint$Curve" ({ cls := "VeilMint$Curve", name := "add", desc := "(LVeilMint$Point;LVeilMint$Point;)V" } : Jvm.MethodName) ({ cls := "VeilMint$Curve", name := "add", desc := "(LVeilMint$Point;LVeilMint$Point;)V" } : Jvm.MethodName)) ∈ lw_all := lw_g (lw_at lw_m3 81 rfl) rfl
theorem q659 : (Jvm.Cond.code ({ cls := "VeilMint$Curve", name := "add", desc := "(LVeilMint$Point;LVeilMint$Point;)V" } : Jvm.MethodName) prog_3_method_3_code (3 : Nat) (Option.none : Option Jvm.ClassFile.FieldType)) ∈ lw_all := lw_g (lw_at lw_m3 82 rfl) rfl
theorem q660 : (Jvm.Cond.methodLink "VeilMint$Curve" (147 : Nat) ({ cls := "VeilMint$Modulus", name := "isZero", desc := "([I)Z" } : Jvm.MethodName)) ∈ lw_all := lw_g (lw_at lw_m3 83 rfl) rfl
theorem q662 : (Jvm.Cond.instanceMethod ({ cls := "VeilMint$Curve", name := "write", desc := "(LVeilMint$Point;[BI)Z" } : Jvm.MethodName)) ∈ lw_all := lw_g (lw_at lw_m3 85 rfl) rfl
theorem q663 : (Jvm.Cond.selects "VeilMint$Curve" ({ cls := "VeilMint$Curve", name := "write", desc := "(LVeilMint$Point;[BI)Z" } : Jvm.MethodName) ({ cls := "VeilMint$Curve", name := "write", desc := "(LVeilMint$Point;[BI)Z" } : Jvm.MethodName)) ∈ lw_all := lw_g (lw_at lw_m3 86 rfl) rfl
theorem q664 : (Jvm.Cond.code ({ cls := "VeilMint$Curve", name := "write", desc := "(LVeilMint$Point;[BI)Z" } : Jvm.MethodName) prog_3_method_6_code (5 : Nat) (Option.some Jvm.ClassFile.FieldType.boolean)) ∈ lw_all := lw_g (lw_at lw_m3 87 rfl) rfl
theorem q665 : (Jvm.Cond.methodLink "VeilMint$Curve" (160 : Nat) ({ cls := "VeilMint$Modulus", name := "from", desc := "([I[I)V" } : Jvm.MethodName)) ∈ lw_all := lw_g (lw_at lw_m3 88 rfl) rfl
theorem q669 : (Jvm.Cond.methodLink "VeilMint$Curve" (163 : Nat) ({ cls := "VeilMint$Modulus", name := "inverse", desc := "([I[I)Z" } : Jvm.MethodName)) ∈ lw_all := lw_g (lw_at lw_m3 92 rfl) rfl
theorem q680 : (Jvm.Cond.methodLink "VeilMint$Curve" (167 : Nat) ({ cls := "VeilMint$Modulus", name := "write", desc := "([I[BII)V" } : Jvm.MethodName)) ∈ lw_all := lw_g (lw_at lw_m3 103 rfl) rfl
theorem q935 : (Jvm.Cond.instanceMethod ({ cls := "VeilMint$Curve", name := "begin", desc := "()LVeilMint$Digest;" } : Jvm.MethodName)) ∈ lw_all := lw_g (lw_at lw_m4 118 rfl) rfl
theorem q936 : (Jvm.Cond.selects "VeilMint$Curve" ({ cls := "VeilMint$Curve", name := "begin", desc := "()LVeilMint$Digest;" } : Jvm.MethodName) ({ cls := "VeilMint$Curve", name := "begin", desc := "()LVeilMint$Digest;" } : Jvm.MethodName)) ∈ lw_all := lw_g (lw_at lw_m4 119 rfl) rfl
theorem q937 : (Jvm.Cond.code ({ cls := "VeilMint$Curve", name := "begin", desc := "()LVeilMint$Digest;" } : Jvm.MethodName) prog_3_method_11_code (2 : Nat) (Option.some (Jvm.ClassFile.FieldType.object "VeilMint$Digest"))) ∈ lw_all := lw_g (lw_at lw_m4 120 rfl) rfl
theorem q938 : (Jvm.Cond.methodLink "VeilMint$Curve" (228 : Nat) ({ cls := "VeilMint$Digest384", name := "begin", desc := "()LVeilMint$Digest;" } : Jvm.MethodName)) ∈ lw_all := lw_g (lw_at lw_m4 121 rfl) rfl
theorem q941 : (Jvm.Cond.methodLink "VeilMint$Curve" (232 : Nat) ({ cls := "VeilMint$Digest384", name := "put", desc := "(I)LVeilMint$Digest;" } : Jvm.MethodName)) ∈ lw_all := lw_g (lw_at lw_m4 124 rfl) rfl
theorem q946 : (Jvm.Cond.instanceMethod ({ cls := "VeilMint$Curve", name := "group", desc := "(LVeilMint$Point;)V" } : Jvm.MethodName)) ∈ lw_all := lw_g (lw_at lw_m4 129 rfl) rfl
theorem q947 : (Jvm.Cond.selects "VeilMint$Curve" ({ cls := "VeilMint$Curve", name := "group", desc := "(LVeilMint$Point;)V" } : Jvm.MethodName) ({ cls := "VeilMint$Curve", name := "group", desc := "(LVeilMint$Point;)V" } : Jvm.MethodName)) ∈ lw_all := lw_g (lw_at lw_m4 130 rfl) rfl
theorem q948 : (Jvm.Cond.code ({ cls := "VeilMint$Curve", name := "group", desc := "(LVeilMint$Point;)V" } : Jvm.MethodName) prog_3_method_13_code (2 : Nat) (Option.none : Option Jvm.ClassFile.FieldType)) ∈ lw_all := lw_g (lw_at lw_m4 131 rfl) rfl
theorem q949 : (Jvm.Cond.stringRef "VeilMint$Curve" (243 : Nat) "HashToGroup-") ∈ lw_tbl := lw_at lw_m4 132 rfl
theorem q950 : (Jvm.Cond.methodLink "VeilMint$Curve" (235 : Nat) ({ cls := "VeilMint$Curve", name := "expand", desc := "(ILjava/lang/String;)V" } : Jvm.MethodName)) ∈ lw_all := lw_g (lw_at lw_m4 133 rfl) rfl
theorem q951 : (Jvm.Cond.instanceMethod ({ cls := "VeilMint$Curve", name := "expand", desc := "(ILjava/lang/String;)V" } : Jvm.MethodName)) ∈ lw_all := lw_g (lw_at lw_m4 134 rfl) rfl
theorem q952 : (Jvm.Cond.selects "VeilMint$Curve" ({ cls := "VeilMint$Curve", name := "expand", desc := "(ILjava/lang/String;)V" } : Jvm.MethodName) ({ cls := "VeilMint$Curve", name := "expand", desc := "(ILjava/lang/String;)V" } : Jvm.MethodName)) ∈ lw_all := lw_g (lw_at lw_m4 135 rfl) rfl
theorem q953 : (Jvm.Cond.code ({ cls := "VeilMint$Curve", name := "expand", desc := "(ILjava/lang/String;)V" } : Jvm.MethodName) prog_3_method_10_code (6 : Nat) (Option.none : Option Jvm.ClassFile.FieldType)) ∈ lw_all := lw_g (lw_at lw_m4 136 rfl) rfl
theorem q954 : (Jvm.Cond.methodLink "VeilMint$Curve" (205 : Nat) ({ cls := "java/lang/String", name := "length", desc := "()I" } : Jvm.MethodName)) ∈ lw_all := lw_g (lw_at lw_m4 137 rfl) rfl
theorem q955 : (Jvm.Cond.methodLink "VeilMint$Curve" (211 : Nat) ({ cls := "VeilMint$Digest384", name := "two", desc := "(I)LVeilMint$Digest;" } : Jvm.MethodName)) ∈ lw_all := lw_g (lw_at lw_m4 138 rfl) rfl
theorem q961 : (Jvm.Cond.methodLink "VeilMint$Curve" (199 : Nat) ({ cls := "VeilMint$Digest", name := "put", desc := "(I)LVeilMint$Digest;" } : Jvm.MethodName)) ∈ lw_all := lw_g (lw_at lw_m4 144 rfl) rfl
theorem q962 : (Jvm.Cond.methodLink "VeilMint$Curve" (214 : Nat) ({ cls := "VeilMint$Curve", name := "tag", desc := "(Ljava/lang/String;I)V" } : Jvm.MethodName)) ∈ lw_all := lw_g (lw_at lw_m4 145 rfl) rfl
theorem q963 : (Jvm.Cond.privateMethod ({ cls := "VeilMint$Curve", name := "tag", desc := "(Ljava/lang/String;I)V" } : Jvm.MethodName)) ∈ lw_tbl := lw_at lw_m4 146 rfl
theorem q964 : (Jvm.Cond.instanceMethod ({ cls := "VeilMint$Curve", name := "tag", desc := "(Ljava/lang/String;I)V" } : Jvm.MethodName)) ∈ lw_all := lw_g (lw_at lw_m4 147 rfl) rfl
theorem q965 : (Jvm.Cond.code ({ cls := "VeilMint$Curve", name := "tag", desc := "(Ljava/lang/String;I)V" } : Jvm.MethodName) prog_3_method_9_code (3 : Nat) (Option.none : Option Jvm.ClassFile.FieldType)) ∈ lw_all := lw_g (lw_at lw_m4 148 rfl) rfl
theorem q966 : (Jvm.Cond.methodLink "VeilMint$Curve" (188 : Nat) ({ cls := "VeilMint$Digest384", name := "word", desc := "(Ljava/lang/String;)LVeilMint$Digest;" } : Jvm.MethodName)) ∈ lw_all := lw_g (lw_at lw_m4 149 rfl) rfl
theorem q974 : (Jvm.Cond.stringRef "VeilMint$Curve" (194 : Nat) "OPRFV1-") ∈ lw_tbl := lw_at lw_m4 157 rfl
theorem q975 : (Jvm.Cond.methodLink "VeilMint$Curve" (196 : Nat) ({ cls := "VeilMint$Digest", name := "word", desc := "(Ljava/lang/String;)LVeilMint$Digest;" } : Jvm.MethodName)) ∈ lw_all := lw_g (lw_at lw_m4 158 rfl) rfl
theorem q976 : (Jvm.Cond.stringRef "VeilMint$Curve" (203 : Nat) "-P384-SHA384") ∈ lw_tbl := lw_at lw_m4 159 rfl
theorem q977 : (Jvm.Cond.methodLink "VeilMint$Curve" (218 : Nat) ({ cls := "VeilMint$Digest384", name := "end", desc := "()[B" } : Jvm.MethodName)) ∈ lw_all := lw_g (lw_at lw_m4 160 rfl) rfl
theorem q980 : (Jvm.Cond.methodLink "VeilMint$Curve" (222 : Nat) ({ cls := "java/lang/System", name := "arraycopy", desc := "(Ljava/lang/Object;ILjava/lang/Object;II)V" } : Jvm.MethodName)) ∈ lw_all := lw_g (lw_at lw_m4 163 rfl) rfl
theorem q981 : (Jvm.Cond.methodLink "VeilMint$Curve" (245 : Nat) ({ cls := "VeilMint$Curve", name := "map", desc := "(ILVeilMint$Point;)V" } : Jvm.MethodName)) ∈ lw_all := lw_g (lw_at lw_m4 164 rfl) rfl
theorem q982 : (Jvm.Cond.privateMethod ({ cls := "VeilMint$Curve", name := "map", desc := "(ILVeilMint$Point;)V" } : Jvm.MethodName)) ∈ lw_tbl := lw_at lw_m4 165 rfl
theorem q983 : (Jvm.Cond.instanceMethod ({ cls := "VeilMint$Curve", name := "map", desc := "(ILVeilMint$Point;)V" } : Jvm.MethodName)) ∈ lw_all := lw_g (lw_at lw_m4 166 rfl) rfl
theorem q984 : (Jvm.Cond.code ({ cls := "VeilMint$Curve", name := "map", desc := "(ILVeilMint$Point;)V" } : Jvm.MethodName) prog_3_method_14_code (4 : Nat) (Option.none : Option Jvm.ClassFile.FieldType)) ∈ lw_all := lw_g (lw_at lw_m4 167 rfl) rfl
theorem q985 : (Jvm.Cond.methodLink "VeilMint$Curve" (239 : Nat) ({ cls := "VeilMint$Modulus", name := "rest", desc := "([BII[I)V" } : Jvm.MethodName)) ∈ lw_all := lw_g (lw_at lw_m4 168 rfl) rfl
theorem q989 : (Jvm.Cond.methodLink "VeilMint$Curve" (249 : Nat) ({ cls := "VeilMint$Curve", name := "firstX", desc := "([I[I)V" } : Jvm.MethodName)) ∈ lw_all := lw_g (lw_at lw_m4 172 rfl) rfl
theorem q990 : (Jvm.Cond.privateMethod ({ cls := "VeilMint$Curve", name := "firstX", desc := "([I[I)V" } : Jvm.MethodName)) ∈ lw_tbl := lw_at lw_m4 173 rfl
theorem q991 : (Jvm.Cond.instanceMethod ({ cls := "VeilMint$Curve", name := "firstX", desc := "([I[I)V" } : Jvm.MethodName)) ∈ lw_all := lw_g (lw_at lw_m4 174 rfl) rfl
theorem q992 : (Jvm.Cond.code ({ cls := "VeilMint$Curve", name := "firstX", desc := "([I[I)V" } : Jvm.MethodName) prog_3_method_15_code (4 : Nat) (Option.none : Option Jvm.ClassFile.FieldType)) ∈ lw_all := lw_g (lw_at lw_m4 175 rfl) rfl
theorem q993 : (Jvm.Cond.methodLink "VeilMint$Curve" (252 : Nat) ({ cls := "VeilMint$Curve", name := "negateInto", desc := "([I[I)V" } : Jvm.MethodName)) ∈ lw_all := lw_g (lw_at lw_m4 176 rfl) rfl
theorem q994 : (Jvm.Cond.privateMethod ({ cls := "VeilMint$Curve", name := "negateInto", desc := "([I[I)V" } : Jvm.MethodName)) ∈ lw_tbl := lw_at lw_m4 177 rfl
theorem q995 : (Jvm.Cond.instanceMethod ({ cls := "VeilMint$Curve", name := "negateInto", desc := "([I[I)V" } : Jvm.MethodName)) ∈ lw_all := lw_g (lw_at lw_m4 178 rfl) rfl
theorem q996 : (Jvm.Cond.code ({ cls := "VeilMint$Curve", name := "negateInto", desc := "([I[I)V" } : Jvm.MethodName) prog_3_method_16_code (4 : Nat) (Option.none : Option Jvm.ClassFile.FieldType)) ∈ lw_all := lw_g (lw_at lw_m4 179 rfl) rfl
theorem q997 : (Jvm.Cond.methodLink "VeilMint$Curve" (175 : Nat) ({ cls := "VeilMint$Curve", name := "square", desc := "([I[I)V" } : Jvm.MethodName)) ∈ lw_all := lw_g (lw_at lw_m4 180 rfl) rfl
theorem q998 : (Jvm.Cond.privateMethod ({ cls := "VeilMint$Curve", name := "square", desc := "([I[I)V" } : Jvm.MethodName)) ∈ lw_tbl := lw_at lw_m4 181 rfl
theorem q999 : (Jvm.Cond.instanceMethod ({ cls := "VeilMint$Curve", name := "square", desc := "([I[I)V" } : Jvm.MethodName)) ∈ lw_all := lw_g (lw_at lw_m4 182 rfl) rfl
theorem q1000 : (Jvm.Cond.code ({ cls := "VeilMint$Curve", name := "square", desc := "([I[I)V" } : Jvm.MethodName) prog_3_method_5_code (3 : Nat) (Option.none : Option Jvm.ClassFile.FieldType)) ∈ lw_all := lw_g (lw_at lw_m4 183 rfl) rfl
theorem q1001 : (Jvm.Cond.methodLink "VeilMint$Curve" (178 : Nat) ({ cls := "VeilMint$Modulus", name := "pow", desc := "([I[I[I)V" } : Jvm.MethodName)) ∈ lw_all := lw_g (lw_at lw_m4 184 rfl) rfl
theorem q1012 : (Jvm.Cond.methodLink "VeilMint$Curve" (181 : Nat) ({ cls := "VeilMint$Modulus", name := "compare", desc := "([I[I)I" } : Jvm.MethodName)) ∈ lw_all := lw_g (lw_at lw_m4 195 rfl) rfl
theorem q1013 : (Jvm.Cond.methodLink "VeilMint$Curve" (185 : Nat) ({ cls := "VeilMint$Curve", name := "negate", desc := "([I)V" } : Jvm.MethodName)) ∈ lw_all := lw_g (lw_at lw_m4 196 rfl) rfl
theorem q1014 : (Jvm.Cond.privateMethod ({ cls := "VeilMint$Curve", name := "negate", desc := "([I)V" } : Jvm.MethodName)) ∈ lw_tbl := lw_at lw_m4 197 rfl
theorem q1015 : (Jvm.Cond.instanceMethod ({ cls := "VeilMint$Curve", name := "negate", desc := "([I)V" } : Jvm.MethodName)) ∈ lw_all := lw_g (lw_at lw_m4 198 rfl) rfl
theorem q1016 : (Jvm.Cond.code ({ cls := "VeilMint$Curve", name := "negate", desc := "([I)V" } : Jvm.MethodName) prog_3_method_8_code (3 : Nat) (Option.none : Option Jvm.ClassFile.FieldType)) ∈ lw_all := lw_g (lw_at lw_m4 199 rfl) rfl
theorem q1120 : (Jvm.Cond.instanceMethod ({ cls := "VeilMint$Curve", name := "read", desc := "([BILVeilMint$Point;)Z" } : Jvm.MethodName)) ∈ lw_all := lw_g (lw_at lw_m5 63 rfl) rfl
theorem q1121 : (Jvm.Cond.selects "VeilMint$Curve" ({ cls := "VeilMint$Curve", name := "read", desc := "([BILVeilMint$Point;)Z" } : Jvm.MethodName) ({ cls := "VeilMint$Curve", name := "read", desc := "([BILVeilMint$Point;)Z" } : Jvm.MethodName)) ∈ lw_all := lw_g (lw_at lw_m5 64 rfl) rfl
theorem q1122 : (Jvm.Cond.code ({ cls := "VeilMint$Curve", name := "read", desc := "([BILVeilMint$Point;)Z" } : Jvm.MethodName) prog_3_method_7_code (4 : Nat) (Option.some Jvm.ClassFile.FieldType.boolean)) ∈ lw_all := lw_g (lw_at lw_m5 65 rfl) rfl
theorem q1123 : (Jvm.Cond.methodLink "VeilMint$Curve" (171 : Nat) ({ cls := "VeilMint$Modulus", name := "read", desc := "([BII[I)Z" } : Jvm.MethodName)) ∈ lw_all := lw_g (lw_at lw_m5 66 rfl) rfl
theorem q1138 : (Jvm.Cond.instanceMethod ({ cls := "VeilMint$Curve", name := "scalar", desc := "([I)V" } : Jvm.MethodName)) ∈ lw_all := lw_g (lw_at lw_m5 81 rfl) rfl
theorem q1139 : (Jvm.Cond.selects "VeilMint$Curve" ({ cls := "VeilMint$Curve", name := "scalar", desc := "([I)V" } : Jvm.MethodName) ({ cls := "VeilMint$Curve", name := "scalar", desc := "([I)V" } : Jvm.MethodName)) ∈ lw_all := lw_g (lw_at lw_m5 82 rfl) rfl
theorem q1140 : (Jvm.Cond.code ({ cls := "VeilMint$Curve", name := "scalar", desc := "([I)V" } : Jvm.MethodName) prog_3_method_12_code (2 : Nat) (Option.none : Option Jvm.ClassFile.FieldType)) ∈ lw_all := lw_g (lw_at lw_m5 83 rfl) rfl
theorem q1141 : (Jvm.Cond.stringRef "VeilMint$Curve" (233 : Nat) "HashToScalar-") ∈ lw_tbl := lw_at lw_m5 84 rfl
theorem q2145 : (Jvm.Cond.castable "VeilMint$Curve" "java/lang/Object") ∈ lw_tbl := lw_at lw_m9 128 rfl
theorem in_X5 : ∀ w ∈ wsX50, w ∈ lw_all := lw_in wsX50 [382, 384, 386, 388, 390, 392, 394, 396, 398, 400, 402, 404, 406, 408, 410, 412, 414, 416, 418, 420, 422] (by decide +kernel) (by decide +kernel)
/-! VeilMint$Modulus -/
set_option maxRecDepth 100000
def RX6 : String := "VeilMint$Modulus"
def TX6 : u_T := fun k => match k with
  | 0 => ("VeilMint$Modulus", "n", "I", true)
  | 1 => ("VeilMint$Modulus", "m", "[I", true)
  | 2 => ("VeilMint$Modulus", "one", "[I", true)
  | 3 => ("VeilMint$Modulus", "square", "[I", true)
  | 4 => ("VeilMint$Modulus", "unit", "[I", true)
  | 5 => ("VeilMint$Modulus", "t", "[I", true)
  | 6 => ("VeilMint$Modulus", "u", "[I", true)
  | 7 => ("VeilMint$Modulus", "v", "[I", true)
  | 8 => ("VeilMint$Modulus", "x", "[I", true)
  | 9 => ("VeilMint$Modulus", "y", "[I", true)
  | _ => ("VeilMint$Modulus", "neg", "I", true)
def tyX6 : Nat → FieldType := fun k => match k with
  | 0 => .int
  | 1 => .array .int
  | 2 => .array .int
  | 3 => .array .int
  | 4 => .array .int
  | 5 => .array .int
  | 6 => .array .int
  | 7 => .array .int
  | 8 => .array .int
  | 9 => .array .int
  | _ => .int
abbrev wsX60 : List Cond := u_ws RX6 TX6 11
theorem nmX6 : ∀ a, a < 11 → ∀ b, b < 11 → a ≠ b → (TX6 a).2.1 ≠ (TX6 b).2.1 := by decide +kernel
theorem tyX6_ok : ∀ k, k < 11 → parseFieldDescriptor (TX6 k).2.2.1 = some (tyX6 k) := by decide +kernel
abbrev cX6_init : ByteArray := prog_9_method_1_code
def yX6_init : MethodName := ⟨RX6, "<init>", "([I)V"⟩
theorem dX6_init_0 : decode cX6_init 0 = .ok (.aload_n 0, 1) := by decide +kernel
theorem dX6_init_1 : decode cX6_init 1 = .ok (.invokespecial 1, 3) := by decide +kernel
theorem dX6_init_4 : decode cX6_init 4 = .ok (.aload_n 0, 1) := by decide +kernel
theorem dX6_init_5 : decode cX6_init 5 = .ok (.aload_n 1, 1) := by decide +kernel
theorem dX6_init_6 : decode cX6_init 6 = .ok (.arraylength, 1) := by decide +kernel
theorem dX6_init_7 : decode cX6_init 7 = .ok (.putfield 7, 3) := by decide +kernel
theorem dX6_init_10 : decode cX6_init 10 = .ok (.aload_n 0, 1) := by decide +kernel
theorem dX6_init_11 : decode cX6_init 11 = .ok (.aload_n 1, 1) := by decide +kernel
theorem dX6_init_12 : decode cX6_init 12 = .ok (.putfield 13, 3) := by decide +kernel
theorem dX6_init_15 : decode cX6_init 15 = .ok (.aload_n 0, 1) := by decide +kernel
theorem dX6_init_16 : decode cX6_init 16 = .ok (.aload_n 0, 1) := by decide +kernel
theorem dX6_init_17 : decode cX6_init 17 = .ok (.getfield 7, 3) := by decide +kernel
theorem dX6_init_20 : decode cX6_init 20 = .ok (.newarray .int, 2) := by decide +kernel
theorem dX6_init_22 : decode cX6_init 22 = .ok (.putfield 17, 3) := by decide +kernel
theorem dX6_init_25 : decode cX6_init 25 = .ok (.aload_n 0, 1) := by decide +kernel
theorem dX6_init_26 : decode cX6_init 26 = .ok (.aload_n 0, 1) := by decide +kernel
theorem dX6_init_27 : decode cX6_init 27 = .ok (.getfield 7, 3) := by decide +kernel
theorem dX6_init_30 : decode cX6_init 30 = .ok (.newarray .int, 2) := by decide +kernel
theorem dX6_init_32 : decode cX6_init 32 = .ok (.putfield 20, 3) := by decide +kernel
theorem dX6_init_35 : decode cX6_init 35 = .ok (.aload_n 0, 1) := by decide +kernel
theorem dX6_init_36 : decode cX6_init 36 = .ok (.aload_n 0, 1) := by decide +kernel
theorem dX6_init_37 : decode cX6_init 37 = .ok (.getfield 7, 3) := by decide +kernel
theorem dX6_init_40 : decode cX6_init 40 = .ok (.newarray .int, 2) := by decide +kernel
theorem dX6_init_42 : decode cX6_init 42 = .ok (.putfield 23, 3) := by decide +kernel
theorem dX6_init_45 : decode cX6_init 45 = .ok (.aload_n 0, 1) := by decide +kernel
theorem dX6_init_46 : decode cX6_init 46 = .ok (.aload_n 0, 1) := by decide +kernel
theorem dX6_init_47 : decode cX6_init 47 = .ok (.getfield 7, 3) := by decide +kernel
theorem dX6_init_50 : decode cX6_init 50 = .ok (.iconst 2, 1) := by decide +kernel
theorem dX6_init_51 : decode cX6_init 51 = .ok (.iadd, 1) := by decide +kernel
theorem dX6_init_52 : decode cX6_init 52 = .ok (.newarray .int, 2) := by decide +kernel
theorem dX6_init_54 : decode cX6_init 54 = .ok (.putfield 26, 3) := by decide +kernel
theorem dX6_init_57 : decode cX6_init 57 = .ok (.aload_n 0, 1) := by decide +kernel
theorem dX6_init_58 : decode cX6_init 58 = .ok (.aload_n 0, 1) := by decide +kernel
theorem dX6_init_59 : decode cX6_init 59 = .ok (.getfield 7, 3) := by decide +kernel
theorem dX6_init_62 : decode cX6_init 62 = .ok (.newarray .int, 2) := by decide +kernel
theorem dX6_init_64 : decode cX6_init 64 = .ok (.putfield 29, 3) := by decide +kernel
theorem dX6_init_67 : decode cX6_init 67 = .ok (.aload_n 0, 1) := by decide +kernel
theorem dX6_init_68 : decode cX6_init 68 = .ok (.aload_n 0, 1) := by decide +kernel
theorem dX6_init_69 : decode cX6_init 69 = .ok (.getfield 7, 3) := by decide +kernel
theorem dX6_init_72 : decode cX6_init 72 = .ok (.newarray .int, 2) := by decide +kernel
theorem dX6_init_74 : decode cX6_init 74 = .ok (.putfield 32, 3) := by decide +kernel
theorem dX6_init_77 : decode cX6_init 77 = .ok (.aload_n 0, 1) := by decide +kernel
theorem dX6_init_78 : decode cX6_init 78 = .ok (.aload_n 0, 1) := by decide +kernel
theorem dX6_init_79 : decode cX6_init 79 = .ok (.getfield 7, 3) := by decide +kernel
theorem dX6_init_82 : decode cX6_init 82 = .ok (.newarray .int, 2) := by decide +kernel
theorem dX6_init_84 : decode cX6_init 84 = .ok (.putfield 35, 3) := by decide +kernel
theorem dX6_init_87 : decode cX6_init 87 = .ok (.aload_n 0, 1) := by decide +kernel
theorem dX6_init_88 : decode cX6_init 88 = .ok (.aload_n 0, 1) := by decide +kernel
theorem dX6_init_89 : decode cX6_init 89 = .ok (.getfield 7, 3) := by decide +kernel
theorem dX6_init_92 : decode cX6_init 92 = .ok (.newarray .int, 2) := by decide +kernel
theorem dX6_init_94 : decode cX6_init 94 = .ok (.putfield 38, 3) := by decide +kernel
theorem dX6_init_97 : decode cX6_init 97 = .ok (.iconst 1, 1) := by decide +kernel
theorem dX6_init_98 : decode cX6_init 98 = .ok (.istore_n 2, 1) := by decide +kernel
theorem dX6_init_99 : decode cX6_init 99 = .ok (.iconst 0, 1) := by decide +kernel
theorem dX6_init_100 : decode cX6_init 100 = .ok (.istore_n 3, 1) := by decide +kernel
theorem dX6_init_101 : decode cX6_init 101 = .ok (.iload_n 3, 1) := by decide +kernel
theorem dX6_init_102 : decode cX6_init 102 = .ok (.iconst 5, 1) := by decide +kernel
theorem dX6_init_103 : decode cX6_init 103 = .ok (.if_icmp .ge 19, 3) := by decide +kernel
theorem dX6_init_106 : decode cX6_init 106 = .ok (.iload_n 2, 1) := by decide +kernel
theorem dX6_init_107 : decode cX6_init 107 = .ok (.iconst 2, 1) := by decide +kernel
theorem dX6_init_108 : decode cX6_init 108 = .ok (.aload_n 1, 1) := by decide +kernel
theorem dX6_init_109 : decode cX6_init 109 = .ok (.iconst 0, 1) := by decide +kernel
theorem dX6_init_110 : decode cX6_init 110 = .ok (.iaload, 1) := by decide +kernel
theorem dX6_init_111 : decode cX6_init 111 = .ok (.iload_n 2, 1) := by decide +kernel
theorem dX6_init_112 : decode cX6_init 112 = .ok (.imul, 1) := by decide +kernel
theorem dX6_init_113 : decode cX6_init 113 = .ok (.isub, 1) := by decide +kernel
theorem dX6_init_114 : decode cX6_init 114 = .ok (.imul, 1) := by decide +kernel
theorem dX6_init_115 : decode cX6_init 115 = .ok (.istore_n 2, 1) := by decide +kernel
theorem dX6_init_116 : decode cX6_init 116 = .ok (.iinc 3 1, 3) := by decide +kernel
theorem dX6_init_119 : decode cX6_init 119 = .ok (.goto (-18), 3) := by decide +kernel
theorem dX6_init_122 : decode cX6_init 122 = .ok (.aload_n 0, 1) := by decide +kernel
theorem dX6_init_123 : decode cX6_init 123 = .ok (.iload_n 2, 1) := by decide +kernel
theorem dX6_init_124 : decode cX6_init 124 = .ok (.ineg, 1) := by decide +kernel
theorem dX6_init_125 : decode cX6_init 125 = .ok (.putfield 41, 3) := by decide +kernel
theorem dX6_init_128 : decode cX6_init 128 = .ok (.aload_n 0, 1) := by decide +kernel
theorem dX6_init_129 : decode cX6_init 129 = .ok (.getfield 23, 3) := by decide +kernel
theorem dX6_init_132 : decode cX6_init 132 = .ok (.iconst 0, 1) := by decide +kernel
theorem dX6_init_133 : decode cX6_init 133 = .ok (.iconst 1, 1) := by decide +kernel
theorem dX6_init_134 : decode cX6_init 134 = .ok (.iastore, 1) := by decide +kernel
theorem dX6_init_135 : decode cX6_init 135 = .ok (.aload_n 0, 1) := by decide +kernel
theorem dX6_init_136 : decode cX6_init 136 = .ok (.getfield 23, 3) := by decide +kernel
theorem dX6_init_139 : decode cX6_init 139 = .ok (.aload_n 0, 1) := by decide +kernel
theorem dX6_init_140 : decode cX6_init 140 = .ok (.getfield 20, 3) := by decide +kernel
theorem dX6_init_143 : decode cX6_init 143 = .ok (.invokestatic 44, 3) := by decide +kernel
theorem dX6_init_146 : decode cX6_init 146 = .ok (.iconst 0, 1) := by decide +kernel
theorem dX6_init_147 : decode cX6_init 147 = .ok (.istore_n 3, 1) := by decide +kernel
theorem dX6_init_148 : decode cX6_init 148 = .ok (.iload_n 3, 1) := by decide +kernel
theorem dX6_init_149 : decode cX6_init 149 = .ok (.bipush 64, 2) := by decide +kernel
theorem dX6_init_151 : decode cX6_init 151 = .ok (.aload_n 0, 1) := by decide +kernel
theorem dX6_init_152 : decode cX6_init 152 = .ok (.getfield 7, 3) := by decide +kernel
theorem dX6_init_155 : decode cX6_init 155 = .ok (.imul, 1) := by decide +kernel
theorem dX6_init_156 : decode cX6_init 156 = .ok (.if_icmp .ge 49, 3) := by decide +kernel
theorem dX6_init_159 : decode cX6_init 159 = .ok (.aload_n 0, 1) := by decide +kernel
theorem dX6_init_160 : decode cX6_init 160 = .ok (.aload_n 0, 1) := by decide +kernel
theorem dX6_init_161 : decode cX6_init 161 = .ok (.getfield 20, 3) := by decide +kernel
theorem dX6_init_164 : decode cX6_init 164 = .ok (.aload_n 0, 1) := by decide +kernel
theorem dX6_init_165 : decode cX6_init 165 = .ok (.getfield 20, 3) := by decide +kernel
theorem dX6_init_168 : decode cX6_init 168 = .ok (.aload_n 0, 1) := by decide +kernel
theorem dX6_init_169 : decode cX6_init 169 = .ok (.getfield 20, 3) := by decide +kernel
theorem dX6_init_172 : decode cX6_init 172 = .ok (.invokevirtual 48, 3) := by decide +kernel
theorem dX6_init_175 : decode cX6_init 175 = .ok (.iload_n 3, 1) := by decide +kernel
theorem dX6_init_176 : decode cX6_init 176 = .ok (.bipush 32, 2) := by decide +kernel
theorem dX6_init_178 : decode cX6_init 178 = .ok (.aload_n 0, 1) := by decide +kernel
theorem dX6_init_179 : decode cX6_init 179 = .ok (.getfield 7, 3) := by decide +kernel
theorem dX6_init_182 : decode cX6_init 182 = .ok (.imul, 1) := by decide +kernel
theorem dX6_init_183 : decode cX6_init 183 = .ok (.iconst 1, 1) := by decide +kernel
theorem dX6_init_184 : decode cX6_init 184 = .ok (.isub, 1) := by decide +kernel
theorem dX6_init_185 : decode cX6_init 185 = .ok (.if_icmp .ne 14, 3) := by decide +kernel
theorem dX6_init_188 : decode cX6_init 188 = .ok (.aload_n 0, 1) := by decide +kernel
theorem dX6_init_189 : decode cX6_init 189 = .ok (.getfield 20, 3) := by decide +kernel
theorem dX6_init_192 : decode cX6_init 192 = .ok (.aload_n 0, 1) := by decide +kernel
theorem dX6_init_193 : decode cX6_init 193 = .ok (.getfield 17, 3) := by decide +kernel
theorem dX6_init_196 : decode cX6_init 196 = .ok (.invokestatic 44, 3) := by decide +kernel
theorem dX6_init_199 : decode cX6_init 199 = .ok (.iinc 3 1, 3) := by decide +kernel
theorem dX6_init_202 : decode cX6_init 202 = .ok (.goto (-54), 3) := by decide +kernel
theorem dX6_init_205 : decode cX6_init 205 = .ok (.return_, 1) := by decide +kernel
abbrev cX6_copy : ByteArray := prog_9_method_2_code
def yX6_copy : MethodName := ⟨RX6, "copy", "([I[I)V"⟩
theorem dX6_copy_0 : decode cX6_copy 0 = .ok (.aload_n 0, 1) := by decide +kernel
theorem dX6_copy_1 : decode cX6_copy 1 = .ok (.iconst 0, 1) := by decide +kernel
theorem dX6_copy_2 : decode cX6_copy 2 = .ok (.aload_n 1, 1) := by decide +kernel
theorem dX6_copy_3 : decode cX6_copy 3 = .ok (.iconst 0, 1) := by decide +kernel
theorem dX6_copy_4 : decode cX6_copy 4 = .ok (.aload_n 0, 1) := by decide +kernel
theorem dX6_copy_5 : decode cX6_copy 5 = .ok (.arraylength, 1) := by decide +kernel
theorem dX6_copy_6 : decode cX6_copy 6 = .ok (.invokestatic 52, 3) := by decide +kernel
theorem dX6_copy_9 : decode cX6_copy 9 = .ok (.return_, 1) := by decide +kernel
abbrev cX6_add : ByteArray := prog_9_method_8_code
def yX6_add : MethodName := ⟨RX6, "add", "([I[I[I)V"⟩
theorem dX6_add_0 : decode cX6_add 0 = .ok (.aload_n 1, 1) := by decide +kernel
theorem dX6_add_1 : decode cX6_add 1 = .ok (.aload_n 2, 1) := by decide +kernel
theorem dX6_add_2 : decode cX6_add 2 = .ok (.aload_n 3, 1) := by decide +kernel
theorem dX6_add_3 : decode cX6_add 3 = .ok (.invokestatic 70, 3) := by decide +kernel
theorem dX6_add_6 : decode cX6_add 6 = .ok (.istore 4, 2) := by decide +kernel
theorem dX6_add_8 : decode cX6_add 8 = .ok (.iload 4, 2) := by decide +kernel
theorem dX6_add_10 : decode cX6_add 10 = .ok (.ifCond .ne 14, 3) := by decide +kernel
theorem dX6_add_13 : decode cX6_add 13 = .ok (.aload_n 3, 1) := by decide +kernel
theorem dX6_add_14 : decode cX6_add 14 = .ok (.aload_n 0, 1) := by decide +kernel
theorem dX6_add_15 : decode cX6_add 15 = .ok (.getfield 13, 3) := by decide +kernel
theorem dX6_add_18 : decode cX6_add 18 = .ok (.invokestatic 64, 3) := by decide +kernel
theorem dX6_add_21 : decode cX6_add 21 = .ok (.ifCond .lt 14, 3) := by decide +kernel
theorem dX6_add_24 : decode cX6_add 24 = .ok (.aload_n 3, 1) := by decide +kernel
theorem dX6_add_25 : decode cX6_add 25 = .ok (.aload_n 0, 1) := by decide +kernel
theorem dX6_add_26 : decode cX6_add 26 = .ok (.getfield 13, 3) := by decide +kernel
theorem dX6_add_29 : decode cX6_add 29 = .ok (.aload_n 3, 1) := by decide +kernel
theorem dX6_add_30 : decode cX6_add 30 = .ok (.invokestatic 74, 3) := by decide +kernel
theorem dX6_add_33 : decode cX6_add 33 = .ok (.istore 4, 2) := by decide +kernel
theorem dX6_add_35 : decode cX6_add 35 = .ok (.return_, 1) := by decide +kernel
abbrev cX6_plus : ByteArray := prog_9_method_7_code
def yX6_plus : MethodName := ⟨RX6, "plus", "([I[I[I)I"⟩
theorem dX6_plus_0 : decode cX6_plus 0 = .ok (.lconst 0, 1) := by decide +kernel
theorem dX6_plus_1 : decode cX6_plus 1 = .ok (.lstore_n 3, 1) := by decide +kernel
theorem dX6_plus_2 : decode cX6_plus 2 = .ok (.iconst 0, 1) := by decide +kernel
theorem dX6_plus_3 : decode cX6_plus 3 = .ok (.istore 5, 2) := by decide +kernel
theorem dX6_plus_5 : decode cX6_plus 5 = .ok (.iload 5, 2) := by decide +kernel
theorem dX6_plus_7 : decode cX6_plus 7 = .ok (.aload_n 0, 1) := by decide +kernel
theorem dX6_plus_8 : decode cX6_plus 8 = .ok (.arraylength, 1) := by decide +kernel
theorem dX6_plus_9 : decode cX6_plus 9 = .ok (.if_icmp .ge 42, 3) := by decide +kernel
theorem dX6_plus_12 : decode cX6_plus 12 = .ok (.lload_n 3, 1) := by decide +kernel
theorem dX6_plus_13 : decode cX6_plus 13 = .ok (.aload_n 0, 1) := by decide +kernel
theorem dX6_plus_14 : decode cX6_plus 14 = .ok (.iload 5, 2) := by decide +kernel
theorem dX6_plus_16 : decode cX6_plus 16 = .ok (.iaload, 1) := by decide +kernel
theorem dX6_plus_17 : decode cX6_plus 17 = .ok (.i2l, 1) := by decide +kernel
theorem dX6_plus_18 : decode cX6_plus 18 = .ok (.ldc2_w 68, 3) := by decide +kernel
theorem dX6_plus_21 : decode cX6_plus 21 = .ok (.land, 1) := by decide +kernel
theorem dX6_plus_22 : decode cX6_plus 22 = .ok (.aload_n 1, 1) := by decide +kernel
theorem dX6_plus_23 : decode cX6_plus 23 = .ok (.iload 5, 2) := by decide +kernel
theorem dX6_plus_25 : decode cX6_plus 25 = .ok (.iaload, 1) := by decide +kernel
theorem dX6_plus_26 : decode cX6_plus 26 = .ok (.i2l, 1) := by decide +kernel
theorem dX6_plus_27 : decode cX6_plus 27 = .ok (.ldc2_w 68, 3) := by decide +kernel
theorem dX6_plus_30 : decode cX6_plus 30 = .ok (.land, 1) := by decide +kernel
theorem dX6_plus_31 : decode cX6_plus 31 = .ok (.ladd, 1) := by decide +kernel
theorem dX6_plus_32 : decode cX6_plus 32 = .ok (.ladd, 1) := by decide +kernel
theorem dX6_plus_33 : decode cX6_plus 33 = .ok (.lstore_n 3, 1) := by decide +kernel
theorem dX6_plus_34 : decode cX6_plus 34 = .ok (.aload_n 2, 1) := by decide +kernel
theorem dX6_plus_35 : decode cX6_plus 35 = .ok (.iload 5, 2) := by decide +kernel
theorem dX6_plus_37 : decode cX6_plus 37 = .ok (.lload_n 3, 1) := by decide +kernel
theorem dX6_plus_38 : decode cX6_plus 38 = .ok (.l2i, 1) := by decide +kernel
theorem dX6_plus_39 : decode cX6_plus 39 = .ok (.iastore, 1) := by decide +kernel
theorem dX6_plus_40 : decode cX6_plus 40 = .ok (.lload_n 3, 1) := by decide +kernel
theorem dX6_plus_41 : decode cX6_plus 41 = .ok (.bipush 32, 2) := by decide +kernel
theorem dX6_plus_43 : decode cX6_plus 43 = .ok (.lshr, 1) := by decide +kernel
theorem dX6_plus_44 : decode cX6_plus 44 = .ok (.lstore_n 3, 1) := by decide +kernel
theorem dX6_plus_45 : decode cX6_plus 45 = .ok (.iinc 5 1, 3) := by decide +kernel
theorem dX6_plus_48 : decode cX6_plus 48 = .ok (.goto (-43), 3) := by decide +kernel
theorem dX6_plus_51 : decode cX6_plus 51 = .ok (.lload_n 3, 1) := by decide +kernel
theorem dX6_plus_52 : decode cX6_plus 52 = .ok (.l2i, 1) := by decide +kernel
theorem dX6_plus_53 : decode cX6_plus 53 = .ok (.ireturn, 1) := by decide +kernel
abbrev cX6_compare : ByteArray := prog_9_method_4_code
def yX6_compare : MethodName := ⟨RX6, "compare", "([I[I)I"⟩
theorem dX6_compare_0 : decode cX6_compare 0 = .ok (.aload_n 0, 1) := by decide +kernel
theorem dX6_compare_1 : decode cX6_compare 1 = .ok (.arraylength, 1) := by decide +kernel
theorem dX6_compare_2 : decode cX6_compare 2 = .ok (.iconst 1, 1) := by decide +kernel
theorem dX6_compare_3 : decode cX6_compare 3 = .ok (.isub, 1) := by decide +kernel
theorem dX6_compare_4 : decode cX6_compare 4 = .ok (.istore_n 2, 1) := by decide +kernel
theorem dX6_compare_5 : decode cX6_compare 5 = .ok (.iload_n 2, 1) := by decide +kernel
theorem dX6_compare_6 : decode cX6_compare 6 = .ok (.ifCond .lt 28, 3) := by decide +kernel
theorem dX6_compare_9 : decode cX6_compare 9 = .ok (.aload_n 0, 1) := by decide +kernel
theorem dX6_compare_10 : decode cX6_compare 10 = .ok (.iload_n 2, 1) := by decide +kernel
theorem dX6_compare_11 : decode cX6_compare 11 = .ok (.iaload, 1) := by decide +kernel
theorem dX6_compare_12 : decode cX6_compare 12 = .ok (.aload_n 1, 1) := by decide +kernel
theorem dX6_compare_13 : decode cX6_compare 13 = .ok (.iload_n 2, 1) := by decide +kernel
theorem dX6_compare_14 : decode cX6_compare 14 = .ok (.iaload, 1) := by decide +kernel
theorem dX6_compare_15 : decode cX6_compare 15 = .ok (.if_icmp .eq 13, 3) := by decide +kernel
theorem dX6_compare_18 : decode cX6_compare 18 = .ok (.aload_n 0, 1) := by decide +kernel
theorem dX6_compare_19 : decode cX6_compare 19 = .ok (.iload_n 2, 1) := by decide +kernel
theorem dX6_compare_20 : decode cX6_compare 20 = .ok (.iaload, 1) := by decide +kernel
theorem dX6_compare_21 : decode cX6_compare 21 = .ok (.aload_n 1, 1) := by decide +kernel
theorem dX6_compare_22 : decode cX6_compare 22 = .ok (.iload_n 2, 1) := by decide +kernel
theorem dX6_compare_23 : decode cX6_compare 23 = .ok (.iaload, 1) := by decide +kernel
theorem dX6_compare_24 : decode cX6_compare 24 = .ok (.invokestatic 58, 3) := by decide +kernel
theorem dX6_compare_27 : decode cX6_compare 27 = .ok (.ireturn, 1) := by decide +kernel
theorem dX6_compare_28 : decode cX6_compare 28 = .ok (.iinc 2 (-1), 3) := by decide +kernel
theorem dX6_compare_31 : decode cX6_compare 31 = .ok (.goto (-26), 3) := by decide +kernel
theorem dX6_compare_34 : decode cX6_compare 34 = .ok (.iconst 0, 1) := by decide +kernel
theorem dX6_compare_35 : decode cX6_compare 35 = .ok (.ireturn, 1) := by decide +kernel
abbrev cX6_minus : ByteArray := prog_9_method_6_code
def yX6_minus : MethodName := ⟨RX6, "minus", "([I[I[I)I"⟩
theorem dX6_minus_0 : decode cX6_minus 0 = .ok (.lconst 0, 1) := by decide +kernel
theorem dX6_minus_1 : decode cX6_minus 1 = .ok (.lstore_n 3, 1) := by decide +kernel
theorem dX6_minus_2 : decode cX6_minus 2 = .ok (.iconst 0, 1) := by decide +kernel
theorem dX6_minus_3 : decode cX6_minus 3 = .ok (.istore 5, 2) := by decide +kernel
theorem dX6_minus_5 : decode cX6_minus 5 = .ok (.iload 5, 2) := by decide +kernel
theorem dX6_minus_7 : decode cX6_minus 7 = .ok (.aload_n 0, 1) := by decide +kernel
theorem dX6_minus_8 : decode cX6_minus 8 = .ok (.arraylength, 1) := by decide +kernel
theorem dX6_minus_9 : decode cX6_minus 9 = .ok (.if_icmp .ge 45, 3) := by decide +kernel
theorem dX6_minus_12 : decode cX6_minus 12 = .ok (.aload_n 0, 1) := by decide +kernel
theorem dX6_minus_13 : decode cX6_minus 13 = .ok (.iload 5, 2) := by decide +kernel
theorem dX6_minus_15 : decode cX6_minus 15 = .ok (.iaload, 1) := by decide +kernel
theorem dX6_minus_16 : decode cX6_minus 16 = .ok (.i2l, 1) := by decide +kernel
theorem dX6_minus_17 : decode cX6_minus 17 = .ok (.ldc2_w 68, 3) := by decide +kernel
theorem dX6_minus_20 : decode cX6_minus 20 = .ok (.land, 1) := by decide +kernel
theorem dX6_minus_21 : decode cX6_minus 21 = .ok (.aload_n 1, 1) := by decide +kernel
theorem dX6_minus_22 : decode cX6_minus 22 = .ok (.iload 5, 2) := by decide +kernel
theorem dX6_minus_24 : decode cX6_minus 24 = .ok (.iaload, 1) := by decide +kernel
theorem dX6_minus_25 : decode cX6_minus 25 = .ok (.i2l, 1) := by decide +kernel
theorem dX6_minus_26 : decode cX6_minus 26 = .ok (.ldc2_w 68, 3) := by decide +kernel
theorem dX6_minus_29 : decode cX6_minus 29 = .ok (.land, 1) := by decide +kernel
theorem dX6_minus_30 : decode cX6_minus 30 = .ok (.lsub, 1) := by decide +kernel
theorem dX6_minus_31 : decode cX6_minus 31 = .ok (.lload_n 3, 1) := by decide +kernel
theorem dX6_minus_32 : decode cX6_minus 32 = .ok (.ladd, 1) := by decide +kernel
theorem dX6_minus_33 : decode cX6_minus 33 = .ok (.lstore 6, 2) := by decide +kernel
theorem dX6_minus_35 : decode cX6_minus 35 = .ok (.aload_n 2, 1) := by decide +kernel
theorem dX6_minus_36 : decode cX6_minus 36 = .ok (.iload 5, 2) := by decide +kernel
theorem dX6_minus_38 : decode cX6_minus 38 = .ok (.lload 6, 2) := by decide +kernel
theorem dX6_minus_40 : decode cX6_minus 40 = .ok (.l2i, 1) := by decide +kernel
theorem dX6_minus_41 : decode cX6_minus 41 = .ok (.iastore, 1) := by decide +kernel
theorem dX6_minus_42 : decode cX6_minus 42 = .ok (.lload 6, 2) := by decide +kernel
theorem dX6_minus_44 : decode cX6_minus 44 = .ok (.bipush 32, 2) := by decide +kernel
theorem dX6_minus_46 : decode cX6_minus 46 = .ok (.lshr, 1) := by decide +kernel
theorem dX6_minus_47 : decode cX6_minus 47 = .ok (.lstore_n 3, 1) := by decide +kernel
theorem dX6_minus_48 : decode cX6_minus 48 = .ok (.iinc 5 1, 3) := by decide +kernel
theorem dX6_minus_51 : decode cX6_minus 51 = .ok (.goto (-46), 3) := by decide +kernel
theorem dX6_minus_54 : decode cX6_minus 54 = .ok (.lload_n 3, 1) := by decide +kernel
theorem dX6_minus_55 : decode cX6_minus 55 = .ok (.l2i, 1) := by decide +kernel
theorem dX6_minus_56 : decode cX6_minus 56 = .ok (.ireturn, 1) := by decide +kernel
abbrev cX6_in : ByteArray := prog_9_method_11_code
def yX6_in : MethodName := ⟨RX6, "in", "([I[I)V"⟩
theorem dX6_in_0 : decode cX6_in 0 = .ok (.aload_n 0, 1) := by decide +kernel
theorem dX6_in_1 : decode cX6_in 1 = .ok (.aload_n 1, 1) := by decide +kernel
theorem dX6_in_2 : decode cX6_in 2 = .ok (.aload_n 0, 1) := by decide +kernel
theorem dX6_in_3 : decode cX6_in 3 = .ok (.getfield 20, 3) := by decide +kernel
theorem dX6_in_6 : decode cX6_in 6 = .ok (.aload_n 2, 1) := by decide +kernel
theorem dX6_in_7 : decode cX6_in 7 = .ok (.invokevirtual 77, 3) := by decide +kernel
theorem dX6_in_10 : decode cX6_in 10 = .ok (.return_, 1) := by decide +kernel
abbrev cX6_mul : ByteArray := prog_9_method_10_code
def yX6_mul : MethodName := ⟨RX6, "mul", "([I[I[I)V"⟩
theorem dX6_mul_0 : decode cX6_mul 0 = .ok (.iconst 0, 1) := by decide +kernel
theorem dX6_mul_1 : decode cX6_mul 1 = .ok (.istore 4, 2) := by decide +kernel
theorem dX6_mul_3 : decode cX6_mul 3 = .ok (.iload 4, 2) := by decide +kernel
theorem dX6_mul_5 : decode cX6_mul 5 = .ok (.aload_n 0, 1) := by decide +kernel
theorem dX6_mul_6 : decode cX6_mul 6 = .ok (.getfield 7, 3) := by decide +kernel
theorem dX6_mul_9 : decode cX6_mul 9 = .ok (.iconst 2, 1) := by decide +kernel
theorem dX6_mul_10 : decode cX6_mul 10 = .ok (.iadd, 1) := by decide +kernel
theorem dX6_mul_11 : decode cX6_mul 11 = .ok (.if_icmp .ge 17, 3) := by decide +kernel
theorem dX6_mul_14 : decode cX6_mul 14 = .ok (.aload_n 0, 1) := by decide +kernel
theorem dX6_mul_15 : decode cX6_mul 15 = .ok (.getfield 26, 3) := by decide +kernel
theorem dX6_mul_18 : decode cX6_mul 18 = .ok (.iload 4, 2) := by decide +kernel
theorem dX6_mul_20 : decode cX6_mul 20 = .ok (.iconst 0, 1) := by decide +kernel
theorem dX6_mul_21 : decode cX6_mul 21 = .ok (.iastore, 1) := by decide +kernel
theorem dX6_mul_22 : decode cX6_mul 22 = .ok (.iinc 4 1, 3) := by decide +kernel
theorem dX6_mul_25 : decode cX6_mul 25 = .ok (.goto (-22), 3) := by decide +kernel
theorem dX6_mul_28 : decode cX6_mul 28 = .ok (.iconst 0, 1) := by decide +kernel
theorem dX6_mul_29 : decode cX6_mul 29 = .ok (.istore 4, 2) := by decide +kernel
theorem dX6_mul_31 : decode cX6_mul 31 = .ok (.iload 4, 2) := by decide +kernel
theorem dX6_mul_33 : decode cX6_mul 33 = .ok (.aload_n 0, 1) := by decide +kernel
theorem dX6_mul_34 : decode cX6_mul 34 = .ok (.getfield 7, 3) := by decide +kernel
theorem dX6_mul_37 : decode cX6_mul 37 = .ok (.if_icmp .ge 315, 3) := by decide +kernel
theorem dX6_mul_40 : decode cX6_mul 40 = .ok (.aload_n 1, 1) := by decide +kernel
theorem dX6_mul_41 : decode cX6_mul 41 = .ok (.iload 4, 2) := by decide +kernel
theorem dX6_mul_43 : decode cX6_mul 43 = .ok (.iaload, 1) := by decide +kernel
theorem dX6_mul_44 : decode cX6_mul 44 = .ok (.i2l, 1) := by decide +kernel
theorem dX6_mul_45 : decode cX6_mul 45 = .ok (.ldc2_w 68, 3) := by decide +kernel
theorem dX6_mul_48 : decode cX6_mul 48 = .ok (.land, 1) := by decide +kernel
theorem dX6_mul_49 : decode cX6_mul 49 = .ok (.lstore 5, 2) := by decide +kernel
theorem dX6_mul_51 : decode cX6_mul 51 = .ok (.lconst 0, 1) := by decide +kernel
theorem dX6_mul_52 : decode cX6_mul 52 = .ok (.lstore 7, 2) := by decide +kernel
theorem dX6_mul_54 : decode cX6_mul 54 = .ok (.iconst 0, 1) := by decide +kernel
theorem dX6_mul_55 : decode cX6_mul 55 = .ok (.istore 9, 2) := by decide +kernel
theorem dX6_mul_57 : decode cX6_mul 57 = .ok (.iload 9, 2) := by decide +kernel
theorem dX6_mul_59 : decode cX6_mul 59 = .ok (.aload_n 0, 1) := by decide +kernel
theorem dX6_mul_60 : decode cX6_mul 60 = .ok (.getfield 7, 3) := by decide +kernel
theorem dX6_mul_63 : decode cX6_mul 63 = .ok (.if_icmp .ge 56, 3) := by decide +kernel
theorem dX6_mul_66 : decode cX6_mul 66 = .ok (.lload 7, 2) := by decide +kernel
theorem dX6_mul_68 : decode cX6_mul 68 = .ok (.lload 5, 2) := by decide +kernel
theorem dX6_mul_70 : decode cX6_mul 70 = .ok (.aload_n 2, 1) := by decide +kernel
theorem dX6_mul_71 : decode cX6_mul 71 = .ok (.iload 9, 2) := by decide +kernel
theorem dX6_mul_73 : decode cX6_mul 73 = .ok (.iaload, 1) := by decide +kernel
theorem dX6_mul_74 : decode cX6_mul 74 = .ok (.i2l, 1) := by decide +kernel
theorem dX6_mul_75 : decode cX6_mul 75 = .ok (.ldc2_w 68, 3) := by decide +kernel
theorem dX6_mul_78 : decode cX6_mul 78 = .ok (.land, 1) := by decide +kernel
theorem dX6_mul_79 : decode cX6_mul 79 = .ok (.lmul, 1) := by decide +kernel
theorem dX6_mul_80 : decode cX6_mul 80 = .ok (.aload_n 0, 1) := by decide +kernel
theorem dX6_mul_81 : decode cX6_mul 81 = .ok (.getfield 26, 3) := by decide +kernel
theorem dX6_mul_84 : decode cX6_mul 84 = .ok (.iload 9, 2) := by decide +kernel
theorem dX6_mul_86 : decode cX6_mul 86 = .ok (.iaload, 1) := by decide +kernel
theorem dX6_mul_87 : decode cX6_mul 87 = .ok (.i2l, 1) := by decide +kernel
theorem dX6_mul_88 : decode cX6_mul 88 = .ok (.ldc2_w 68, 3) := by decide +kernel
theorem dX6_mul_91 : decode cX6_mul 91 = .ok (.land, 1) := by decide +kernel
theorem dX6_mul_92 : decode cX6_mul 92 = .ok (.ladd, 1) := by decide +kernel
theorem dX6_mul_93 : decode cX6_mul 93 = .ok (.ladd, 1) := by decide +kernel
theorem dX6_mul_94 : decode cX6_mul 94 = .ok (.lstore 7, 2) := by decide +kernel
theorem dX6_mul_96 : decode cX6_mul 96 = .ok (.aload_n 0, 1) := by decide +kernel
theorem dX6_mul_97 : decode cX6_mul 97 = .ok (.getfield 26, 3) := by decide +kernel
theorem dX6_mul_100 : decode cX6_mul 100 = .ok (.iload 9, 2) := by decide +kernel
theorem dX6_mul_102 : decode cX6_mul 102 = .ok (.lload 7, 2) := by decide +kernel
theorem dX6_mul_104 : decode cX6_mul 104 = .ok (.l2i, 1) := by decide +kernel
theorem dX6_mul_105 : decode cX6_mul 105 = .ok (.iastore, 1) := by decide +kernel
theorem dX6_mul_106 : decode cX6_mul 106 = .ok (.lload 7, 2) := by decide +kernel
theorem dX6_mul_108 : decode cX6_mul 108 = .ok (.bipush 32, 2) := by decide +kernel
theorem dX6_mul_110 : decode cX6_mul 110 = .ok (.lushr, 1) := by decide +kernel
theorem dX6_mul_111 : decode cX6_mul 111 = .ok (.lstore 7, 2) := by decide +kernel
theorem dX6_mul_113 : decode cX6_mul 113 = .ok (.iinc 9 1, 3) := by decide +kernel
theorem dX6_mul_116 : decode cX6_mul 116 = .ok (.goto (-59), 3) := by decide +kernel
theorem dX6_mul_119 : decode cX6_mul 119 = .ok (.lload 7, 2) := by decide +kernel
theorem dX6_mul_121 : decode cX6_mul 121 = .ok (.aload_n 0, 1) := by decide +kernel
theorem dX6_mul_122 : decode cX6_mul 122 = .ok (.getfield 26, 3) := by decide +kernel
theorem dX6_mul_125 : decode cX6_mul 125 = .ok (.aload_n 0, 1) := by decide +kernel
theorem dX6_mul_126 : decode cX6_mul 126 = .ok (.getfield 7, 3) := by decide +kernel
theorem dX6_mul_129 : decode cX6_mul 129 = .ok (.iaload, 1) := by decide +kernel
theorem dX6_mul_130 : decode cX6_mul 130 = .ok (.i2l, 1) := by decide +kernel
theorem dX6_mul_131 : decode cX6_mul 131 = .ok (.ldc2_w 68, 3) := by decide +kernel
theorem dX6_mul_134 : decode cX6_mul 134 = .ok (.land, 1) := by decide +kernel
theorem dX6_mul_135 : decode cX6_mul 135 = .ok (.ladd, 1) := by decide +kernel
theorem dX6_mul_136 : decode cX6_mul 136 = .ok (.lstore 7, 2) := by decide +kernel
theorem dX6_mul_138 : decode cX6_mul 138 = .ok (.aload_n 0, 1) := by decide +kernel
theorem dX6_mul_139 : decode cX6_mul 139 = .ok (.getfield 26, 3) := by decide +kernel
theorem dX6_mul_142 : decode cX6_mul 142 = .ok (.aload_n 0, 1) := by decide +kernel
theorem dX6_mul_143 : decode cX6_mul 143 = .ok (.getfield 7, 3) := by decide +kernel
theorem dX6_mul_146 : decode cX6_mul 146 = .ok (.lload 7, 2) := by decide +kernel
theorem dX6_mul_148 : decode cX6_mul 148 = .ok (.l2i, 1) := by decide +kernel
theorem dX6_mul_149 : decode cX6_mul 149 = .ok (.iastore, 1) := by decide +kernel
theorem dX6_mul_150 : decode cX6_mul 150 = .ok (.aload_n 0, 1) := by decide +kernel
theorem dX6_mul_151 : decode cX6_mul 151 = .ok (.getfield 26, 3) := by decide +kernel
theorem dX6_mul_154 : decode cX6_mul 154 = .ok (.aload_n 0, 1) := by decide +kernel
theorem dX6_mul_155 : decode cX6_mul 155 = .ok (.getfield 7, 3) := by decide +kernel
theorem dX6_mul_158 : decode cX6_mul 158 = .ok (.iconst 1, 1) := by decide +kernel
theorem dX6_mul_159 : decode cX6_mul 159 = .ok (.iadd, 1) := by decide +kernel
theorem dX6_mul_160 : decode cX6_mul 160 = .ok (.lload 7, 2) := by decide +kernel
theorem dX6_mul_162 : decode cX6_mul 162 = .ok (.bipush 32, 2) := by decide +kernel
theorem dX6_mul_164 : decode cX6_mul 164 = .ok (.lushr, 1) := by decide +kernel
theorem dX6_mul_165 : decode cX6_mul 165 = .ok (.l2i, 1) := by decide +kernel
theorem dX6_mul_166 : decode cX6_mul 166 = .ok (.iastore, 1) := by decide +kernel
theorem dX6_mul_167 : decode cX6_mul 167 = .ok (.aload_n 0, 1) := by decide +kernel
theorem dX6_mul_168 : decode cX6_mul 168 = .ok (.getfield 26, 3) := by decide +kernel
theorem dX6_mul_171 : decode cX6_mul 171 = .ok (.iconst 0, 1) := by decide +kernel
theorem dX6_mul_172 : decode cX6_mul 172 = .ok (.iaload, 1) := by decide +kernel
theorem dX6_mul_173 : decode cX6_mul 173 = .ok (.aload_n 0, 1) := by decide +kernel
theorem dX6_mul_174 : decode cX6_mul 174 = .ok (.getfield 41, 3) := by decide +kernel
theorem dX6_mul_177 : decode cX6_mul 177 = .ok (.imul, 1) := by decide +kernel
theorem dX6_mul_178 : decode cX6_mul 178 = .ok (.i2l, 1) := by decide +kernel
theorem dX6_mul_179 : decode cX6_mul 179 = .ok (.ldc2_w 68, 3) := by decide +kernel
theorem dX6_mul_182 : decode cX6_mul 182 = .ok (.land, 1) := by decide +kernel
theorem dX6_mul_183 : decode cX6_mul 183 = .ok (.lstore 9, 2) := by decide +kernel
theorem dX6_mul_185 : decode cX6_mul 185 = .ok (.lload 9, 2) := by decide +kernel
theorem dX6_mul_187 : decode cX6_mul 187 = .ok (.aload_n 0, 1) := by decide +kernel
theorem dX6_mul_188 : decode cX6_mul 188 = .ok (.getfield 13, 3) := by decide +kernel
theorem dX6_mul_191 : decode cX6_mul 191 = .ok (.iconst 0, 1) := by decide +kernel
theorem dX6_mul_192 : decode cX6_mul 192 = .ok (.iaload, 1) := by decide +kernel
theorem dX6_mul_193 : decode cX6_mul 193 = .ok (.i2l, 1) := by decide +kernel
theorem dX6_mul_194 : decode cX6_mul 194 = .ok (.ldc2_w 68, 3) := by decide +kernel
theorem dX6_mul_197 : decode cX6_mul 197 = .ok (.land, 1) := by decide +kernel
theorem dX6_mul_198 : decode cX6_mul 198 = .ok (.lmul, 1) := by decide +kernel
theorem dX6_mul_199 : decode cX6_mul 199 = .ok (.aload_n 0, 1) := by decide +kernel
theorem dX6_mul_200 : decode cX6_mul 200 = .ok (.getfield 26, 3) := by decide +kernel
theorem dX6_mul_203 : decode cX6_mul 203 = .ok (.iconst 0, 1) := by decide +kernel
theorem dX6_mul_204 : decode cX6_mul 204 = .ok (.iaload, 1) := by decide +kernel
theorem dX6_mul_205 : decode cX6_mul 205 = .ok (.i2l, 1) := by decide +kernel
theorem dX6_mul_206 : decode cX6_mul 206 = .ok (.ldc2_w 68, 3) := by decide +kernel
theorem dX6_mul_209 : decode cX6_mul 209 = .ok (.land, 1) := by decide +kernel
theorem dX6_mul_210 : decode cX6_mul 210 = .ok (.ladd, 1) := by decide +kernel
theorem dX6_mul_211 : decode cX6_mul 211 = .ok (.bipush 32, 2) := by decide +kernel
theorem dX6_mul_213 : decode cX6_mul 213 = .ok (.lushr, 1) := by decide +kernel
theorem dX6_mul_214 : decode cX6_mul 214 = .ok (.lstore 7, 2) := by decide +kernel
theorem dX6_mul_216 : decode cX6_mul 216 = .ok (.iconst 1, 1) := by decide +kernel
theorem dX6_mul_217 : decode cX6_mul 217 = .ok (.istore 11, 2) := by decide +kernel
theorem dX6_mul_219 : decode cX6_mul 219 = .ok (.iload 11, 2) := by decide +kernel
theorem dX6_mul_221 : decode cX6_mul 221 = .ok (.aload_n 0, 1) := by decide +kernel
theorem dX6_mul_222 : decode cX6_mul 222 = .ok (.getfield 7, 3) := by decide +kernel
theorem dX6_mul_225 : decode cX6_mul 225 = .ok (.if_icmp .ge 61, 3) := by decide +kernel
theorem dX6_mul_228 : decode cX6_mul 228 = .ok (.lload 7, 2) := by decide +kernel
theorem dX6_mul_230 : decode cX6_mul 230 = .ok (.lload 9, 2) := by decide +kernel
theorem dX6_mul_232 : decode cX6_mul 232 = .ok (.aload_n 0, 1) := by decide +kernel
theorem dX6_mul_233 : decode cX6_mul 233 = .ok (.getfield 13, 3) := by decide +kernel
theorem dX6_mul_236 : decode cX6_mul 236 = .ok (.iload 11, 2) := by decide +kernel
theorem dX6_mul_238 : decode cX6_mul 238 = .ok (.iaload, 1) := by decide +kernel
theorem dX6_mul_239 : decode cX6_mul 239 = .ok (.i2l, 1) := by decide +kernel
theorem dX6_mul_240 : decode cX6_mul 240 = .ok (.ldc2_w 68, 3) := by decide +kernel
theorem dX6_mul_243 : decode cX6_mul 243 = .ok (.land, 1) := by decide +kernel
theorem dX6_mul_244 : decode cX6_mul 244 = .ok (.lmul, 1) := by decide +kernel
theorem dX6_mul_245 : decode cX6_mul 245 = .ok (.aload_n 0, 1) := by decide +kernel
theorem dX6_mul_246 : decode cX6_mul 246 = .ok (.getfield 26, 3) := by decide +kernel
theorem dX6_mul_249 : decode cX6_mul 249 = .ok (.iload 11, 2) := by decide +kernel
theorem dX6_mul_251 : decode cX6_mul 251 = .ok (.iaload, 1) := by decide +kernel
theorem dX6_mul_252 : decode cX6_mul 252 = .ok (.i2l, 1) := by decide +kernel
theorem dX6_mul_253 : decode cX6_mul 253 = .ok (.ldc2_w 68, 3) := by decide +kernel
theorem dX6_mul_256 : decode cX6_mul 256 = .ok (.land, 1) := by decide +kernel
theorem dX6_mul_257 : decode cX6_mul 257 = .ok (.ladd, 1) := by decide +kernel
theorem dX6_mul_258 : decode cX6_mul 258 = .ok (.ladd, 1) := by decide +kernel
theorem dX6_mul_259 : decode cX6_mul 259 = .ok (.lstore 7, 2) := by decide +kernel
theorem dX6_mul_261 : decode cX6_mul 261 = .ok (.aload_n 0, 1) := by decide +kernel
theorem dX6_mul_262 : decode cX6_mul 262 = .ok (.getfield 26, 3) := by decide +kernel
theorem dX6_mul_265 : decode cX6_mul 265 = .ok (.iload 11, 2) := by decide +kernel
theorem dX6_mul_267 : decode cX6_mul 267 = .ok (.iconst 1, 1) := by decide +kernel
theorem dX6_mul_268 : decode cX6_mul 268 = .ok (.isub, 1) := by decide +kernel
theorem dX6_mul_269 : decode cX6_mul 269 = .ok (.lload 7, 2) := by decide +kernel
theorem dX6_mul_271 : decode cX6_mul 271 = .ok (.l2i, 1) := by decide +kernel
theorem dX6_mul_272 : decode cX6_mul 272 = .ok (.iastore, 1) := by decide +kernel
theorem dX6_mul_273 : decode cX6_mul 273 = .ok (.lload 7, 2) := by decide +kernel
theorem dX6_mul_275 : decode cX6_mul 275 = .ok (.bipush 32, 2) := by decide +kernel
theorem dX6_mul_277 : decode cX6_mul 277 = .ok (.lushr, 1) := by decide +kernel
theorem dX6_mul_278 : decode cX6_mul 278 = .ok (.lstore 7, 2) := by decide +kernel
theorem dX6_mul_280 : decode cX6_mul 280 = .ok (.iinc 11 1, 3) := by decide +kernel
theorem dX6_mul_283 : decode cX6_mul 283 = .ok (.goto (-64), 3) := by decide +kernel
theorem dX6_mul_286 : decode cX6_mul 286 = .ok (.lload 7, 2) := by decide +kernel
theorem dX6_mul_288 : decode cX6_mul 288 = .ok (.aload_n 0, 1) := by decide +kernel
theorem dX6_mul_289 : decode cX6_mul 289 = .ok (.getfield 26, 3) := by decide +kernel
theorem dX6_mul_292 : decode cX6_mul 292 = .ok (.aload_n 0, 1) := by decide +kernel
theorem dX6_mul_293 : decode cX6_mul 293 = .ok (.getfield 7, 3) := by decide +kernel
theorem dX6_mul_296 : decode cX6_mul 296 = .ok (.iaload, 1) := by decide +kernel
theorem dX6_mul_297 : decode cX6_mul 297 = .ok (.i2l, 1) := by decide +kernel
theorem dX6_mul_298 : decode cX6_mul 298 = .ok (.ldc2_w 68, 3) := by decide +kernel
theorem dX6_mul_301 : decode cX6_mul 301 = .ok (.land, 1) := by decide +kernel
theorem dX6_mul_302 : decode cX6_mul 302 = .ok (.ladd, 1) := by decide +kernel
theorem dX6_mul_303 : decode cX6_mul 303 = .ok (.lstore 7, 2) := by decide +kernel
theorem dX6_mul_305 : decode cX6_mul 305 = .ok (.aload_n 0, 1) := by decide +kernel
theorem dX6_mul_306 : decode cX6_mul 306 = .ok (.getfield 26, 3) := by decide +kernel
theorem dX6_mul_309 : decode cX6_mul 309 = .ok (.aload_n 0, 1) := by decide +kernel
theorem dX6_mul_310 : decode cX6_mul 310 = .ok (.getfield 7, 3) := by decide +kernel
theorem dX6_mul_313 : decode cX6_mul 313 = .ok (.iconst 1, 1) := by decide +kernel
theorem dX6_mul_314 : decode cX6_mul 314 = .ok (.isub, 1) := by decide +kernel
theorem dX6_mul_315 : decode cX6_mul 315 = .ok (.lload 7, 2) := by decide +kernel
theorem dX6_mul_317 : decode cX6_mul 317 = .ok (.l2i, 1) := by decide +kernel
theorem dX6_mul_318 : decode cX6_mul 318 = .ok (.iastore, 1) := by decide +kernel
theorem dX6_mul_319 : decode cX6_mul 319 = .ok (.aload_n 0, 1) := by decide +kernel
theorem dX6_mul_320 : decode cX6_mul 320 = .ok (.getfield 26, 3) := by decide +kernel
theorem dX6_mul_323 : decode cX6_mul 323 = .ok (.aload_n 0, 1) := by decide +kernel
theorem dX6_mul_324 : decode cX6_mul 324 = .ok (.getfield 7, 3) := by decide +kernel
theorem dX6_mul_327 : decode cX6_mul 327 = .ok (.aload_n 0, 1) := by decide +kernel
theorem dX6_mul_328 : decode cX6_mul 328 = .ok (.getfield 26, 3) := by decide +kernel
theorem dX6_mul_331 : decode cX6_mul 331 = .ok (.aload_n 0, 1) := by decide +kernel
theorem dX6_mul_332 : decode cX6_mul 332 = .ok (.getfield 7, 3) := by decide +kernel
theorem dX6_mul_335 : decode cX6_mul 335 = .ok (.iconst 1, 1) := by decide +kernel
theorem dX6_mul_336 : decode cX6_mul 336 = .ok (.iadd, 1) := by decide +kernel
theorem dX6_mul_337 : decode cX6_mul 337 = .ok (.iaload, 1) := by decide +kernel
theorem dX6_mul_338 : decode cX6_mul 338 = .ok (.lload 7, 2) := by decide +kernel
theorem dX6_mul_340 : decode cX6_mul 340 = .ok (.bipush 32, 2) := by decide +kernel
theorem dX6_mul_342 : decode cX6_mul 342 = .ok (.lushr, 1) := by decide +kernel
theorem dX6_mul_343 : decode cX6_mul 343 = .ok (.l2i, 1) := by decide +kernel
theorem dX6_mul_344 : decode cX6_mul 344 = .ok (.iadd, 1) := by decide +kernel
theorem dX6_mul_345 : decode cX6_mul 345 = .ok (.iastore, 1) := by decide +kernel
theorem dX6_mul_346 : decode cX6_mul 346 = .ok (.iinc 4 1, 3) := by decide +kernel
theorem dX6_mul_349 : decode cX6_mul 349 = .ok (.goto (-318), 3) := by decide +kernel
theorem dX6_mul_352 : decode cX6_mul 352 = .ok (.aload_n 0, 1) := by decide +kernel
theorem dX6_mul_353 : decode cX6_mul 353 = .ok (.getfield 26, 3) := by decide +kernel
theorem dX6_mul_356 : decode cX6_mul 356 = .ok (.iconst 0, 1) := by decide +kernel
theorem dX6_mul_357 : decode cX6_mul 357 = .ok (.aload_n 3, 1) := by decide +kernel
theorem dX6_mul_358 : decode cX6_mul 358 = .ok (.iconst 0, 1) := by decide +kernel
theorem dX6_mul_359 : decode cX6_mul 359 = .ok (.aload_n 0, 1) := by decide +kernel
theorem dX6_mul_360 : decode cX6_mul 360 = .ok (.getfield 7, 3) := by decide +kernel
theorem dX6_mul_363 : decode cX6_mul 363 = .ok (.invokestatic 52, 3) := by decide +kernel
theorem dX6_mul_366 : decode cX6_mul 366 = .ok (.aload_n 0, 1) := by decide +kernel
theorem dX6_mul_367 : decode cX6_mul 367 = .ok (.getfield 26, 3) := by decide +kernel
theorem dX6_mul_370 : decode cX6_mul 370 = .ok (.aload_n 0, 1) := by decide +kernel
theorem dX6_mul_371 : decode cX6_mul 371 = .ok (.getfield 7, 3) := by decide +kernel
theorem dX6_mul_374 : decode cX6_mul 374 = .ok (.iaload, 1) := by decide +kernel
theorem dX6_mul_375 : decode cX6_mul 375 = .ok (.ifCond .ne 14, 3) := by decide +kernel
theorem dX6_mul_378 : decode cX6_mul 378 = .ok (.aload_n 3, 1) := by decide +kernel
theorem dX6_mul_379 : decode cX6_mul 379 = .ok (.aload_n 0, 1) := by decide +kernel
theorem dX6_mul_380 : decode cX6_mul 380 = .ok (.getfield 13, 3) := by decide +kernel
theorem dX6_mul_383 : decode cX6_mul 383 = .ok (.invokestatic 64, 3) := by decide +kernel
theorem dX6_mul_386 : decode cX6_mul 386 = .ok (.ifCond .lt 14, 3) := by decide +kernel
theorem dX6_mul_389 : decode cX6_mul 389 = .ok (.aload_n 3, 1) := by decide +kernel
theorem dX6_mul_390 : decode cX6_mul 390 = .ok (.aload_n 0, 1) := by decide +kernel
theorem dX6_mul_391 : decode cX6_mul 391 = .ok (.getfield 13, 3) := by decide +kernel
theorem dX6_mul_394 : decode cX6_mul 394 = .ok (.aload_n 3, 1) := by decide +kernel
theorem dX6_mul_395 : decode cX6_mul 395 = .ok (.invokestatic 74, 3) := by decide +kernel
theorem dX6_mul_398 : decode cX6_mul 398 = .ok (.istore 4, 2) := by decide +kernel
theorem dX6_mul_400 : decode cX6_mul 400 = .ok (.return_, 1) := by decide +kernel
abbrev cX6_shift : ByteArray := prog_9_method_15_code
def yX6_shift : MethodName := ⟨RX6, "shift", "([II)V"⟩
theorem dX6_shift_0 : decode cX6_shift 0 = .ok (.iconst 0, 1) := by decide +kernel
theorem dX6_shift_1 : decode cX6_shift 1 = .ok (.istore_n 2, 1) := by decide +kernel
theorem dX6_shift_2 : decode cX6_shift 2 = .ok (.iload_n 2, 1) := by decide +kernel
theorem dX6_shift_3 : decode cX6_shift 3 = .ok (.aload_n 0, 1) := by decide +kernel
theorem dX6_shift_4 : decode cX6_shift 4 = .ok (.arraylength, 1) := by decide +kernel
theorem dX6_shift_5 : decode cX6_shift 5 = .ok (.if_icmp .ge 38, 3) := by decide +kernel
theorem dX6_shift_8 : decode cX6_shift 8 = .ok (.aload_n 0, 1) := by decide +kernel
theorem dX6_shift_9 : decode cX6_shift 9 = .ok (.iload_n 2, 1) := by decide +kernel
theorem dX6_shift_10 : decode cX6_shift 10 = .ok (.aload_n 0, 1) := by decide +kernel
theorem dX6_shift_11 : decode cX6_shift 11 = .ok (.iload_n 2, 1) := by decide +kernel
theorem dX6_shift_12 : decode cX6_shift 12 = .ok (.iaload, 1) := by decide +kernel
theorem dX6_shift_13 : decode cX6_shift 13 = .ok (.iconst 1, 1) := by decide +kernel
theorem dX6_shift_14 : decode cX6_shift 14 = .ok (.iushr, 1) := by decide +kernel
theorem dX6_shift_15 : decode cX6_shift 15 = .ok (.iload_n 2, 1) := by decide +kernel
theorem dX6_shift_16 : decode cX6_shift 16 = .ok (.iconst 1, 1) := by decide +kernel
theorem dX6_shift_17 : decode cX6_shift 17 = .ok (.iadd, 1) := by decide +kernel
theorem dX6_shift_18 : decode cX6_shift 18 = .ok (.aload_n 0, 1) := by decide +kernel
theorem dX6_shift_19 : decode cX6_shift 19 = .ok (.arraylength, 1) := by decide +kernel
theorem dX6_shift_20 : decode cX6_shift 20 = .ok (.if_icmp .ge 11, 3) := by decide +kernel
theorem dX6_shift_23 : decode cX6_shift 23 = .ok (.aload_n 0, 1) := by decide +kernel
theorem dX6_shift_24 : decode cX6_shift 24 = .ok (.iload_n 2, 1) := by decide +kernel
theorem dX6_shift_25 : decode cX6_shift 25 = .ok (.iconst 1, 1) := by decide +kernel
theorem dX6_shift_26 : decode cX6_shift 26 = .ok (.iadd, 1) := by decide +kernel
theorem dX6_shift_27 : decode cX6_shift 27 = .ok (.iaload, 1) := by decide +kernel
theorem dX6_shift_28 : decode cX6_shift 28 = .ok (.goto 4, 3) := by decide +kernel
theorem dX6_shift_31 : decode cX6_shift 31 = .ok (.iload_n 1, 1) := by decide +kernel
theorem dX6_shift_32 : decode cX6_shift 32 = .ok (.bipush 31, 2) := by decide +kernel
theorem dX6_shift_34 : decode cX6_shift 34 = .ok (.ishl, 1) := by decide +kernel
theorem dX6_shift_35 : decode cX6_shift 35 = .ok (.ior, 1) := by decide +kernel
theorem dX6_shift_36 : decode cX6_shift 36 = .ok (.iastore, 1) := by decide +kernel
theorem dX6_shift_37 : decode cX6_shift 37 = .ok (.iinc 2 1, 3) := by decide +kernel
theorem dX6_shift_40 : decode cX6_shift 40 = .ok (.goto (-38), 3) := by decide +kernel
theorem dX6_shift_43 : decode cX6_shift 43 = .ok (.return_, 1) := by decide +kernel
abbrev cX6_sub : ByteArray := prog_9_method_9_code
def yX6_sub : MethodName := ⟨RX6, "sub", "([I[I[I)V"⟩
theorem dX6_sub_0 : decode cX6_sub 0 = .ok (.aload_n 1, 1) := by decide +kernel
theorem dX6_sub_1 : decode cX6_sub 1 = .ok (.aload_n 2, 1) := by decide +kernel
theorem dX6_sub_2 : decode cX6_sub 2 = .ok (.aload_n 3, 1) := by decide +kernel
theorem dX6_sub_3 : decode cX6_sub 3 = .ok (.invokestatic 74, 3) := by decide +kernel
theorem dX6_sub_6 : decode cX6_sub 6 = .ok (.istore 4, 2) := by decide +kernel
theorem dX6_sub_8 : decode cX6_sub 8 = .ok (.iload 4, 2) := by decide +kernel
theorem dX6_sub_10 : decode cX6_sub 10 = .ok (.ifCond .eq 14, 3) := by decide +kernel
theorem dX6_sub_13 : decode cX6_sub 13 = .ok (.aload_n 3, 1) := by decide +kernel
theorem dX6_sub_14 : decode cX6_sub 14 = .ok (.aload_n 0, 1) := by decide +kernel
theorem dX6_sub_15 : decode cX6_sub 15 = .ok (.getfield 13, 3) := by decide +kernel
theorem dX6_sub_18 : decode cX6_sub 18 = .ok (.aload_n 3, 1) := by decide +kernel
theorem dX6_sub_19 : decode cX6_sub 19 = .ok (.invokestatic 70, 3) := by decide +kernel
theorem dX6_sub_22 : decode cX6_sub 22 = .ok (.istore 4, 2) := by decide +kernel
theorem dX6_sub_24 : decode cX6_sub 24 = .ok (.return_, 1) := by decide +kernel
abbrev cX6_read : ByteArray := prog_9_method_17_code
def yX6_read : MethodName := ⟨RX6, "read", "([BII[I)Z"⟩
theorem dX6_read_0 : decode cX6_read 0 = .ok (.iconst 0, 1) := by decide +kernel
theorem dX6_read_1 : decode cX6_read 1 = .ok (.istore 5, 2) := by decide +kernel
theorem dX6_read_3 : decode cX6_read 3 = .ok (.iload 5, 2) := by decide +kernel
theorem dX6_read_5 : decode cX6_read 5 = .ok (.aload_n 0, 1) := by decide +kernel
theorem dX6_read_6 : decode cX6_read 6 = .ok (.getfield 7, 3) := by decide +kernel
theorem dX6_read_9 : decode cX6_read 9 = .ok (.if_icmp .ge 15, 3) := by decide +kernel
theorem dX6_read_12 : decode cX6_read 12 = .ok (.aload 4, 2) := by decide +kernel
theorem dX6_read_14 : decode cX6_read 14 = .ok (.iload 5, 2) := by decide +kernel
theorem dX6_read_16 : decode cX6_read 16 = .ok (.iconst 0, 1) := by decide +kernel
theorem dX6_read_17 : decode cX6_read 17 = .ok (.iastore, 1) := by decide +kernel
theorem dX6_read_18 : decode cX6_read 18 = .ok (.iinc 5 1, 3) := by decide +kernel
theorem dX6_read_21 : decode cX6_read 21 = .ok (.goto (-18), 3) := by decide +kernel
theorem dX6_read_24 : decode cX6_read 24 = .ok (.iconst 0, 1) := by decide +kernel
theorem dX6_read_25 : decode cX6_read 25 = .ok (.istore 5, 2) := by decide +kernel
theorem dX6_read_27 : decode cX6_read 27 = .ok (.iload 5, 2) := by decide +kernel
theorem dX6_read_29 : decode cX6_read 29 = .ok (.iload_n 3, 1) := by decide +kernel
theorem dX6_read_30 : decode cX6_read 30 = .ok (.if_icmp .ge 45, 3) := by decide +kernel
theorem dX6_read_33 : decode cX6_read 33 = .ok (.iload_n 3, 1) := by decide +kernel
theorem dX6_read_34 : decode cX6_read 34 = .ok (.iconst 1, 1) := by decide +kernel
theorem dX6_read_35 : decode cX6_read 35 = .ok (.isub, 1) := by decide +kernel
theorem dX6_read_36 : decode cX6_read 36 = .ok (.iload 5, 2) := by decide +kernel
theorem dX6_read_38 : decode cX6_read 38 = .ok (.isub, 1) := by decide +kernel
theorem dX6_read_39 : decode cX6_read 39 = .ok (.istore 6, 2) := by decide +kernel
theorem dX6_read_41 : decode cX6_read 41 = .ok (.aload 4, 2) := by decide +kernel
theorem dX6_read_43 : decode cX6_read 43 = .ok (.iload 6, 2) := by decide +kernel
theorem dX6_read_45 : decode cX6_read 45 = .ok (.iconst 2, 1) := by decide +kernel
theorem dX6_read_46 : decode cX6_read 46 = .ok (.ishr, 1) := by decide +kernel
theorem dX6_read_47 : decode cX6_read 47 = .ok (.dup2, 1) := by decide +kernel
theorem dX6_read_48 : decode cX6_read 48 = .ok (.iaload, 1) := by decide +kernel
theorem dX6_read_49 : decode cX6_read 49 = .ok (.aload_n 1, 1) := by decide +kernel
theorem dX6_read_50 : decode cX6_read 50 = .ok (.iload_n 2, 1) := by decide +kernel
theorem dX6_read_51 : decode cX6_read 51 = .ok (.iload 5, 2) := by decide +kernel
theorem dX6_read_53 : decode cX6_read 53 = .ok (.iadd, 1) := by decide +kernel
theorem dX6_read_54 : decode cX6_read 54 = .ok (.baload, 1) := by decide +kernel
theorem dX6_read_55 : decode cX6_read 55 = .ok (.sipush 255, 3) := by decide +kernel
theorem dX6_read_58 : decode cX6_read 58 = .ok (.iand, 1) := by decide +kernel
theorem dX6_read_59 : decode cX6_read 59 = .ok (.bipush 8, 2) := by decide +kernel
theorem dX6_read_61 : decode cX6_read 61 = .ok (.iload 6, 2) := by decide +kernel
theorem dX6_read_63 : decode cX6_read 63 = .ok (.iconst 3, 1) := by decide +kernel
theorem dX6_read_64 : decode cX6_read 64 = .ok (.iand, 1) := by decide +kernel
theorem dX6_read_65 : decode cX6_read 65 = .ok (.imul, 1) := by decide +kernel
theorem dX6_read_66 : decode cX6_read 66 = .ok (.ishl, 1) := by decide +kernel
theorem dX6_read_67 : decode cX6_read 67 = .ok (.ior, 1) := by decide +kernel
theorem dX6_read_68 : decode cX6_read 68 = .ok (.iastore, 1) := by decide +kernel
theorem dX6_read_69 : decode cX6_read 69 = .ok (.iinc 5 1, 3) := by decide +kernel
theorem dX6_read_72 : decode cX6_read 72 = .ok (.goto (-45), 3) := by decide +kernel
theorem dX6_read_75 : decode cX6_read 75 = .ok (.aload_n 0, 1) := by decide +kernel
theorem dX6_read_76 : decode cX6_read 76 = .ok (.aload 4, 2) := by decide +kernel
theorem dX6_read_78 : decode cX6_read 78 = .ok (.invokevirtual 100, 3) := by decide +kernel
theorem dX6_read_81 : decode cX6_read 81 = .ok (.ireturn, 1) := by decide +kernel
abbrev cX6_isBelow : ByteArray := prog_9_method_5_code
def yX6_isBelow : MethodName := ⟨RX6, "isBelow", "([I)Z"⟩
theorem dX6_isBelow_0 : decode cX6_isBelow 0 = .ok (.aload_n 1, 1) := by decide +kernel
theorem dX6_isBelow_1 : decode cX6_isBelow 1 = .ok (.aload_n 0, 1) := by decide +kernel
theorem dX6_isBelow_2 : decode cX6_isBelow 2 = .ok (.getfield 13, 3) := by decide +kernel
theorem dX6_isBelow_5 : decode cX6_isBelow 5 = .ok (.invokestatic 64, 3) := by decide +kernel
theorem dX6_isBelow_8 : decode cX6_isBelow 8 = .ok (.ifCond .ge 7, 3) := by decide +kernel
theorem dX6_isBelow_11 : decode cX6_isBelow 11 = .ok (.iconst 1, 1) := by decide +kernel
theorem dX6_isBelow_12 : decode cX6_isBelow 12 = .ok (.goto 4, 3) := by decide +kernel
theorem dX6_isBelow_15 : decode cX6_isBelow 15 = .ok (.iconst 0, 1) := by decide +kernel
theorem dX6_isBelow_16 : decode cX6_isBelow 16 = .ok (.ireturn, 1) := by decide +kernel
abbrev cX6_isZero : ByteArray := prog_9_method_3_code
def yX6_isZero : MethodName := ⟨RX6, "isZero", "([I)Z"⟩
theorem dX6_isZero_0 : decode cX6_isZero 0 = .ok (.iconst 0, 1) := by decide +kernel
theorem dX6_isZero_1 : decode cX6_isZero 1 = .ok (.istore_n 1, 1) := by decide +kernel
theorem dX6_isZero_2 : decode cX6_isZero 2 = .ok (.iconst 0, 1) := by decide +kernel
theorem dX6_isZero_3 : decode cX6_isZero 3 = .ok (.istore_n 2, 1) := by decide +kernel
theorem dX6_isZero_4 : decode cX6_isZero 4 = .ok (.iload_n 2, 1) := by decide +kernel
theorem dX6_isZero_5 : decode cX6_isZero 5 = .ok (.aload_n 0, 1) := by decide +kernel
theorem dX6_isZero_6 : decode cX6_isZero 6 = .ok (.arraylength, 1) := by decide +kernel
theorem dX6_isZero_7 : decode cX6_isZero 7 = .ok (.if_icmp .ge 15, 3) := by decide +kernel
theorem dX6_isZero_10 : decode cX6_isZero 10 = .ok (.iload_n 1, 1) := by decide +kernel
theorem dX6_isZero_11 : decode cX6_isZero 11 = .ok (.aload_n 0, 1) := by decide +kernel
theorem dX6_isZero_12 : decode cX6_isZero 12 = .ok (.iload_n 2, 1) := by decide +kernel
theorem dX6_isZero_13 : decode cX6_isZero 13 = .ok (.iaload, 1) := by decide +kernel
theorem dX6_isZero_14 : decode cX6_isZero 14 = .ok (.ior, 1) := by decide +kernel
theorem dX6_isZero_15 : decode cX6_isZero 15 = .ok (.istore_n 1, 1) := by decide +kernel
theorem dX6_isZero_16 : decode cX6_isZero 16 = .ok (.iinc 2 1, 3) := by decide +kernel
theorem dX6_isZero_19 : decode cX6_isZero 19 = .ok (.goto (-15), 3) := by decide +kernel
theorem dX6_isZero_22 : decode cX6_isZero 22 = .ok (.iload_n 1, 1) := by decide +kernel
theorem dX6_isZero_23 : decode cX6_isZero 23 = .ok (.ifCond .ne 7, 3) := by decide +kernel
theorem dX6_isZero_26 : decode cX6_isZero 26 = .ok (.iconst 1, 1) := by decide +kernel
theorem dX6_isZero_27 : decode cX6_isZero 27 = .ok (.goto 4, 3) := by decide +kernel
theorem dX6_isZero_30 : decode cX6_isZero 30 = .ok (.iconst 0, 1) := by decide +kernel
theorem dX6_isZero_31 : decode cX6_isZero 31 = .ok (.ireturn, 1) := by decide +kernel
abbrev cX6_from : ByteArray := prog_9_method_12_code
def yX6_from : MethodName := ⟨RX6, "from", "([I[I)V"⟩
theorem dX6_from_0 : decode cX6_from 0 = .ok (.aload_n 0, 1) := by decide +kernel
theorem dX6_from_1 : decode cX6_from 1 = .ok (.aload_n 1, 1) := by decide +kernel
theorem dX6_from_2 : decode cX6_from 2 = .ok (.aload_n 0, 1) := by decide +kernel
theorem dX6_from_3 : decode cX6_from 3 = .ok (.getfield 23, 3) := by decide +kernel
theorem dX6_from_6 : decode cX6_from 6 = .ok (.aload_n 2, 1) := by decide +kernel
theorem dX6_from_7 : decode cX6_from 7 = .ok (.invokevirtual 77, 3) := by decide +kernel
theorem dX6_from_10 : decode cX6_from 10 = .ok (.return_, 1) := by decide +kernel
abbrev cX6_inverse : ByteArray := prog_9_method_16_code
def yX6_inverse : MethodName := ⟨RX6, "inverse", "([I[I)Z"⟩
theorem dX6_inverse_0 : decode cX6_inverse 0 = .ok (.aload_n 1, 1) := by decide +kernel
theorem dX6_inverse_1 : decode cX6_inverse 1 = .ok (.invokestatic 89, 3) := by decide +kernel
theorem dX6_inverse_4 : decode cX6_inverse 4 = .ok (.ifCond .eq 5, 3) := by decide +kernel
theorem dX6_inverse_7 : decode cX6_inverse 7 = .ok (.iconst 0, 1) := by decide +kernel
theorem dX6_inverse_8 : decode cX6_inverse 8 = .ok (.ireturn, 1) := by decide +kernel
theorem dX6_inverse_9 : decode cX6_inverse 9 = .ok (.aload_n 1, 1) := by decide +kernel
theorem dX6_inverse_10 : decode cX6_inverse 10 = .ok (.aload_n 0, 1) := by decide +kernel
theorem dX6_inverse_11 : decode cX6_inverse 11 = .ok (.getfield 29, 3) := by decide +kernel
theorem dX6_inverse_14 : decode cX6_inverse 14 = .ok (.invokestatic 44, 3) := by decide +kernel
theorem dX6_inverse_17 : decode cX6_inverse 17 = .ok (.aload_n 0, 1) := by decide +kernel
theorem dX6_inverse_18 : decode cX6_inverse 18 = .ok (.getfield 13, 3) := by decide +kernel
theorem dX6_inverse_21 : decode cX6_inverse 21 = .ok (.aload_n 0, 1) := by decide +kernel
theorem dX6_inverse_22 : decode cX6_inverse 22 = .ok (.getfield 32, 3) := by decide +kernel
theorem dX6_inverse_25 : decode cX6_inverse 25 = .ok (.invokestatic 44, 3) := by decide +kernel
theorem dX6_inverse_28 : decode cX6_inverse 28 = .ok (.aload_n 0, 1) := by decide +kernel
theorem dX6_inverse_29 : decode cX6_inverse 29 = .ok (.getfield 23, 3) := by decide +kernel
theorem dX6_inverse_32 : decode cX6_inverse 32 = .ok (.aload_n 0, 1) := by decide +kernel
theorem dX6_inverse_33 : decode cX6_inverse 33 = .ok (.getfield 35, 3) := by decide +kernel
theorem dX6_inverse_36 : decode cX6_inverse 36 = .ok (.invokestatic 44, 3) := by decide +kernel
theorem dX6_inverse_39 : decode cX6_inverse 39 = .ok (.iconst 0, 1) := by decide +kernel
theorem dX6_inverse_40 : decode cX6_inverse 40 = .ok (.istore_n 3, 1) := by decide +kernel
theorem dX6_inverse_41 : decode cX6_inverse 41 = .ok (.iload_n 3, 1) := by decide +kernel
theorem dX6_inverse_42 : decode cX6_inverse 42 = .ok (.aload_n 0, 1) := by decide +kernel
theorem dX6_inverse_43 : decode cX6_inverse 43 = .ok (.getfield 7, 3) := by decide +kernel
theorem dX6_inverse_46 : decode cX6_inverse 46 = .ok (.if_icmp .ge 16, 3) := by decide +kernel
theorem dX6_inverse_49 : decode cX6_inverse 49 = .ok (.aload_n 0, 1) := by decide +kernel
theorem dX6_inverse_50 : decode cX6_inverse 50 = .ok (.getfield 38, 3) := by decide +kernel
theorem dX6_inverse_53 : decode cX6_inverse 53 = .ok (.iload_n 3, 1) := by decide +kernel
theorem dX6_inverse_54 : decode cX6_inverse 54 = .ok (.iconst 0, 1) := by decide +kernel
theorem dX6_inverse_55 : decode cX6_inverse 55 = .ok (.iastore, 1) := by decide +kernel
theorem dX6_inverse_56 : decode cX6_inverse 56 = .ok (.iinc 3 1, 3) := by decide +kernel
theorem dX6_inverse_59 : decode cX6_inverse 59 = .ok (.goto (-18), 3) := by decide +kernel
theorem dX6_inverse_62 : decode cX6_inverse 62 = .ok (.iconst 0, 1) := by decide +kernel
theorem dX6_inverse_63 : decode cX6_inverse 63 = .ok (.istore_n 3, 1) := by decide +kernel
theorem dX6_inverse_64 : decode cX6_inverse 64 = .ok (.aload_n 0, 1) := by decide +kernel
theorem dX6_inverse_65 : decode cX6_inverse 65 = .ok (.getfield 29, 3) := by decide +kernel
theorem dX6_inverse_68 : decode cX6_inverse 68 = .ok (.invokestatic 89, 3) := by decide +kernel
theorem dX6_inverse_71 : decode cX6_inverse 71 = .ok (.ifCond .ne 147, 3) := by decide +kernel
theorem dX6_inverse_74 : decode cX6_inverse 74 = .ok (.aload_n 0, 1) := by decide +kernel
theorem dX6_inverse_75 : decode cX6_inverse 75 = .ok (.getfield 29, 3) := by decide +kernel
theorem dX6_inverse_78 : decode cX6_inverse 78 = .ok (.iconst 0, 1) := by decide +kernel
theorem dX6_inverse_79 : decode cX6_inverse 79 = .ok (.iaload, 1) := by decide +kernel
theorem dX6_inverse_80 : decode cX6_inverse 80 = .ok (.iconst 1, 1) := by decide +kernel
theorem dX6_inverse_81 : decode cX6_inverse 81 = .ok (.iand, 1) := by decide +kernel
theorem dX6_inverse_82 : decode cX6_inverse 82 = .ok (.ifCond .ne 22, 3) := by decide +kernel
theorem dX6_inverse_85 : decode cX6_inverse 85 = .ok (.aload_n 0, 1) := by decide +kernel
theorem dX6_inverse_86 : decode cX6_inverse 86 = .ok (.getfield 29, 3) := by decide +kernel
theorem dX6_inverse_89 : decode cX6_inverse 89 = .ok (.iconst 0, 1) := by decide +kernel
theorem dX6_inverse_90 : decode cX6_inverse 90 = .ok (.invokestatic 85, 3) := by decide +kernel
theorem dX6_inverse_93 : decode cX6_inverse 93 = .ok (.aload_n 0, 1) := by decide +kernel
theorem dX6_inverse_94 : decode cX6_inverse 94 = .ok (.aload_n 0, 1) := by decide +kernel
theorem dX6_inverse_95 : decode cX6_inverse 95 = .ok (.getfield 35, 3) := by decide +kernel
theorem dX6_inverse_98 : decode cX6_inverse 98 = .ok (.invokevirtual 93, 3) := by decide +kernel
theorem dX6_inverse_101 : decode cX6_inverse 101 = .ok (.goto (-27), 3) := by decide +kernel
theorem dX6_inverse_104 : decode cX6_inverse 104 = .ok (.aload_n 0, 1) := by decide +kernel
theorem dX6_inverse_105 : decode cX6_inverse 105 = .ok (.getfield 32, 3) := by decide +kernel
theorem dX6_inverse_108 : decode cX6_inverse 108 = .ok (.iconst 0, 1) := by decide +kernel
theorem dX6_inverse_109 : decode cX6_inverse 109 = .ok (.iaload, 1) := by decide +kernel
theorem dX6_inverse_110 : decode cX6_inverse 110 = .ok (.iconst 1, 1) := by decide +kernel
theorem dX6_inverse_111 : decode cX6_inverse 111 = .ok (.iand, 1) := by decide +kernel
theorem dX6_inverse_112 : decode cX6_inverse 112 = .ok (.ifCond .ne 22, 3) := by decide +kernel
theorem dX6_inverse_115 : decode cX6_inverse 115 = .ok (.aload_n 0, 1) := by decide +kernel
theorem dX6_inverse_116 : decode cX6_inverse 116 = .ok (.getfield 32, 3) := by decide +kernel
theorem dX6_inverse_119 : decode cX6_inverse 119 = .ok (.iconst 0, 1) := by decide +kernel
theorem dX6_inverse_120 : decode cX6_inverse 120 = .ok (.invokestatic 85, 3) := by decide +kernel
theorem dX6_inverse_123 : decode cX6_inverse 123 = .ok (.aload_n 0, 1) := by decide +kernel
theorem dX6_inverse_124 : decode cX6_inverse 124 = .ok (.aload_n 0, 1) := by decide +kernel
theorem dX6_inverse_125 : decode cX6_inverse 125 = .ok (.getfield 38, 3) := by decide +kernel
theorem dX6_inverse_128 : decode cX6_inverse 128 = .ok (.invokevirtual 93, 3) := by decide +kernel
theorem dX6_inverse_131 : decode cX6_inverse 131 = .ok (.goto (-27), 3) := by decide +kernel
theorem dX6_inverse_134 : decode cX6_inverse 134 = .ok (.aload_n 0, 1) := by decide +kernel
theorem dX6_inverse_135 : decode cX6_inverse 135 = .ok (.getfield 29, 3) := by decide +kernel
theorem dX6_inverse_138 : decode cX6_inverse 138 = .ok (.aload_n 0, 1) := by decide +kernel
theorem dX6_inverse_139 : decode cX6_inverse 139 = .ok (.getfield 32, 3) := by decide +kernel
theorem dX6_inverse_142 : decode cX6_inverse 142 = .ok (.invokestatic 64, 3) := by decide +kernel
theorem dX6_inverse_145 : decode cX6_inverse 145 = .ok (.ifCond .lt 38, 3) := by decide +kernel
theorem dX6_inverse_148 : decode cX6_inverse 148 = .ok (.aload_n 0, 1) := by decide +kernel
theorem dX6_inverse_149 : decode cX6_inverse 149 = .ok (.getfield 29, 3) := by decide +kernel
theorem dX6_inverse_152 : decode cX6_inverse 152 = .ok (.aload_n 0, 1) := by decide +kernel
theorem dX6_inverse_153 : decode cX6_inverse 153 = .ok (.getfield 32, 3) := by decide +kernel
theorem dX6_inverse_156 : decode cX6_inverse 156 = .ok (.aload_n 0, 1) := by decide +kernel
theorem dX6_inverse_157 : decode cX6_inverse 157 = .ok (.getfield 29, 3) := by decide +kernel
theorem dX6_inverse_160 : decode cX6_inverse 160 = .ok (.invokestatic 74, 3) := by decide +kernel
theorem dX6_inverse_163 : decode cX6_inverse 163 = .ok (.istore_n 3, 1) := by decide +kernel
theorem dX6_inverse_164 : decode cX6_inverse 164 = .ok (.aload_n 0, 1) := by decide +kernel
theorem dX6_inverse_165 : decode cX6_inverse 165 = .ok (.aload_n 0, 1) := by decide +kernel
theorem dX6_inverse_166 : decode cX6_inverse 166 = .ok (.getfield 35, 3) := by decide +kernel
theorem dX6_inverse_169 : decode cX6_inverse 169 = .ok (.aload_n 0, 1) := by decide +kernel
theorem dX6_inverse_170 : decode cX6_inverse 170 = .ok (.getfield 38, 3) := by decide +kernel
theorem dX6_inverse_173 : decode cX6_inverse 173 = .ok (.aload_n 0, 1) := by decide +kernel
theorem dX6_inverse_174 : decode cX6_inverse 174 = .ok (.getfield 35, 3) := by decide +kernel
theorem dX6_inverse_177 : decode cX6_inverse 177 = .ok (.invokevirtual 97, 3) := by decide +kernel
theorem dX6_inverse_180 : decode cX6_inverse 180 = .ok (.goto (-116), 3) := by decide +kernel
theorem dX6_inverse_183 : decode cX6_inverse 183 = .ok (.aload_n 0, 1) := by decide +kernel
theorem dX6_inverse_184 : decode cX6_inverse 184 = .ok (.getfield 32, 3) := by decide +kernel
theorem dX6_inverse_187 : decode cX6_inverse 187 = .ok (.aload_n 0, 1) := by decide +kernel
theorem dX6_inverse_188 : decode cX6_inverse 188 = .ok (.getfield 29, 3) := by decide +kernel
theorem dX6_inverse_191 : decode cX6_inverse 191 = .ok (.aload_n 0, 1) := by decide +kernel
theorem dX6_inverse_192 : decode cX6_inverse 192 = .ok (.getfield 32, 3) := by decide +kernel
theorem dX6_inverse_195 : decode cX6_inverse 195 = .ok (.invokestatic 74, 3) := by decide +kernel
theorem dX6_inverse_198 : decode cX6_inverse 198 = .ok (.istore_n 3, 1) := by decide +kernel
theorem dX6_inverse_199 : decode cX6_inverse 199 = .ok (.aload_n 0, 1) := by decide +kernel
theorem dX6_inverse_200 : decode cX6_inverse 200 = .ok (.aload_n 0, 1) := by decide +kernel
theorem dX6_inverse_201 : decode cX6_inverse 201 = .ok (.getfield 38, 3) := by decide +kernel
theorem dX6_inverse_204 : decode cX6_inverse 204 = .ok (.aload_n 0, 1) := by decide +kernel
theorem dX6_inverse_205 : decode cX6_inverse 205 = .ok (.getfield 35, 3) := by decide +kernel
theorem dX6_inverse_208 : decode cX6_inverse 208 = .ok (.aload_n 0, 1) := by decide +kernel
theorem dX6_inverse_209 : decode cX6_inverse 209 = .ok (.getfield 38, 3) := by decide +kernel
theorem dX6_inverse_212 : decode cX6_inverse 212 = .ok (.invokevirtual 97, 3) := by decide +kernel
theorem dX6_inverse_215 : decode cX6_inverse 215 = .ok (.goto (-151), 3) := by decide +kernel
theorem dX6_inverse_218 : decode cX6_inverse 218 = .ok (.aload_n 0, 1) := by decide +kernel
theorem dX6_inverse_219 : decode cX6_inverse 219 = .ok (.getfield 38, 3) := by decide +kernel
theorem dX6_inverse_222 : decode cX6_inverse 222 = .ok (.aload_n 2, 1) := by decide +kernel
theorem dX6_inverse_223 : decode cX6_inverse 223 = .ok (.invokestatic 44, 3) := by decide +kernel
theorem dX6_inverse_226 : decode cX6_inverse 226 = .ok (.aload_n 0, 1) := by decide +kernel
theorem dX6_inverse_227 : decode cX6_inverse 227 = .ok (.getfield 32, 3) := by decide +kernel
theorem dX6_inverse_230 : decode cX6_inverse 230 = .ok (.aload_n 0, 1) := by decide +kernel
theorem dX6_inverse_231 : decode cX6_inverse 231 = .ok (.getfield 23, 3) := by decide +kernel
theorem dX6_inverse_234 : decode cX6_inverse 234 = .ok (.invokestatic 64, 3) := by decide +kernel
theorem dX6_inverse_237 : decode cX6_inverse 237 = .ok (.ifCond .ne 7, 3) := by decide +kernel
theorem dX6_inverse_240 : decode cX6_inverse 240 = .ok (.iconst 1, 1) := by decide +kernel
theorem dX6_inverse_241 : decode cX6_inverse 241 = .ok (.goto 4, 3) := by decide +kernel
theorem dX6_inverse_244 : decode cX6_inverse 244 = .ok (.iconst 0, 1) := by decide +kernel
theorem dX6_inverse_245 : decode cX6_inverse 245 = .ok (.ireturn, 1) := by decide +kernel
abbrev cX6_half : ByteArray := prog_9_method_14_code
def yX6_half : MethodName := ⟨RX6, "half", "([I)V"⟩
theorem dX6_half_0 : decode cX6_half 0 = .ok (.iconst 0, 1) := by decide +kernel
theorem dX6_half_1 : decode cX6_half 1 = .ok (.istore_n 2, 1) := by decide +kernel
theorem dX6_half_2 : decode cX6_half 2 = .ok (.aload_n 1, 1) := by decide +kernel
theorem dX6_half_3 : decode cX6_half 3 = .ok (.iconst 0, 1) := by decide +kernel
theorem dX6_half_4 : decode cX6_half 4 = .ok (.iaload, 1) := by decide +kernel
theorem dX6_half_5 : decode cX6_half 5 = .ok (.iconst 1, 1) := by decide +kernel
theorem dX6_half_6 : decode cX6_half 6 = .ok (.iand, 1) := by decide +kernel
theorem dX6_half_7 : decode cX6_half 7 = .ok (.iconst 1, 1) := by decide +kernel
theorem dX6_half_8 : decode cX6_half 8 = .ok (.if_icmp .ne 13, 3) := by decide +kernel
theorem dX6_half_11 : decode cX6_half 11 = .ok (.aload_n 1, 1) := by decide +kernel
theorem dX6_half_12 : decode cX6_half 12 = .ok (.aload_n 0, 1) := by decide +kernel
theorem dX6_half_13 : decode cX6_half 13 = .ok (.getfield 13, 3) := by decide +kernel
theorem dX6_half_16 : decode cX6_half 16 = .ok (.aload_n 1, 1) := by decide +kernel
theorem dX6_half_17 : decode cX6_half 17 = .ok (.invokestatic 70, 3) := by decide +kernel
theorem dX6_half_20 : decode cX6_half 20 = .ok (.istore_n 2, 1) := by decide +kernel
theorem dX6_half_21 : decode cX6_half 21 = .ok (.aload_n 1, 1) := by decide +kernel
theorem dX6_half_22 : decode cX6_half 22 = .ok (.iload_n 2, 1) := by decide +kernel
theorem dX6_half_23 : decode cX6_half 23 = .ok (.invokestatic 85, 3) := by decide +kernel
theorem dX6_half_26 : decode cX6_half 26 = .ok (.return_, 1) := by decide +kernel
abbrev cX6_write : ByteArray := prog_9_method_18_code
def yX6_write : MethodName := ⟨RX6, "write", "([I[BII)V"⟩
theorem dX6_write_0 : decode cX6_write 0 = .ok (.iconst 0, 1) := by decide +kernel
theorem dX6_write_1 : decode cX6_write 1 = .ok (.istore 4, 2) := by decide +kernel
theorem dX6_write_3 : decode cX6_write 3 = .ok (.iload 4, 2) := by decide +kernel
theorem dX6_write_5 : decode cX6_write 5 = .ok (.iload_n 3, 1) := by decide +kernel
theorem dX6_write_6 : decode cX6_write 6 = .ok (.if_icmp .ge 38, 3) := by decide +kernel
theorem dX6_write_9 : decode cX6_write 9 = .ok (.iload_n 3, 1) := by decide +kernel
theorem dX6_write_10 : decode cX6_write 10 = .ok (.iconst 1, 1) := by decide +kernel
theorem dX6_write_11 : decode cX6_write 11 = .ok (.isub, 1) := by decide +kernel
theorem dX6_write_12 : decode cX6_write 12 = .ok (.iload 4, 2) := by decide +kernel
theorem dX6_write_14 : decode cX6_write 14 = .ok (.isub, 1) := by decide +kernel
theorem dX6_write_15 : decode cX6_write 15 = .ok (.istore 5, 2) := by decide +kernel
theorem dX6_write_17 : decode cX6_write 17 = .ok (.aload_n 1, 1) := by decide +kernel
theorem dX6_write_18 : decode cX6_write 18 = .ok (.iload_n 2, 1) := by decide +kernel
theorem dX6_write_19 : decode cX6_write 19 = .ok (.iload 4, 2) := by decide +kernel
theorem dX6_write_21 : decode cX6_write 21 = .ok (.iadd, 1) := by decide +kernel
theorem dX6_write_22 : decode cX6_write 22 = .ok (.aload_n 0, 1) := by decide +kernel
theorem dX6_write_23 : decode cX6_write 23 = .ok (.iload 5, 2) := by decide +kernel
theorem dX6_write_25 : decode cX6_write 25 = .ok (.iconst 2, 1) := by decide +kernel
theorem dX6_write_26 : decode cX6_write 26 = .ok (.ishr, 1) := by decide +kernel
theorem dX6_write_27 : decode cX6_write 27 = .ok (.iaload, 1) := by decide +kernel
theorem dX6_write_28 : decode cX6_write 28 = .ok (.bipush 8, 2) := by decide +kernel
theorem dX6_write_30 : decode cX6_write 30 = .ok (.iload 5, 2) := by decide +kernel
theorem dX6_write_32 : decode cX6_write 32 = .ok (.iconst 3, 1) := by decide +kernel
theorem dX6_write_33 : decode cX6_write 33 = .ok (.iand, 1) := by decide +kernel
theorem dX6_write_34 : decode cX6_write 34 = .ok (.imul, 1) := by decide +kernel
theorem dX6_write_35 : decode cX6_write 35 = .ok (.ishr, 1) := by decide +kernel
theorem dX6_write_36 : decode cX6_write 36 = .ok (.i2b, 1) := by decide +kernel
theorem dX6_write_37 : decode cX6_write 37 = .ok (.bastore, 1) := by decide +kernel
theorem dX6_write_38 : decode cX6_write 38 = .ok (.iinc 4 1, 3) := by decide +kernel
theorem dX6_write_41 : decode cX6_write 41 = .ok (.goto (-38), 3) := by decide +kernel
theorem dX6_write_44 : decode cX6_write 44 = .ok (.return_, 1) := by decide +kernel
abbrev cX6_rest : ByteArray := prog_9_method_19_code
def yX6_rest : MethodName := ⟨RX6, "rest", "([BII[I)V"⟩
theorem dX6_rest_0 : decode cX6_rest 0 = .ok (.iconst 0, 1) := by decide +kernel
theorem dX6_rest_1 : decode cX6_rest 1 = .ok (.istore 5, 2) := by decide +kernel
theorem dX6_rest_3 : decode cX6_rest 3 = .ok (.iload 5, 2) := by decide +kernel
theorem dX6_rest_5 : decode cX6_rest 5 = .ok (.aload_n 0, 1) := by decide +kernel
theorem dX6_rest_6 : decode cX6_rest 6 = .ok (.getfield 7, 3) := by decide +kernel
theorem dX6_rest_9 : decode cX6_rest 9 = .ok (.if_icmp .ge 15, 3) := by decide +kernel
theorem dX6_rest_12 : decode cX6_rest 12 = .ok (.aload 4, 2) := by decide +kernel
theorem dX6_rest_14 : decode cX6_rest 14 = .ok (.iload 5, 2) := by decide +kernel
theorem dX6_rest_16 : decode cX6_rest 16 = .ok (.iconst 0, 1) := by decide +kernel
theorem dX6_rest_17 : decode cX6_rest 17 = .ok (.iastore, 1) := by decide +kernel
theorem dX6_rest_18 : decode cX6_rest 18 = .ok (.iinc 5 1, 3) := by decide +kernel
theorem dX6_rest_21 : decode cX6_rest 21 = .ok (.goto (-18), 3) := by decide +kernel
theorem dX6_rest_24 : decode cX6_rest 24 = .ok (.iconst 0, 1) := by decide +kernel
theorem dX6_rest_25 : decode cX6_rest 25 = .ok (.istore 5, 2) := by decide +kernel
theorem dX6_rest_27 : decode cX6_rest 27 = .ok (.iload 5, 2) := by decide +kernel
theorem dX6_rest_29 : decode cX6_rest 29 = .ok (.iload_n 3, 1) := by decide +kernel
theorem dX6_rest_30 : decode cX6_rest 30 = .ok (.if_icmp .ge 61, 3) := by decide +kernel
theorem dX6_rest_33 : decode cX6_rest 33 = .ok (.bipush 7, 2) := by decide +kernel
theorem dX6_rest_35 : decode cX6_rest 35 = .ok (.istore 6, 2) := by decide +kernel
theorem dX6_rest_37 : decode cX6_rest 37 = .ok (.iload 6, 2) := by decide +kernel
theorem dX6_rest_39 : decode cX6_rest 39 = .ok (.ifCond .lt 46, 3) := by decide +kernel
theorem dX6_rest_42 : decode cX6_rest 42 = .ok (.aload_n 0, 1) := by decide +kernel
theorem dX6_rest_43 : decode cX6_rest 43 = .ok (.aload 4, 2) := by decide +kernel
theorem dX6_rest_45 : decode cX6_rest 45 = .ok (.aload 4, 2) := by decide +kernel
theorem dX6_rest_47 : decode cX6_rest 47 = .ok (.aload 4, 2) := by decide +kernel
theorem dX6_rest_49 : decode cX6_rest 49 = .ok (.invokevirtual 48, 3) := by decide +kernel
theorem dX6_rest_52 : decode cX6_rest 52 = .ok (.aload_n 1, 1) := by decide +kernel
theorem dX6_rest_53 : decode cX6_rest 53 = .ok (.iload_n 2, 1) := by decide +kernel
theorem dX6_rest_54 : decode cX6_rest 54 = .ok (.iload 5, 2) := by decide +kernel
theorem dX6_rest_56 : decode cX6_rest 56 = .ok (.iadd, 1) := by decide +kernel
theorem dX6_rest_57 : decode cX6_rest 57 = .ok (.baload, 1) := by decide +kernel
theorem dX6_rest_58 : decode cX6_rest 58 = .ok (.iload 6, 2) := by decide +kernel
theorem dX6_rest_60 : decode cX6_rest 60 = .ok (.ishr, 1) := by decide +kernel
theorem dX6_rest_61 : decode cX6_rest 61 = .ok (.iconst 1, 1) := by decide +kernel
theorem dX6_rest_62 : decode cX6_rest 62 = .ok (.iand, 1) := by decide +kernel
theorem dX6_rest_63 : decode cX6_rest 63 = .ok (.iconst 1, 1) := by decide +kernel
theorem dX6_rest_64 : decode cX6_rest 64 = .ok (.if_icmp .ne 15, 3) := by decide +kernel
theorem dX6_rest_67 : decode cX6_rest 67 = .ok (.aload_n 0, 1) := by decide +kernel
theorem dX6_rest_68 : decode cX6_rest 68 = .ok (.aload 4, 2) := by decide +kernel
theorem dX6_rest_70 : decode cX6_rest 70 = .ok (.aload_n 0, 1) := by decide +kernel
theorem dX6_rest_71 : decode cX6_rest 71 = .ok (.getfield 23, 3) := by decide +kernel
theorem dX6_rest_74 : decode cX6_rest 74 = .ok (.aload 4, 2) := by decide +kernel
theorem dX6_rest_76 : decode cX6_rest 76 = .ok (.invokevirtual 48, 3) := by decide +kernel
theorem dX6_rest_79 : decode cX6_rest 79 = .ok (.iinc 6 (-1), 3) := by decide +kernel
theorem dX6_rest_82 : decode cX6_rest 82 = .ok (.goto (-45), 3) := by decide +kernel
theorem dX6_rest_85 : decode cX6_rest 85 = .ok (.iinc 5 1, 3) := by decide +kernel
theorem dX6_rest_88 : decode cX6_rest 88 = .ok (.goto (-61), 3) := by decide +kernel
theorem dX6_rest_91 : decode cX6_rest 91 = .ok (.return_, 1) := by decide +kernel
abbrev cX6_pow : ByteArray := prog_9_method_13_code
def yX6_pow : MethodName := ⟨RX6, "pow", "([I[I[I)V"⟩
theorem dX6_pow_0 : decode cX6_pow 0 = .ok (.aload_n 1, 1) := by decide +kernel
theorem dX6_pow_1 : decode cX6_pow 1 = .ok (.invokevirtual 80, 3) := by decide +kernel
theorem dX6_pow_4 : decode cX6_pow 4 = .ok (.checkcast 81, 3) := by decide +kernel
theorem dX6_pow_7 : decode cX6_pow 7 = .ok (.astore 4, 2) := by decide +kernel
theorem dX6_pow_9 : decode cX6_pow 9 = .ok (.aload_n 0, 1) := by decide +kernel
theorem dX6_pow_10 : decode cX6_pow 10 = .ok (.getfield 17, 3) := by decide +kernel
theorem dX6_pow_13 : decode cX6_pow 13 = .ok (.aload_n 3, 1) := by decide +kernel
theorem dX6_pow_14 : decode cX6_pow 14 = .ok (.invokestatic 44, 3) := by decide +kernel
theorem dX6_pow_17 : decode cX6_pow 17 = .ok (.bipush 32, 2) := by decide +kernel
theorem dX6_pow_19 : decode cX6_pow 19 = .ok (.aload_n 2, 1) := by decide +kernel
theorem dX6_pow_20 : decode cX6_pow 20 = .ok (.arraylength, 1) := by decide +kernel
theorem dX6_pow_21 : decode cX6_pow 21 = .ok (.imul, 1) := by decide +kernel
theorem dX6_pow_22 : decode cX6_pow 22 = .ok (.iconst 1, 1) := by decide +kernel
theorem dX6_pow_23 : decode cX6_pow 23 = .ok (.isub, 1) := by decide +kernel
theorem dX6_pow_24 : decode cX6_pow 24 = .ok (.istore 5, 2) := by decide +kernel
theorem dX6_pow_26 : decode cX6_pow 26 = .ok (.iload 5, 2) := by decide +kernel
theorem dX6_pow_28 : decode cX6_pow 28 = .ok (.ifCond .lt 42, 3) := by decide +kernel
theorem dX6_pow_31 : decode cX6_pow 31 = .ok (.aload_n 0, 1) := by decide +kernel
theorem dX6_pow_32 : decode cX6_pow 32 = .ok (.aload_n 3, 1) := by decide +kernel
theorem dX6_pow_33 : decode cX6_pow 33 = .ok (.aload_n 3, 1) := by decide +kernel
theorem dX6_pow_34 : decode cX6_pow 34 = .ok (.aload_n 3, 1) := by decide +kernel
theorem dX6_pow_35 : decode cX6_pow 35 = .ok (.invokevirtual 77, 3) := by decide +kernel
theorem dX6_pow_38 : decode cX6_pow 38 = .ok (.aload_n 2, 1) := by decide +kernel
theorem dX6_pow_39 : decode cX6_pow 39 = .ok (.iload 5, 2) := by decide +kernel
theorem dX6_pow_41 : decode cX6_pow 41 = .ok (.iconst 5, 1) := by decide +kernel
theorem dX6_pow_42 : decode cX6_pow 42 = .ok (.ishr, 1) := by decide +kernel
theorem dX6_pow_43 : decode cX6_pow 43 = .ok (.iaload, 1) := by decide +kernel
theorem dX6_pow_44 : decode cX6_pow 44 = .ok (.iload 5, 2) := by decide +kernel
theorem dX6_pow_46 : decode cX6_pow 46 = .ok (.bipush 31, 2) := by decide +kernel
theorem dX6_pow_48 : decode cX6_pow 48 = .ok (.iand, 1) := by decide +kernel
theorem dX6_pow_49 : decode cX6_pow 49 = .ok (.ishr, 1) := by decide +kernel
theorem dX6_pow_50 : decode cX6_pow 50 = .ok (.iconst 1, 1) := by decide +kernel
theorem dX6_pow_51 : decode cX6_pow 51 = .ok (.iand, 1) := by decide +kernel
theorem dX6_pow_52 : decode cX6_pow 52 = .ok (.iconst 1, 1) := by decide +kernel
theorem dX6_pow_53 : decode cX6_pow 53 = .ok (.if_icmp .ne 11, 3) := by decide +kernel
theorem dX6_pow_56 : decode cX6_pow 56 = .ok (.aload_n 0, 1) := by decide +kernel
theorem dX6_pow_57 : decode cX6_pow 57 = .ok (.aload_n 3, 1) := by decide +kernel
theorem dX6_pow_58 : decode cX6_pow 58 = .ok (.aload 4, 2) := by decide +kernel
theorem dX6_pow_60 : decode cX6_pow 60 = .ok (.aload_n 3, 1) := by decide +kernel
theorem dX6_pow_61 : decode cX6_pow 61 = .ok (.invokevirtual 77, 3) := by decide +kernel
theorem dX6_pow_64 : decode cX6_pow 64 = .ok (.iinc 5 (-1), 3) := by decide +kernel
theorem dX6_pow_67 : decode cX6_pow 67 = .ok (.goto (-41), 3) := by decide +kernel
theorem dX6_pow_70 : decode cX6_pow 70 = .ok (.return_, 1) := by decide +kernel
theorem q103 : (Jvm.Cond.initialized "VeilMint$Modulus") ∈ lw_all := lw_g (lw_at lw_m1 6 rfl) rfl
theorem q196 : (Jvm.Cond.instantiable "VeilMint$Modulus" (11 : Nat)) ∈ lw_all := lw_g (lw_at lw_m1 99 rfl) rfl
theorem q250 : (Jvm.Cond.instanceMethod ({ cls := "VeilMint$Modulus", name := "<init>", desc := "([I)V" } : Jvm.MethodName)) ∈ lw_all := lw_g (lw_at lw_m1 153 rfl) rfl
theorem q251 : (Jvm.Cond.code ({ cls := "VeilMint$Modulus", name := "<init>", desc := "([I)V" } : Jvm.MethodName) prog_9_method_1_code (4 : Nat) (Option.none : Option Jvm.ClassFile.FieldType)) ∈ lw_all := lw_g (lw_at lw_m1 154 rfl) rfl
theorem q252 : (Jvm.Cond.methodLink "VeilMint$Modulus" (1 : Nat) ({ cls := "java/lang/Object", name := "<init>", desc := "()V" } : Jvm.MethodName)) ∈ lw_all := lw_g (lw_at lw_m1 155 rfl) rfl
theorem q253 : (Jvm.Cond.methodLink "VeilMint$Modulus" (44 : Nat) ({ cls := "VeilMint$Modulus", name := "copy", desc := "([I[I)V" } : Jvm.MethodName)) ∈ lw_all := lw_g (lw_at lw_m1 156 rfl) rfl
theorem q254 : (Jvm.Cond.static ({ cls := "VeilMint$Modulus", name := "copy", desc := "([I[I)V" } : Jvm.MethodName)) ∈ lw_all := lw_g (lw_at lw_m1 157 rfl) rfl
theorem q255 : (Jvm.Cond.code ({ cls := "VeilMint$Modulus", name := "copy", desc := "([I[I)V" } : Jvm.MethodName) prog_9_method_2_code (2 : Nat) (Option.none : Option Jvm.ClassFile.FieldType)) ∈ lw_all := lw_g (lw_at lw_m1 158 rfl) rfl
theorem q256 : (Jvm.Cond.methodLink "VeilMint$Modulus" (52 : Nat) ({ cls := "java/lang/System", name := "arraycopy", desc := "(Ljava/lang/Object;ILjava/lang/Object;II)V" } : Jvm.MethodName)) ∈ lw_all := lw_g (lw_at lw_m1 159 rfl) rfl
theorem q259 : (Jvm.Cond.methodLink "VeilMint$Modulus" (48 : Nat) ({ cls := "VeilMint$Modulus", name := "add", desc := "([I[I[I)V" } : Jvm.MethodName)) ∈ lw_all := lw_g (lw_at lw_m1 162 rfl) rfl
theorem q260 : (Jvm.Cond.instanceMethod ({ cls := "VeilMint$Modulus", name := "add", desc := "([I[I[I)V" } : Jvm.MethodName)) ∈ lw_all := lw_g (lw_at lw_m1 163 rfl) rfl
theorem q261 : (Jvm.Cond.selects "VeilMint$Modulus" ({ cls := "VeilMint$Modulus", name := "add", desc := "([I[I[I)V" } : Jvm.MethodName) ({ cls := "VeilMint$Modulus", name := "add", desc := "([I[I[I)V" } : Jvm.MethodName)) ∈ lw_all := lw_g (lw_at lw_m1 164 rfl) rfl
theorem q262 : (Jvm.Cond.code ({ cls := "VeilMint$Modulus", name := "add", desc := "([I[I[I)V" } : Jvm.MethodName) prog_9_method_8_code (5 : Nat) (Option.none : Option Jvm.ClassFile.FieldType)) ∈ lw_all := lw_g (lw_at lw_m1 165 rfl) rfl
theorem q263 : (Jvm.Cond.methodLink "VeilMint$Modulus" (70 : Nat) ({ cls := "VeilMint$Modulus", name := "plus", desc := "([I[I[I)I" } : Jvm.MethodName)) ∈ lw_all := lw_g (lw_at lw_m1 166 rfl) rfl
theorem q264 : (Jvm.Cond.static ({ cls := "VeilMint$Modulus", name := "plus", desc := "([I[I[I)I" } : Jvm.MethodName)) ∈ lw_all := lw_g (lw_at lw_m1 167 rfl) rfl
theorem q265 : (Jvm.Cond.code ({ cls := "VeilMint$Modulus", name := "plus", desc := "([I[I[I)I" } : Jvm.MethodName) prog_9_method_7_code (6 : Nat) (Option.some Jvm.ClassFile.FieldType.int)) ∈ lw_all := lw_g (lw_at lw_m1 168 rfl) rfl
theorem q266 : (Jvm.Cond.constantLong "VeilMint$Modulus" (68 : Nat) (4294967295 : Int64)) ∈ lw_all := lw_g (lw_at lw_m1 169 rfl) rfl
theorem q267 : (Jvm.Cond.methodLink "VeilMint$Modulus" (64 : Nat) ({ cls := "VeilMint$Modulus", name := "compare", desc := "([I[I)I" } : Jvm.MethodName)) ∈ lw_all := lw_g (lw_at lw_m1 170 rfl) rfl
theorem q268 : (Jvm.Cond.static ({ cls := "VeilMint$Modulus", name := "compare", desc := "([I[I)I" } : Jvm.MethodName)) ∈ lw_all := lw_g (lw_at lw_m1 171 rfl) rfl
theorem q269 : (Jvm.Cond.code ({ cls := "VeilMint$Modulus", name := "compare", desc := "([I[I)I" } : Jvm.MethodName) prog_9_method_4_code (3 : Nat) (Option.some Jvm.ClassFile.FieldType.int)) ∈ lw_all := lw_g (lw_at lw_m1 172 rfl) rfl
theorem q270 : (Jvm.Cond.methodLink "VeilMint$Modulus" (58 : Nat) ({ cls := "java/lang/Integer", name := "compareUnsigned", desc := "(II)I" } : Jvm.MethodName)) ∈ lw_all := lw_g (lw_at lw_m1 173 rfl) rfl
theorem q277 : (Jvm.Cond.methodLink "VeilMint$Modulus" (74 : Nat) ({ cls := "VeilMint$Modulus", name := "minus", desc := "([I[I[I)I" } : Jvm.MethodName)) ∈ lw_all := lw_g (lw_at lw_m1 180 rfl) rfl
theorem q278 : (Jvm.Cond.static ({ cls := "VeilMint$Modulus", name := "minus", desc := "([I[I[I)I" } : Jvm.MethodName)) ∈ lw_all := lw_g (lw_at lw_m1 181 rfl) rfl
theorem q279 : (Jvm.Cond.code ({ cls := "VeilMint$Modulus", name := "minus", desc := "([I[I[I)I" } : Jvm.MethodName) prog_9_method_6_code (8 : Nat) (Option.some Jvm.ClassFile.FieldType.int)) ∈ lw_all := lw_g (lw_at lw_m1 182 rfl) rfl
theorem q280 : (Jvm.Cond.fieldLink "VeilMint$Modulus" (7 : Nat) "VeilMint$Modulus" "n" "I") ∈ lw_all := lw_g (lw_at lw_m1 183 rfl) rfl
theorem q282 : (Jvm.Cond.fieldLink "VeilMint$Modulus" (13 : Nat) "VeilMint$Modulus" "m" "[I") ∈ lw_all := lw_g (lw_at lw_m1 185 rfl) rfl
theorem q284 : (Jvm.Cond.fieldLink "VeilMint$Modulus" (17 : Nat) "VeilMint$Modulus" "one" "[I") ∈ lw_all := lw_g (lw_at lw_m1 187 rfl) rfl
theorem q286 : (Jvm.Cond.fieldLink "VeilMint$Modulus" (20 : Nat) "VeilMint$Modulus" "square" "[I") ∈ lw_all := lw_g (lw_at lw_m1 189 rfl) rfl
theorem q287 : (Jvm.Cond.fieldLink "VeilMint$Modulus" (23 : Nat) "VeilMint$Modulus" "unit" "[I") ∈ lw_all := lw_g (lw_at lw_m1 190 rfl) rfl
theorem q288 : (Jvm.Cond.fieldLink "VeilMint$Modulus" (26 : Nat) "VeilMint$Modulus" "t" "[I") ∈ lw_all := lw_g (lw_at lw_m1 191 rfl) rfl
theorem q289 : (Jvm.Cond.fieldLink "VeilMint$Modulus" (29 : Nat) "VeilMint$Modulus" "u" "[I") ∈ lw_all := lw_g (lw_at lw_m1 192 rfl) rfl
theorem q290 : (Jvm.Cond.fieldLink "VeilMint$Modulus" (32 : Nat) "VeilMint$Modulus" "v" "[I") ∈ lw_all := lw_g (lw_at lw_m1 193 rfl) rfl
theorem q291 : (Jvm.Cond.fieldLink "VeilMint$Modulus" (35 : Nat) "VeilMint$Modulus" "x" "[I") ∈ lw_all := lw_g (lw_at lw_m1 194 rfl) rfl
theorem q292 : (Jvm.Cond.fieldLink "VeilMint$Modulus" (38 : Nat) "VeilMint$Modulus" "y" "[I") ∈ lw_all := lw_g (lw_at lw_m1 195 rfl) rfl
theorem q293 : (Jvm.Cond.fieldLink "VeilMint$Modulus" (41 : Nat) "VeilMint$Modulus" "neg" "I") ∈ lw_all := lw_g (lw_at lw_m1 196 rfl) rfl
theorem q294 : (Jvm.Cond.laysFinal "VeilMint$Modulus" "VeilMint$Modulus" "n" "I") ∈ lw_all := lw_g (lw_at lw_m1 197 rfl) rfl
theorem q295 : (Jvm.Cond.soleField "VeilMint$Modulus" "n") ∈ lw_all := lw_g (lw_at lw_m1 198 rfl) rfl
theorem q296 : (Jvm.Cond.laysFinal "VeilMint$Modulus" "VeilMint$Modulus" "m" "[I") ∈ lw_all := lw_g (lw_at lw_m1 199 rfl) rfl
theorem q297 : (Jvm.Cond.soleField "VeilMint$Modulus" "m") ∈ lw_all := lw_g (lw_at lw_m1 200 rfl) rfl
theorem q298 : (Jvm.Cond.laysFinal "VeilMint$Modulus" "VeilMint$Modulus" "one" "[I") ∈ lw_all := lw_g (lw_at lw_m1 201 rfl) rfl
theorem q299 : (Jvm.Cond.soleField "VeilMint$Modulus" "one") ∈ lw_all := lw_g (lw_at lw_m1 202 rfl) rfl
theorem q300 : (Jvm.Cond.laysFinal "VeilMint$Modulus" "VeilMint$Modulus" "square" "[I") ∈ lw_all := lw_g (lw_at lw_m1 203 rfl) rfl
theorem q301 : (Jvm.Cond.soleField "VeilMint$Modulus" "square") ∈ lw_all := lw_g (lw_at lw_m1 204 rfl) rfl
theorem q302 : (Jvm.Cond.laysFinal "VeilMint$Modulus" "VeilMint$Modulus" "unit" "[I") ∈ lw_all := lw_g (lw_at lw_m1 205 rfl) rfl
theorem q303 : (Jvm.Cond.soleField "VeilMint$Modulus" "unit") ∈ lw_all := lw_g (lw_at lw_m1 206 rfl) rfl
theorem q304 : (Jvm.Cond.laysFinal "VeilMint$Modulus" "VeilMint$Modulus" "t" "[I") ∈ lw_all := lw_g (lw_at lw_m1 207 rfl) rfl
theorem q305 : (Jvm.Cond.soleField "VeilMint$Modulus" "t") ∈ lw_all := lw_g (lw_at lw_m1 208 rfl) rfl
theorem q306 : (Jvm.Cond.laysFinal "VeilMint$Modulus" "VeilMint$Modulus" "u" "[I") ∈ lw_all := lw_g (lw_at lw_m1 209 rfl) rfl
theorem q307 : (Jvm.Cond.soleField "VeilMint$Modulus" "u") ∈ lw_all := lw_g (lw_at lw_m1 210 rfl) rfl
theorem q308 : (Jvm.Cond.laysFinal "VeilMint$Modulus" "VeilMint$Modulus" "v" "[I") ∈ lw_all := lw_g (lw_at lw_m1 211 rfl) rfl
theorem q309 : (Jvm.Cond.soleField "VeilMint$Modulus" "v") ∈ lw_all := lw_g (lw_at lw_m1 212 rfl) rfl
theorem q310 : (Jvm.Cond.laysFinal "VeilMint$Modulus" "VeilMint$Modulus" "x" "[I") ∈ lw_all := lw_g (lw_at lw_m1 213 rfl) rfl
theorem q311 : (Jvm.Cond.soleField "VeilMint$Modulus" "x") ∈ lw_all := lw_g (lw_at lw_m1 214 rfl) rfl
theorem q312 : (Jvm.Cond.laysFinal "VeilMint$Modulus" "VeilMint$Modulus" "y" "[I") ∈ lw_all := lw_g (lw_at lw_m1 215 rfl) rfl
theorem q313 : (Jvm.Cond.soleField "VeilMint$Modulus" "y") ∈ lw_all := lw_g (lw_at lw_m1 216 rfl) rfl
theorem q314 : (Jvm.Cond.laysFinal "VeilMint$Modulus" "VeilMint$Modulus" "neg" "I") ∈ lw_all := lw_g (lw_at lw_m1 217 rfl) rfl
theorem q315 : (Jvm.Cond.soleField "VeilMint$Modulus" "neg") ∈ lw_all := lw_g (lw_at lw_m1 218 rfl) rfl
theorem q316 : (Jvm.Cond.superclass "VeilMint$Modulus" "java/lang/Object") ∈ lw_all := lw_g (lw_at lw_m1 219 rfl) rfl
theorem q339 : (Jvm.Cond.instanceMethod ({ cls := "VeilMint$Modulus", name := "in", desc := "([I[I)V" } : Jvm.MethodName)) ∈ lw_all := lw_g (lw_at lw_m2 2 rfl) rfl
theorem q340 : (Jvm.Cond.selects "VeilMint$Modulus" ({ cls := "VeilMint$Modulus", name := "in", desc := "([I[I)V" } : Jvm.MethodName) ({ cls := "VeilMint$Modulus", name := "in", desc := "([I[I)V" } : Jvm.MethodName)) ∈ lw_all := lw_g (lw_at lw_m2 3 rfl) rfl
theorem q341 : (Jvm.Cond.code ({ cls := "VeilMint$Modulus", name := "in", desc := "([I[I)V" } : Jvm.MethodName) prog_9_method_11_code (3 : Nat) (Option.none : Option Jvm.ClassFile.FieldType)) ∈ lw_all := lw_g (lw_at lw_m2 4 rfl) rfl
theorem q342 : (Jvm.Cond.methodLink "VeilMint$Modulus" (77 : Nat) ({ cls := "VeilMint$Modulus", name := "mul", desc := "([I[I[I)V" } : Jvm.MethodName)) ∈ lw_all := lw_g (lw_at lw_m2 5 rfl) rfl
theorem q343 : (Jvm.Cond.instanceMethod ({ cls := "VeilMint$Modulus", name := "mul", desc := "([I[I[I)V" } : Jvm.MethodName)) ∈ lw_all := lw_g (lw_at lw_m2 6 rfl) rfl
theorem q344 : (Jvm.Cond.selects "VeilMint$Modulus" ({ cls := "VeilMint$Modulus", name := "mul", desc := "([I[I[I)V" } : Jvm.MethodName) ({ cls := "VeilMint$Modulus", name := "mul", desc := "([I[I[I)V" } : Jvm.MethodName)) ∈ lw_all := lw_g (lw_at lw_m2 7 rfl) rfl
theorem q345 : (Jvm.Cond.code ({ cls := "VeilMint$Modulus", name := "mul", desc := "([I[I[I)V" } : Jvm.MethodName) prog_9_method_10_code (12 : Nat) (Option.none : Option Jvm.ClassFile.FieldType)) ∈ lw_all := lw_g (lw_at lw_m2 8 rfl) rfl
theorem q351 : (Jvm.Cond.static ({ cls := "VeilMint$Modulus", name := "shift", desc := "([II)V" } : Jvm.MethodName)) ∈ lw_all := lw_g (lw_at lw_m2 14 rfl) rfl
theorem q352 : (Jvm.Cond.code ({ cls := "VeilMint$Modulus", name := "shift", desc := "([II)V" } : Jvm.MethodName) prog_9_method_15_code (3 : Nat) (Option.none : Option Jvm.ClassFile.FieldType)) ∈ lw_all := lw_g (lw_at lw_m2 15 rfl) rfl
theorem q355 : (Jvm.Cond.instanceMethod ({ cls := "VeilMint$Modulus", name := "sub", desc := "([I[I[I)V" } : Jvm.MethodName)) ∈ lw_all := lw_g (lw_at lw_m2 18 rfl) rfl
theorem q356 : (Jvm.Cond.selects "VeilMint$Modulus" ({ cls := "VeilMint$Modulus", name := "sub", desc := "([I[I[I)V" } : Jvm.MethodName) ({ cls := "VeilMint$Modulus", name := "sub", desc := "([I[I[I)V" } : Jvm.MethodName)) ∈ lw_all := lw_g (lw_at lw_m2 19 rfl) rfl
theorem q357 : (Jvm.Cond.code ({ cls := "VeilMint$Modulus", name := "sub", desc := "([I[I[I)V" } : Jvm.MethodName) prog_9_method_9_code (5 : Nat) (Option.none : Option Jvm.ClassFile.FieldType)) ∈ lw_all := lw_g (lw_at lw_m2 20 rfl) rfl
theorem q619 : (Jvm.Cond.instanceMethod ({ cls := "VeilMint$Modulus", name := "read", desc := "([BII[I)Z" } : Jvm.MethodName)) ∈ lw_all := lw_g (lw_at lw_m3 42 rfl) rfl
theorem q620 : (Jvm.Cond.selects "VeilMint$Modulus" ({ cls := "VeilMint$Modulus", name := "read", desc := "([BII[I)Z" } : Jvm.MethodName) ({ cls := "VeilMint$Modulus", name := "read", desc := "([BII[I)Z" } : Jvm.MethodName)) ∈ lw_all := lw_g (lw_at lw_m3 43 rfl) rfl
theorem q621 : (Jvm.Cond.code ({ cls := "VeilMint$Modulus", name := "read", desc := "([BII[I)Z" } : Jvm.MethodName) prog_9_method_17_code (7 : Nat) (Option.some Jvm.ClassFile.FieldType.boolean)) ∈ lw_all := lw_g (lw_at lw_m3 44 rfl) rfl
theorem q622 : (Jvm.Cond.methodLink "VeilMint$Modulus" (100 : Nat) ({ cls := "VeilMint$Modulus", name := "isBelow", desc := "([I)Z" } : Jvm.MethodName)) ∈ lw_all := lw_g (lw_at lw_m3 45 rfl) rfl
theorem q623 : (Jvm.Cond.instanceMethod ({ cls := "VeilMint$Modulus", name := "isBelow", desc := "([I)Z" } : Jvm.MethodName)) ∈ lw_all := lw_g (lw_at lw_m3 46 rfl) rfl
theorem q624 : (Jvm.Cond.selects "VeilMint$Modulus" ({ cls := "VeilMint$Modulus", name := "isBelow", desc := "([I)Z" } : Jvm.MethodName) ({ cls := "VeilMint$Modulus", name := "isBelow", desc := "([I)Z" } : Jvm.MethodName)) ∈ lw_all := lw_g (lw_at lw_m3 47 rfl) rfl
theorem q625 : (Jvm.Cond.code ({ cls := "VeilMint$Modulus", name := "isBelow", desc := "([I)Z" } : Jvm.MethodName) prog_9_method_5_code (2 : Nat) (Option.some Jvm.ClassFile.FieldType.boolean)) ∈ lw_all := lw_g (lw_at lw_m3 48 rfl) rfl
theorem q627 : (Jvm.Cond.static ({ cls := "VeilMint$Modulus", name := "isZero", desc := "([I)Z" } : Jvm.MethodName)) ∈ lw_all := lw_g (lw_at lw_m3 50 rfl) rfl
theorem q628 : (Jvm.Cond.code ({ cls := "VeilMint$Modulus", name := "isZero", desc := "([I)Z" } : Jvm.MethodName) prog_9_method_3_code (3 : Nat) (Option.some Jvm.ClassFile.FieldType.boolean)) ∈ lw_all := lw_g (lw_at lw_m3 51 rfl) rfl
theorem q666 : (Jvm.Cond.instanceMethod ({ cls := "VeilMint$Modulus", name := "from", desc := "([I[I)V" } : Jvm.MethodName)) ∈ lw_all := lw_g (lw_at lw_m3 89 rfl) rfl
theorem q667 : (Jvm.Cond.selects "VeilMint$Modulus" ({ cls := "VeilMint$Modulus", name := "from", desc := "([I[I)V" } : Jvm.MethodName) ({ cls := "VeilMint$Modulus", name := "from", desc := "([I[I)V" } : Jvm.MethodName)) ∈ lw_all := lw_g (lw_at lw_m3 90 rfl) rfl
theorem q668 : (Jvm.Cond.code ({ cls := "VeilMint$Modulus", name := "from", desc := "([I[I)V" } : Jvm.MethodName) prog_9_method_12_code (3 : Nat) (Option.none : Option Jvm.ClassFile.FieldType)) ∈ lw_all := lw_g (lw_at lw_m3 91 rfl) rfl
theorem q670 : (Jvm.Cond.instanceMethod ({ cls := "VeilMint$Modulus", name := "inverse", desc := "([I[I)Z" } : Jvm.MethodName)) ∈ lw_all := lw_g (lw_at lw_m3 93 rfl) rfl
theorem q671 : (Jvm.Cond.selects "VeilMint$Modulus" ({ cls := "VeilMint$Modulus", name := "inverse", desc := "([I[I)Z" } : Jvm.MethodName) ({ cls := "VeilMint$Modulus", name := "inverse", desc := "([I[I)Z" } : Jvm.MethodName)) ∈ lw_all := lw_g (lw_at lw_m3 94 rfl) rfl
theorem q672 : (Jvm.Cond.code ({ cls := "VeilMint$Modulus", name := "inverse", desc := "([I[I)Z" } : Jvm.MethodName) prog_9_method_16_code (4 : Nat) (Option.some Jvm.ClassFile.FieldType.boolean)) ∈ lw_all := lw_g (lw_at lw_m3 95 rfl) rfl
theorem q673 : (Jvm.Cond.methodLink "VeilMint$Modulus" (89 : Nat) ({ cls := "VeilMint$Modulus", name := "isZero", desc := "([I)Z" } : Jvm.MethodName)) ∈ lw_all := lw_g (lw_at lw_m3 96 rfl) rfl
theorem q674 : (Jvm.Cond.methodLink "VeilMint$Modulus" (85 : Nat) ({ cls := "VeilMint$Modulus", name := "shift", desc := "([II)V" } : Jvm.MethodName)) ∈ lw_all := lw_g (lw_at lw_m3 97 rfl) rfl
theorem q675 : (Jvm.Cond.methodLink "VeilMint$Modulus" (93 : Nat) ({ cls := "VeilMint$Modulus", name := "half", desc := "([I)V" } : Jvm.MethodName)) ∈ lw_all := lw_g (lw_at lw_m3 98 rfl) rfl
theorem q676 : (Jvm.Cond.privateMethod ({ cls := "VeilMint$Modulus", name := "half", desc := "([I)V" } : Jvm.MethodName)) ∈ lw_tbl := lw_at lw_m3 99 rfl
theorem q677 : (Jvm.Cond.instanceMethod ({ cls := "VeilMint$Modulus", name := "half", desc := "([I)V" } : Jvm.MethodName)) ∈ lw_all := lw_g (lw_at lw_m3 100 rfl) rfl
theorem q678 : (Jvm.Cond.code ({ cls := "VeilMint$Modulus", name := "half", desc := "([I)V" } : Jvm.MethodName) prog_9_method_14_code (3 : Nat) (Option.none : Option Jvm.ClassFile.FieldType)) ∈ lw_all := lw_g (lw_at lw_m3 101 rfl) rfl
theorem q679 : (Jvm.Cond.methodLink "VeilMint$Modulus" (97 : Nat) ({ cls := "VeilMint$Modulus", name := "sub", desc := "([I[I[I)V" } : Jvm.MethodName)) ∈ lw_all := lw_g (lw_at lw_m3 102 rfl) rfl
theorem q681 : (Jvm.Cond.static ({ cls := "VeilMint$Modulus", name := "write", desc := "([I[BII)V" } : Jvm.MethodName)) ∈ lw_all := lw_g (lw_at lw_m3 104 rfl) rfl
theorem q682 : (Jvm.Cond.code ({ cls := "VeilMint$Modulus", name := "write", desc := "([I[BII)V" } : Jvm.MethodName) prog_9_method_18_code (6 : Nat) (Option.none : Option Jvm.ClassFile.FieldType)) ∈ lw_all := lw_g (lw_at lw_m3 105 rfl) rfl
theorem q986 : (Jvm.Cond.instanceMethod ({ cls := "VeilMint$Modulus", name := "rest", desc := "([BII[I)V" } : Jvm.MethodName)) ∈ lw_all := lw_g (lw_at lw_m4 169 rfl) rfl
theorem q987 : (Jvm.Cond.selects "VeilMint$Modulus" ({ cls := "VeilMint$Modulus", name := "rest", desc := "([BII[I)V" } : Jvm.MethodName) ({ cls := "VeilMint$Modulus", name := "rest", desc := "([BII[I)V" } : Jvm.MethodName)) ∈ lw_all := lw_g (lw_at lw_m4 170 rfl) rfl
theorem q988 : (Jvm.Cond.code ({ cls := "VeilMint$Modulus", name := "rest", desc := "([BII[I)V" } : Jvm.MethodName) prog_9_method_19_code (7 : Nat) (Option.none : Option Jvm.ClassFile.FieldType)) ∈ lw_all := lw_g (lw_at lw_m4 171 rfl) rfl
theorem q1002 : (Jvm.Cond.instanceMethod ({ cls := "VeilMint$Modulus", name := "pow", desc := "([I[I[I)V" } : Jvm.MethodName)) ∈ lw_all := lw_g (lw_at lw_m4 185 rfl) rfl
theorem q1003 : (Jvm.Cond.selects "VeilMint$Modulus" ({ cls := "VeilMint$Modulus", name := "pow", desc := "([I[I[I)V" } : Jvm.MethodName) ({ cls := "VeilMint$Modulus", name := "pow", desc := "([I[I[I)V" } : Jvm.MethodName)) ∈ lw_all := lw_g (lw_at lw_m4 186 rfl) rfl
theorem q1004 : (Jvm.Cond.code ({ cls := "VeilMint$Modulus", name := "pow", desc := "([I[I[I)V" } : Jvm.MethodName) prog_9_method_13_code (6 : Nat) (Option.none : Option Jvm.ClassFile.FieldType)) ∈ lw_all := lw_g (lw_at lw_m4 187 rfl) rfl
theorem q1005 : (Jvm.Cond.methodLink "VeilMint$Modulus" (80 : Nat) ({ cls := "[I", name := "clone", desc := "()Ljava/lang/Object;" } : Jvm.MethodName)) ∈ lw_all := lw_g (lw_at lw_m4 188 rfl) rfl
theorem q1011 : (Jvm.Cond.classLink "VeilMint$Modulus" (81 : Nat) "[I") ∈ lw_all := lw_g (lw_at lw_m4 194 rfl) rfl
theorem q2146 : (Jvm.Cond.castable "VeilMint$Modulus" "java/lang/Object") ∈ lw_tbl := lw_at lw_m9 129 rfl
theorem in_X6 : ∀ w ∈ wsX60, w ∈ lw_all := lw_in wsX60 [294, 296, 298, 300, 302, 304, 306, 308, 310, 312, 314] (by decide +kernel) (by decide +kernel)
